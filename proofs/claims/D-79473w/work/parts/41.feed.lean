set_option maxRecDepth 100000
def w_X1_feed (w : Nat) (b : Nat → Nat) (t : Nat → Nat) (p : Nat → Nat) (i : Nat → Nat) (fr : Nat) (fa : Nat) (ft : Int32) (rs : Int32) (rf : Int32) (sv : Value) (y : Nat) (co : Int32) (ml : Int32) (ct : Int32) (n : Nat) (f : Nat → Int32) (x1 : Int32) (X : String → (Nat × Int32 × Int32 × Int32 × Nat × (Nat → Int32)) → Prop) (Y : String → Int32 → (Nat × Int32 × Int32 × Int32 × Nat × (Nat → Int32)) → Prop) (Q : Int32 → (Nat × Int32 × Int32 × Int32 × Nat × (Nat → Int32)) → Prop) : Prop :=
  w_J3_length (i 0) y co ml ct n f (fun r1 u2 => (((60 : Int32) ≤ r1 → w_X1_requireState ((0 : Int32)) (fun E => X E ((y, co, ml, ct, n, f))) (fun E r => Y E r ((y, co, ml, ct, n, f))) (w_J3_append (i 0) y co ml ct n f x1 (fun u4 => w_J3_length (i 0) (u4.1) (u4.2.1) (u4.2.2.1) (u4.2.2.2.1) (u4.2.2.2.2.1) (u4.2.2.2.2.2) (fun r5 u6 => Q r5 ((u4.1, u4.2.1, u4.2.2.1, u4.2.2.2.1, (u4.2.2.2.2.1), (u4.2.2.2.2.2))))))) ∧ (¬ (60 : Int32) ≤ r1 → w_X1_requireState ((1 : Int32)) (fun E => X E ((y, co, ml, ct, n, f))) (fun E r => Y E r ((y, co, ml, ct, n, f))) (w_J3_append (i 0) y co ml ct n f x1 (fun u7 => w_J3_length (i 0) (u7.1) (u7.2.1) (u7.2.2.1) (u7.2.2.2.1) (u7.2.2.2.2.1) (u7.2.2.2.2.2) (fun r8 u9 => Q r8 ((u7.1, u7.2.1, u7.2.2.1, u7.2.2.2.1, (u7.2.2.2.2.1), (u7.2.2.2.2.2)))))))))
theorem ds_X1_feed : yX1_feed.cls = yX1_feed.cls ∧ yX1_feed.cls ≠ "java/lang/invoke/MethodHandle" ∧ yX1_feed.cls ≠ "java/lang/invoke/VarHandle" ∧ (parseMethodDescriptor yX1_feed.desc).map (fun d => d.parameters.length) = some 1 := by decide +kernel
set_option maxHeartbeats 4000000 in
theorem c_X1_feed (l : Launch) (D : va_G) (hl : l.stackTraces = false) (w : Nat) (b : Nat → Nat) (t : Nat → Nat) (p : Nat → Nat) (i : Nat → Nat) (fr : Nat) (fa : Nat) (ft : Int32) (rs : Int32) (rf : Int32) (sv : Value) (y : Nat) (co : Int32) (ml : Int32) (ct : Int32) (n : Nat) (f : Nat → Int32) (x1 : Int32) (X : String → (Nat × Int32 × Int32 × Int32 × Nat × (Nat → Int32)) → Prop) (Y : String → Int32 → (Nat × Int32 × Int32 × Int32 × Nat × (Nat → Int32)) → Prop) (Q : Int32 → (Nat × Int32 × Int32 × Int32 × Nat × (Nat → Int32)) → Prop) (h : w_X1_feed w b t p i fr fa ft rs rf sv y co ml ct n f x1 X Y Q) : Cxi l D yX1_feed cX1_feed 2 .int (rmk 8 3 406 179) [.ref w, .int x1] ([(w, .inr (0, [.ref (b 0), .ref (t 0), .ref (p 0), .ref (i 0), .int ft, .int rs, .int rf, .ref fr, .ref fa, sv]))] ++ ([(i 0, .inr (14, [.ref y, .int co, .int ml, .int ct]))] ++ ([(y, .inl (dB_ D, n, .inl f))] ++ []))) (fun u : Nat × Int32 × Int32 × Int32 × Nat × (Nat → Int32) => ([(w, .inr (0, [.ref (b 0), .ref (t 0), .ref (p 0), .ref (i 0), .int ft, .int rs, .int rf, .ref fr, .ref fa, sv]))] ++ ([(i 0, .inr (14, [.ref (u.1), .int (u.2.1), .int (u.2.2.1), .int (u.2.2.2.1)]))] ++ ([(u.1, .inl (dB_ D, u.2.2.2.2.1, .inl u.2.2.2.2.2))] ++ [])))) Q X Y 3 406 := by
  refine Cxi.of (by decide) (Nat.le_of_ble_eq_true rfl) (fun x hF hR hN => ?_)
  replace hF : vF x l D "BrookWeirs" cX1_feed (rmk 8 3 406 179) 2 (some .int) := hF
  unfold w_X1_feed at h
  refine v_aload_n 0 hF dX1_feed_0 rfl 0 rfl ?_
  refine v_get 1 hF in_X1 0 rfl rfl 3 (Nat.le_of_ble_eq_true rfl) q367 rfl rfl dX1_feed_1 ?_
  refine v_callVi (As := []) (b := i 0) (wr := ([(w, .inr (0, [.ref (b 0), .ref (t 0), .ref (p 0), .ref (i 0), .int ft, .int rs, .int rf, .ref fr, .ref fa, sv]))] ++ [])) 4 hF (c_J3_length l D (i 0) y co ml ct n f _ h) (((((((List.Perm.refl _)).append_left _).trans (pm_sw _ _ _)).trans ((((((List.Perm.refl _)).append_left _).trans (pm_sw _ _ _))).append_left _))).trans (List.Perm.of_eq (by simp only [List.append_assoc, List.nil_append, List.append_nil]))) ⟨0, 14, _, TJ3, 4, rfl, rfl⟩ q1347 q1348 q1349 q76 q1350 ds_J3_length ⟨rfl, rfl, (Nat.le_of_ble_eq_true rfl), (Nat.le_of_ble_eq_true rfl)⟩ (Nat.le_of_ble_eq_true rfl) ⟨(Nat.le_of_ble_eq_true rfl), (Nat.le_of_ble_eq_true rfl)⟩ dX1_feed_4 (fun r1 u2 h => ?_)
  refine v_eqw (ws1 := ([(i 0, .inr (14, [.ref y, .int co, .int ml, .int ct]))] ++ ([(y, .inl (dB_ D, n, .inl f))] ++ ([(w, .inr (0, [.ref (b 0), .ref (t 0), .ref (p 0), .ref (i 0), .int ft, .int rs, .int rf, .ref fr, .ref fa, sv]))] ++ [])))) (by simp only [List.append_assoc, List.nil_append, List.append_nil]) ?_
  refine v_perm (ws' := ([(w, .inr (0, [.ref (b 0), .ref (t 0), .ref (p 0), .ref (i 0), .int ft, .int rs, .int rf, .ref fr, .ref fa, sv]))] ++ ([(i 0, .inr (14, [.ref y, .int co, .int ml, .int ct]))] ++ ([(y, .inl (dB_ D, n, .inl f))] ++ [])))) (((((((List.Perm.refl _)).append_left _).trans (pm_sw _ _ _))).append_left _).trans (pm_sw _ _ _)) ?_
  refine v_bipush (v := 60) 7 hF dX1_feed_7 (by decide) ?_
  refine v_icmp_ge 9 16 hF dX1_feed_9 (by decide) (fun c3 => ?_) (fun c3 => ?_)
  · replace h := h.1 c3
    refine v_iconst (v := 0) 16 hF dX1_feed_16 (by decide) ?_
    refine v_callXS0v (As := [.int ((0 : Int32))]) 17 hF (c_X1_requireState l D hl ((0 : Int32)) _ _ _ h) q1395 q1396 q70 q1397 ds_X1_requireState ⟨rfl, rfl, (Nat.le_of_ble_eq_true rfl), (Nat.le_of_ble_eq_true rfl)⟩ (Nat.le_of_ble_eq_true rfl) ⟨(Nat.le_of_ble_eq_true rfl), (Nat.le_of_ble_eq_true rfl)⟩ dX1_feed_17 (fun E q hx => vT_gar (w := ([(w, .inr (0, [.ref (b 0), .ref (t 0), .ref (p 0), .ref (i 0), .int ft, .int rs, .int rf, .ref fr, .ref fa, sv]))] ++ ([(i 0, .inr (14, [.ref y, .int co, .int ml, .int ct]))] ++ ([(y, .inl (dB_ D, n, .inl f))] ++ [])))) (g := ([])) (((List.Perm.refl _)).trans (List.Perm.of_eq (by simp only [List.append_assoc, List.nil_append, List.append_nil]))) (v_outi (u := (y, co, ml, ct, n, f)) hF hR hN (Nat.le_of_ble_eq_true rfl) (Nat.le_of_ble_eq_true rfl) hx)) (fun E q ci r hy hp => vT_garY (w := ([(w, .inr (0, [.ref (b 0), .ref (t 0), .ref (p 0), .ref (i 0), .int ft, .int rs, .int rf, .ref fr, .ref fa, sv]))] ++ ([(i 0, .inr (14, [.ref y, .int co, .int ml, .int ct]))] ++ ([(y, .inl (dB_ D, n, .inl f))] ++ [])))) (g := ([])) (((List.Perm.refl _)).trans (List.Perm.of_eq (by simp only [List.append_assoc, List.nil_append, List.append_nil]))) (v_outYi (u := (y, co, ml, ct, n, f)) hF hR hN (Nat.le_of_ble_eq_true rfl) (Nat.le_of_ble_eq_true rfl) hp hy)) (fun h => ?_)
    refine v_aload_n 20 hF dX1_feed_20 rfl 0 rfl ?_
    refine v_get 21 hF in_X1 0 rfl rfl 3 (Nat.le_of_ble_eq_true rfl) q367 rfl rfl dX1_feed_21 ?_
    refine v_iload_n 24 hF dX1_feed_24 rfl 1 rfl ?_
    refine v_callVr (As := [.int x1]) (b := i 0) (wr := ([(w, .inr (0, [.ref (b 0), .ref (t 0), .ref (p 0), .ref (i 0), .int ft, .int rs, .int rf, .ref fr, .ref fa, sv]))] ++ [])) 25 hF (c_J3_append l D (i 0) y co ml ct n f x1 _ h) (((((((List.Perm.refl _)).append_left _).trans (pm_sw _ _ _)).trans ((((((List.Perm.refl _)).append_left _).trans (pm_sw _ _ _))).append_left _))).trans (List.Perm.of_eq (by simp only [List.append_assoc, List.nil_append, List.append_nil]))) ⟨0, 14, _, TJ3, 4, rfl, rfl⟩ q1403 q1404 q1405 q76 q1406 ds_J3_append ⟨rfl, rfl, (Nat.le_of_ble_eq_true rfl), (Nat.le_of_ble_eq_true rfl)⟩ (Nat.le_of_ble_eq_true rfl) ⟨(Nat.le_of_ble_eq_true rfl), (Nat.le_of_ble_eq_true rfl)⟩ dX1_feed_25 (fun u4 h => ?_)
    refine v_eqw (ws1 := ([(i 0, .inr (14, [.ref (u4.1), .int (u4.2.1), .int (u4.2.2.1), .int (u4.2.2.2.1)]))] ++ ([(u4.1, .inl (dB_ D, (u4.2.2.2.2.1), .inl (u4.2.2.2.2.2)))] ++ ([(w, .inr (0, [.ref (b 0), .ref (t 0), .ref (p 0), .ref (i 0), .int ft, .int rs, .int rf, .ref fr, .ref fa, sv]))] ++ [])))) (by simp only [List.append_assoc, List.nil_append, List.append_nil]) ?_
    refine v_perm (ws' := ([(w, .inr (0, [.ref (b 0), .ref (t 0), .ref (p 0), .ref (i 0), .int ft, .int rs, .int rf, .ref fr, .ref fa, sv]))] ++ ([(i 0, .inr (14, [.ref (u4.1), .int (u4.2.1), .int (u4.2.2.1), .int (u4.2.2.2.1)]))] ++ ([(u4.1, .inl (dB_ D, (u4.2.2.2.2.1), .inl (u4.2.2.2.2.2)))] ++ [])))) (((((((List.Perm.refl _)).append_left _).trans (pm_sw _ _ _))).append_left _).trans (pm_sw _ _ _)) ?_
    refine v_pop 28 hF dX1_feed_28 rfl ?_
    refine v_aload_n 29 hF dX1_feed_29 rfl 0 rfl ?_
    refine v_get 30 hF in_X1 0 rfl rfl 3 (Nat.le_of_ble_eq_true rfl) q367 rfl rfl dX1_feed_30 ?_
    refine v_callVi (As := []) (b := i 0) (wr := ([(w, .inr (0, [.ref (b 0), .ref (t 0), .ref (p 0), .ref (i 0), .int ft, .int rs, .int rf, .ref fr, .ref fa, sv]))] ++ [])) 33 hF (c_J3_length l D (i 0) (u4.1) (u4.2.1) (u4.2.2.1) (u4.2.2.2.1) (u4.2.2.2.2.1) (u4.2.2.2.2.2) _ h) (((((((List.Perm.refl _)).append_left _).trans (pm_sw _ _ _)).trans ((((((List.Perm.refl _)).append_left _).trans (pm_sw _ _ _))).append_left _))).trans (List.Perm.of_eq (by simp only [List.append_assoc, List.nil_append, List.append_nil]))) ⟨0, 14, _, TJ3, 4, rfl, rfl⟩ q1347 q1348 q1349 q76 q1350 ds_J3_length ⟨rfl, rfl, (Nat.le_of_ble_eq_true rfl), (Nat.le_of_ble_eq_true rfl)⟩ (Nat.le_of_ble_eq_true rfl) ⟨(Nat.le_of_ble_eq_true rfl), (Nat.le_of_ble_eq_true rfl)⟩ dX1_feed_33 (fun r5 u6 h => ?_)
    refine v_eqw (ws1 := ([(i 0, .inr (14, [.ref (u4.1), .int (u4.2.1), .int (u4.2.2.1), .int (u4.2.2.2.1)]))] ++ ([(u4.1, .inl (dB_ D, (u4.2.2.2.2.1), .inl (u4.2.2.2.2.2)))] ++ ([(w, .inr (0, [.ref (b 0), .ref (t 0), .ref (p 0), .ref (i 0), .int ft, .int rs, .int rf, .ref fr, .ref fa, sv]))] ++ [])))) (by simp only [List.append_assoc, List.nil_append, List.append_nil]) ?_
    refine v_perm (ws' := ([(w, .inr (0, [.ref (b 0), .ref (t 0), .ref (p 0), .ref (i 0), .int ft, .int rs, .int rf, .ref fr, .ref fa, sv]))] ++ ([(i 0, .inr (14, [.ref (u4.1), .int (u4.2.1), .int (u4.2.2.1), .int (u4.2.2.2.1)]))] ++ ([(u4.1, .inl (dB_ D, (u4.2.2.2.2.1), .inl (u4.2.2.2.2.2)))] ++ [])))) (((((((List.Perm.refl _)).append_left _).trans (pm_sw _ _ _))).append_left _).trans (pm_sw _ _ _)) ?_
    exact v_iretX (u := (u4.1, u4.2.1, u4.2.2.1, u4.2.2.2.1, (u4.2.2.2.2.1), (u4.2.2.2.2.2))) 36 hF hR (Nat.le_of_ble_eq_true rfl) (Nat.le_of_ble_eq_true rfl) dX1_feed_36 h
  · replace h := h.2 c3
    refine v_iconst (v := 1) 12 hF dX1_feed_12 (by decide) ?_
    refine v_goto 13 17 hF dX1_feed_13 (by decide) ?_
    refine v_callXS0v (As := [.int ((1 : Int32))]) 17 hF (c_X1_requireState l D hl ((1 : Int32)) _ _ _ h) q1395 q1396 q70 q1397 ds_X1_requireState ⟨rfl, rfl, (Nat.le_of_ble_eq_true rfl), (Nat.le_of_ble_eq_true rfl)⟩ (Nat.le_of_ble_eq_true rfl) ⟨(Nat.le_of_ble_eq_true rfl), (Nat.le_of_ble_eq_true rfl)⟩ dX1_feed_17 (fun E q hx => vT_gar (w := ([(w, .inr (0, [.ref (b 0), .ref (t 0), .ref (p 0), .ref (i 0), .int ft, .int rs, .int rf, .ref fr, .ref fa, sv]))] ++ ([(i 0, .inr (14, [.ref y, .int co, .int ml, .int ct]))] ++ ([(y, .inl (dB_ D, n, .inl f))] ++ [])))) (g := ([])) (((List.Perm.refl _)).trans (List.Perm.of_eq (by simp only [List.append_assoc, List.nil_append, List.append_nil]))) (v_outi (u := (y, co, ml, ct, n, f)) hF hR hN (Nat.le_of_ble_eq_true rfl) (Nat.le_of_ble_eq_true rfl) hx)) (fun E q ci r hy hp => vT_garY (w := ([(w, .inr (0, [.ref (b 0), .ref (t 0), .ref (p 0), .ref (i 0), .int ft, .int rs, .int rf, .ref fr, .ref fa, sv]))] ++ ([(i 0, .inr (14, [.ref y, .int co, .int ml, .int ct]))] ++ ([(y, .inl (dB_ D, n, .inl f))] ++ [])))) (g := ([])) (((List.Perm.refl _)).trans (List.Perm.of_eq (by simp only [List.append_assoc, List.nil_append, List.append_nil]))) (v_outYi (u := (y, co, ml, ct, n, f)) hF hR hN (Nat.le_of_ble_eq_true rfl) (Nat.le_of_ble_eq_true rfl) hp hy)) (fun h => ?_)
    refine v_aload_n 20 hF dX1_feed_20 rfl 0 rfl ?_
    refine v_get 21 hF in_X1 0 rfl rfl 3 (Nat.le_of_ble_eq_true rfl) q367 rfl rfl dX1_feed_21 ?_
    refine v_iload_n 24 hF dX1_feed_24 rfl 1 rfl ?_
    refine v_callVr (As := [.int x1]) (b := i 0) (wr := ([(w, .inr (0, [.ref (b 0), .ref (t 0), .ref (p 0), .ref (i 0), .int ft, .int rs, .int rf, .ref fr, .ref fa, sv]))] ++ [])) 25 hF (c_J3_append l D (i 0) y co ml ct n f x1 _ h) (((((((List.Perm.refl _)).append_left _).trans (pm_sw _ _ _)).trans ((((((List.Perm.refl _)).append_left _).trans (pm_sw _ _ _))).append_left _))).trans (List.Perm.of_eq (by simp only [List.append_assoc, List.nil_append, List.append_nil]))) ⟨0, 14, _, TJ3, 4, rfl, rfl⟩ q1403 q1404 q1405 q76 q1406 ds_J3_append ⟨rfl, rfl, (Nat.le_of_ble_eq_true rfl), (Nat.le_of_ble_eq_true rfl)⟩ (Nat.le_of_ble_eq_true rfl) ⟨(Nat.le_of_ble_eq_true rfl), (Nat.le_of_ble_eq_true rfl)⟩ dX1_feed_25 (fun u7 h => ?_)
    refine v_eqw (ws1 := ([(i 0, .inr (14, [.ref (u7.1), .int (u7.2.1), .int (u7.2.2.1), .int (u7.2.2.2.1)]))] ++ ([(u7.1, .inl (dB_ D, (u7.2.2.2.2.1), .inl (u7.2.2.2.2.2)))] ++ ([(w, .inr (0, [.ref (b 0), .ref (t 0), .ref (p 0), .ref (i 0), .int ft, .int rs, .int rf, .ref fr, .ref fa, sv]))] ++ [])))) (by simp only [List.append_assoc, List.nil_append, List.append_nil]) ?_
    refine v_perm (ws' := ([(w, .inr (0, [.ref (b 0), .ref (t 0), .ref (p 0), .ref (i 0), .int ft, .int rs, .int rf, .ref fr, .ref fa, sv]))] ++ ([(i 0, .inr (14, [.ref (u7.1), .int (u7.2.1), .int (u7.2.2.1), .int (u7.2.2.2.1)]))] ++ ([(u7.1, .inl (dB_ D, (u7.2.2.2.2.1), .inl (u7.2.2.2.2.2)))] ++ [])))) (((((((List.Perm.refl _)).append_left _).trans (pm_sw _ _ _))).append_left _).trans (pm_sw _ _ _)) ?_
    refine v_pop 28 hF dX1_feed_28 rfl ?_
    refine v_aload_n 29 hF dX1_feed_29 rfl 0 rfl ?_
    refine v_get 30 hF in_X1 0 rfl rfl 3 (Nat.le_of_ble_eq_true rfl) q367 rfl rfl dX1_feed_30 ?_
    refine v_callVi (As := []) (b := i 0) (wr := ([(w, .inr (0, [.ref (b 0), .ref (t 0), .ref (p 0), .ref (i 0), .int ft, .int rs, .int rf, .ref fr, .ref fa, sv]))] ++ [])) 33 hF (c_J3_length l D (i 0) (u7.1) (u7.2.1) (u7.2.2.1) (u7.2.2.2.1) (u7.2.2.2.2.1) (u7.2.2.2.2.2) _ h) (((((((List.Perm.refl _)).append_left _).trans (pm_sw _ _ _)).trans ((((((List.Perm.refl _)).append_left _).trans (pm_sw _ _ _))).append_left _))).trans (List.Perm.of_eq (by simp only [List.append_assoc, List.nil_append, List.append_nil]))) ⟨0, 14, _, TJ3, 4, rfl, rfl⟩ q1347 q1348 q1349 q76 q1350 ds_J3_length ⟨rfl, rfl, (Nat.le_of_ble_eq_true rfl), (Nat.le_of_ble_eq_true rfl)⟩ (Nat.le_of_ble_eq_true rfl) ⟨(Nat.le_of_ble_eq_true rfl), (Nat.le_of_ble_eq_true rfl)⟩ dX1_feed_33 (fun r8 u9 h => ?_)
    refine v_eqw (ws1 := ([(i 0, .inr (14, [.ref (u7.1), .int (u7.2.1), .int (u7.2.2.1), .int (u7.2.2.2.1)]))] ++ ([(u7.1, .inl (dB_ D, (u7.2.2.2.2.1), .inl (u7.2.2.2.2.2)))] ++ ([(w, .inr (0, [.ref (b 0), .ref (t 0), .ref (p 0), .ref (i 0), .int ft, .int rs, .int rf, .ref fr, .ref fa, sv]))] ++ [])))) (by simp only [List.append_assoc, List.nil_append, List.append_nil]) ?_
    refine v_perm (ws' := ([(w, .inr (0, [.ref (b 0), .ref (t 0), .ref (p 0), .ref (i 0), .int ft, .int rs, .int rf, .ref fr, .ref fa, sv]))] ++ ([(i 0, .inr (14, [.ref (u7.1), .int (u7.2.1), .int (u7.2.2.1), .int (u7.2.2.2.1)]))] ++ ([(u7.1, .inl (dB_ D, (u7.2.2.2.2.1), .inl (u7.2.2.2.2.2)))] ++ [])))) (((((((List.Perm.refl _)).append_left _).trans (pm_sw _ _ _))).append_left _).trans (pm_sw _ _ _)) ?_
    exact v_iretX (u := (u7.1, u7.2.1, u7.2.2.1, u7.2.2.2.1, (u7.2.2.2.2.1), (u7.2.2.2.2.2))) 36 hF hR (Nat.le_of_ble_eq_true rfl) (Nat.le_of_ble_eq_true rfl) dX1_feed_36 h
def w_X1_number (w : Nat) (b : Nat → Nat) (t : Nat → Nat) (p : Nat → Nat) (i : Nat → Nat) (fr : Nat) (fa : Nat) (ft : Int32) (rs : Int32) (rf : Int32) (sv : Value) (σ : Nat → Nat → Int32) (dq : (Nat → Option Nat) × Int32 × Int32) (y : Nat) (co : Int32) (ml : Int32) (ct : Int32) (n : Nat) (f : Nat → Int32) (x1 : Int32) (X : String → ((Nat → Nat → Int32) × ((Nat → Option Nat) × Int32 × Int32)) → Prop) (Y : String → Int32 → ((Nat → Nat → Int32) × ((Nat → Option Nat) × Int32 × Int32)) → Prop) (Q : Int32 → ((Nat → Nat → Int32) × ((Nat → Option Nat) × Int32 × Int32)) → Prop) : Prop :=
  w_X1_inRange x1 ((0 : Int32)) ((15 : Int32)) (fun r1 => w_X1_require r1 (fun E => X E ((σ, dq))) (fun E r => Y E r ((σ, dq))) ((((x1.toInt < 0 ∨ 14 < x1.toInt) → w_J3_length (i 0) y co ml ct n f (fun r3 u4 => Q r3 ((σ, dq)))) ∧ (x1 = (0 : Int32) → Q ((σ 20 8)) ((σ, dq))) ∧ (x1 = (1 : Int32) → Q ((σ 20 15)) ((σ, dq))) ∧ (x1 = (2 : Int32) → Q ((σ 20 16)) ((σ, dq))) ∧ (x1 = (3 : Int32) → Q ((σ 20 17)) ((σ, dq))) ∧ (x1 = (4 : Int32) → Q ((σ 20 18)) ((σ, dq))) ∧ (x1 = (5 : Int32) → Q ((σ 20 19)) ((σ, dq))) ∧ (x1 = (6 : Int32) → Q ((σ 20 20)) ((σ, dq))) ∧ (x1 = (7 : Int32) → Q ((σ 40 4)) ((σ, dq))) ∧ (x1 = (8 : Int32) → w_X3_eggs σ (fun r5 u6 => Q r5 ((u6, dq)))) ∧ (x1 = (9 : Int32) → Q ((σ 20 21)) ((σ, dq))) ∧ (x1 = (10 : Int32) → Q ((σ 20 22)) ((σ, dq))) ∧ (x1 = (11 : Int32) → Q ((σ 20 23)) ((σ, dq))) ∧ (x1 = (12 : Int32) → w_X2_sum5 σ (fun r7 u8 => Q r7 ((u8, dq)))) ∧ (x1 = (13 : Int32) → Q ((σ 20 9)) ((σ, dq))) ∧ (x1 = (14 : Int32) → w_J1_size dq (fun r9 u10 => Q r9 ((σ, u10)))))))
theorem ds_X1_number : yX1_number.cls = yX1_number.cls ∧ yX1_number.cls ≠ "java/lang/invoke/MethodHandle" ∧ yX1_number.cls ≠ "java/lang/invoke/VarHandle" ∧ (parseMethodDescriptor yX1_number.desc).map (fun d => d.parameters.length) = some 1 := by decide +kernel
set_option maxHeartbeats 4000000 in
theorem c_X1_number (l : Launch) (D : va_G) (hl : l.stackTraces = false) (w : Nat) (b : Nat → Nat) (t : Nat → Nat) (p : Nat → Nat) (i : Nat → Nat) (fr : Nat) (fa : Nat) (ft : Int32) (rs : Int32) (rf : Int32) (sv : Value) (σ : Nat → Nat → Int32) (dq : (Nat → Option Nat) × Int32 × Int32) (y : Nat) (co : Int32) (ml : Int32) (ct : Int32) (n : Nat) (f : Nat → Int32) (x1 : Int32) (X : String → ((Nat → Nat → Int32) × ((Nat → Option Nat) × Int32 × Int32)) → Prop) (Y : String → Int32 → ((Nat → Nat → Int32) × ((Nat → Option Nat) × Int32 × Int32)) → Prop) (Q : Int32 → ((Nat → Nat → Int32) × ((Nat → Option Nat) × Int32 × Int32)) → Prop) (h : w_X1_number w b t p i fr fa ft rs rf sv σ dq y co ml ct n f x1 X Y Q) : Cxi l D yX1_number cX1_number 2 .int (rmk 7 1 6 116) [.ref w, .int x1] ([(w, .inr (0, [.ref (b 0), .ref (t 0), .ref (p 0), .ref (i 0), .int ft, .int rs, .int rf, .ref fr, .ref fa, sv]))] ++ (bkW D b σ ++ (dqW D p dq ++ ([(i 0, .inr (14, [.ref y, .int co, .int ml, .int ct]))] ++ ([(y, .inl (dB_ D, n, .inl f))] ++ []))))) (fun u : (Nat → Nat → Int32) × ((Nat → Option Nat) × Int32 × Int32) => ([(w, .inr (0, [.ref (b 0), .ref (t 0), .ref (p 0), .ref (i 0), .int ft, .int rs, .int rf, .ref fr, .ref fa, sv]))] ++ (bkW D b (u.1) ++ (dqW D p (u.2) ++ ([(i 0, .inr (14, [.ref y, .int co, .int ml, .int ct]))] ++ ([(y, .inl (dB_ D, n, .inl f))] ++ [])))))) Q X Y 1 6 := by
  refine Cxi.of (by decide) (Nat.le_of_ble_eq_true rfl) (fun x hF hR hN => ?_)
  replace hF : vF x l D "BrookWeirs" cX1_number (rmk 7 1 6 116) 2 (some .int) := hF
  unfold w_X1_number at h
  refine v_iload_n 0 hF dX1_number_0 rfl 1 rfl ?_
  refine v_iconst (v := 0) 1 hF dX1_number_1 (by decide) ?_
  refine v_bipush (v := 15) 2 hF dX1_number_2 (by decide) ?_
  refine v_callS0i (As := [.int x1, .int ((0 : Int32)), .int ((15 : Int32))]) 4 hF (c_X1_inRange l D x1 ((0 : Int32)) ((15 : Int32)) _ h) q729 q475 q70 q476 ds_X1_inRange ⟨rfl, rfl, (Nat.le_of_ble_eq_true rfl), (Nat.le_of_ble_eq_true rfl)⟩ (Nat.le_of_ble_eq_true rfl) ⟨(Nat.le_of_ble_eq_true rfl), (Nat.le_of_ble_eq_true rfl)⟩ dX1_number_4 (fun r1 h => ?_)
  refine v_callXS0v (As := [.int r1]) 7 hF (c_X1_require l D hl r1 _ _ _ h) q730 q731 q70 q732 ds_X1_require ⟨rfl, rfl, (Nat.le_of_ble_eq_true rfl), (Nat.le_of_ble_eq_true rfl)⟩ (Nat.le_of_ble_eq_true rfl) ⟨(Nat.le_of_ble_eq_true rfl), (Nat.le_of_ble_eq_true rfl)⟩ dX1_number_7 (fun E q hx => vT_gar (w := ([(w, .inr (0, [.ref (b 0), .ref (t 0), .ref (p 0), .ref (i 0), .int ft, .int rs, .int rf, .ref fr, .ref fa, sv]))] ++ (bkW D b σ ++ (dqW D p dq ++ ([(i 0, .inr (14, [.ref y, .int co, .int ml, .int ct]))] ++ ([(y, .inl (dB_ D, n, .inl f))] ++ [])))))) (g := ([])) (((List.Perm.refl _)).trans (List.Perm.of_eq (by simp only [List.append_assoc, List.nil_append, List.append_nil]))) (v_outi (u := (σ, dq)) hF hR hN (Nat.le_of_ble_eq_true rfl) (Nat.le_of_ble_eq_true rfl) hx)) (fun E q ci r hy hp => vT_garY (w := ([(w, .inr (0, [.ref (b 0), .ref (t 0), .ref (p 0), .ref (i 0), .int ft, .int rs, .int rf, .ref fr, .ref fa, sv]))] ++ (bkW D b σ ++ (dqW D p dq ++ ([(i 0, .inr (14, [.ref y, .int co, .int ml, .int ct]))] ++ ([(y, .inl (dB_ D, n, .inl f))] ++ [])))))) (g := ([])) (((List.Perm.refl _)).trans (List.Perm.of_eq (by simp only [List.append_assoc, List.nil_append, List.append_nil]))) (v_outYi (u := (σ, dq)) hF hR hN (Nat.le_of_ble_eq_true rfl) (Nat.le_of_ble_eq_true rfl) hp hy)) (fun h => ?_)
  refine v_iload_n 10 hF dX1_number_10 rfl 1 rfl ?_
  rcases tsw_cases x1 0 15 with c2 | c2
  · replace h := h.1 c2
    refine v_tableOut 11 217 hF dX1_number_11 c2 (by decide) ?_
    refine v_aload_n 217 hF dX1_number_217 rfl 0 rfl ?_
    refine v_get 218 hF in_X1 0 rfl rfl 3 (Nat.le_of_ble_eq_true rfl) q367 rfl rfl dX1_number_218 ?_
    refine v_callVi (As := []) (b := i 0) (wr := ([(w, .inr (0, [.ref (b 0), .ref (t 0), .ref (p 0), .ref (i 0), .int ft, .int rs, .int rf, .ref fr, .ref fa, sv]))] ++ (bkW D b σ ++ (dqW D p dq ++ [])))) 221 hF (c_J3_length l D (i 0) y co ml ct n f _ h) (((((((((((((List.Perm.refl _)).append_left _).trans (pm_sw _ _ _))).append_left _).trans (pm_sw _ _ _))).append_left _).trans (pm_sw _ _ _)).trans ((((((((((((List.Perm.refl _)).append_left _).trans (pm_sw _ _ _))).append_left _).trans (pm_sw _ _ _))).append_left _).trans (pm_sw _ _ _))).append_left _))).trans (List.Perm.of_eq (by simp only [List.append_assoc, List.nil_append, List.append_nil]))) ⟨0, 14, _, TJ3, 4, rfl, rfl⟩ q1347 q1348 q1349 q76 q1350 ds_J3_length ⟨rfl, rfl, (Nat.le_of_ble_eq_true rfl), (Nat.le_of_ble_eq_true rfl)⟩ (Nat.le_of_ble_eq_true rfl) ⟨(Nat.le_of_ble_eq_true rfl), (Nat.le_of_ble_eq_true rfl)⟩ dX1_number_221 (fun r3 u4 h => ?_)
    refine v_eqw (ws1 := ([(i 0, .inr (14, [.ref y, .int co, .int ml, .int ct]))] ++ ([(y, .inl (dB_ D, n, .inl f))] ++ ([(w, .inr (0, [.ref (b 0), .ref (t 0), .ref (p 0), .ref (i 0), .int ft, .int rs, .int rf, .ref fr, .ref fa, sv]))] ++ (bkW D b σ ++ (dqW D p dq ++ [])))))) (by simp only [List.append_assoc, List.nil_append, List.append_nil]) ?_
    refine v_perm (ws' := ([(w, .inr (0, [.ref (b 0), .ref (t 0), .ref (p 0), .ref (i 0), .int ft, .int rs, .int rf, .ref fr, .ref fa, sv]))] ++ (bkW D b σ ++ (dqW D p dq ++ ([(i 0, .inr (14, [.ref y, .int co, .int ml, .int ct]))] ++ ([(y, .inl (dB_ D, n, .inl f))] ++ [])))))) ((((((((List.Perm.refl _)).append_left _).trans (pm_sw _ _ _))).append_left _).trans (pm_sw _ _ _)).trans ((((((((((List.Perm.refl _)).append_left _).trans (pm_sw _ _ _))).append_left _).trans (pm_sw _ _ _)).trans (((((((((List.Perm.refl _)).append_left _).trans (pm_sw _ _ _))).append_left _).trans (pm_sw _ _ _))).append_left _))).append_left _)) ?_
    exact v_iretX (u := (σ, dq)) 224 hF hR (Nat.le_of_ble_eq_true rfl) (Nat.le_of_ble_eq_true rfl) dX1_number_224 h
  · replace h := h.2
    obtain ⟨j, hj, ej⟩ := c2
    rcases (show j = 0 ∨ j = 1 ∨ j = 2 ∨ j = 3 ∨ j = 4 ∨ j = 5 ∨ j = 6 ∨ j = 7 ∨ j = 8 ∨ j = 9 ∨ j = 10 ∨ j = 11 ∨ j = 12 ∨ j = 13 ∨ j = 14 by omega) with rfl | rfl | rfl | rfl | rfl | rfl | rfl | rfl | rfl | rfl | rfl | rfl | rfl | rfl | rfl
    · have ev : x1 = (0 : Int32) := ej
      replace h := h.1 ev
      refine v_tableIn 11 84 hF dX1_number_11 (by rw [ev]; decide) (by rw [ev]; decide) (off := 73) (by rw [ev]; decide) (by decide) ?_
      refine v_aload_n 84 hF dX1_number_84 rfl 0 rfl ?_
      refine v_get 85 hF in_X1 0 rfl rfl 0 (Nat.le_of_ble_eq_true rfl) q362 rfl rfl dX1_number_85 ?_
      refine v_getN 88 hF in_X2 1 rfl rfl 8 (Nat.le_of_ble_eq_true rfl) q185 rfl rfl dX1_number_88 ?_
      exact v_iretX (u := (σ, dq)) 91 hF hR (Nat.le_of_ble_eq_true rfl) (Nat.le_of_ble_eq_true rfl) dX1_number_91 h
    · have ev : x1 = (1 : Int32) := ej
      replace h := h.2.1 ev
      refine v_tableIn 11 92 hF dX1_number_11 (by rw [ev]; decide) (by rw [ev]; decide) (off := 81) (by rw [ev]; decide) (by decide) ?_
      refine v_aload_n 92 hF dX1_number_92 rfl 0 rfl ?_
      refine v_get 93 hF in_X1 0 rfl rfl 0 (Nat.le_of_ble_eq_true rfl) q362 rfl rfl dX1_number_93 ?_
      refine v_getN 96 hF in_X2 1 rfl rfl 15 (Nat.le_of_ble_eq_true rfl) q201 rfl rfl dX1_number_96 ?_
      exact v_iretX (u := (σ, dq)) 99 hF hR (Nat.le_of_ble_eq_true rfl) (Nat.le_of_ble_eq_true rfl) dX1_number_99 h
    · have ev : x1 = (2 : Int32) := ej
      replace h := h.2.2.1 ev
      refine v_tableIn 11 100 hF dX1_number_11 (by rw [ev]; decide) (by rw [ev]; decide) (off := 89) (by rw [ev]; decide) (by decide) ?_
      refine v_aload_n 100 hF dX1_number_100 rfl 0 rfl ?_
      refine v_get 101 hF in_X1 0 rfl rfl 0 (Nat.le_of_ble_eq_true rfl) q362 rfl rfl dX1_number_101 ?_
      refine v_getN 104 hF in_X2 1 rfl rfl 16 (Nat.le_of_ble_eq_true rfl) q203 rfl rfl dX1_number_104 ?_
      exact v_iretX (u := (σ, dq)) 107 hF hR (Nat.le_of_ble_eq_true rfl) (Nat.le_of_ble_eq_true rfl) dX1_number_107 h
    · have ev : x1 = (3 : Int32) := ej
      replace h := h.2.2.2.1 ev
      refine v_tableIn 11 108 hF dX1_number_11 (by rw [ev]; decide) (by rw [ev]; decide) (off := 97) (by rw [ev]; decide) (by decide) ?_
      refine v_aload_n 108 hF dX1_number_108 rfl 0 rfl ?_
      refine v_get 109 hF in_X1 0 rfl rfl 0 (Nat.le_of_ble_eq_true rfl) q362 rfl rfl dX1_number_109 ?_
      refine v_getN 112 hF in_X2 1 rfl rfl 17 (Nat.le_of_ble_eq_true rfl) q205 rfl rfl dX1_number_112 ?_
      exact v_iretX (u := (σ, dq)) 115 hF hR (Nat.le_of_ble_eq_true rfl) (Nat.le_of_ble_eq_true rfl) dX1_number_115 h
    · have ev : x1 = (4 : Int32) := ej
      replace h := h.2.2.2.2.1 ev
      refine v_tableIn 11 116 hF dX1_number_11 (by rw [ev]; decide) (by rw [ev]; decide) (off := 105) (by rw [ev]; decide) (by decide) ?_
      refine v_aload_n 116 hF dX1_number_116 rfl 0 rfl ?_
      refine v_get 117 hF in_X1 0 rfl rfl 0 (Nat.le_of_ble_eq_true rfl) q362 rfl rfl dX1_number_117 ?_
      refine v_getN 120 hF in_X2 1 rfl rfl 18 (Nat.le_of_ble_eq_true rfl) q208 rfl rfl dX1_number_120 ?_
      exact v_iretX (u := (σ, dq)) 123 hF hR (Nat.le_of_ble_eq_true rfl) (Nat.le_of_ble_eq_true rfl) dX1_number_123 h
    · have ev : x1 = (5 : Int32) := ej
      replace h := h.2.2.2.2.2.1 ev
      refine v_tableIn 11 124 hF dX1_number_11 (by rw [ev]; decide) (by rw [ev]; decide) (off := 113) (by rw [ev]; decide) (by decide) ?_
      refine v_aload_n 124 hF dX1_number_124 rfl 0 rfl ?_
      refine v_get 125 hF in_X1 0 rfl rfl 0 (Nat.le_of_ble_eq_true rfl) q362 rfl rfl dX1_number_125 ?_
      refine v_getN 128 hF in_X2 1 rfl rfl 19 (Nat.le_of_ble_eq_true rfl) q210 rfl rfl dX1_number_128 ?_
      exact v_iretX (u := (σ, dq)) 131 hF hR (Nat.le_of_ble_eq_true rfl) (Nat.le_of_ble_eq_true rfl) dX1_number_131 h
    · have ev : x1 = (6 : Int32) := ej
      replace h := h.2.2.2.2.2.2.1 ev
      refine v_tableIn 11 132 hF dX1_number_11 (by rw [ev]; decide) (by rw [ev]; decide) (off := 121) (by rw [ev]; decide) (by decide) ?_
      refine v_aload_n 132 hF dX1_number_132 rfl 0 rfl ?_
      refine v_get 133 hF in_X1 0 rfl rfl 0 (Nat.le_of_ble_eq_true rfl) q362 rfl rfl dX1_number_133 ?_
      refine v_getN 136 hF in_X2 1 rfl rfl 20 (Nat.le_of_ble_eq_true rfl) q212 rfl rfl dX1_number_136 ?_
      exact v_iretX (u := (σ, dq)) 139 hF hR (Nat.le_of_ble_eq_true rfl) (Nat.le_of_ble_eq_true rfl) dX1_number_139 h
    · have ev : x1 = (7 : Int32) := ej
      replace h := h.2.2.2.2.2.2.2.1 ev
      refine v_tableIn 11 140 hF dX1_number_11 (by rw [ev]; decide) (by rw [ev]; decide) (off := 129) (by rw [ev]; decide) (by decide) ?_
      refine v_aload_n 140 hF dX1_number_140 rfl 0 rfl ?_
      refine v_get 141 hF in_X1 0 rfl rfl 0 (Nat.le_of_ble_eq_true rfl) q362 rfl rfl dX1_number_141 ?_
      refine v_getN 144 hF in_X2 1 rfl rfl 7 (Nat.le_of_ble_eq_true rfl) q182 rfl rfl dX1_number_144 ?_
      refine v_getN 147 hF in_X3 9 rfl rfl 4 (Nat.le_of_ble_eq_true rfl) q152 rfl rfl dX1_number_147 ?_
      exact v_iretX (u := (σ, dq)) 150 hF hR (Nat.le_of_ble_eq_true rfl) (Nat.le_of_ble_eq_true rfl) dX1_number_150 h
    · have ev : x1 = (8 : Int32) := ej
      replace h := h.2.2.2.2.2.2.2.2.1 ev
      refine v_tableIn 11 151 hF dX1_number_11 (by rw [ev]; decide) (by rw [ev]; decide) (off := 140) (by rw [ev]; decide) (by decide) ?_
      refine v_aload_n 151 hF dX1_number_151 rfl 0 rfl ?_
      refine v_get 152 hF in_X1 0 rfl rfl 0 (Nat.le_of_ble_eq_true rfl) q362 rfl rfl dX1_number_152 ?_
      refine v_getN 155 hF in_X2 1 rfl rfl 7 (Nat.le_of_ble_eq_true rfl) q182 rfl rfl dX1_number_155 ?_
      refine v_callVi (As := []) (b := b 8) (wr := ([(w, .inr (0, [.ref (b 0), .ref (t 0), .ref (p 0), .ref (i 0), .int ft, .int rs, .int rf, .ref fr, .ref fa, sv]))] ++ (dqW D p dq ++ ([(i 0, .inr (14, [.ref y, .int co, .int ml, .int ct]))] ++ ([(y, .inl (dB_ D, n, .inl f))] ++ []))))) 158 hF (c_X3_eggs l D b σ _ h) ((((((List.Perm.refl _)).append_left _).trans (pm_sw _ _ _))).trans (List.Perm.of_eq (by simp only [List.append_assoc, List.nil_append, List.append_nil]))) ⟨8, 7, _, TX3, 5, rfl, rfl⟩ q1346 q1113 q1114 q72 q1115 ds_X3_eggs ⟨rfl, rfl, (Nat.le_of_ble_eq_true rfl), (Nat.le_of_ble_eq_true rfl)⟩ (Nat.le_of_ble_eq_true rfl) ⟨(Nat.le_of_ble_eq_true rfl), (Nat.le_of_ble_eq_true rfl)⟩ dX1_number_158 (fun r5 u6 h => ?_)
      refine v_eqw (ws1 := (bkW D b u6 ++ ([(w, .inr (0, [.ref (b 0), .ref (t 0), .ref (p 0), .ref (i 0), .int ft, .int rs, .int rf, .ref fr, .ref fa, sv]))] ++ (dqW D p dq ++ ([(i 0, .inr (14, [.ref y, .int co, .int ml, .int ct]))] ++ ([(y, .inl (dB_ D, n, .inl f))] ++ [])))))) (by simp only [List.append_assoc, List.nil_append, List.append_nil]) ?_
      refine v_perm (ws' := ([(w, .inr (0, [.ref (b 0), .ref (t 0), .ref (p 0), .ref (i 0), .int ft, .int rs, .int rf, .ref fr, .ref fa, sv]))] ++ (bkW D b u6 ++ (dqW D p dq ++ ([(i 0, .inr (14, [.ref y, .int co, .int ml, .int ct]))] ++ ([(y, .inl (dB_ D, n, .inl f))] ++ [])))))) ((((List.Perm.refl _)).append_left _).trans (pm_sw _ _ _)) ?_
      exact v_iretX (u := (u6, dq)) 161 hF hR (Nat.le_of_ble_eq_true rfl) (Nat.le_of_ble_eq_true rfl) dX1_number_161 h
    · have ev : x1 = (9 : Int32) := ej
      replace h := h.2.2.2.2.2.2.2.2.2.1 ev
      refine v_tableIn 11 162 hF dX1_number_11 (by rw [ev]; decide) (by rw [ev]; decide) (off := 151) (by rw [ev]; decide) (by decide) ?_
      refine v_aload_n 162 hF dX1_number_162 rfl 0 rfl ?_
      refine v_get 163 hF in_X1 0 rfl rfl 0 (Nat.le_of_ble_eq_true rfl) q362 rfl rfl dX1_number_163 ?_
      refine v_getN 166 hF in_X2 1 rfl rfl 21 (Nat.le_of_ble_eq_true rfl) q214 rfl rfl dX1_number_166 ?_
      exact v_iretX (u := (σ, dq)) 169 hF hR (Nat.le_of_ble_eq_true rfl) (Nat.le_of_ble_eq_true rfl) dX1_number_169 h
    · have ev : x1 = (10 : Int32) := ej
      replace h := h.2.2.2.2.2.2.2.2.2.2.1 ev
      refine v_tableIn 11 170 hF dX1_number_11 (by rw [ev]; decide) (by rw [ev]; decide) (off := 159) (by rw [ev]; decide) (by decide) ?_
      refine v_aload_n 170 hF dX1_number_170 rfl 0 rfl ?_
      refine v_get 171 hF in_X1 0 rfl rfl 0 (Nat.le_of_ble_eq_true rfl) q362 rfl rfl dX1_number_171 ?_
      refine v_getN 174 hF in_X2 1 rfl rfl 22 (Nat.le_of_ble_eq_true rfl) q216 rfl rfl dX1_number_174 ?_
      exact v_iretX (u := (σ, dq)) 177 hF hR (Nat.le_of_ble_eq_true rfl) (Nat.le_of_ble_eq_true rfl) dX1_number_177 h
    · have ev : x1 = (11 : Int32) := ej
      replace h := h.2.2.2.2.2.2.2.2.2.2.2.1 ev
      refine v_tableIn 11 178 hF dX1_number_11 (by rw [ev]; decide) (by rw [ev]; decide) (off := 167) (by rw [ev]; decide) (by decide) ?_
      refine v_aload_n 178 hF dX1_number_178 rfl 0 rfl ?_
      refine v_get 179 hF in_X1 0 rfl rfl 0 (Nat.le_of_ble_eq_true rfl) q362 rfl rfl dX1_number_179 ?_
      refine v_getN 182 hF in_X2 1 rfl rfl 23 (Nat.le_of_ble_eq_true rfl) q218 rfl rfl dX1_number_182 ?_
      exact v_iretX (u := (σ, dq)) 185 hF hR (Nat.le_of_ble_eq_true rfl) (Nat.le_of_ble_eq_true rfl) dX1_number_185 h
    · have ev : x1 = (12 : Int32) := ej
      replace h := h.2.2.2.2.2.2.2.2.2.2.2.2.1 ev
      refine v_tableIn 11 186 hF dX1_number_11 (by rw [ev]; decide) (by rw [ev]; decide) (off := 175) (by rw [ev]; decide) (by decide) ?_
      refine v_aload_n 186 hF dX1_number_186 rfl 0 rfl ?_
      refine v_get 187 hF in_X1 0 rfl rfl 0 (Nat.le_of_ble_eq_true rfl) q362 rfl rfl dX1_number_187 ?_
      refine v_aload_n 190 hF dX1_number_190 rfl 0 rfl ?_
      refine v_get 191 hF in_X1 0 rfl rfl 0 (Nat.le_of_ble_eq_true rfl) q362 rfl rfl dX1_number_191 ?_
      refine v_getN 194 hF in_X2 1 rfl rfl 5 (Nat.le_of_ble_eq_true rfl) q177 rfl rfl dX1_number_194 ?_
      refine v_callVi (As := [.ref (b 6)]) (b := b 0) (wr := ([(w, .inr (0, [.ref (b 0), .ref (t 0), .ref (p 0), .ref (i 0), .int ft, .int rs, .int rf, .ref fr, .ref fa, sv]))] ++ (dqW D p dq ++ ([(i 0, .inr (14, [.ref y, .int co, .int ml, .int ct]))] ++ ([(y, .inl (dB_ D, n, .inl f))] ++ []))))) 197 hF (c_X2_sum5 l D b σ _ h) ((((((List.Perm.refl _)).append_left _).trans (pm_sw _ _ _))).trans (List.Perm.of_eq (by simp only [List.append_assoc, List.nil_append, List.append_nil]))) ⟨0, 6, _, TX2, 24, rfl, rfl⟩ q708 q709 q710 q71 q711 ds_X2_sum ⟨rfl, rfl, (Nat.le_of_ble_eq_true rfl), (Nat.le_of_ble_eq_true rfl)⟩ (Nat.le_of_ble_eq_true rfl) ⟨(Nat.le_of_ble_eq_true rfl), (Nat.le_of_ble_eq_true rfl)⟩ dX1_number_197 (fun r7 u8 h => ?_)
      refine v_eqw (ws1 := (bkW D b u8 ++ ([(w, .inr (0, [.ref (b 0), .ref (t 0), .ref (p 0), .ref (i 0), .int ft, .int rs, .int rf, .ref fr, .ref fa, sv]))] ++ (dqW D p dq ++ ([(i 0, .inr (14, [.ref y, .int co, .int ml, .int ct]))] ++ ([(y, .inl (dB_ D, n, .inl f))] ++ [])))))) (by simp only [List.append_assoc, List.nil_append, List.append_nil]) ?_
      refine v_perm (ws' := ([(w, .inr (0, [.ref (b 0), .ref (t 0), .ref (p 0), .ref (i 0), .int ft, .int rs, .int rf, .ref fr, .ref fa, sv]))] ++ (bkW D b u8 ++ (dqW D p dq ++ ([(i 0, .inr (14, [.ref y, .int co, .int ml, .int ct]))] ++ ([(y, .inl (dB_ D, n, .inl f))] ++ [])))))) ((((List.Perm.refl _)).append_left _).trans (pm_sw _ _ _)) ?_
      exact v_iretX (u := (u8, dq)) 200 hF hR (Nat.le_of_ble_eq_true rfl) (Nat.le_of_ble_eq_true rfl) dX1_number_200 h
    · have ev : x1 = (13 : Int32) := ej
      replace h := h.2.2.2.2.2.2.2.2.2.2.2.2.2.1 ev
      refine v_tableIn 11 201 hF dX1_number_11 (by rw [ev]; decide) (by rw [ev]; decide) (off := 190) (by rw [ev]; decide) (by decide) ?_
      refine v_aload_n 201 hF dX1_number_201 rfl 0 rfl ?_
      refine v_get 202 hF in_X1 0 rfl rfl 0 (Nat.le_of_ble_eq_true rfl) q362 rfl rfl dX1_number_202 ?_
      refine v_getN 205 hF in_X2 1 rfl rfl 9 (Nat.le_of_ble_eq_true rfl) q187 rfl rfl dX1_number_205 ?_
      exact v_iretX (u := (σ, dq)) 208 hF hR (Nat.le_of_ble_eq_true rfl) (Nat.le_of_ble_eq_true rfl) dX1_number_208 h
    · have ev : x1 = (14 : Int32) := ej
      replace h := h.2.2.2.2.2.2.2.2.2.2.2.2.2.2 ev
      refine v_tableIn 11 209 hF dX1_number_11 (by rw [ev]; decide) (by rw [ev]; decide) (off := 198) (by rw [ev]; decide) (by decide) ?_
      refine v_aload_n 209 hF dX1_number_209 rfl 0 rfl ?_
      refine v_get 210 hF in_X1 0 rfl rfl 2 (Nat.le_of_ble_eq_true rfl) q365 rfl rfl dX1_number_210 ?_
      refine v_callVi (As := []) (b := p 0) (wr := ([(w, .inr (0, [.ref (b 0), .ref (t 0), .ref (p 0), .ref (i 0), .int ft, .int rs, .int rf, .ref fr, .ref fa, sv]))] ++ (bkW D b σ ++ ([(i 0, .inr (14, [.ref y, .int co, .int ml, .int ct]))] ++ ([(y, .inl (dB_ D, n, .inl f))] ++ []))))) 213 hF (c_J1_size l D p dq _ h) (((((((((List.Perm.refl _)).append_left _).trans (pm_sw _ _ _))).append_left _).trans (pm_sw _ _ _))).trans (List.Perm.of_eq (by simp only [List.append_assoc, List.nil_append, List.append_nil]))) ⟨0, 13, _, TJ1, 3, rfl, rfl⟩ q508 q509 q510 q74 q511 ds_J1_size ⟨rfl, rfl, (Nat.le_of_ble_eq_true rfl), (Nat.le_of_ble_eq_true rfl)⟩ (Nat.le_of_ble_eq_true rfl) ⟨(Nat.le_of_ble_eq_true rfl), (Nat.le_of_ble_eq_true rfl)⟩ dX1_number_213 (fun r9 u10 h => ?_)
      refine v_eqw (ws1 := (dqW D p u10 ++ ([(w, .inr (0, [.ref (b 0), .ref (t 0), .ref (p 0), .ref (i 0), .int ft, .int rs, .int rf, .ref fr, .ref fa, sv]))] ++ (bkW D b σ ++ ([(i 0, .inr (14, [.ref y, .int co, .int ml, .int ct]))] ++ ([(y, .inl (dB_ D, n, .inl f))] ++ [])))))) (by simp only [List.append_assoc, List.nil_append, List.append_nil]) ?_
      refine v_perm (ws' := ([(w, .inr (0, [.ref (b 0), .ref (t 0), .ref (p 0), .ref (i 0), .int ft, .int rs, .int rf, .ref fr, .ref fa, sv]))] ++ (bkW D b σ ++ (dqW D p u10 ++ ([(i 0, .inr (14, [.ref y, .int co, .int ml, .int ct]))] ++ ([(y, .inl (dB_ D, n, .inl f))] ++ [])))))) (((((List.Perm.refl _)).append_left _).trans (pm_sw _ _ _)).trans ((((((List.Perm.refl _)).append_left _).trans (pm_sw _ _ _))).append_left _)) ?_
      exact v_iretX (u := (σ, u10)) 216 hF hR (Nat.le_of_ble_eq_true rfl) (Nat.le_of_ble_eq_true rfl) dX1_number_216 h
