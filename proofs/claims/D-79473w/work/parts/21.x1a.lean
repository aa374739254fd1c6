set_option maxRecDepth 100000
theorem pm_sw (a b c : va_W) : (a ++ (b ++ c)).Perm (b ++ (a ++ c)) := by
  rw [← List.append_assoc, ← List.append_assoc]
  exact List.Perm.append_right c List.perm_append_comm
theorem v_dropS {x : vC} {k n : Nat} {ws ws' : va_W} {lv : List (Nat × Value)} {st : List Value} {pc : Nat} (hn : ws'.Sublist ws) (kk : vV x k n ws' lv pc st) : vV x k n ws lv pc st := v_drop (fun q h => hn.subset h) hn kk
theorem vT_left {x : vC} {k n : Nat} {w g : va_W} {lv : List (Nat × Value)} {st : List Value} {pc : Nat} {E : String} {q : Nat} (kk : vT x k n w lv pc st E q) : vT x k n (w ++ g) lv pc st E q := by
  obtain ⟨p, l, e, R, s, m, args, below, meth, c, Q, D, A, nL⟩ := x
  intro H locs ls ce hP hD hS hl h1 h2 h3
  exact kk H locs ls ce (vP_left hP) (vD_left hD) hS hl h1 h2 h3
theorem vT_gar {x : vC} {k n : Nat} {ws w g : va_W} {lv : List (Nat × Value)} {st : List Value} {pc : Nat} {E : String} {q : Nat} (hp : ws.Perm (w ++ g)) (kk : vT x k n w lv pc st E q) : vT x k n ws lv pc st E q := vT_perm hp (vT_left kk)
theorem vT_garY {x : vC} {k n : Nat} {ws w g : va_W} {o : Nat × va_E} {lv : List (Nat × Value)} {st : List Value} {pc : Nat} {E : String} {q : Nat} (hp : ws.Perm (w ++ g)) (kk : vT x k n (o :: w) lv pc st E q) : vT x k n (o :: ws) lv pc st E q := vT_perm (hp.cons o) (vT_left (w := o :: w) kk)
def w_X1_is (w : Nat) (b : Nat → Nat) (t : Nat → Nat) (p : Nat → Nat) (i : Nat → Nat) (fr : Nat) (fa : Nat) (ft : Int32) (rs : Int32) (rf : Int32) (sv : Value) (σ : Nat → Nat → Int32) (x1 : Int32) (x2 : Int32) (X : String → ((Nat → Nat → Int32)) → Prop) (Y : String → Int32 → ((Nat → Nat → Int32)) → Prop) (Q : Int32 → ((Nat → Nat → Int32)) → Prop) : Prop :=
  w_X2_at σ x1 (fun E ux => X E ux) (fun E r ux => Y E r ux) (fun r1 u2 => w_X1_inRange x2 ((0 : Int32)) ((5 : Int32)) (fun r3 => w_X1_require r3 (fun E => X E u2) (fun E r => Y E r u2) ((((x2.toInt < 0 ∨ 4 < x2.toInt) → w_X1_has ((u2 20 14)) r1 (fun r5 => (r5 = 0 ∨ r5 = 1) ∧ Q r5 u2)) ∧ (x2 = (0 : Int32) → w_X2_isOpen u2 r1 (fun r7 u8 => (r7 = 0 ∨ r7 = 1) ∧ Q r7 u8)) ∧ (x2 = (1 : Int32) → w_X1_has ((u2 20 12)) r1 (fun r10 => (r10 = 0 ∨ r10 = 1) ∧ Q r10 u2)) ∧ (x2 = (2 : Int32) → w_X1_has ((u2 20 10)) r1 (fun r12 => (r12 = 0 ∨ r12 = 1) ∧ Q r12 u2)) ∧ (x2 = (3 : Int32) → w_X1_has ((u2 20 11)) r1 (fun r14 => (r14 = 0 ∨ r14 = 1) ∧ Q r14 u2)) ∧ (x2 = (4 : Int32) → w_X1_has ((u2 20 13)) r1 (fun r16 => (r16 = 0 ∨ r16 = 1) ∧ Q r16 u2))))))
theorem ds_X1_is : yX1_is.cls = yX1_is.cls ∧ yX1_is.cls ≠ "java/lang/invoke/MethodHandle" ∧ yX1_is.cls ≠ "java/lang/invoke/VarHandle" ∧ (parseMethodDescriptor yX1_is.desc).map (fun d => d.parameters.length) = some 2 := by decide +kernel
set_option maxHeartbeats 4000000 in
theorem c_X1_is (l : Launch) (D : va_G) (hl : l.stackTraces = false) (w : Nat) (b : Nat → Nat) (t : Nat → Nat) (p : Nat → Nat) (i : Nat → Nat) (fr : Nat) (fa : Nat) (ft : Int32) (rs : Int32) (rf : Int32) (sv : Value) (σ : Nat → Nat → Int32) (x1 : Int32) (x2 : Int32) (X : String → ((Nat → Nat → Int32)) → Prop) (Y : String → Int32 → ((Nat → Nat → Int32)) → Prop) (Q : Int32 → ((Nat → Nat → Int32)) → Prop) (h : w_X1_is w b t p i fr fa ft rs rf sv σ x1 x2 X Y Q) : Cxi l D yX1_is cX1_is 4 .boolean (rmk 8 2 12 137) [.ref w, .int x1, .int x2] ([(w, .inr (0, [.ref (b 0), .ref (t 0), .ref (p 0), .ref (i 0), .int ft, .int rs, .int rf, .ref fr, .ref fa, sv]))] ++ (bkW D b σ ++ [])) (fun u : (Nat → Nat → Int32) => ([(w, .inr (0, [.ref (b 0), .ref (t 0), .ref (p 0), .ref (i 0), .int ft, .int rs, .int rf, .ref fr, .ref fa, sv]))] ++ (bkW D b u ++ []))) Q X Y 2 12 := by
  refine Cxi.of (by decide) (Nat.le_of_ble_eq_true rfl) (fun x hF hR hN => ?_)
  replace hF : vF x l D "BrookWeirs" cX1_is (rmk 8 2 12 137) 4 (some .boolean) := hF
  unfold w_X1_is at h
  refine v_aload_n 0 hF dX1_is_0 rfl 0 rfl ?_
  refine v_get 1 hF in_X1 0 rfl rfl 0 (Nat.le_of_ble_eq_true rfl) q362 rfl rfl dX1_is_1 ?_
  refine v_iload_n 4 hF dX1_is_4 rfl 1 rfl ?_
  refine v_callXVi (As := [.int x1]) (b := b 0) (wr := ([(w, .inr (0, [.ref (b 0), .ref (t 0), .ref (p 0), .ref (i 0), .int ft, .int rs, .int rf, .ref fr, .ref fa, sv]))] ++ [])) 5 hF (c_X2_at l D hl b σ x1 _ _ _ h) ((((((List.Perm.refl _)).append_left _).trans (pm_sw _ _ _))).trans (List.Perm.of_eq (by simp only [List.append_assoc, List.nil_append, List.append_nil]))) ⟨0, 6, _, TX2, 24, rfl, rfl⟩ q813 q814 q815 q71 q816 ds_X2_at ⟨rfl, rfl, (Nat.le_of_ble_eq_true rfl), (Nat.le_of_ble_eq_true rfl)⟩ (Nat.le_of_ble_eq_true rfl) ⟨(Nat.le_of_ble_eq_true rfl), (Nat.le_of_ble_eq_true rfl)⟩ dX1_is_5 (fun E q ux hx => vT_gar (w := ([(w, .inr (0, [.ref (b 0), .ref (t 0), .ref (p 0), .ref (i 0), .int ft, .int rs, .int rf, .ref fr, .ref fa, sv]))] ++ (bkW D b ux ++ []))) (g := ([])) ((List.Perm.of_eq (show (bkW D b ux ++ []) ++ ([(w, .inr (0, [.ref (b 0), .ref (t 0), .ref (p 0), .ref (i 0), .int ft, .int rs, .int rf, .ref fr, .ref fa, sv]))] ++ []) = (bkW D b ux ++ ([(w, .inr (0, [.ref (b 0), .ref (t 0), .ref (p 0), .ref (i 0), .int ft, .int rs, .int rf, .ref fr, .ref fa, sv]))] ++ [])) by simp only [List.append_assoc, List.nil_append, List.append_nil])).trans ((((((List.Perm.refl _)).append_left _).trans (pm_sw _ _ _))).trans (List.Perm.of_eq (by simp only [List.append_assoc, List.nil_append, List.append_nil])))) (v_outi (u := ux) hF hR hN (Nat.le_of_ble_eq_true rfl) (Nat.le_of_ble_eq_true rfl) hx)) (fun E q ci r ux hy hp => vT_garY (w := ([(w, .inr (0, [.ref (b 0), .ref (t 0), .ref (p 0), .ref (i 0), .int ft, .int rs, .int rf, .ref fr, .ref fa, sv]))] ++ (bkW D b ux ++ []))) (g := ([])) ((List.Perm.of_eq (show (bkW D b ux ++ []) ++ ([(w, .inr (0, [.ref (b 0), .ref (t 0), .ref (p 0), .ref (i 0), .int ft, .int rs, .int rf, .ref fr, .ref fa, sv]))] ++ []) = (bkW D b ux ++ ([(w, .inr (0, [.ref (b 0), .ref (t 0), .ref (p 0), .ref (i 0), .int ft, .int rs, .int rf, .ref fr, .ref fa, sv]))] ++ [])) by simp only [List.append_assoc, List.nil_append, List.append_nil])).trans ((((((List.Perm.refl _)).append_left _).trans (pm_sw _ _ _))).trans (List.Perm.of_eq (by simp only [List.append_assoc, List.nil_append, List.append_nil])))) (v_outYi (u := ux) hF hR hN (Nat.le_of_ble_eq_true rfl) (Nat.le_of_ble_eq_true rfl) hp hy)) (fun r1 u2 h => ?_)
  refine v_eqw (ws1 := (bkW D b u2 ++ ([(w, .inr (0, [.ref (b 0), .ref (t 0), .ref (p 0), .ref (i 0), .int ft, .int rs, .int rf, .ref fr, .ref fa, sv]))] ++ []))) (by simp only [List.append_assoc, List.nil_append, List.append_nil]) ?_
  refine v_perm (ws' := ([(w, .inr (0, [.ref (b 0), .ref (t 0), .ref (p 0), .ref (i 0), .int ft, .int rs, .int rf, .ref fr, .ref fa, sv]))] ++ (bkW D b u2 ++ []))) ((((List.Perm.refl _)).append_left _).trans (pm_sw _ _ _)) ?_
  refine v_istore_n [(0, .ref w), (1, .int x1), (2, .int x2), (3, .int r1)] [1, 2, 3, 0] 8 hF dX1_is_8 rfl (Nat.le_of_ble_eq_true rfl) rfl ?_
  refine v_iload_n 9 hF dX1_is_9 rfl 2 rfl ?_
  refine v_iconst (v := 0) 10 hF dX1_is_10 (by decide) ?_
  refine v_iconst (v := 5) 11 hF dX1_is_11 (by decide) ?_
  refine v_callS0i (As := [.int x2, .int ((0 : Int32)), .int ((5 : Int32))]) 12 hF (c_X1_inRange l D x2 ((0 : Int32)) ((5 : Int32)) _ h) q729 q475 q70 q476 ds_X1_inRange ⟨rfl, rfl, (Nat.le_of_ble_eq_true rfl), (Nat.le_of_ble_eq_true rfl)⟩ (Nat.le_of_ble_eq_true rfl) ⟨(Nat.le_of_ble_eq_true rfl), (Nat.le_of_ble_eq_true rfl)⟩ dX1_is_12 (fun r3 h => ?_)
  refine v_callXS0v (As := [.int r3]) 15 hF (c_X1_require l D hl r3 _ _ _ h) q730 q731 q70 q732 ds_X1_require ⟨rfl, rfl, (Nat.le_of_ble_eq_true rfl), (Nat.le_of_ble_eq_true rfl)⟩ (Nat.le_of_ble_eq_true rfl) ⟨(Nat.le_of_ble_eq_true rfl), (Nat.le_of_ble_eq_true rfl)⟩ dX1_is_15 (fun E q hx => vT_gar (w := ([(w, .inr (0, [.ref (b 0), .ref (t 0), .ref (p 0), .ref (i 0), .int ft, .int rs, .int rf, .ref fr, .ref fa, sv]))] ++ (bkW D b u2 ++ []))) (g := ([])) (((List.Perm.refl _)).trans (List.Perm.of_eq (by simp only [List.append_assoc, List.nil_append, List.append_nil]))) (v_outi (u := u2) hF hR hN (Nat.le_of_ble_eq_true rfl) (Nat.le_of_ble_eq_true rfl) hx)) (fun E q ci r hy hp => vT_garY (w := ([(w, .inr (0, [.ref (b 0), .ref (t 0), .ref (p 0), .ref (i 0), .int ft, .int rs, .int rf, .ref fr, .ref fa, sv]))] ++ (bkW D b u2 ++ []))) (g := ([])) (((List.Perm.refl _)).trans (List.Perm.of_eq (by simp only [List.append_assoc, List.nil_append, List.append_nil]))) (v_outYi (u := u2) hF hR hN (Nat.le_of_ble_eq_true rfl) (Nat.le_of_ble_eq_true rfl) hp hy)) (fun h => ?_)
  refine v_iload_n 18 hF dX1_is_18 rfl 2 rfl ?_
  rcases tsw_cases x2 0 5 with c4 | c4
  · replace h := h.1 c4
    refine v_tableOut 19 109 hF dX1_is_19 c4 (by decide) ?_
    refine v_aload_n 109 hF dX1_is_109 rfl 0 rfl ?_
    refine v_get 110 hF in_X1 0 rfl rfl 0 (Nat.le_of_ble_eq_true rfl) q362 rfl rfl dX1_is_110 ?_
    refine v_getN 113 hF in_X2 1 rfl rfl 14 (Nat.le_of_ble_eq_true rfl) q199 rfl rfl dX1_is_113 ?_
    refine v_iload_n 116 hF dX1_is_116 rfl 3 rfl ?_
    refine v_callS0i (As := [.int ((u2 20 14)), .int r1]) 117 hF (c_X1_has l D ((u2 20 14)) r1 _ h) q849 q426 q70 q427 ds_X1_has ⟨rfl, rfl, (Nat.le_of_ble_eq_true rfl), (Nat.le_of_ble_eq_true rfl)⟩ (Nat.le_of_ble_eq_true rfl) ⟨(Nat.le_of_ble_eq_true rfl), (Nat.le_of_ble_eq_true rfl)⟩ dX1_is_117 (fun r5 h => ?_)
    obtain ⟨o6, h⟩ := h
    exact v_zretX (u := u2) 120 hF hR (Nat.le_of_ble_eq_true rfl) (Nat.le_of_ble_eq_true rfl) (vbo_n o6) dX1_is_120 h
  · replace h := h.2
    obtain ⟨j, hj, ej⟩ := c4
    rcases (show j = 0 ∨ j = 1 ∨ j = 2 ∨ j = 3 ∨ j = 4 by omega) with rfl | rfl | rfl | rfl | rfl
    · have ev : x2 = (0 : Int32) := ej
      replace h := h.1 ev
      refine v_tableIn 19 52 hF dX1_is_19 (by rw [ev]; decide) (by rw [ev]; decide) (off := 33) (by rw [ev]; decide) (by decide) ?_
      refine v_aload_n 52 hF dX1_is_52 rfl 0 rfl ?_
      refine v_get 53 hF in_X1 0 rfl rfl 0 (Nat.le_of_ble_eq_true rfl) q362 rfl rfl dX1_is_53 ?_
      refine v_iload_n 56 hF dX1_is_56 rfl 3 rfl ?_
      refine v_callVi (As := [.int r1]) (b := b 0) (wr := ([(w, .inr (0, [.ref (b 0), .ref (t 0), .ref (p 0), .ref (i 0), .int ft, .int rs, .int rf, .ref fr, .ref fa, sv]))] ++ [])) 57 hF (c_X2_isOpen l D b u2 r1 _ h) ((((((List.Perm.refl _)).append_left _).trans (pm_sw _ _ _))).trans (List.Perm.of_eq (by simp only [List.append_assoc, List.nil_append, List.append_nil]))) ⟨0, 6, _, TX2, 24, rfl, rfl⟩ q1192 q422 q423 q71 q424 ds_X2_isOpen ⟨rfl, rfl, (Nat.le_of_ble_eq_true rfl), (Nat.le_of_ble_eq_true rfl)⟩ (Nat.le_of_ble_eq_true rfl) ⟨(Nat.le_of_ble_eq_true rfl), (Nat.le_of_ble_eq_true rfl)⟩ dX1_is_57 (fun r7 u8 h => ?_)
      refine v_eqw (ws1 := (bkW D b u8 ++ ([(w, .inr (0, [.ref (b 0), .ref (t 0), .ref (p 0), .ref (i 0), .int ft, .int rs, .int rf, .ref fr, .ref fa, sv]))] ++ []))) (by simp only [List.append_assoc, List.nil_append, List.append_nil]) ?_
      refine v_perm (ws' := ([(w, .inr (0, [.ref (b 0), .ref (t 0), .ref (p 0), .ref (i 0), .int ft, .int rs, .int rf, .ref fr, .ref fa, sv]))] ++ (bkW D b u8 ++ []))) ((((List.Perm.refl _)).append_left _).trans (pm_sw _ _ _)) ?_
      obtain ⟨o9, h⟩ := h
      exact v_zretX (u := u8) 60 hF hR (Nat.le_of_ble_eq_true rfl) (Nat.le_of_ble_eq_true rfl) (vbo_n o9) dX1_is_60 h
    · have ev : x2 = (1 : Int32) := ej
      replace h := h.2.1 ev
      refine v_tableIn 19 61 hF dX1_is_19 (by rw [ev]; decide) (by rw [ev]; decide) (off := 42) (by rw [ev]; decide) (by decide) ?_
      refine v_aload_n 61 hF dX1_is_61 rfl 0 rfl ?_
      refine v_get 62 hF in_X1 0 rfl rfl 0 (Nat.le_of_ble_eq_true rfl) q362 rfl rfl dX1_is_62 ?_
      refine v_getN 65 hF in_X2 1 rfl rfl 12 (Nat.le_of_ble_eq_true rfl) q195 rfl rfl dX1_is_65 ?_
      refine v_iload_n 68 hF dX1_is_68 rfl 3 rfl ?_
      refine v_callS0i (As := [.int ((u2 20 12)), .int r1]) 69 hF (c_X1_has l D ((u2 20 12)) r1 _ h) q849 q426 q70 q427 ds_X1_has ⟨rfl, rfl, (Nat.le_of_ble_eq_true rfl), (Nat.le_of_ble_eq_true rfl)⟩ (Nat.le_of_ble_eq_true rfl) ⟨(Nat.le_of_ble_eq_true rfl), (Nat.le_of_ble_eq_true rfl)⟩ dX1_is_69 (fun r10 h => ?_)
      obtain ⟨o11, h⟩ := h
      exact v_zretX (u := u2) 72 hF hR (Nat.le_of_ble_eq_true rfl) (Nat.le_of_ble_eq_true rfl) (vbo_n o11) dX1_is_72 h
    · have ev : x2 = (2 : Int32) := ej
      replace h := h.2.2.1 ev
      refine v_tableIn 19 73 hF dX1_is_19 (by rw [ev]; decide) (by rw [ev]; decide) (off := 54) (by rw [ev]; decide) (by decide) ?_
      refine v_aload_n 73 hF dX1_is_73 rfl 0 rfl ?_
      refine v_get 74 hF in_X1 0 rfl rfl 0 (Nat.le_of_ble_eq_true rfl) q362 rfl rfl dX1_is_74 ?_
      refine v_getN 77 hF in_X2 1 rfl rfl 10 (Nat.le_of_ble_eq_true rfl) q190 rfl rfl dX1_is_77 ?_
      refine v_iload_n 80 hF dX1_is_80 rfl 3 rfl ?_
      refine v_callS0i (As := [.int ((u2 20 10)), .int r1]) 81 hF (c_X1_has l D ((u2 20 10)) r1 _ h) q849 q426 q70 q427 ds_X1_has ⟨rfl, rfl, (Nat.le_of_ble_eq_true rfl), (Nat.le_of_ble_eq_true rfl)⟩ (Nat.le_of_ble_eq_true rfl) ⟨(Nat.le_of_ble_eq_true rfl), (Nat.le_of_ble_eq_true rfl)⟩ dX1_is_81 (fun r12 h => ?_)
      obtain ⟨o13, h⟩ := h
      exact v_zretX (u := u2) 84 hF hR (Nat.le_of_ble_eq_true rfl) (Nat.le_of_ble_eq_true rfl) (vbo_n o13) dX1_is_84 h
    · have ev : x2 = (3 : Int32) := ej
      replace h := h.2.2.2.1 ev
      refine v_tableIn 19 85 hF dX1_is_19 (by rw [ev]; decide) (by rw [ev]; decide) (off := 66) (by rw [ev]; decide) (by decide) ?_
      refine v_aload_n 85 hF dX1_is_85 rfl 0 rfl ?_
      refine v_get 86 hF in_X1 0 rfl rfl 0 (Nat.le_of_ble_eq_true rfl) q362 rfl rfl dX1_is_86 ?_
      refine v_getN 89 hF in_X2 1 rfl rfl 11 (Nat.le_of_ble_eq_true rfl) q193 rfl rfl dX1_is_89 ?_
      refine v_iload_n 92 hF dX1_is_92 rfl 3 rfl ?_
      refine v_callS0i (As := [.int ((u2 20 11)), .int r1]) 93 hF (c_X1_has l D ((u2 20 11)) r1 _ h) q849 q426 q70 q427 ds_X1_has ⟨rfl, rfl, (Nat.le_of_ble_eq_true rfl), (Nat.le_of_ble_eq_true rfl)⟩ (Nat.le_of_ble_eq_true rfl) ⟨(Nat.le_of_ble_eq_true rfl), (Nat.le_of_ble_eq_true rfl)⟩ dX1_is_93 (fun r14 h => ?_)
      obtain ⟨o15, h⟩ := h
      exact v_zretX (u := u2) 96 hF hR (Nat.le_of_ble_eq_true rfl) (Nat.le_of_ble_eq_true rfl) (vbo_n o15) dX1_is_96 h
    · have ev : x2 = (4 : Int32) := ej
      replace h := h.2.2.2.2 ev
      refine v_tableIn 19 97 hF dX1_is_19 (by rw [ev]; decide) (by rw [ev]; decide) (off := 78) (by rw [ev]; decide) (by decide) ?_
      refine v_aload_n 97 hF dX1_is_97 rfl 0 rfl ?_
      refine v_get 98 hF in_X1 0 rfl rfl 0 (Nat.le_of_ble_eq_true rfl) q362 rfl rfl dX1_is_98 ?_
      refine v_getN 101 hF in_X2 1 rfl rfl 13 (Nat.le_of_ble_eq_true rfl) q197 rfl rfl dX1_is_101 ?_
      refine v_iload_n 104 hF dX1_is_104 rfl 3 rfl ?_
      refine v_callS0i (As := [.int ((u2 20 13)), .int r1]) 105 hF (c_X1_has l D ((u2 20 13)) r1 _ h) q849 q426 q70 q427 ds_X1_has ⟨rfl, rfl, (Nat.le_of_ble_eq_true rfl), (Nat.le_of_ble_eq_true rfl)⟩ (Nat.le_of_ble_eq_true rfl) ⟨(Nat.le_of_ble_eq_true rfl), (Nat.le_of_ble_eq_true rfl)⟩ dX1_is_105 (fun r16 h => ?_)
      obtain ⟨o17, h⟩ := h
      exact v_zretX (u := u2) 108 hF hR (Nat.le_of_ble_eq_true rfl) (Nat.le_of_ble_eq_true rfl) (vbo_n o17) dX1_is_108 h
def w_X1_clutch (w : Nat) (b : Nat → Nat) (t : Nat → Nat) (p : Nat → Nat) (i : Nat → Nat) (fr : Nat) (fa : Nat) (ft : Int32) (rs : Int32) (rf : Int32) (sv : Value) (σ : Nat → Nat → Int32) (x1 : Int32) (x2 : Int32) (X : String → ((Nat → Nat → Int32)) → Prop) (Y : String → Int32 → ((Nat → Nat → Int32)) → Prop) (Q : Int32 → ((Nat → Nat → Int32)) → Prop) : Prop :=
  w_X1_inRange x1 ((0 : Int32)) (((σ 40 4) - (1 : Int32))) (fun r1 => w_X1_requireElement r1 (fun E => X E σ) (fun E r => Y E r σ) (w_X1_inRange x2 ((0 : Int32)) ((3 : Int32)) (fun r2 => w_X1_require r2 (fun E => X E σ) (fun E r => Y E r σ) ((((x2.toInt < 0 ∨ 2 < x2.toInt) → vp_in x1 12 ∧ Q ((σ 33 x1.toNatClampNeg)) σ) ∧ (x2 = (0 : Int32) → vp_in x1 12 ∧ Q ((σ 30 x1.toNatClampNeg)) σ) ∧ (x2 = (1 : Int32) → vp_in x1 12 ∧ Q ((σ 31 x1.toNatClampNeg)) σ) ∧ (x2 = (2 : Int32) → vp_in x1 12 ∧ Q ((σ 32 x1.toNatClampNeg)) σ))))))
theorem ds_X1_clutch : yX1_clutch.cls = yX1_clutch.cls ∧ yX1_clutch.cls ≠ "java/lang/invoke/MethodHandle" ∧ yX1_clutch.cls ≠ "java/lang/invoke/VarHandle" ∧ (parseMethodDescriptor yX1_clutch.desc).map (fun d => d.parameters.length) = some 2 := by decide +kernel
set_option maxHeartbeats 4000000 in
theorem c_X1_clutch (l : Launch) (D : va_G) (hl : l.stackTraces = false) (w : Nat) (b : Nat → Nat) (t : Nat → Nat) (p : Nat → Nat) (i : Nat → Nat) (fr : Nat) (fa : Nat) (ft : Int32) (rs : Int32) (rf : Int32) (sv : Value) (σ : Nat → Nat → Int32) (x1 : Int32) (x2 : Int32) (X : String → ((Nat → Nat → Int32)) → Prop) (Y : String → Int32 → ((Nat → Nat → Int32)) → Prop) (Q : Int32 → ((Nat → Nat → Int32)) → Prop) (h : w_X1_clutch w b t p i fr fa ft rs rf sv σ x1 x2 X Y Q) : Cxi l D yX1_clutch cX1_clutch 3 .int (rmk 7 2 12 116) [.ref w, .int x1, .int x2] ([(w, .inr (0, [.ref (b 0), .ref (t 0), .ref (p 0), .ref (i 0), .int ft, .int rs, .int rf, .ref fr, .ref fa, sv]))] ++ (bkW D b σ ++ [])) (fun u : (Nat → Nat → Int32) => ([(w, .inr (0, [.ref (b 0), .ref (t 0), .ref (p 0), .ref (i 0), .int ft, .int rs, .int rf, .ref fr, .ref fa, sv]))] ++ (bkW D b u ++ []))) Q X Y 2 12 := by
  refine Cxi.of (by decide) (Nat.le_of_ble_eq_true rfl) (fun x hF hR hN => ?_)
  replace hF : vF x l D "BrookWeirs" cX1_clutch (rmk 7 2 12 116) 3 (some .int) := hF
  unfold w_X1_clutch at h
  refine v_iload_n 0 hF dX1_clutch_0 rfl 1 rfl ?_
  refine v_iconst (v := 0) 1 hF dX1_clutch_1 (by decide) ?_
  refine v_aload_n 2 hF dX1_clutch_2 rfl 0 rfl ?_
  refine v_get 3 hF in_X1 0 rfl rfl 0 (Nat.le_of_ble_eq_true rfl) q362 rfl rfl dX1_clutch_3 ?_
  refine v_getN 6 hF in_X2 1 rfl rfl 7 (Nat.le_of_ble_eq_true rfl) q182 rfl rfl dX1_clutch_6 ?_
  refine v_getN 9 hF in_X3 9 rfl rfl 4 (Nat.le_of_ble_eq_true rfl) q152 rfl rfl dX1_clutch_9 ?_
  refine v_iconst (v := 1) 12 hF dX1_clutch_12 (by decide) ?_
  refine v_isub 13 hF dX1_clutch_13 ?_
  refine v_callS0i (As := [.int x1, .int ((0 : Int32)), .int (((σ 40 4) - (1 : Int32)))]) 14 hF (c_X1_inRange l D x1 ((0 : Int32)) (((σ 40 4) - (1 : Int32))) _ h) q729 q475 q70 q476 ds_X1_inRange ⟨rfl, rfl, (Nat.le_of_ble_eq_true rfl), (Nat.le_of_ble_eq_true rfl)⟩ (Nat.le_of_ble_eq_true rfl) ⟨(Nat.le_of_ble_eq_true rfl), (Nat.le_of_ble_eq_true rfl)⟩ dX1_clutch_14 (fun r1 h => ?_)
  refine v_callXS0v (As := [.int r1]) 17 hF (c_X1_requireElement l D hl r1 _ _ _ h) q1201 q1045 q70 q1046 ds_X1_requireElement ⟨rfl, rfl, (Nat.le_of_ble_eq_true rfl), (Nat.le_of_ble_eq_true rfl)⟩ (Nat.le_of_ble_eq_true rfl) ⟨(Nat.le_of_ble_eq_true rfl), (Nat.le_of_ble_eq_true rfl)⟩ dX1_clutch_17 (fun E q hx => vT_gar (w := ([(w, .inr (0, [.ref (b 0), .ref (t 0), .ref (p 0), .ref (i 0), .int ft, .int rs, .int rf, .ref fr, .ref fa, sv]))] ++ (bkW D b σ ++ []))) (g := ([])) (((List.Perm.refl _)).trans (List.Perm.of_eq (by simp only [List.append_assoc, List.nil_append, List.append_nil]))) (v_outi (u := σ) hF hR hN (Nat.le_of_ble_eq_true rfl) (Nat.le_of_ble_eq_true rfl) hx)) (fun E q ci r hy hp => vT_garY (w := ([(w, .inr (0, [.ref (b 0), .ref (t 0), .ref (p 0), .ref (i 0), .int ft, .int rs, .int rf, .ref fr, .ref fa, sv]))] ++ (bkW D b σ ++ []))) (g := ([])) (((List.Perm.refl _)).trans (List.Perm.of_eq (by simp only [List.append_assoc, List.nil_append, List.append_nil]))) (v_outYi (u := σ) hF hR hN (Nat.le_of_ble_eq_true rfl) (Nat.le_of_ble_eq_true rfl) hp hy)) (fun h => ?_)
  refine v_iload_n 20 hF dX1_clutch_20 rfl 2 rfl ?_
  refine v_iconst (v := 0) 21 hF dX1_clutch_21 (by decide) ?_
  refine v_iconst (v := 3) 22 hF dX1_clutch_22 (by decide) ?_
  refine v_callS0i (As := [.int x2, .int ((0 : Int32)), .int ((3 : Int32))]) 23 hF (c_X1_inRange l D x2 ((0 : Int32)) ((3 : Int32)) _ h) q729 q475 q70 q476 ds_X1_inRange ⟨rfl, rfl, (Nat.le_of_ble_eq_true rfl), (Nat.le_of_ble_eq_true rfl)⟩ (Nat.le_of_ble_eq_true rfl) ⟨(Nat.le_of_ble_eq_true rfl), (Nat.le_of_ble_eq_true rfl)⟩ dX1_clutch_23 (fun r2 h => ?_)
  refine v_callXS0v (As := [.int r2]) 26 hF (c_X1_require l D hl r2 _ _ _ h) q730 q731 q70 q732 ds_X1_require ⟨rfl, rfl, (Nat.le_of_ble_eq_true rfl), (Nat.le_of_ble_eq_true rfl)⟩ (Nat.le_of_ble_eq_true rfl) ⟨(Nat.le_of_ble_eq_true rfl), (Nat.le_of_ble_eq_true rfl)⟩ dX1_clutch_26 (fun E q hx => vT_gar (w := ([(w, .inr (0, [.ref (b 0), .ref (t 0), .ref (p 0), .ref (i 0), .int ft, .int rs, .int rf, .ref fr, .ref fa, sv]))] ++ (bkW D b σ ++ []))) (g := ([])) (((List.Perm.refl _)).trans (List.Perm.of_eq (by simp only [List.append_assoc, List.nil_append, List.append_nil]))) (v_outi (u := σ) hF hR hN (Nat.le_of_ble_eq_true rfl) (Nat.le_of_ble_eq_true rfl) hx)) (fun E q ci r hy hp => vT_garY (w := ([(w, .inr (0, [.ref (b 0), .ref (t 0), .ref (p 0), .ref (i 0), .int ft, .int rs, .int rf, .ref fr, .ref fa, sv]))] ++ (bkW D b σ ++ []))) (g := ([])) (((List.Perm.refl _)).trans (List.Perm.of_eq (by simp only [List.append_assoc, List.nil_append, List.append_nil]))) (v_outYi (u := σ) hF hR hN (Nat.le_of_ble_eq_true rfl) (Nat.le_of_ble_eq_true rfl) hp hy)) (fun h => ?_)
  refine v_iload_n 29 hF dX1_clutch_29 rfl 2 rfl ?_
  rcases tsw_cases x2 0 3 with c3 | c3
  · replace h := h.1 c3
    refine v_tableOut 30 95 hF dX1_clutch_30 c3 (by decide) ?_
    refine v_aload_n 95 hF dX1_clutch_95 rfl 0 rfl ?_
    refine v_get 96 hF in_X1 0 rfl rfl 0 (Nat.le_of_ble_eq_true rfl) q362 rfl rfl dX1_clutch_96 ?_
    refine v_getN 99 hF in_X2 1 rfl rfl 7 (Nat.le_of_ble_eq_true rfl) q182 rfl rfl dX1_clutch_99 ?_
    refine v_getN 102 hF in_X3 9 rfl rfl 3 (Nat.le_of_ble_eq_true rfl) q148 rfl rfl dX1_clutch_102 ?_
    refine v_iload_n 105 hF dX1_clutch_105 rfl 1 rfl ?_
    obtain ⟨o4, h⟩ := h
    refine v_iald 106 hF 13 rfl o4 dX1_clutch_106 ?_
    exact v_iretX (u := σ) 107 hF hR (Nat.le_of_ble_eq_true rfl) (Nat.le_of_ble_eq_true rfl) dX1_clutch_107 h
  · replace h := h.2
    obtain ⟨j, hj, ej⟩ := c3
    rcases (show j = 0 ∨ j = 1 ∨ j = 2 by omega) with rfl | rfl | rfl
    · have ev : x2 = (0 : Int32) := ej
      replace h := h.1 ev
      refine v_tableIn 30 56 hF dX1_clutch_30 (by rw [ev]; decide) (by rw [ev]; decide) (off := 26) (by rw [ev]; decide) (by decide) ?_
      refine v_aload_n 56 hF dX1_clutch_56 rfl 0 rfl ?_
      refine v_get 57 hF in_X1 0 rfl rfl 0 (Nat.le_of_ble_eq_true rfl) q362 rfl rfl dX1_clutch_57 ?_
      refine v_getN 60 hF in_X2 1 rfl rfl 7 (Nat.le_of_ble_eq_true rfl) q182 rfl rfl dX1_clutch_60 ?_
      refine v_getN 63 hF in_X3 9 rfl rfl 0 (Nat.le_of_ble_eq_true rfl) q138 rfl rfl dX1_clutch_63 ?_
      refine v_iload_n 66 hF dX1_clutch_66 rfl 1 rfl ?_
      obtain ⟨o5, h⟩ := h
      refine v_iald 67 hF 10 rfl o5 dX1_clutch_67 ?_
      exact v_iretX (u := σ) 68 hF hR (Nat.le_of_ble_eq_true rfl) (Nat.le_of_ble_eq_true rfl) dX1_clutch_68 h
    · have ev : x2 = (1 : Int32) := ej
      replace h := h.2.1 ev
      refine v_tableIn 30 69 hF dX1_clutch_30 (by rw [ev]; decide) (by rw [ev]; decide) (off := 39) (by rw [ev]; decide) (by decide) ?_
      refine v_aload_n 69 hF dX1_clutch_69 rfl 0 rfl ?_
      refine v_get 70 hF in_X1 0 rfl rfl 0 (Nat.le_of_ble_eq_true rfl) q362 rfl rfl dX1_clutch_70 ?_
      refine v_getN 73 hF in_X2 1 rfl rfl 7 (Nat.le_of_ble_eq_true rfl) q182 rfl rfl dX1_clutch_73 ?_
      refine v_getN 76 hF in_X3 9 rfl rfl 1 (Nat.le_of_ble_eq_true rfl) q142 rfl rfl dX1_clutch_76 ?_
      refine v_iload_n 79 hF dX1_clutch_79 rfl 1 rfl ?_
      obtain ⟨o6, h⟩ := h
      refine v_iald 80 hF 11 rfl o6 dX1_clutch_80 ?_
      exact v_iretX (u := σ) 81 hF hR (Nat.le_of_ble_eq_true rfl) (Nat.le_of_ble_eq_true rfl) dX1_clutch_81 h
    · have ev : x2 = (2 : Int32) := ej
      replace h := h.2.2 ev
      refine v_tableIn 30 82 hF dX1_clutch_30 (by rw [ev]; decide) (by rw [ev]; decide) (off := 52) (by rw [ev]; decide) (by decide) ?_
      refine v_aload_n 82 hF dX1_clutch_82 rfl 0 rfl ?_
      refine v_get 83 hF in_X1 0 rfl rfl 0 (Nat.le_of_ble_eq_true rfl) q362 rfl rfl dX1_clutch_83 ?_
      refine v_getN 86 hF in_X2 1 rfl rfl 7 (Nat.le_of_ble_eq_true rfl) q182 rfl rfl dX1_clutch_86 ?_
      refine v_getN 89 hF in_X3 9 rfl rfl 2 (Nat.le_of_ble_eq_true rfl) q145 rfl rfl dX1_clutch_89 ?_
      refine v_iload_n 92 hF dX1_clutch_92 rfl 1 rfl ?_
      obtain ⟨o7, h⟩ := h
      refine v_iald 93 hF 12 rfl o7 dX1_clutch_93 ?_
      exact v_iretX (u := σ) 94 hF hR (Nat.le_of_ble_eq_true rfl) (Nat.le_of_ble_eq_true rfl) dX1_clutch_94 h
def w_X1_rain (w : Nat) (b : Nat → Nat) (t : Nat → Nat) (p : Nat → Nat) (i : Nat → Nat) (fr : Nat) (fa : Nat) (ft : Int32) (rs : Int32) (rf : Int32) (sv : Value) (σ : Nat → Nat → Int32) (x1 : Int32) (X : String → ((Nat → Nat → Int32)) → Prop) (Y : String → Int32 → ((Nat → Nat → Int32)) → Prop) (Q : Int32 → ((Nat → Nat → Int32)) → Prop) : Prop :=
  w_X1_inRange x1 ((0 : Int32)) (((σ 20 9) - (1 : Int32))) (fun r1 => w_X1_requireElement r1 (fun E => X E σ) (fun E r => Y E r σ) (vp_in x1 30 ∧ Q ((σ 6 x1.toNatClampNeg)) σ))
theorem ds_X1_rain : yX1_rain.cls = yX1_rain.cls ∧ yX1_rain.cls ≠ "java/lang/invoke/MethodHandle" ∧ yX1_rain.cls ≠ "java/lang/invoke/VarHandle" ∧ (parseMethodDescriptor yX1_rain.desc).map (fun d => d.parameters.length) = some 1 := by decide +kernel
set_option maxHeartbeats 4000000 in
theorem c_X1_rain (l : Launch) (D : va_G) (hl : l.stackTraces = false) (w : Nat) (b : Nat → Nat) (t : Nat → Nat) (p : Nat → Nat) (i : Nat → Nat) (fr : Nat) (fa : Nat) (ft : Int32) (rs : Int32) (rf : Int32) (sv : Value) (σ : Nat → Nat → Int32) (x1 : Int32) (X : String → ((Nat → Nat → Int32)) → Prop) (Y : String → Int32 → ((Nat → Nat → Int32)) → Prop) (Q : Int32 → ((Nat → Nat → Int32)) → Prop) (h : w_X1_rain w b t p i fr fa ft rs rf sv σ x1 X Y Q) : Cxi l D yX1_rain cX1_rain 2 .int (rmk 7 1 6 116) [.ref w, .int x1] ([(w, .inr (0, [.ref (b 0), .ref (t 0), .ref (p 0), .ref (i 0), .int ft, .int rs, .int rf, .ref fr, .ref fa, sv]))] ++ (bkW D b σ ++ [])) (fun u : (Nat → Nat → Int32) => ([(w, .inr (0, [.ref (b 0), .ref (t 0), .ref (p 0), .ref (i 0), .int ft, .int rs, .int rf, .ref fr, .ref fa, sv]))] ++ (bkW D b u ++ []))) Q X Y 1 6 := by
  refine Cxi.of (by decide) (Nat.le_of_ble_eq_true rfl) (fun x hF hR hN => ?_)
  replace hF : vF x l D "BrookWeirs" cX1_rain (rmk 7 1 6 116) 2 (some .int) := hF
  unfold w_X1_rain at h
  refine v_iload_n 0 hF dX1_rain_0 rfl 1 rfl ?_
  refine v_iconst (v := 0) 1 hF dX1_rain_1 (by decide) ?_
  refine v_aload_n 2 hF dX1_rain_2 rfl 0 rfl ?_
  refine v_get 3 hF in_X1 0 rfl rfl 0 (Nat.le_of_ble_eq_true rfl) q362 rfl rfl dX1_rain_3 ?_
  refine v_getN 6 hF in_X2 1 rfl rfl 9 (Nat.le_of_ble_eq_true rfl) q187 rfl rfl dX1_rain_6 ?_
  refine v_iconst (v := 1) 9 hF dX1_rain_9 (by decide) ?_
  refine v_isub 10 hF dX1_rain_10 ?_
  refine v_callS0i (As := [.int x1, .int ((0 : Int32)), .int (((σ 20 9) - (1 : Int32)))]) 11 hF (c_X1_inRange l D x1 ((0 : Int32)) (((σ 20 9) - (1 : Int32))) _ h) q729 q475 q70 q476 ds_X1_inRange ⟨rfl, rfl, (Nat.le_of_ble_eq_true rfl), (Nat.le_of_ble_eq_true rfl)⟩ (Nat.le_of_ble_eq_true rfl) ⟨(Nat.le_of_ble_eq_true rfl), (Nat.le_of_ble_eq_true rfl)⟩ dX1_rain_11 (fun r1 h => ?_)
  refine v_callXS0v (As := [.int r1]) 14 hF (c_X1_requireElement l D hl r1 _ _ _ h) q1201 q1045 q70 q1046 ds_X1_requireElement ⟨rfl, rfl, (Nat.le_of_ble_eq_true rfl), (Nat.le_of_ble_eq_true rfl)⟩ (Nat.le_of_ble_eq_true rfl) ⟨(Nat.le_of_ble_eq_true rfl), (Nat.le_of_ble_eq_true rfl)⟩ dX1_rain_14 (fun E q hx => vT_gar (w := ([(w, .inr (0, [.ref (b 0), .ref (t 0), .ref (p 0), .ref (i 0), .int ft, .int rs, .int rf, .ref fr, .ref fa, sv]))] ++ (bkW D b σ ++ []))) (g := ([])) (((List.Perm.refl _)).trans (List.Perm.of_eq (by simp only [List.append_assoc, List.nil_append, List.append_nil]))) (v_outi (u := σ) hF hR hN (Nat.le_of_ble_eq_true rfl) (Nat.le_of_ble_eq_true rfl) hx)) (fun E q ci r hy hp => vT_garY (w := ([(w, .inr (0, [.ref (b 0), .ref (t 0), .ref (p 0), .ref (i 0), .int ft, .int rs, .int rf, .ref fr, .ref fa, sv]))] ++ (bkW D b σ ++ []))) (g := ([])) (((List.Perm.refl _)).trans (List.Perm.of_eq (by simp only [List.append_assoc, List.nil_append, List.append_nil]))) (v_outYi (u := σ) hF hR hN (Nat.le_of_ble_eq_true rfl) (Nat.le_of_ble_eq_true rfl) hp hy)) (fun h => ?_)
  refine v_aload_n 17 hF dX1_rain_17 rfl 0 rfl ?_
  refine v_get 18 hF in_X1 0 rfl rfl 0 (Nat.le_of_ble_eq_true rfl) q362 rfl rfl dX1_rain_18 ?_
  refine v_getN 21 hF in_X2 1 rfl rfl 6 (Nat.le_of_ble_eq_true rfl) q179 rfl rfl dX1_rain_21 ?_
  refine v_iload_n 24 hF dX1_rain_24 rfl 1 rfl ?_
  obtain ⟨o2, h⟩ := h
  refine v_iald 25 hF 8 rfl o2 dX1_rain_25 ?_
  exact v_iretX (u := σ) 26 hF hR (Nat.le_of_ble_eq_true rfl) (Nat.le_of_ble_eq_true rfl) dX1_rain_26 h
def w_X1_water (w : Nat) (b : Nat → Nat) (t : Nat → Nat) (p : Nat → Nat) (i : Nat → Nat) (fr : Nat) (fa : Nat) (ft : Int32) (rs : Int32) (rf : Int32) (sv : Value) (σ : Nat → Nat → Int32) (Q : Int32 → ((Nat → Nat → Int32)) → Prop) : Prop :=
  w_X2_sum4 σ (fun r1 u2 => Q r1 u2)
theorem ds_X1_water : yX1_water.cls = yX1_water.cls ∧ yX1_water.cls ≠ "java/lang/invoke/MethodHandle" ∧ yX1_water.cls ≠ "java/lang/invoke/VarHandle" ∧ (parseMethodDescriptor yX1_water.desc).map (fun d => d.parameters.length) = some 0 := by decide +kernel
set_option maxHeartbeats 4000000 in
theorem c_X1_water (l : Launch) (D : va_G) (w : Nat) (b : Nat → Nat) (t : Nat → Nat) (p : Nat → Nat) (i : Nat → Nat) (fr : Nat) (fa : Nat) (ft : Int32) (rs : Int32) (rf : Int32) (sv : Value) (σ : Nat → Nat → Int32) (Q : Int32 → ((Nat → Nat → Int32)) → Prop) (h : w_X1_water w b t p i fr fa ft rs rf sv σ Q) : Cti l D yX1_water cX1_water 1 .int (rmk 1 0 0 23) [.ref w] ([(w, .inr (0, [.ref (b 0), .ref (t 0), .ref (p 0), .ref (i 0), .int ft, .int rs, .int rf, .ref fr, .ref fa, sv]))] ++ (bkW D b σ ++ [])) (fun u : (Nat → Nat → Int32) => ([(w, .inr (0, [.ref (b 0), .ref (t 0), .ref (p 0), .ref (i 0), .int ft, .int rs, .int rf, .ref fr, .ref fa, sv]))] ++ (bkW D b u ++ []))) Q 0 0 := by
  refine Cti.of (by decide) (Nat.le_of_ble_eq_true rfl) (fun x hF hR => ?_)
  replace hF : vF x l D "BrookWeirs" cX1_water (rmk 1 0 0 23) 1 (some .int) := hF
  unfold w_X1_water at h
  refine v_aload_n 0 hF dX1_water_0 rfl 0 rfl ?_
  refine v_get 1 hF in_X1 0 rfl rfl 0 (Nat.le_of_ble_eq_true rfl) q362 rfl rfl dX1_water_1 ?_
  refine v_aload_n 4 hF dX1_water_4 rfl 0 rfl ?_
  refine v_get 5 hF in_X1 0 rfl rfl 0 (Nat.le_of_ble_eq_true rfl) q362 rfl rfl dX1_water_5 ?_
  refine v_getN 8 hF in_X2 1 rfl rfl 4 (Nat.le_of_ble_eq_true rfl) q174 rfl rfl dX1_water_8 ?_
  refine v_callVi (As := [.ref (b 5)]) (b := b 0) (wr := ([(w, .inr (0, [.ref (b 0), .ref (t 0), .ref (p 0), .ref (i 0), .int ft, .int rs, .int rf, .ref fr, .ref fa, sv]))] ++ [])) 11 hF (c_X2_sum4 l D b σ _ h) ((((((List.Perm.refl _)).append_left _).trans (pm_sw _ _ _))).trans (List.Perm.of_eq (by simp only [List.append_assoc, List.nil_append, List.append_nil]))) ⟨0, 6, _, TX2, 24, rfl, rfl⟩ q708 q709 q710 q71 q711 ds_X2_sum ⟨rfl, rfl, (Nat.le_of_ble_eq_true rfl), (Nat.le_of_ble_eq_true rfl)⟩ (Nat.le_of_ble_eq_true rfl) ⟨(Nat.le_of_ble_eq_true rfl), (Nat.le_of_ble_eq_true rfl)⟩ dX1_water_11 (fun r1 u2 h => ?_)
  refine v_eqw (ws1 := (bkW D b u2 ++ ([(w, .inr (0, [.ref (b 0), .ref (t 0), .ref (p 0), .ref (i 0), .int ft, .int rs, .int rf, .ref fr, .ref fa, sv]))] ++ []))) (by simp only [List.append_assoc, List.nil_append, List.append_nil]) ?_
  refine v_perm (ws' := ([(w, .inr (0, [.ref (b 0), .ref (t 0), .ref (p 0), .ref (i 0), .int ft, .int rs, .int rf, .ref fr, .ref fa, sv]))] ++ (bkW D b u2 ++ []))) ((((List.Perm.refl _)).append_left _).trans (pm_sw _ _ _)) ?_
  exact v_iret (u := u2) 14 hF hR (Nat.le_of_ble_eq_true rfl) (Nat.le_of_ble_eq_true rfl) dX1_water_14 h
def w_X1_waterAgain (w : Nat) (b : Nat → Nat) (t : Nat → Nat) (p : Nat → Nat) (i : Nat → Nat) (fr : Nat) (fa : Nat) (ft : Int32) (rs : Int32) (rf : Int32) (sv : Value) (σ : Nat → Nat → Int32) (Q : Int32 → ((Nat → Nat → Int32)) → Prop) : Prop :=
  Q ((((σ 20 16) - (σ 20 17)) - (σ 20 18))) σ
theorem ds_X1_waterAgain : yX1_waterAgain.cls = yX1_waterAgain.cls ∧ yX1_waterAgain.cls ≠ "java/lang/invoke/MethodHandle" ∧ yX1_waterAgain.cls ≠ "java/lang/invoke/VarHandle" ∧ (parseMethodDescriptor yX1_waterAgain.desc).map (fun d => d.parameters.length) = some 0 := by decide +kernel
set_option maxHeartbeats 4000000 in
theorem c_X1_waterAgain (l : Launch) (D : va_G) (w : Nat) (b : Nat → Nat) (t : Nat → Nat) (p : Nat → Nat) (i : Nat → Nat) (fr : Nat) (fa : Nat) (ft : Int32) (rs : Int32) (rf : Int32) (sv : Value) (σ : Nat → Nat → Int32) (Q : Int32 → ((Nat → Nat → Int32)) → Prop) (h : w_X1_waterAgain w b t p i fr fa ft rs rf sv σ Q) : Cti l D yX1_waterAgain cX1_waterAgain 1 .int (rmk 0 0 0 0) [.ref w] ([(w, .inr (0, [.ref (b 0), .ref (t 0), .ref (p 0), .ref (i 0), .int ft, .int rs, .int rf, .ref fr, .ref fa, sv]))] ++ (bkW D b σ ++ [])) (fun u : (Nat → Nat → Int32) => ([(w, .inr (0, [.ref (b 0), .ref (t 0), .ref (p 0), .ref (i 0), .int ft, .int rs, .int rf, .ref fr, .ref fa, sv]))] ++ (bkW D b u ++ []))) Q 0 0 := by
  refine Cti.of (by decide) (Nat.le_of_ble_eq_true rfl) (fun x hF hR => ?_)
  replace hF : vF x l D "BrookWeirs" cX1_waterAgain (rmk 0 0 0 0) 1 (some .int) := hF
  unfold w_X1_waterAgain at h
  refine v_aload_n 0 hF dX1_waterAgain_0 rfl 0 rfl ?_
  refine v_get 1 hF in_X1 0 rfl rfl 0 (Nat.le_of_ble_eq_true rfl) q362 rfl rfl dX1_waterAgain_1 ?_
  refine v_getN 4 hF in_X2 1 rfl rfl 16 (Nat.le_of_ble_eq_true rfl) q203 rfl rfl dX1_waterAgain_4 ?_
  refine v_aload_n 7 hF dX1_waterAgain_7 rfl 0 rfl ?_
  refine v_get 8 hF in_X1 0 rfl rfl 0 (Nat.le_of_ble_eq_true rfl) q362 rfl rfl dX1_waterAgain_8 ?_
  refine v_getN 11 hF in_X2 1 rfl rfl 17 (Nat.le_of_ble_eq_true rfl) q205 rfl rfl dX1_waterAgain_11 ?_
  refine v_isub 14 hF dX1_waterAgain_14 ?_
  refine v_aload_n 15 hF dX1_waterAgain_15 rfl 0 rfl ?_
  refine v_get 16 hF in_X1 0 rfl rfl 0 (Nat.le_of_ble_eq_true rfl) q362 rfl rfl dX1_waterAgain_16 ?_
  refine v_getN 19 hF in_X2 1 rfl rfl 18 (Nat.le_of_ble_eq_true rfl) q208 rfl rfl dX1_waterAgain_19 ?_
  refine v_isub 22 hF dX1_waterAgain_22 ?_
  exact v_iret (u := σ) 23 hF hR (Nat.le_of_ble_eq_true rfl) (Nat.le_of_ble_eq_true rfl) dX1_waterAgain_23 h
def w_X1_faultPosition (w : Nat) (b : Nat → Nat) (t : Nat → Nat) (p : Nat → Nat) (i : Nat → Nat) (fr : Nat) (fa : Nat) (ft : Int32) (rs : Int32) (rf : Int32) (sv : Value) (σ : Nat → Nat → Int32) (X : String → ((Nat → Nat → Int32)) → Prop) (Y : String → Int32 → ((Nat → Nat → Int32)) → Prop) (Q : Int32 → ((Nat → Nat → Int32)) → Prop) : Prop :=
  ((ft = (-1 : Int32) → w_X1_requireElement ((0 : Int32)) (fun E => X E σ) (fun E r => Y E r σ) (Q ft σ)) ∧ (¬ ft = (-1 : Int32) → w_X1_requireElement ((1 : Int32)) (fun E => X E σ) (fun E r => Y E r σ) (Q ft σ)))
theorem ds_X1_faultPosition : yX1_faultPosition.cls = yX1_faultPosition.cls ∧ yX1_faultPosition.cls ≠ "java/lang/invoke/MethodHandle" ∧ yX1_faultPosition.cls ≠ "java/lang/invoke/VarHandle" ∧ (parseMethodDescriptor yX1_faultPosition.desc).map (fun d => d.parameters.length) = some 0 := by decide +kernel
set_option maxHeartbeats 4000000 in
theorem c_X1_faultPosition (l : Launch) (D : va_G) (hl : l.stackTraces = false) (w : Nat) (b : Nat → Nat) (t : Nat → Nat) (p : Nat → Nat) (i : Nat → Nat) (fr : Nat) (fa : Nat) (ft : Int32) (rs : Int32) (rf : Int32) (sv : Value) (σ : Nat → Nat → Int32) (X : String → ((Nat → Nat → Int32)) → Prop) (Y : String → Int32 → ((Nat → Nat → Int32)) → Prop) (Q : Int32 → ((Nat → Nat → Int32)) → Prop) (h : w_X1_faultPosition w b t p i fr fa ft rs rf sv σ X Y Q) : Cxi l D yX1_faultPosition cX1_faultPosition 1 .int (rmk 7 1 6 116) [.ref w] ([(w, .inr (0, [.ref (b 0), .ref (t 0), .ref (p 0), .ref (i 0), .int ft, .int rs, .int rf, .ref fr, .ref fa, sv]))] ++ (bkW D b σ ++ [])) (fun u : (Nat → Nat → Int32) => ([(w, .inr (0, [.ref (b 0), .ref (t 0), .ref (p 0), .ref (i 0), .int ft, .int rs, .int rf, .ref fr, .ref fa, sv]))] ++ (bkW D b u ++ []))) Q X Y 1 6 := by
  refine Cxi.of (by decide) (Nat.le_of_ble_eq_true rfl) (fun x hF hR hN => ?_)
  replace hF : vF x l D "BrookWeirs" cX1_faultPosition (rmk 7 1 6 116) 1 (some .int) := hF
  unfold w_X1_faultPosition at h
  refine v_aload_n 0 hF dX1_faultPosition_0 rfl 0 rfl ?_
  refine v_get 1 hF in_X1 0 rfl rfl 4 (Nat.le_of_ble_eq_true rfl) q368 rfl rfl dX1_faultPosition_1 ?_
  refine v_iconst (v := -1) 4 hF dX1_faultPosition_4 (by decide) ?_
  refine v_icmp_eq 5 12 hF dX1_faultPosition_5 (by decide) (fun c1 => ?_) (fun c1 => ?_)
  · replace h := h.1 c1
    refine v_iconst (v := 0) 12 hF dX1_faultPosition_12 (by decide) ?_
    refine v_callXS0v (As := [.int ((0 : Int32))]) 13 hF (c_X1_requireElement l D hl ((0 : Int32)) _ _ _ h) q1201 q1045 q70 q1046 ds_X1_requireElement ⟨rfl, rfl, (Nat.le_of_ble_eq_true rfl), (Nat.le_of_ble_eq_true rfl)⟩ (Nat.le_of_ble_eq_true rfl) ⟨(Nat.le_of_ble_eq_true rfl), (Nat.le_of_ble_eq_true rfl)⟩ dX1_faultPosition_13 (fun E q hx => vT_gar (w := ([(w, .inr (0, [.ref (b 0), .ref (t 0), .ref (p 0), .ref (i 0), .int ft, .int rs, .int rf, .ref fr, .ref fa, sv]))] ++ (bkW D b σ ++ []))) (g := ([])) (((List.Perm.refl _)).trans (List.Perm.of_eq (by simp only [List.append_assoc, List.nil_append, List.append_nil]))) (v_outi (u := σ) hF hR hN (Nat.le_of_ble_eq_true rfl) (Nat.le_of_ble_eq_true rfl) hx)) (fun E q ci r hy hp => vT_garY (w := ([(w, .inr (0, [.ref (b 0), .ref (t 0), .ref (p 0), .ref (i 0), .int ft, .int rs, .int rf, .ref fr, .ref fa, sv]))] ++ (bkW D b σ ++ []))) (g := ([])) (((List.Perm.refl _)).trans (List.Perm.of_eq (by simp only [List.append_assoc, List.nil_append, List.append_nil]))) (v_outYi (u := σ) hF hR hN (Nat.le_of_ble_eq_true rfl) (Nat.le_of_ble_eq_true rfl) hp hy)) (fun h => ?_)
    refine v_aload_n 16 hF dX1_faultPosition_16 rfl 0 rfl ?_
    refine v_get 17 hF in_X1 0 rfl rfl 4 (Nat.le_of_ble_eq_true rfl) q368 rfl rfl dX1_faultPosition_17 ?_
    exact v_iretX (u := σ) 20 hF hR (Nat.le_of_ble_eq_true rfl) (Nat.le_of_ble_eq_true rfl) dX1_faultPosition_20 h
  · replace h := h.2 c1
    refine v_iconst (v := 1) 8 hF dX1_faultPosition_8 (by decide) ?_
    refine v_goto 9 13 hF dX1_faultPosition_9 (by decide) ?_
    refine v_callXS0v (As := [.int ((1 : Int32))]) 13 hF (c_X1_requireElement l D hl ((1 : Int32)) _ _ _ h) q1201 q1045 q70 q1046 ds_X1_requireElement ⟨rfl, rfl, (Nat.le_of_ble_eq_true rfl), (Nat.le_of_ble_eq_true rfl)⟩ (Nat.le_of_ble_eq_true rfl) ⟨(Nat.le_of_ble_eq_true rfl), (Nat.le_of_ble_eq_true rfl)⟩ dX1_faultPosition_13 (fun E q hx => vT_gar (w := ([(w, .inr (0, [.ref (b 0), .ref (t 0), .ref (p 0), .ref (i 0), .int ft, .int rs, .int rf, .ref fr, .ref fa, sv]))] ++ (bkW D b σ ++ []))) (g := ([])) (((List.Perm.refl _)).trans (List.Perm.of_eq (by simp only [List.append_assoc, List.nil_append, List.append_nil]))) (v_outi (u := σ) hF hR hN (Nat.le_of_ble_eq_true rfl) (Nat.le_of_ble_eq_true rfl) hx)) (fun E q ci r hy hp => vT_garY (w := ([(w, .inr (0, [.ref (b 0), .ref (t 0), .ref (p 0), .ref (i 0), .int ft, .int rs, .int rf, .ref fr, .ref fa, sv]))] ++ (bkW D b σ ++ []))) (g := ([])) (((List.Perm.refl _)).trans (List.Perm.of_eq (by simp only [List.append_assoc, List.nil_append, List.append_nil]))) (v_outYi (u := σ) hF hR hN (Nat.le_of_ble_eq_true rfl) (Nat.le_of_ble_eq_true rfl) hp hy)) (fun h => ?_)
    refine v_aload_n 16 hF dX1_faultPosition_16 rfl 0 rfl ?_
    refine v_get 17 hF in_X1 0 rfl rfl 4 (Nat.le_of_ble_eq_true rfl) q368 rfl rfl dX1_faultPosition_17 ?_
    exact v_iretX (u := σ) 20 hF hR (Nat.le_of_ble_eq_true rfl) (Nat.le_of_ble_eq_true rfl) dX1_faultPosition_20 h
def w_X1_refusal (w : Nat) (b : Nat → Nat) (t : Nat → Nat) (p : Nat → Nat) (i : Nat → Nat) (fr : Nat) (fa : Nat) (ft : Int32) (rs : Int32) (rf : Int32) (sv : Value) (σ : Nat → Nat → Int32) (x1 : Int32) (X : String → ((Nat → Nat → Int32)) → Prop) (Y : String → Int32 → ((Nat → Nat → Int32)) → Prop) (Q : Int32 → ((Nat → Nat → Int32)) → Prop) : Prop :=
  ((rs = 0 → w_X1_requireElement ((0 : Int32)) (fun E => X E σ) (fun E r => Y E r σ) (((x1 = 0 → Q rf σ) ∧ (¬ x1 = 0 → Q rs σ)))) ∧ (¬ rs = 0 → w_X1_requireElement ((1 : Int32)) (fun E => X E σ) (fun E r => Y E r σ) (((x1 = 0 → Q rf σ) ∧ (¬ x1 = 0 → Q rs σ)))))
theorem ds_X1_refusal : yX1_refusal.cls = yX1_refusal.cls ∧ yX1_refusal.cls ≠ "java/lang/invoke/MethodHandle" ∧ yX1_refusal.cls ≠ "java/lang/invoke/VarHandle" ∧ (parseMethodDescriptor yX1_refusal.desc).map (fun d => d.parameters.length) = some 1 := by decide +kernel
set_option maxHeartbeats 4000000 in
theorem c_X1_refusal (l : Launch) (D : va_G) (hl : l.stackTraces = false) (w : Nat) (b : Nat → Nat) (t : Nat → Nat) (p : Nat → Nat) (i : Nat → Nat) (fr : Nat) (fa : Nat) (ft : Int32) (rs : Int32) (rf : Int32) (sv : Value) (σ : Nat → Nat → Int32) (x1 : Int32) (X : String → ((Nat → Nat → Int32)) → Prop) (Y : String → Int32 → ((Nat → Nat → Int32)) → Prop) (Q : Int32 → ((Nat → Nat → Int32)) → Prop) (h : w_X1_refusal w b t p i fr fa ft rs rf sv σ x1 X Y Q) : Cxi l D yX1_refusal cX1_refusal 2 .int (rmk 7 1 6 116) [.ref w, .int x1] ([(w, .inr (0, [.ref (b 0), .ref (t 0), .ref (p 0), .ref (i 0), .int ft, .int rs, .int rf, .ref fr, .ref fa, sv]))] ++ (bkW D b σ ++ [])) (fun u : (Nat → Nat → Int32) => ([(w, .inr (0, [.ref (b 0), .ref (t 0), .ref (p 0), .ref (i 0), .int ft, .int rs, .int rf, .ref fr, .ref fa, sv]))] ++ (bkW D b u ++ []))) Q X Y 1 6 := by
  refine Cxi.of (by decide) (Nat.le_of_ble_eq_true rfl) (fun x hF hR hN => ?_)
  replace hF : vF x l D "BrookWeirs" cX1_refusal (rmk 7 1 6 116) 2 (some .int) := hF
  unfold w_X1_refusal at h
  refine v_aload_n 0 hF dX1_refusal_0 rfl 0 rfl ?_
  refine v_get 1 hF in_X1 0 rfl rfl 5 (Nat.le_of_ble_eq_true rfl) q369 rfl rfl dX1_refusal_1 ?_
  refine v_if_eq 4 11 hF dX1_refusal_4 (by decide) (fun c1 => ?_) (fun c1 => ?_)
  · replace h := h.1 c1
    refine v_iconst (v := 0) 11 hF dX1_refusal_11 (by decide) ?_
    refine v_callXS0v (As := [.int ((0 : Int32))]) 12 hF (c_X1_requireElement l D hl ((0 : Int32)) _ _ _ h) q1201 q1045 q70 q1046 ds_X1_requireElement ⟨rfl, rfl, (Nat.le_of_ble_eq_true rfl), (Nat.le_of_ble_eq_true rfl)⟩ (Nat.le_of_ble_eq_true rfl) ⟨(Nat.le_of_ble_eq_true rfl), (Nat.le_of_ble_eq_true rfl)⟩ dX1_refusal_12 (fun E q hx => vT_gar (w := ([(w, .inr (0, [.ref (b 0), .ref (t 0), .ref (p 0), .ref (i 0), .int ft, .int rs, .int rf, .ref fr, .ref fa, sv]))] ++ (bkW D b σ ++ []))) (g := ([])) (((List.Perm.refl _)).trans (List.Perm.of_eq (by simp only [List.append_assoc, List.nil_append, List.append_nil]))) (v_outi (u := σ) hF hR hN (Nat.le_of_ble_eq_true rfl) (Nat.le_of_ble_eq_true rfl) hx)) (fun E q ci r hy hp => vT_garY (w := ([(w, .inr (0, [.ref (b 0), .ref (t 0), .ref (p 0), .ref (i 0), .int ft, .int rs, .int rf, .ref fr, .ref fa, sv]))] ++ (bkW D b σ ++ []))) (g := ([])) (((List.Perm.refl _)).trans (List.Perm.of_eq (by simp only [List.append_assoc, List.nil_append, List.append_nil]))) (v_outYi (u := σ) hF hR hN (Nat.le_of_ble_eq_true rfl) (Nat.le_of_ble_eq_true rfl) hp hy)) (fun h => ?_)
    refine v_iload_n 15 hF dX1_refusal_15 rfl 1 rfl ?_
    refine v_if_eq 16 26 hF dX1_refusal_16 (by decide) (fun c2 => ?_) (fun c2 => ?_)
    · replace h := h.1 c2
      refine v_aload_n 26 hF dX1_refusal_26 rfl 0 rfl ?_
      refine v_get 27 hF in_X1 0 rfl rfl 6 (Nat.le_of_ble_eq_true rfl) q370 rfl rfl dX1_refusal_27 ?_
      exact v_iretX (u := σ) 30 hF hR (Nat.le_of_ble_eq_true rfl) (Nat.le_of_ble_eq_true rfl) dX1_refusal_30 h
    · replace h := h.2 c2
      refine v_aload_n 19 hF dX1_refusal_19 rfl 0 rfl ?_
      refine v_get 20 hF in_X1 0 rfl rfl 5 (Nat.le_of_ble_eq_true rfl) q369 rfl rfl dX1_refusal_20 ?_
      refine v_goto 23 30 hF dX1_refusal_23 (by decide) ?_
      exact v_iretX (u := σ) 30 hF hR (Nat.le_of_ble_eq_true rfl) (Nat.le_of_ble_eq_true rfl) dX1_refusal_30 h
  · replace h := h.2 c1
    refine v_iconst (v := 1) 7 hF dX1_refusal_7 (by decide) ?_
    refine v_goto 8 12 hF dX1_refusal_8 (by decide) ?_
    refine v_callXS0v (As := [.int ((1 : Int32))]) 12 hF (c_X1_requireElement l D hl ((1 : Int32)) _ _ _ h) q1201 q1045 q70 q1046 ds_X1_requireElement ⟨rfl, rfl, (Nat.le_of_ble_eq_true rfl), (Nat.le_of_ble_eq_true rfl)⟩ (Nat.le_of_ble_eq_true rfl) ⟨(Nat.le_of_ble_eq_true rfl), (Nat.le_of_ble_eq_true rfl)⟩ dX1_refusal_12 (fun E q hx => vT_gar (w := ([(w, .inr (0, [.ref (b 0), .ref (t 0), .ref (p 0), .ref (i 0), .int ft, .int rs, .int rf, .ref fr, .ref fa, sv]))] ++ (bkW D b σ ++ []))) (g := ([])) (((List.Perm.refl _)).trans (List.Perm.of_eq (by simp only [List.append_assoc, List.nil_append, List.append_nil]))) (v_outi (u := σ) hF hR hN (Nat.le_of_ble_eq_true rfl) (Nat.le_of_ble_eq_true rfl) hx)) (fun E q ci r hy hp => vT_garY (w := ([(w, .inr (0, [.ref (b 0), .ref (t 0), .ref (p 0), .ref (i 0), .int ft, .int rs, .int rf, .ref fr, .ref fa, sv]))] ++ (bkW D b σ ++ []))) (g := ([])) (((List.Perm.refl _)).trans (List.Perm.of_eq (by simp only [List.append_assoc, List.nil_append, List.append_nil]))) (v_outYi (u := σ) hF hR hN (Nat.le_of_ble_eq_true rfl) (Nat.le_of_ble_eq_true rfl) hp hy)) (fun h => ?_)
    refine v_iload_n 15 hF dX1_refusal_15 rfl 1 rfl ?_
    refine v_if_eq 16 26 hF dX1_refusal_16 (by decide) (fun c3 => ?_) (fun c3 => ?_)
    · replace h := h.1 c3
      refine v_aload_n 26 hF dX1_refusal_26 rfl 0 rfl ?_
      refine v_get 27 hF in_X1 0 rfl rfl 6 (Nat.le_of_ble_eq_true rfl) q370 rfl rfl dX1_refusal_27 ?_
      exact v_iretX (u := σ) 30 hF hR (Nat.le_of_ble_eq_true rfl) (Nat.le_of_ble_eq_true rfl) dX1_refusal_30 h
    · replace h := h.2 c3
      refine v_aload_n 19 hF dX1_refusal_19 rfl 0 rfl ?_
      refine v_get 20 hF in_X1 0 rfl rfl 5 (Nat.le_of_ble_eq_true rfl) q369 rfl rfl dX1_refusal_20 ?_
      refine v_goto 23 30 hF dX1_refusal_23 (by decide) ?_
      exact v_iretX (u := σ) 30 hF hR (Nat.le_of_ble_eq_true rfl) (Nat.le_of_ble_eq_true rfl) dX1_refusal_30 h
def w_X1_meanLevel (w : Nat) (b : Nat → Nat) (t : Nat → Nat) (p : Nat → Nat) (i : Nat → Nat) (fr : Nat) (fa : Nat) (ft : Int32) (rs : Int32) (rf : Int32) (sv : Value) (σ : Nat → Nat → Int32) (X : String → ((Nat → Nat → Int32)) → Prop) (Y : String → Int32 → ((Nat → Nat → Int32)) → Prop) (Q : UInt64 → ((Nat → Nat → Int32)) → Prop) : Prop :=
  ((¬ (σ 20 8) = 0 → wLoop (fun (K22 : (Int32) × (Int32) × (Nat → Nat → Int32) → Prop) (z5 : (Int32) × (Int32) × (Nat → Nat → Int32)) => (fun (v2 : Int32) (v3 : Int32) (v4 : Nat → Nat → Int32) => (((v4 20 8) ≤ v3 → vf_n64 (FP.ddiv ((FP.i2d v2)) ((FP.i2d ((v4 20 8))))) ∧ Q ((FP.ddiv ((FP.i2d v2)) ((FP.i2d ((v4 20 8)))))) v4) ∧ (¬ (v4 20 8) ≤ v3 → w_X2_level v4 v3 (fun r8 u9 => ∀ y10 : Int32, y10 = (v2 + r8) → ∀ y11 : Int32, y11 = v3 + (1 : Int32) → K22 ((y10, y11, u9)))))) z5.1 z5.2.1 z5.2.2) (((0 : Int32), (0 : Int32), σ))) ∧ ((σ 20 8) = 0 → X "java/lang/ArithmeticException" σ))
theorem ds_X1_meanLevel : yX1_meanLevel.cls = yX1_meanLevel.cls ∧ yX1_meanLevel.cls ≠ "java/lang/invoke/MethodHandle" ∧ yX1_meanLevel.cls ≠ "java/lang/invoke/VarHandle" ∧ (parseMethodDescriptor yX1_meanLevel.desc).map (fun d => d.parameters.length) = some 0 := by decide +kernel
set_option maxHeartbeats 4000000 in
theorem c_X1_meanLevel (l : Launch) (D : va_G) (hl : l.stackTraces = false) (w : Nat) (b : Nat → Nat) (t : Nat → Nat) (p : Nat → Nat) (i : Nat → Nat) (fr : Nat) (fa : Nat) (ft : Int32) (rs : Int32) (rf : Int32) (sv : Value) (σ : Nat → Nat → Int32) (X : String → ((Nat → Nat → Int32)) → Prop) (Y : String → Int32 → ((Nat → Nat → Int32)) → Prop) (Q : UInt64 → ((Nat → Nat → Int32)) → Prop) (h : w_X1_meanLevel w b t p i fr fa ft rs rf sv σ X Y Q) : Cxd l D yX1_meanLevel cX1_meanLevel 3 (rmk 6 1 6 96) [.ref w] ([(w, .inr (0, [.ref (b 0), .ref (t 0), .ref (p 0), .ref (i 0), .int ft, .int rs, .int rf, .ref fr, .ref fa, sv]))] ++ (bkW D b σ ++ [])) (fun u : (Nat → Nat → Int32) => ([(w, .inr (0, [.ref (b 0), .ref (t 0), .ref (p 0), .ref (i 0), .int ft, .int rs, .int rf, .ref fr, .ref fa, sv]))] ++ (bkW D b u ++ []))) Q X Y 1 6 := by
  refine Cxd.of (by decide) (Nat.le_of_ble_eq_true rfl) (fun x hF hR hN => ?_)
  replace hF : vF x l D "BrookWeirs" cX1_meanLevel (rmk 6 1 6 96) 3 (some .double) := hF
  unfold w_X1_meanLevel at h
  refine v_aload_n 0 hF dX1_meanLevel_0 rfl 0 rfl ?_
  refine v_get 1 hF in_X1 0 rfl rfl 0 (Nat.le_of_ble_eq_true rfl) q362 rfl rfl dX1_meanLevel_1 ?_
  refine v_getN 4 hF in_X2 1 rfl rfl 8 (Nat.le_of_ble_eq_true rfl) q185 rfl rfl dX1_meanLevel_4 ?_
  refine v_if_ne 7 18 hF dX1_meanLevel_7 (by decide) (fun c1 => ?_) (fun c1 => ?_)
  · replace h := h.1 c1
    refine v_iconst (v := 0) 18 hF dX1_meanLevel_18 (by decide) ?_
    refine v_istore_n [(0, .ref w), (1, .int ((0 : Int32)))] [1, 0] 19 hF dX1_meanLevel_19 rfl (Nat.le_of_ble_eq_true rfl) rfl ?_
    refine v_iconst (v := 0) 20 hF dX1_meanLevel_20 (by decide) ?_
    refine v_istore_n [(0, .ref w), (1, .int ((0 : Int32))), (2, .int ((0 : Int32)))] [1, 2, 0] 21 hF dX1_meanLevel_21 rfl (Nat.le_of_ble_eq_true rfl) rfl ?_
    refine vLoop (V := fun z5 : (Int32) × (Int32) × (Nat → Nat → Int32) => vV x 0 0 ([(w, .inr (0, [.ref (b 0), .ref (t 0), .ref (p 0), .ref (i 0), .int ft, .int rs, .int rf, .ref fr, .ref fa, sv]))] ++ (bkW D b (z5.2.2) ++ [])) [(0, .ref w), (1, .int (z5.1)), (2, .int (z5.2.1))] 22 []) (fun K22 hK22 z5 hs => ?_) _ h
    obtain ⟨v2, v3, v4⟩ := z5
    have h : (((v4 20 8) ≤ v3 → vf_n64 (FP.ddiv ((FP.i2d v2)) ((FP.i2d ((v4 20 8))))) ∧ Q ((FP.ddiv ((FP.i2d v2)) ((FP.i2d ((v4 20 8)))))) v4) ∧ (¬ (v4 20 8) ≤ v3 → w_X2_level v4 v3 (fun r8 u9 => ∀ y10 : Int32, y10 = (v2 + r8) → ∀ y11 : Int32, y11 = v3 + (1 : Int32) → K22 ((y10, y11, u9))))) := hs
    refine v_iload_n 22 hF dX1_meanLevel_22 rfl 2 rfl ?_
    refine v_aload_n 23 hF dX1_meanLevel_23 rfl 0 rfl ?_
    refine v_get 24 hF in_X1 0 rfl rfl 0 (Nat.le_of_ble_eq_true rfl) q362 rfl rfl dX1_meanLevel_24 ?_
    refine v_getN 27 hF in_X2 1 rfl rfl 8 (Nat.le_of_ble_eq_true rfl) q185 rfl rfl dX1_meanLevel_27 ?_
    refine v_icmp_ge 30 50 hF dX1_meanLevel_30 (by decide) (fun c6 => ?_) (fun c6 => ?_)
    · replace h := h.1 c6
      refine v_iload_n 50 hF dX1_meanLevel_50 rfl 1 rfl ?_
      refine v_i2d 51 hF dX1_meanLevel_51 ?_
      refine v_aload_n 52 hF dX1_meanLevel_52 rfl 0 rfl ?_
      refine v_get 53 hF in_X1 0 rfl rfl 0 (Nat.le_of_ble_eq_true rfl) q362 rfl rfl dX1_meanLevel_53 ?_
      refine v_getN 56 hF in_X2 1 rfl rfl 8 (Nat.le_of_ble_eq_true rfl) q185 rfl rfl dX1_meanLevel_56 ?_
      refine v_i2d 59 hF dX1_meanLevel_59 ?_
      obtain ⟨o7, h⟩ := h
      refine v_ddiv 60 hF dX1_meanLevel_60 o7 ?_
      exact v_dretX (u := v4) 61 hF hR (Nat.le_of_ble_eq_true rfl) (Nat.le_of_ble_eq_true rfl) dX1_meanLevel_61 h
    · replace h := h.2 c6
      refine v_iload_n 33 hF dX1_meanLevel_33 rfl 1 rfl ?_
      refine v_aload_n 34 hF dX1_meanLevel_34 rfl 0 rfl ?_
      refine v_get 35 hF in_X1 0 rfl rfl 0 (Nat.le_of_ble_eq_true rfl) q362 rfl rfl dX1_meanLevel_35 ?_
      refine v_iload_n 38 hF dX1_meanLevel_38 rfl 2 rfl ?_
      refine v_callVi (As := [.int v3]) (b := b 0) (wr := ([(w, .inr (0, [.ref (b 0), .ref (t 0), .ref (p 0), .ref (i 0), .int ft, .int rs, .int rf, .ref fr, .ref fa, sv]))] ++ [])) 39 hF (c_X2_level l D b v4 v3 _ h) ((((((List.Perm.refl _)).append_left _).trans (pm_sw _ _ _))).trans (List.Perm.of_eq (by simp only [List.append_assoc, List.nil_append, List.append_nil]))) ⟨0, 6, _, TX2, 24, rfl, rfl⟩ q904 q443 q444 q71 q445 ds_X2_level ⟨rfl, rfl, (Nat.le_of_ble_eq_true rfl), (Nat.le_of_ble_eq_true rfl)⟩ (Nat.le_of_ble_eq_true rfl) ⟨(Nat.le_of_ble_eq_true rfl), (Nat.le_of_ble_eq_true rfl)⟩ dX1_meanLevel_39 (fun r8 u9 h => ?_)
      refine v_eqw (ws1 := (bkW D b u9 ++ ([(w, .inr (0, [.ref (b 0), .ref (t 0), .ref (p 0), .ref (i 0), .int ft, .int rs, .int rf, .ref fr, .ref fa, sv]))] ++ []))) (by simp only [List.append_assoc, List.nil_append, List.append_nil]) ?_
      refine v_perm (ws' := ([(w, .inr (0, [.ref (b 0), .ref (t 0), .ref (p 0), .ref (i 0), .int ft, .int rs, .int rf, .ref fr, .ref fa, sv]))] ++ (bkW D b u9 ++ []))) ((((List.Perm.refl _)).append_left _).trans (pm_sw _ _ _)) ?_
      refine v_iadd 42 hF dX1_meanLevel_42 ?_
      refine v_nm (fun y10 ey10 => ?_)
      replace h := h y10 ey10
      refine v_istore_n [(0, .ref w), (1, .int y10), (2, .int v3)] [1, 0, 2] 43 hF dX1_meanLevel_43 rfl (Nat.le_of_ble_eq_true rfl) rfl ?_
      obtain ⟨y11, ey11⟩ : ∃ y : Int32, y = v3 + (1 : Int32) := ⟨_, rfl⟩
      replace h := h y11 ey11
      refine v_iinc [(0, .ref w), (1, .int y10), (2, .int y11)] [1, 2, 0] 44 hF dX1_meanLevel_44 2 rfl (by rw [ey11]; rfl) (Nat.le_of_ble_eq_true rfl) rfl ?_
      refine v_goto 47 22 hF dX1_meanLevel_47 (by decide) ?_
      exact hK22 ((y10, y11, u9)) h
  · replace h := h.2 c1
    exact v_throw0d (u := σ) (names := ["java/lang/RuntimeException", "java/lang/Exception"]) (ps := [83, 551, 560, 571, 574, 576, 552, 553, 121, 122, 554, 559, 572, 589, 541, 590, 543, 591, 545, 555, 557, 547, 1377, 1378, 1379, 581, 532, 581, 582, 583, 584, 534, 584, 585, 586, 552, 536, 1376, 1358, 1369, 1370, 564, 1364, 1365, 1367, 1363, 587, 549, 1362]) 10 hF hR hN hl (by decide +kernel) (by decide +kernel) q1375 q105 (by decide +kernel) (by decide +kernel) (by decide +kernel) dX1_meanLevel_10 dX1_meanLevel_13 dX1_meanLevel_14 dX1_meanLevel_17 ⟨(Nat.le_of_ble_eq_true rfl), (Nat.le_of_ble_eq_true rfl)⟩ ⟨(Nat.le_of_ble_eq_true rfl), (Nat.le_of_ble_eq_true rfl)⟩ (Nat.le_of_ble_eq_true rfl) (Nat.le_of_ble_eq_true rfl) h
def w_X1_silence (w : Nat) (b : Nat → Nat) (t : Nat → Nat) (p : Nat → Nat) (i : Nat → Nat) (fr : Nat) (fa : Nat) (ft : Int32) (rs : Int32) (rf : Int32) (sv : Value) (σ : Nat → Nat → Int32) (X : String → ((Nat → Nat → Int32)) → Prop) (Y : String → Int32 → ((Nat → Nat → Int32)) → Prop) (Q : UInt32 → ((Nat → Nat → Int32)) → Prop) : Prop :=
  ((¬ (σ 20 15) = 0 → vf_n32 (FP.fdiv ((FP.i2f ((σ 20 20)))) ((FP.i2f ((σ 20 15))))) ∧ Q ((FP.fdiv ((FP.i2f ((σ 20 20)))) ((FP.i2f ((σ 20 15)))))) σ) ∧ ((σ 20 15) = 0 → X "java/lang/ArithmeticException" σ))
theorem ds_X1_silence : yX1_silence.cls = yX1_silence.cls ∧ yX1_silence.cls ≠ "java/lang/invoke/MethodHandle" ∧ yX1_silence.cls ≠ "java/lang/invoke/VarHandle" ∧ (parseMethodDescriptor yX1_silence.desc).map (fun d => d.parameters.length) = some 0 := by decide +kernel
set_option maxHeartbeats 4000000 in
theorem c_X1_silence (l : Launch) (D : va_G) (hl : l.stackTraces = false) (w : Nat) (b : Nat → Nat) (t : Nat → Nat) (p : Nat → Nat) (i : Nat → Nat) (fr : Nat) (fa : Nat) (ft : Int32) (rs : Int32) (rf : Int32) (sv : Value) (σ : Nat → Nat → Int32) (X : String → ((Nat → Nat → Int32)) → Prop) (Y : String → Int32 → ((Nat → Nat → Int32)) → Prop) (Q : UInt32 → ((Nat → Nat → Int32)) → Prop) (h : w_X1_silence w b t p i fr fa ft rs rf sv σ X Y Q) : Cxf l D yX1_silence cX1_silence 1 (rmk 6 1 6 96) [.ref w] ([(w, .inr (0, [.ref (b 0), .ref (t 0), .ref (p 0), .ref (i 0), .int ft, .int rs, .int rf, .ref fr, .ref fa, sv]))] ++ (bkW D b σ ++ [])) (fun u : (Nat → Nat → Int32) => ([(w, .inr (0, [.ref (b 0), .ref (t 0), .ref (p 0), .ref (i 0), .int ft, .int rs, .int rf, .ref fr, .ref fa, sv]))] ++ (bkW D b u ++ []))) Q X Y 1 6 := by
  refine Cxf.of (by decide) (Nat.le_of_ble_eq_true rfl) (fun x hF hR hN => ?_)
  replace hF : vF x l D "BrookWeirs" cX1_silence (rmk 6 1 6 96) 1 (some .float) := hF
  unfold w_X1_silence at h
  refine v_aload_n 0 hF dX1_silence_0 rfl 0 rfl ?_
  refine v_get 1 hF in_X1 0 rfl rfl 0 (Nat.le_of_ble_eq_true rfl) q362 rfl rfl dX1_silence_1 ?_
  refine v_getN 4 hF in_X2 1 rfl rfl 15 (Nat.le_of_ble_eq_true rfl) q201 rfl rfl dX1_silence_4 ?_
  refine v_if_ne 7 18 hF dX1_silence_7 (by decide) (fun c1 => ?_) (fun c1 => ?_)
  · replace h := h.1 c1
    refine v_aload_n 18 hF dX1_silence_18 rfl 0 rfl ?_
    refine v_get 19 hF in_X1 0 rfl rfl 0 (Nat.le_of_ble_eq_true rfl) q362 rfl rfl dX1_silence_19 ?_
    refine v_getN 22 hF in_X2 1 rfl rfl 20 (Nat.le_of_ble_eq_true rfl) q212 rfl rfl dX1_silence_22 ?_
    refine v_i2f 25 hF dX1_silence_25 ?_
    refine v_aload_n 26 hF dX1_silence_26 rfl 0 rfl ?_
    refine v_get 27 hF in_X1 0 rfl rfl 0 (Nat.le_of_ble_eq_true rfl) q362 rfl rfl dX1_silence_27 ?_
    refine v_getN 30 hF in_X2 1 rfl rfl 15 (Nat.le_of_ble_eq_true rfl) q201 rfl rfl dX1_silence_30 ?_
    refine v_i2f 33 hF dX1_silence_33 ?_
    obtain ⟨o2, h⟩ := h
    refine v_fdiv 34 hF dX1_silence_34 o2 ?_
    exact v_fretX (u := σ) 35 hF hR (Nat.le_of_ble_eq_true rfl) (Nat.le_of_ble_eq_true rfl) dX1_silence_35 h
  · replace h := h.2 c1
    exact v_throw0f (u := σ) (names := ["java/lang/RuntimeException", "java/lang/Exception"]) (ps := [83, 551, 560, 571, 574, 576, 552, 553, 121, 122, 554, 559, 572, 589, 541, 590, 543, 591, 545, 555, 557, 547, 1377, 1378, 1379, 581, 532, 581, 582, 583, 584, 534, 584, 585, 586, 552, 536, 1376, 1358, 1369, 1370, 564, 1364, 1365, 1367, 1363, 587, 549, 1362]) 10 hF hR hN hl (by decide +kernel) (by decide +kernel) q1375 q105 (by decide +kernel) (by decide +kernel) (by decide +kernel) dX1_silence_10 dX1_silence_13 dX1_silence_14 dX1_silence_17 ⟨(Nat.le_of_ble_eq_true rfl), (Nat.le_of_ble_eq_true rfl)⟩ ⟨(Nat.le_of_ble_eq_true rfl), (Nat.le_of_ble_eq_true rfl)⟩ (Nat.le_of_ble_eq_true rfl) (Nat.le_of_ble_eq_true rfl) h
