set_option maxRecDepth 100000
/-- a deed that the parser made: its object, its site, its numbers -/
def itW (D : va_G) (z : Nat × Nat × Int32 × Int32 × Int32) : va_W := match z.2.1 with
  | 9 => [(z.1, .inl (D.1 1019, 1, .inl (fun j => ([z.2.2.1] : List Int32).getD j 0)))]
  | 11 => [(z.1, .inl (D.1 1021, 2, .inl (fun j => ([z.2.2.1, z.2.2.2.1] : List Int32).getD j 0)))]
  | 12 => [(z.1, .inl (D.1 1022, 2, .inl (fun j => ([z.2.2.1, z.2.2.2.1] : List Int32).getD j 0)))]
  | 13 => [(z.1, .inl (D.1 1023, 3, .inl (fun j => ([z.2.2.1, z.2.2.2.1, z.2.2.2.2] : List Int32).getD j 0)))]
  | _ => []
def itT (z : Nat × Nat × Int32 × Int32 × Int32) : (Nat → Nat) → (Nat → Nat → Int32) → (String → (Nat → Nat → Int32) → Prop) → (String → Int32 → (Nat → Nat → Int32) → Prop) → (Int32 → (Nat → Nat → Int32) → Prop) → Prop := fun a σ X Y Q => match z.2.1 with
  | 9 => w_X13_lambda_item_3 a σ z.2.2.1 X Y Q
  | 11 => w_X13_lambda_boards_1 a σ z.2.2.1 z.2.2.2.1 X Y Q
  | 12 => w_X13_lambda_eggs_2 a σ z.2.2.1 z.2.2.2.1 X Y Q
  | 13 => w_X13_lambda_latch_0 a σ z.2.2.1 z.2.2.2.1 z.2.2.2.2 X Y Q
  | _ => w_X13_lambda_item_4 a σ Q
def itOk (d10 : Nat) (z : Nat × Nat × Int32 × Int32 × Int32) : Prop := z.2.1 = 9 ∨ z.2.1 = 11 ∨ z.2.1 = 12 ∨ z.2.1 = 13 ∨ (z.2.1 = 10 ∧ z.1 = d10)
def itsW (D : va_G) (L : List (Nat × Nat × Int32 × Int32 × Int32)) : va_W := L.flatMap (itW D)
def alW (D : va_G) (e : Nat) (s : Nat × Nat × (Nat → Option Nat) × Int32 × Int32) : va_W := [(e, .inr (16, [.int s.2.2.2.1, .ref s.1, .int s.2.2.2.2])), (s.1, .inl (dO_ D, s.2.1, .inr <| .inr <| .inr <| .inr <| s.2.2.1))]
theorem its_cons (D : va_G) (z : Nat × Nat × Int32 × Int32 × Int32) (L : List (Nat × Nat × Int32 × Int32 × Int32)) : itsW D (z :: L) = itW D z ++ itsW D L := by simp [itsW]
theorem its_snoc (D : va_G) (L : List (Nat × Nat × Int32 × Int32 × Int32)) (z : Nat × Nat × Int32 × Int32 × Int32) : itsW D (L ++ [z]) = itsW D L ++ itW D z := by simp [itsW]
theorem its_mid (D : va_G) {L : List (Nat × Nat × Int32 × Int32 × Int32)} {z : Nat × Nat × Int32 × Int32 × Int32} (h : z ∈ L) : ∃ L1 L2, itsW D L = itsW D L1 ++ (itW D z ++ itsW D L2) := by
  obtain ⟨L1, L2, rfl⟩ := List.append_of_mem h
  exact ⟨L1, L2, by simp [itsW]⟩
theorem vp_cls (cK : ClassId) (x : vp_A) : (vp_cell cK x).cls = cK := by
  cases x with
  | mk n c => cases c with
    | inl f => rfl
    | inr c => cases c with
      | inl f => rfl
      | inr c => cases c with
        | inl f => rfl
        | inr c => cases c with
          | inl f => rfl
          | inr f => rfl
theorem made_RO {D : va_G} {σ : Lambda.Shape} {x0 : MethodName} {pc ix q : Nat} {cK : ClassId} {lk : Linked} {x : vp_A} (hLm : ∀ U, vLS D U → LmAt σ x0 pc ix cK lk U) : vROw D [(q, .inl (cK, x))] q := by
  intro A U args H h1 h2 h3 h4
  obtain ⟨⟨kC, hk⟩, hc⟩ := made_asg (hLm U h2.2.2.2.1) (h1 _ q2368)
  have hcell : H[q]? = some (vp_cell cK x) := h3 0 (q, .inl (cK, x)) rfl
  refine ⟨_, kC, hcell, ?_, ?_, ?_⟩
  · cases x with
    | mk n c => cases c with
      | inl f => rfl
      | inr c => cases c with
        | inl f => rfl
        | inr c => cases c with
          | inl f => rfl
          | inr c => cases c with
            | inl f => rfl
            | inr f => rfl
  · rw [vp_cls]; exact hk
  · rw [vp_cls]; exact hc
theorem it_RO {D : va_G} {z : Nat × Nat × Int32 × Int32 × Int32} (hz : itOk (D.2 1005 10) z) : vROw D (itW D z) z.1 := by
  obtain ⟨q, j, b0, b1, b2⟩ := z
  rcases hz with h | h | h | h | ⟨h, h10⟩
  · obtain rfl : j = 9 := h
    exact made_RO (fun U h => h.2.2.2.2.2.2.2.2.2.1)
  · obtain rfl : j = 11 := h
    exact made_RO (fun U h => h.2.2.2.2.2.2.2.2.2.2.2.1)
  · obtain rfl : j = 12 := h
    exact made_RO (fun U h => h.2.2.2.2.2.2.2.2.2.2.2.2.1)
  · obtain rfl : j = 13 := h
    exact made_RO (fun U h => h.2.2.2.2.2.2.2.2.2.2.2.2.2)
  · obtain rfl : j = 10 := h
    obtain rfl : q = D.2 1005 10 := h10
    intro A U args H h1 h2 h3 h4
    have hcell := h4.2.2.2.2.2.2.2.2.1.1
    obtain ⟨⟨kC, hk⟩, hc⟩ := made_asg ((show ∀ U, vLS D U → LmAt Lm10_σ Lm10_xN 30 71 (D.1 1020) (.constant (D.2 1005 10)) U from fun U h => h.2.2.2.2.2.2.2.2.2.2.1) U h2.2.2.2.1) (h1 _ q2368)
    exact ⟨_, kC, hcell, rfl, hk, hc⟩
theorem its_RO {D : va_G} {L : List (Nat × Nat × Int32 × Int32 × Int32)} {z : Nat × Nat × Int32 × Int32 × Int32} (h : z ∈ L) (hz : itOk (D.2 1005 10) z) : vROw D (itsW D L) z.1 := by
  obtain ⟨L1, L2, e⟩ := its_mid D h
  rw [e]
  exact vROw.appr (vROw.app (it_RO hz))
theorem it_deed (l : Launch) (D : va_G) (hl : l.stackTraces = false) (z : Nat × Nat × Int32 × Int32 × Int32) (hz : itOk (D.2 1005 10) z) : vDeed l D z.1 (itW D z) (itT z) := by
  obtain ⟨q, j, b0, b1, b2⟩ := z
  rcases hz with h | h | h | h | ⟨h, h10⟩
  · obtain rfl : j = 9 := h
    exact deed_9 l D hl q b0
  · obtain rfl : j = 11 := h
    exact deed_11 l D hl q b0 b1
  · obtain rfl : j = 12 := h
    exact deed_12 l D hl q b0 b1
  · obtain rfl : j = 13 := h
    exact deed_13 l D hl q b0 b1 b2
  · obtain rfl : j = 10 := h
    obtain rfl : q = D.2 1005 10 := h10
    exact deed_10 l D hl
def w_J0_init (e : Nat) (mo : Int32) (sz : Int32) (Q : (Unit) → Prop) : Prop :=
  Q ()
theorem ds_J0_init : yJ0_init.cls = yJ0_init.cls ∧ yJ0_init.cls ≠ "java/lang/invoke/MethodHandle" ∧ yJ0_init.cls ≠ "java/lang/invoke/VarHandle" ∧ (parseMethodDescriptor yJ0_init.desc).map (fun d => d.parameters.length) = some 0 := by decide +kernel
set_option maxHeartbeats 4000000 in
theorem c_J0_init (l : Launch) (D : va_G) (e : Nat) (mo : Int32) (sz : Int32) (Q : (Unit) → Prop) (h : w_J0_init e mo sz Q) : Ctv l D yJ0_init cJ0_init 1 (rmk 1 0 0 64) [.ref e] ([(e, .inr (16, [.int mo, .null, .int sz]))] ++ []) (fun u : Unit => ([(e, .inr (16, [.int mo, .null, .int sz]))] ++ [])) Q 0 0 := by
  refine Ctv.ofI rfl (by decide) (Nat.le_of_ble_eq_true rfl) (fun x hF hR hI => ?_)
  replace hF : vF x l D "java/util/AbstractCollection" cJ0_init (rmk 1 0 0 64) 1 none := hF
  unfold w_J0_init at h
  refine v_aload_n 0 hF dJ0_init_0 rfl 0 rfl ?_
  refine v_objInit 1 hF q276 q121 q122 dJ0_init_1 (Nat.le_of_ble_eq_true rfl) (Nat.le_of_ble_eq_true rfl) ?_
  exact v_vret (u := ()) 4 hF hR (Nat.le_of_ble_eq_true rfl) (Nat.le_of_ble_eq_true rfl) dJ0_init_4 h
def w_J25_init (e : Nat) (mo : Int32) (sz : Int32) (Q : (Unit) → Prop) : Prop :=
  w_J0_init e mo sz (fun u1 => Q ())
theorem ds_J25_init : yJ25_init.cls = yJ25_init.cls ∧ yJ25_init.cls ≠ "java/lang/invoke/MethodHandle" ∧ yJ25_init.cls ≠ "java/lang/invoke/VarHandle" ∧ (parseMethodDescriptor yJ25_init.desc).map (fun d => d.parameters.length) = some 0 := by decide +kernel
set_option maxHeartbeats 4000000 in
theorem c_J25_init (l : Launch) (D : va_G) (e : Nat) (mo : Int32) (sz : Int32) (Q : (Unit) → Prop) (h : w_J25_init e mo sz Q) : Ctv l D yJ25_init cJ25_init 1 (rmk 2 0 0 84) [.ref e] ([(e, .inr (16, [.int mo, .null, .int sz]))] ++ []) (fun u : Unit => ([(e, .inr (16, [.int ((0 : Int32)), .null, .int sz]))] ++ [])) Q 0 0 := by
  refine Ctv.ofI rfl (by decide) (Nat.le_of_ble_eq_true rfl) (fun x hF hR hI => ?_)
  replace hF : vF x l D "java/util/AbstractList" cJ25_init (rmk 2 0 0 84) 1 none := hF
  unfold w_J25_init at h
  refine v_aload_n 0 hF dJ25_init_0 rfl 0 rfl ?_
  refine v_callIv (As := []) (b := e) (wr := ([])) 1 hF (c_J0_init l D e mo sz _ h) (((List.Perm.refl _)).trans (List.Perm.of_eq (by simp only [List.append_assoc, List.nil_append, List.append_nil]))) rfl q1527 q274 q73 q275 ds_J0_init ⟨rfl, rfl, (Nat.le_of_ble_eq_true rfl), (Nat.le_of_ble_eq_true rfl)⟩ (Nat.le_of_ble_eq_true rfl) ⟨(Nat.le_of_ble_eq_true rfl), (Nat.le_of_ble_eq_true rfl)⟩ dJ25_init_1 (fun u1 h => ?_)
  refine v_eqw (ws1 := ([(e, .inr (16, [.int mo, .null, .int sz]))] ++ [])) (by simp only [List.append_assoc, List.nil_append, List.append_nil]) ?_
  refine v_aload_n 4 hF dJ25_init_4 rfl 0 rfl ?_
  refine v_iconst (v := 0) 5 hF dJ25_init_5 (by decide) ?_
  refine v_putO ([(e, .inr (16, [.int ((0 : Int32)), .null, .int sz]))] ++ []) 6 hF in_J26 tyJ26_ok nmJ26 0 rfl rfl 0 (Nat.le_of_ble_eq_true rfl) q1534 rfl rfl rfl rfl (Nat.le_of_ble_eq_true rfl) rfl dJ25_init_6 ?_
  exact v_vret (u := ()) 9 hF hR (Nat.le_of_ble_eq_true rfl) (Nat.le_of_ble_eq_true rfl) dJ25_init_9 h
def w_J26_init (e : Nat) (mo : Int32) (sz : Int32) (Q : (Unit) → Prop) : Prop :=
  w_J25_init e mo sz (fun u1 => Q ())
theorem ds_J26_init : yJ26_init.cls = yJ26_init.cls ∧ yJ26_init.cls ≠ "java/lang/invoke/MethodHandle" ∧ yJ26_init.cls ≠ "java/lang/invoke/VarHandle" ∧ (parseMethodDescriptor yJ26_init.desc).map (fun d => d.parameters.length) = some 0 := by decide +kernel
set_option maxHeartbeats 4000000 in
theorem c_J26_init (l : Launch) (D : va_G) (e : Nat) (mo : Int32) (sz : Int32) (Q : (Unit) → Prop) (h : w_J26_init e mo sz Q) : Ctv l D yJ26_init cJ26_init 1 (rmk 3 0 0 104) [.ref e] ([(e, .inr (16, [.int mo, .null, .int sz]))] ++ []) (fun u : Unit => ([(e, .inr (16, [.int ((0 : Int32)), .ref (D.2 1002 0), .int sz]))] ++ [])) Q 0 0 := by
  refine Ctv.ofI rfl (by decide) (Nat.le_of_ble_eq_true rfl) (fun x hF hR hI => ?_)
  replace hF : vF x l D "java/util/ArrayList" cJ26_init (rmk 3 0 0 104) 1 none := hF
  unfold w_J26_init at h
  refine v_aload_n 0 hF dJ26_init_0 rfl 0 rfl ?_
  refine v_callIv (As := []) (b := e) (wr := ([])) 1 hF (c_J25_init l D e mo sz _ h) (((List.Perm.refl _)).trans (List.Perm.of_eq (by simp only [List.append_assoc, List.nil_append, List.append_nil]))) rfl q1524 q1525 q110 q1526 ds_J25_init ⟨rfl, rfl, (Nat.le_of_ble_eq_true rfl), (Nat.le_of_ble_eq_true rfl)⟩ (Nat.le_of_ble_eq_true rfl) ⟨(Nat.le_of_ble_eq_true rfl), (Nat.le_of_ble_eq_true rfl)⟩ dJ26_init_1 (fun u1 h => ?_)
  refine v_eqw (ws1 := ([(e, .inr (16, [.int ((0 : Int32)), .null, .int sz]))] ++ [])) (by simp only [List.append_assoc, List.nil_append, List.append_nil]) ?_
  refine v_aload_n 4 hF dJ26_init_4 rfl 0 rfl ?_
  refine v_gets (v := .ref (D.2 1002 0)) 5 hF (fun A U H hz => hz.2.2.2.1.1) q1528 dJ26_init_5 ?_
  refine v_put ([(e, .inr (16, [.int ((0 : Int32)), .ref (D.2 1002 0), .int sz]))] ++ []) 8 hF in_J26 tyJ26_ok nmJ26 0 rfl rfl 1 (Nat.le_of_ble_eq_true rfl) q1530 rfl rfl rfl rfl rfl (Nat.le_of_ble_eq_true rfl) rfl dJ26_init_8 ?_
  exact v_vret (u := ()) 11 hF hR (Nat.le_of_ble_eq_true rfl) (Nat.le_of_ble_eq_true rfl) dJ26_init_11 h
def w_J12_copyOf_2 (d10 : Nat) (y : Nat) (cap : Nat) (f : Nat → Option Nat) (L : List (Nat × Nat × Int32 × Int32 × Int32)) (x1 : Int32) (Q : (Nat × Nat × (Nat → Option Nat)) → Prop) : Prop :=
  ¬ x1 < 0 ∧ x1.toNatClampNeg ≤ 64 ∧ ∀ q3 : Nat, (∀ i : Nat, i < ((if x1 < (Int32.ofNat cap) then x1 else (Int32.ofNat cap))).toNatClampNeg → ∀ y : Nat, f (((0 : Int32)).toNatClampNeg + i) = some y → ∃ z ∈ L, itOk d10 z ∧ z.1 = y) ∧ ¬ (0 : Int32) < 0 ∧ ¬ (0 : Int32) < 0 ∧ ¬ (if x1 < (Int32.ofNat cap) then x1 else (Int32.ofNat cap)) < 0 ∧ ((0 : Int32)).toNatClampNeg + ((if x1 < (Int32.ofNat cap) then x1 else (Int32.ofNat cap))).toNatClampNeg ≤ cap ∧ ((0 : Int32)).toNatClampNeg + ((if x1 < (Int32.ofNat cap) then x1 else (Int32.ofNat cap))).toNatClampNeg ≤ (x1.toNatClampNeg) ∧ Q ((q3, (x1.toNatClampNeg), (va_cpy f ((fun _ => none)) ((0 : Int32)).toNatClampNeg ((0 : Int32)).toNatClampNeg ((if x1 < (Int32.ofNat cap) then x1 else (Int32.ofNat cap))).toNatClampNeg)))
theorem ds_J12_copyOf_2 : yJ12_copyOf_2.cls = yJ12_copyOf_2.cls ∧ yJ12_copyOf_2.cls ≠ "java/lang/invoke/MethodHandle" ∧ yJ12_copyOf_2.cls ≠ "java/lang/invoke/VarHandle" ∧ (parseMethodDescriptor yJ12_copyOf_2.desc).map (fun d => d.parameters.length) = some 3 := by decide +kernel
set_option maxHeartbeats 4000000 in
theorem c_J12_copyOf_2 (l : Launch) (D : va_G) (y : Nat) (cap : Nat) (f : Nat → Option Nat) (L : List (Nat × Nat × Int32 × Int32 × Int32)) (x1 : Int32) (Q : (Nat × Nat × (Nat → Option Nat)) → Prop) (h : w_J12_copyOf_2 (D.2 1005 10) y cap f L x1 Q) : Ctr l D yJ12_copyOf_2 cJ12_copyOf_2 4 (.array (.object "java/lang/Object")) (rmk 1 1 64 64) [.ref y, .int x1, .ref (D.2 1007 0)] ([(y, .inl (dO_ D, cap, .inr <| .inr <| .inr <| .inr <| f))] ++ (itsW D L ++ [])) (fun u : Nat × Nat × (Nat → Option Nat) => ([(y, .inl (dO_ D, cap, .inr <| .inr <| .inr <| .inr <| f))] ++ (itsW D L ++ ([(u.1, .inl (dO_ D, u.2.1, .inr <| .inr <| .inr <| .inr <| u.2.2))] ++ [])))) (fun u : Nat × Nat × (Nat → Option Nat) => u.1) Q 1 64 := by
  refine Ctr.of (by decide) (Nat.le_of_ble_eq_true rfl) (fun x hF hR => ?_)
  replace hF : vF x l D "java/util/Arrays" cJ12_copyOf_2 (rmk 1 1 64 64) 4 (some (.array (.object "java/lang/Object"))) := hF
  unfold w_J12_copyOf_2 at h
  refine v_aload_n 0 hF dJ12_copyOf_2_0 rfl 2 rfl ?_
  refine v_ldcM 1 hF q680 dJ12_copyOf_2_1 ?_
  refine v_acmpS_ne 3 13 hF dJ12_copyOf_2_3 (by decide) ?_
  refine v_iload_n 6 hF dJ12_copyOf_2_6 rfl 1 rfl ?_
  obtain ⟨o1, o2, h⟩ := h
  refine v_anewM 64 7 hF q681 q278 o1 o2 (Nat.le_of_ble_eq_true rfl) ⟨(Nat.le_of_ble_eq_true rfl), (Nat.le_of_ble_eq_true rfl)⟩ dJ12_copyOf_2_7 (fun q3 => ?_)
  replace h := h q3
  refine v_eqw (ws1 := ([(y, .inl (dO_ D, cap, .inr <| .inr <| .inr <| .inr <| f))] ++ (itsW D L ++ ([(q3, .inl (dO_ D, (x1.toNatClampNeg), .inr <| .inr <| .inr <| .inr <| (fun _ => none)))] ++ [])))) (by simp only [List.append_assoc, List.nil_append, List.append_nil]) ?_
  refine v_perm (ws' := ([(y, .inl (dO_ D, cap, .inr <| .inr <| .inr <| .inr <| f))] ++ ([(q3, .inl (dO_ D, (x1.toNatClampNeg), .inr <| .inr <| .inr <| .inr <| (fun _ => none)))] ++ (itsW D L ++ [])))) ((((((List.Perm.refl _)).append_left _).trans (pm_sw _ _ _))).append_left _) ?_
  refine v_goto 10 24 hF dJ12_copyOf_2_10 (by decide) ?_
  refine v_astore_n [(0, .ref y), (1, .int x1), (2, .ref (D.2 1007 0)), (3, .ref q3)] [1, 2, 3, 0] 24 hF dJ12_copyOf_2_24 rfl (Nat.le_of_ble_eq_true rfl) rfl ?_
  refine v_aload_n 25 hF dJ12_copyOf_2_25 rfl 0 rfl ?_
  refine v_iconst (v := 0) 26 hF dJ12_copyOf_2_26 (by decide) ?_
  refine v_aload_n 27 hF dJ12_copyOf_2_27 rfl 3 rfl ?_
  refine v_iconst (v := 0) 28 hF dJ12_copyOf_2_28 (by decide) ?_
  refine v_aload_n 29 hF dJ12_copyOf_2_29 rfl 0 rfl ?_
  refine v_alen (v := Int32.ofNat cap) 30 hF 0 5 rfl rfl rfl dJ12_copyOf_2_30 ?_
  refine v_iload_n 31 hF dJ12_copyOf_2_31 rfl 1 rfl ?_
  refine v_mmin 32 hF q682 q429 q92 q430 (Nat.le_of_ble_eq_true rfl) (Nat.le_of_ble_eq_true rfl) ⟨(Nat.le_of_ble_eq_true rfl), (Nat.le_of_ble_eq_true rfl)⟩ dJ12_copyOf_2_32 ?_
  obtain ⟨o4, o5, o6, o7, o8, o9, h⟩ := h
  refine v_copyO ([(y, .inl (dO_ D, cap, .inr <| .inr <| .inr <| .inr <| f))] ++ ([(q3, .inl (dO_ D, (x1.toNatClampNeg), .inr <| .inr <| .inr <| .inr <| (va_cpy f ((fun _ => none)) ((0 : Int32)).toNatClampNeg ((0 : Int32)).toNatClampNeg ((if x1 < (Int32.ofNat cap) then x1 else (Int32.ofNat cap))).toNatClampNeg)))] ++ (itsW D L ++ []))) 35 hF q683 0 1 rfl rfl (fun i hi y hy => by obtain ⟨z, hz1, hz2, rfl⟩ := o4 i hi y hy; exact vROw.appr (vROw.appr (vROw.app (its_RO hz1 hz2)))) o5 o6 o7 o8 o9 (Nat.le_of_ble_eq_true rfl) (Nat.le_of_ble_eq_true rfl) rfl dJ12_copyOf_2_35 ?_
  refine v_aload_n 38 hF dJ12_copyOf_2_38 rfl 3 rfl ?_
  refine v_perm (ws' := ([(y, .inl (dO_ D, cap, .inr <| .inr <| .inr <| .inr <| f))] ++ (itsW D L ++ ([(q3, .inl (dO_ D, (x1.toNatClampNeg), .inr <| .inr <| .inr <| .inr <| (va_cpy f ((fun _ => none)) ((0 : Int32)).toNatClampNeg ((0 : Int32)).toNatClampNeg ((if x1 < (Int32.ofNat cap) then x1 else (Int32.ofNat cap))).toNatClampNeg)))] ++ [])))) ((((((List.Perm.refl _)).append_left _).trans (pm_sw _ _ _))).append_left _) ?_
  exact v_aret (u := (q3, (x1.toNatClampNeg), (va_cpy f ((fun _ => none)) ((0 : Int32)).toNatClampNeg ((0 : Int32)).toNatClampNeg ((if x1 < (Int32.ofNat cap) then x1 else (Int32.ofNat cap))).toNatClampNeg))) 39 hF (Or.inr ⟨_, rfl⟩) hR (Nat.le_of_ble_eq_true rfl) (Nat.le_of_ble_eq_true rfl) dJ12_copyOf_2_39 rfl h
def w_J12_copyOf (d10 : Nat) (y : Nat) (cap : Nat) (f : Nat → Option Nat) (L : List (Nat × Nat × Int32 × Int32 × Int32)) (x1 : Int32) (Q : (Nat × Nat × (Nat → Option Nat)) → Prop) : Prop :=
  w_J12_copyOf_2 d10 y cap f L x1 (fun u1 => Q ((u1.1, (u1.2.1), (u1.2.2))))
theorem ds_J12_copyOf : yJ12_copyOf.cls = yJ12_copyOf.cls ∧ yJ12_copyOf.cls ≠ "java/lang/invoke/MethodHandle" ∧ yJ12_copyOf.cls ≠ "java/lang/invoke/VarHandle" ∧ (parseMethodDescriptor yJ12_copyOf.desc).map (fun d => d.parameters.length) = some 2 := by decide +kernel
set_option maxHeartbeats 4000000 in
theorem c_J12_copyOf (l : Launch) (D : va_G) (y : Nat) (cap : Nat) (f : Nat → Option Nat) (L : List (Nat × Nat × Int32 × Int32 × Int32)) (x1 : Int32) (Q : (Nat × Nat × (Nat → Option Nat)) → Prop) (h : w_J12_copyOf (D.2 1005 10) y cap f L x1 Q) : Ctr l D yJ12_copyOf cJ12_copyOf 2 (.array (.object "java/lang/Object")) (rmk 2 1 64 87) [.ref y, .int x1] ([(y, .inl (dO_ D, cap, .inr <| .inr <| .inr <| .inr <| f))] ++ (itsW D L ++ [])) (fun u : Nat × Nat × (Nat → Option Nat) => ([(y, .inl (dO_ D, cap, .inr <| .inr <| .inr <| .inr <| f))] ++ (itsW D L ++ ([(u.1, .inl (dO_ D, u.2.1, .inr <| .inr <| .inr <| .inr <| u.2.2))] ++ [])))) (fun u : Nat × Nat × (Nat → Option Nat) => u.1) Q 1 64 := by
  refine Ctr.of (by decide) (Nat.le_of_ble_eq_true rfl) (fun x hF hR => ?_)
  replace hF : vF x l D "java/util/Arrays" cJ12_copyOf (rmk 2 1 64 87) 2 (some (.array (.object "java/lang/Object"))) := hF
  unfold w_J12_copyOf at h
  refine v_aload_n 0 hF dJ12_copyOf_0 rfl 0 rfl ?_
  refine v_iload_n 1 hF dJ12_copyOf_1 rfl 1 rfl ?_
  refine v_aload_n 2 hF dJ12_copyOf_2 rfl 0 rfl ?_
  refine v_getC 3 hF 0 rfl q645 q2361 q2360 q646 q676 (Nat.le_of_ble_eq_true rfl) (Nat.le_of_ble_eq_true rfl) dJ12_copyOf_3 ?_
  refine v_callSr (As := [.ref y, .int x1, .ref (D.2 1007 0)]) (wr := ([])) 6 hF (c_J12_copyOf_2 l D y cap f L x1 _ h) (((List.Perm.refl _)).trans (List.Perm.of_eq (by simp only [List.append_assoc, List.nil_append, List.append_nil]))) q677 q678 q91 q679 ds_J12_copyOf_2 ⟨rfl, rfl, (Nat.le_of_ble_eq_true rfl), (Nat.le_of_ble_eq_true rfl)⟩ (Nat.le_of_ble_eq_true rfl) ⟨(Nat.le_of_ble_eq_true rfl), (Nat.le_of_ble_eq_true rfl)⟩ dJ12_copyOf_6 (fun u1 h => ?_)
  refine v_eqw (ws1 := ([(y, .inl (dO_ D, cap, .inr <| .inr <| .inr <| .inr <| f))] ++ (itsW D L ++ ([(u1.1, .inl (dO_ D, (u1.2.1), .inr <| .inr <| .inr <| .inr <| (u1.2.2)))] ++ [])))) (by simp only [List.append_assoc, List.nil_append, List.append_nil]) ?_
  refine v_perm (ws' := ([(y, .inl (dO_ D, cap, .inr <| .inr <| .inr <| .inr <| f))] ++ ([(u1.1, .inl (dO_ D, (u1.2.1), .inr <| .inr <| .inr <| .inr <| (u1.2.2)))] ++ (itsW D L ++ [])))) ((((((List.Perm.refl _)).append_left _).trans (pm_sw _ _ _))).append_left _) ?_
  refine v_perm (ws' := ([(y, .inl (dO_ D, cap, .inr <| .inr <| .inr <| .inr <| f))] ++ (itsW D L ++ ([(u1.1, .inl (dO_ D, (u1.2.1), .inr <| .inr <| .inr <| .inr <| (u1.2.2)))] ++ [])))) ((((((List.Perm.refl _)).append_left _).trans (pm_sw _ _ _))).append_left _) ?_
  exact v_aret (u := (u1.1, (u1.2.1), (u1.2.2))) 9 hF (Or.inr ⟨_, rfl⟩) hR (Nat.le_of_ble_eq_true rfl) (Nat.le_of_ble_eq_true rfl) dJ12_copyOf_9 rfl h
def w_J26_grow_20 (e : Nat) (mo : Int32) (sz : Int32) (x1 : Int32) (Q : (Nat × Nat) → Prop) : Prop :=
  ((0 < (0 : Int32) → False) ∧ (¬ 0 < (0 : Int32) → ¬ (if (10 : Int32) < x1 then x1 else (10 : Int32)) < 0 ∧ ((if (10 : Int32) < x1 then x1 else (10 : Int32))).toNatClampNeg ≤ 64 ∧ ∀ q4 : Nat, Q ((q4, (((if (10 : Int32) < x1 then x1 else (10 : Int32))).toNatClampNeg)))))
theorem ds_J26_grow_2 : yJ26_grow_2.cls = yJ26_grow_2.cls ∧ yJ26_grow_2.cls ≠ "java/lang/invoke/MethodHandle" ∧ yJ26_grow_2.cls ≠ "java/lang/invoke/VarHandle" ∧ (parseMethodDescriptor yJ26_grow_2.desc).map (fun d => d.parameters.length) = some 1 := by decide +kernel
set_option maxHeartbeats 4000000 in
theorem c_J26_grow_20 (l : Launch) (D : va_G) (e : Nat) (mo : Int32) (sz : Int32) (x1 : Int32) (Q : (Nat × Nat) → Prop) (h : w_J26_grow_20 e mo sz x1 Q) : Ctr l D yJ26_grow_2 cJ26_grow_2 4 (.array (.object "java/lang/Object")) (rmk 1 1 64 64) [.ref e, .int x1] ([(e, .inr (16, [.int mo, .ref (D.2 1002 0), .int sz]))] ++ []) (fun u : Nat × Nat => ([(e, .inr (16, [.int mo, .ref (u.1), .int sz]))] ++ ([(u.1, .inl (dO_ D, u.2, .inr <| .inr <| .inr <| .inr <| (fun _ => none)))] ++ []))) (fun u : Nat × Nat => u.1) Q 1 64 := by
  refine Ctr.of (by decide) (Nat.le_of_ble_eq_true rfl) (fun x hF hR => ?_)
  replace hF : vF x l D "java/util/ArrayList" cJ26_grow_2 (rmk 1 1 64 64) 4 (some (.array (.object "java/lang/Object"))) := hF
  unfold w_J26_grow_20 at h
  refine v_aload_n 0 hF dJ26_grow_2_0 rfl 0 rfl ?_
  refine v_get 1 hF in_J26 0 rfl rfl 1 (Nat.le_of_ble_eq_true rfl) q1530 rfl rfl dJ26_grow_2_1 ?_
  refine v_tlen0 4 hF dJ26_grow_2_4 ?_
  refine v_istore_n [(0, .ref e), (1, .int x1), (2, .int ((0 : Int32)))] [1, 2, 0] 5 hF dJ26_grow_2_5 rfl (Nat.le_of_ble_eq_true rfl) rfl ?_
  refine v_iload_n 6 hF dJ26_grow_2_6 rfl 2 rfl ?_
  refine v_if_gt 7 20 hF dJ26_grow_2_7 (by decide) (fun c1 => ?_) (fun c1 => ?_)
  · replace h := h.1 c1
    exact h.elim
  · replace h := h.2 c1
    refine v_aload_n 10 hF dJ26_grow_2_10 rfl 0 rfl ?_
    refine v_get 11 hF in_J26 0 rfl rfl 1 (Nat.le_of_ble_eq_true rfl) q1530 rfl rfl dJ26_grow_2_11 ?_
    refine v_gets (v := .ref (D.2 1002 0)) 14 hF (fun A U H hz => hz.2.2.2.1.1) q1528 dJ26_grow_2_14 ?_
    refine v_acmpS_eq 17 45 hF dJ26_grow_2_17 (by decide) ?_
    refine v_aload_n 45 hF dJ26_grow_2_45 rfl 0 rfl ?_
    refine v_bipush (v := 10) 46 hF dJ26_grow_2_46 (by decide) ?_
    refine v_iload_n 48 hF dJ26_grow_2_48 rfl 1 rfl ?_
    refine v_mmax 49 hF q1657 q432 q92 q433 (Nat.le_of_ble_eq_true rfl) (Nat.le_of_ble_eq_true rfl) ⟨(Nat.le_of_ble_eq_true rfl), (Nat.le_of_ble_eq_true rfl)⟩ dJ26_grow_2_49 ?_
    obtain ⟨o2, o3, h⟩ := h
    refine v_anewM 64 52 hF q1658 q278 o2 o3 (Nat.le_of_ble_eq_true rfl) ⟨(Nat.le_of_ble_eq_true rfl), (Nat.le_of_ble_eq_true rfl)⟩ dJ26_grow_2_52 (fun q4 => ?_)
    replace h := h q4
    refine v_eqw (ws1 := ([(e, .inr (16, [.int mo, .ref (D.2 1002 0), .int sz]))] ++ ([(q4, .inl (dO_ D, (((if (10 : Int32) < x1 then x1 else (10 : Int32))).toNatClampNeg), .inr <| .inr <| .inr <| .inr <| (fun _ => none)))] ++ []))) (by simp only [List.append_assoc, List.nil_append, List.append_nil]) ?_
    refine v_dup_x1 55 hF dJ26_grow_2_55 rfl rfl ?_
    refine v_put ([(e, .inr (16, [.int mo, .ref q4, .int sz]))] ++ ([(q4, .inl (dO_ D, (((if (10 : Int32) < x1 then x1 else (10 : Int32))).toNatClampNeg), .inr <| .inr <| .inr <| .inr <| (fun _ => none)))] ++ [])) 56 hF in_J26 tyJ26_ok nmJ26 0 rfl rfl 1 (Nat.le_of_ble_eq_true rfl) q1530 rfl rfl rfl rfl rfl (Nat.le_of_ble_eq_true rfl) rfl dJ26_grow_2_56 ?_
    exact v_aret (u := (q4, (((if (10 : Int32) < x1 then x1 else (10 : Int32))).toNatClampNeg))) 59 hF (Or.inr ⟨_, rfl⟩) hR (Nat.le_of_ble_eq_true rfl) (Nat.le_of_ble_eq_true rfl) dJ26_grow_2_59 rfl h
def w_J26_grow0 (e : Nat) (mo : Int32) (sz : Int32) (Q : (Nat × Nat) → Prop) : Prop :=
  w_J26_grow_20 e mo sz ((sz + (1 : Int32))) (fun u1 => Q ((u1.1, (u1.2))))
theorem ds_J26_grow : yJ26_grow.cls = yJ26_grow.cls ∧ yJ26_grow.cls ≠ "java/lang/invoke/MethodHandle" ∧ yJ26_grow.cls ≠ "java/lang/invoke/VarHandle" ∧ (parseMethodDescriptor yJ26_grow.desc).map (fun d => d.parameters.length) = some 0 := by decide +kernel
set_option maxHeartbeats 4000000 in
theorem c_J26_grow0 (l : Launch) (D : va_G) (e : Nat) (mo : Int32) (sz : Int32) (Q : (Nat × Nat) → Prop) (h : w_J26_grow0 e mo sz Q) : Ctr l D yJ26_grow cJ26_grow 1 (.array (.object "java/lang/Object")) (rmk 2 1 64 87) [.ref e] ([(e, .inr (16, [.int mo, .ref (D.2 1002 0), .int sz]))] ++ []) (fun u : Nat × Nat => ([(e, .inr (16, [.int mo, .ref (u.1), .int sz]))] ++ ([(u.1, .inl (dO_ D, u.2, .inr <| .inr <| .inr <| .inr <| (fun _ => none)))] ++ []))) (fun u : Nat × Nat => u.1) Q 1 64 := by
  refine Ctr.of (by decide) (Nat.le_of_ble_eq_true rfl) (fun x hF hR => ?_)
  replace hF : vF x l D "java/util/ArrayList" cJ26_grow (rmk 2 1 64 87) 1 (some (.array (.object "java/lang/Object"))) := hF
  unfold w_J26_grow0 at h
  refine v_aload_n 0 hF dJ26_grow_0 rfl 0 rfl ?_
  refine v_aload_n 1 hF dJ26_grow_1 rfl 0 rfl ?_
  refine v_get 2 hF in_J26 0 rfl rfl 2 (Nat.le_of_ble_eq_true rfl) q1533 rfl rfl dJ26_grow_2 ?_
  refine v_iconst (v := 1) 5 hF dJ26_grow_5 (by decide) ?_
  refine v_iadd 6 hF dJ26_grow_6 ?_
  refine v_callVr (As := [.int ((sz + (1 : Int32)))]) (b := e) (wr := ([])) 7 hF (c_J26_grow_20 l D e mo sz ((sz + (1 : Int32))) _ h) (((List.Perm.refl _)).trans (List.Perm.of_eq (by simp only [List.append_assoc, List.nil_append, List.append_nil]))) ⟨0, 16, _, TJ26, 3, rfl, rfl⟩ q1651 q1653 qs29 q111 q1654 ds_J26_grow_2 ⟨rfl, rfl, (Nat.le_of_ble_eq_true rfl), (Nat.le_of_ble_eq_true rfl)⟩ (Nat.le_of_ble_eq_true rfl) ⟨(Nat.le_of_ble_eq_true rfl), (Nat.le_of_ble_eq_true rfl)⟩ dJ26_grow_7 (fun u1 h => ?_)
  refine v_eqw (ws1 := ([(e, .inr (16, [.int mo, .ref (u1.1), .int sz]))] ++ ([(u1.1, .inl (dO_ D, (u1.2), .inr <| .inr <| .inr <| .inr <| ((fun _ => none))))] ++ []))) (by simp only [List.append_assoc, List.nil_append, List.append_nil]) ?_
  exact v_aret (u := (u1.1, (u1.2))) 10 hF (Or.inr ⟨_, rfl⟩) hR (Nat.le_of_ble_eq_true rfl) (Nat.le_of_ble_eq_true rfl) dJ26_grow_10 rfl h
def w_J26_grow_2 (d10 : Nat) (e : Nat) (mo : Int32) (sz : Int32) (y : Nat) (cap : Nat) (f : Nat → Option Nat) (L : List (Nat × Nat × Int32 × Int32 × Int32)) (x1 : Int32) (Q : (Nat × Nat × (Nat → Option Nat)) → Prop) : Prop :=
  ∀ y1 : Int32, y1 = (Int32.ofNat cap) → ((0 < y1 → w_J22_newLength y1 ((x1 - y1)) ((y1 >>> ((1 : Int32) &&& 31))) (fun r3 u4 => w_J12_copyOf d10 y cap f L r3 (fun u5 => Q ((u5.1, (u5.2.1), (u5.2.2)))))) ∧ (¬ 0 < y1 → False))
set_option maxHeartbeats 4000000 in
theorem c_J26_grow_2 (l : Launch) (D : va_G) (e : Nat) (mo : Int32) (sz : Int32) (y : Nat) (cap : Nat) (f : Nat → Option Nat) (L : List (Nat × Nat × Int32 × Int32 × Int32)) (x1 : Int32) (Q : (Nat × Nat × (Nat → Option Nat)) → Prop) (h : w_J26_grow_2 (D.2 1005 10) e mo sz y cap f L x1 Q) : Ctr l D yJ26_grow_2 cJ26_grow_2 4 (.array (.object "java/lang/Object")) (rmk 3 1 64 108) [.ref e, .int x1] ([(e, .inr (16, [.int mo, .ref y, .int sz]))] ++ ([(y, .inl (dO_ D, cap, .inr <| .inr <| .inr <| .inr <| f))] ++ (itsW D L ++ []))) (fun u : Nat × Nat × (Nat → Option Nat) => ([(e, .inr (16, [.int mo, .ref (u.1), .int sz]))] ++ (itsW D L ++ ([(u.1, .inl (dO_ D, u.2.1, .inr <| .inr <| .inr <| .inr <| u.2.2))] ++ [])))) (fun u : Nat × Nat × (Nat → Option Nat) => u.1) Q 1 64 := by
  refine Ctr.of (by decide) (Nat.le_of_ble_eq_true rfl) (fun x hF hR => ?_)
  replace hF : vF x l D "java/util/ArrayList" cJ26_grow_2 (rmk 3 1 64 108) 4 (some (.array (.object "java/lang/Object"))) := hF
  unfold w_J26_grow_2 at h
  refine v_aload_n 0 hF dJ26_grow_2_0 rfl 0 rfl ?_
  refine v_get 1 hF in_J26 0 rfl rfl 1 (Nat.le_of_ble_eq_true rfl) q1530 rfl rfl dJ26_grow_2_1 ?_
  refine v_alen (v := Int32.ofNat cap) 4 hF 1 5 rfl rfl rfl dJ26_grow_2_4 ?_
  refine v_nm (fun y1 ey1 => ?_)
  replace h := h y1 ey1
  refine v_istore_n [(0, .ref e), (1, .int x1), (2, .int y1)] [1, 2, 0] 5 hF dJ26_grow_2_5 rfl (Nat.le_of_ble_eq_true rfl) rfl ?_
  refine v_iload_n 6 hF dJ26_grow_2_6 rfl 2 rfl ?_
  refine v_if_gt 7 20 hF dJ26_grow_2_7 (by decide) (fun c2 => ?_) (fun c2 => ?_)
  · replace h := h.1 c2
    refine v_iload_n 20 hF dJ26_grow_2_20 rfl 2 rfl ?_
    refine v_iload_n 21 hF dJ26_grow_2_21 rfl 1 rfl ?_
    refine v_iload_n 22 hF dJ26_grow_2_22 rfl 2 rfl ?_
    refine v_isub 23 hF dJ26_grow_2_23 ?_
    refine v_iload_n 24 hF dJ26_grow_2_24 rfl 2 rfl ?_
    refine v_iconst (v := 1) 25 hF dJ26_grow_2_25 (by decide) ?_
    refine v_ishr 26 hF dJ26_grow_2_26 ?_
    refine v_callSi (As := [.int y1, .int ((x1 - y1)), .int ((y1 >>> ((1 : Int32) &&& 31)))]) (wr := ([(e, .inr (16, [.int mo, .ref y, .int sz]))] ++ ([(y, .inl (dO_ D, cap, .inr <| .inr <| .inr <| .inr <| f))] ++ (itsW D L ++ [])))) 27 hF (c_J22_newLength l D y1 ((x1 - y1)) ((y1 >>> ((1 : Int32) &&& 31))) _ h) (((List.Perm.refl _)).trans (List.Perm.of_eq (by simp only [List.append_assoc, List.nil_append, List.append_nil]))) q1655 q1419 q106 q1420 ds_J22_newLength ⟨rfl, rfl, (Nat.le_of_ble_eq_true rfl), (Nat.le_of_ble_eq_true rfl)⟩ (Nat.le_of_ble_eq_true rfl) ⟨(Nat.le_of_ble_eq_true rfl), (Nat.le_of_ble_eq_true rfl)⟩ dJ26_grow_2_27 (fun r3 u4 h => ?_)
    refine v_eqw (ws1 := ([(e, .inr (16, [.int mo, .ref y, .int sz]))] ++ ([(y, .inl (dO_ D, cap, .inr <| .inr <| .inr <| .inr <| f))] ++ (itsW D L ++ [])))) (by simp only [List.append_assoc, List.nil_append, List.append_nil]) ?_
    refine v_istore_n [(0, .ref e), (1, .int x1), (2, .int y1), (3, .int r3)] [1, 2, 3, 0] 30 hF dJ26_grow_2_30 rfl (Nat.le_of_ble_eq_true rfl) rfl ?_
    refine v_aload_n 31 hF dJ26_grow_2_31 rfl 0 rfl ?_
    refine v_aload_n 32 hF dJ26_grow_2_32 rfl 0 rfl ?_
    refine v_get 33 hF in_J26 0 rfl rfl 1 (Nat.le_of_ble_eq_true rfl) q1530 rfl rfl dJ26_grow_2_33 ?_
    refine v_iload_n 36 hF dJ26_grow_2_36 rfl 3 rfl ?_
    refine v_callSr (As := [.ref y, .int r3]) (wr := ([(e, .inr (16, [.int mo, .ref y, .int sz]))] ++ [])) 37 hF (c_J12_copyOf l D y cap f L r3 _ h) (((((((List.Perm.refl _)).append_left _).trans (pm_sw _ _ _)).trans ((((((List.Perm.refl _)).append_left _).trans (pm_sw _ _ _))).append_left _))).trans (List.Perm.of_eq (by simp only [List.append_assoc, List.nil_append, List.append_nil]))) q1656 q643 q91 q644 ds_J12_copyOf ⟨rfl, rfl, (Nat.le_of_ble_eq_true rfl), (Nat.le_of_ble_eq_true rfl)⟩ (Nat.le_of_ble_eq_true rfl) ⟨(Nat.le_of_ble_eq_true rfl), (Nat.le_of_ble_eq_true rfl)⟩ dJ26_grow_2_37 (fun u5 h => ?_)
    refine v_eqw (ws1 := ([(y, .inl (dO_ D, cap, .inr <| .inr <| .inr <| .inr <| f))] ++ (itsW D L ++ ([(u5.1, .inl (dO_ D, (u5.2.1), .inr <| .inr <| .inr <| .inr <| (u5.2.2)))] ++ ([(e, .inr (16, [.int mo, .ref y, .int sz]))] ++ []))))) (by simp only [List.append_assoc, List.nil_append, List.append_nil]) ?_
    refine v_perm (ws' := ([(e, .inr (16, [.int mo, .ref y, .int sz]))] ++ ([(y, .inl (dO_ D, cap, .inr <| .inr <| .inr <| .inr <| f))] ++ ([(u5.1, .inl (dO_ D, (u5.2.1), .inr <| .inr <| .inr <| .inr <| (u5.2.2)))] ++ (itsW D L ++ []))))) (((((((((((List.Perm.refl _)).append_left _).trans (pm_sw _ _ _))).append_left _).trans (pm_sw _ _ _))).append_left _).trans (pm_sw _ _ _)).trans ((((((((List.Perm.refl _)).append_left _).trans (pm_sw _ _ _))).append_left _)).append_left _)) ?_
    refine v_dup_x1 40 hF dJ26_grow_2_40 rfl rfl ?_
    refine v_put ([(e, .inr (16, [.int mo, .ref (u5.1), .int sz]))] ++ ([(y, .inl (dO_ D, cap, .inr <| .inr <| .inr <| .inr <| f))] ++ ([(u5.1, .inl (dO_ D, (u5.2.1), .inr <| .inr <| .inr <| .inr <| (u5.2.2)))] ++ (itsW D L ++ [])))) 41 hF in_J26 tyJ26_ok nmJ26 0 rfl rfl 1 (Nat.le_of_ble_eq_true rfl) q1530 rfl rfl rfl rfl rfl (Nat.le_of_ble_eq_true rfl) rfl dJ26_grow_2_41 ?_
    refine v_perm (ws' := ([(e, .inr (16, [.int mo, .ref (u5.1), .int sz]))] ++ (itsW D L ++ ([(u5.1, .inl (dO_ D, (u5.2.1), .inr <| .inr <| .inr <| .inr <| (u5.2.2)))] ++ ([(y, .inl (dO_ D, cap, .inr <| .inr <| .inr <| .inr <| f))] ++ []))))) ((((((((((List.Perm.refl _)).append_left _).trans (pm_sw _ _ _))).append_left _).trans (pm_sw _ _ _)).trans ((((((List.Perm.refl _)).append_left _).trans (pm_sw _ _ _))).append_left _))).append_left _) ?_
    refine v_dropS (ws' := ([(e, .inr (16, [.int mo, .ref (u5.1), .int sz]))] ++ (itsW D L ++ ([(u5.1, .inl (dO_ D, (u5.2.1), .inr <| .inr <| .inr <| .inr <| (u5.2.2)))] ++ [])))) (List.Sublist.append (List.Sublist.refl _) (List.Sublist.append (List.Sublist.refl _) (List.Sublist.append (List.Sublist.refl _) (List.nil_sublist _)))) ?_
    exact v_aret (u := (u5.1, (u5.2.1), (u5.2.2))) 44 hF (Or.inr ⟨_, rfl⟩) hR (Nat.le_of_ble_eq_true rfl) (Nat.le_of_ble_eq_true rfl) dJ26_grow_2_44 rfl h
  · replace h := h.2 c2
    exact h.elim
def w_J26_grow (d10 : Nat) (e : Nat) (mo : Int32) (sz : Int32) (y : Nat) (cap : Nat) (f : Nat → Option Nat) (L : List (Nat × Nat × Int32 × Int32 × Int32)) (Q : (Nat × Nat × (Nat → Option Nat)) → Prop) : Prop :=
  w_J26_grow_2 d10 e mo sz y cap f L ((sz + (1 : Int32))) (fun u1 => Q ((u1.1, (u1.2.1), (u1.2.2))))
set_option maxHeartbeats 4000000 in
theorem c_J26_grow (l : Launch) (D : va_G) (e : Nat) (mo : Int32) (sz : Int32) (y : Nat) (cap : Nat) (f : Nat → Option Nat) (L : List (Nat × Nat × Int32 × Int32 × Int32)) (Q : (Nat × Nat × (Nat → Option Nat)) → Prop) (h : w_J26_grow (D.2 1005 10) e mo sz y cap f L Q) : Ctr l D yJ26_grow cJ26_grow 1 (.array (.object "java/lang/Object")) (rmk 4 1 64 131) [.ref e] ([(e, .inr (16, [.int mo, .ref y, .int sz]))] ++ ([(y, .inl (dO_ D, cap, .inr <| .inr <| .inr <| .inr <| f))] ++ (itsW D L ++ []))) (fun u : Nat × Nat × (Nat → Option Nat) => ([(e, .inr (16, [.int mo, .ref (u.1), .int sz]))] ++ (itsW D L ++ ([(u.1, .inl (dO_ D, u.2.1, .inr <| .inr <| .inr <| .inr <| u.2.2))] ++ [])))) (fun u : Nat × Nat × (Nat → Option Nat) => u.1) Q 1 64 := by
  refine Ctr.of (by decide) (Nat.le_of_ble_eq_true rfl) (fun x hF hR => ?_)
  replace hF : vF x l D "java/util/ArrayList" cJ26_grow (rmk 4 1 64 131) 1 (some (.array (.object "java/lang/Object"))) := hF
  unfold w_J26_grow at h
  refine v_aload_n 0 hF dJ26_grow_0 rfl 0 rfl ?_
  refine v_aload_n 1 hF dJ26_grow_1 rfl 0 rfl ?_
  refine v_get 2 hF in_J26 0 rfl rfl 2 (Nat.le_of_ble_eq_true rfl) q1533 rfl rfl dJ26_grow_2 ?_
  refine v_iconst (v := 1) 5 hF dJ26_grow_5 (by decide) ?_
  refine v_iadd 6 hF dJ26_grow_6 ?_
  refine v_callVr (As := [.int ((sz + (1 : Int32)))]) (b := e) (wr := ([])) 7 hF (c_J26_grow_2 l D e mo sz y cap f L ((sz + (1 : Int32))) _ h) (((List.Perm.refl _)).trans (List.Perm.of_eq (by simp only [List.append_assoc, List.nil_append, List.append_nil]))) ⟨0, 16, _, TJ26, 3, rfl, rfl⟩ q1651 q1653 qs29 q111 q1654 ds_J26_grow_2 ⟨rfl, rfl, (Nat.le_of_ble_eq_true rfl), (Nat.le_of_ble_eq_true rfl)⟩ (Nat.le_of_ble_eq_true rfl) ⟨(Nat.le_of_ble_eq_true rfl), (Nat.le_of_ble_eq_true rfl)⟩ dJ26_grow_7 (fun u1 h => ?_)
  refine v_eqw (ws1 := ([(e, .inr (16, [.int mo, .ref (u1.1), .int sz]))] ++ (itsW D L ++ ([(u1.1, .inl (dO_ D, (u1.2.1), .inr <| .inr <| .inr <| .inr <| (u1.2.2)))] ++ [])))) (by simp only [List.append_assoc, List.nil_append, List.append_nil]) ?_
  refine v_perm (ws' := ([(e, .inr (16, [.int mo, .ref (u1.1), .int sz]))] ++ ([(u1.1, .inl (dO_ D, (u1.2.1), .inr <| .inr <| .inr <| .inr <| (u1.2.2)))] ++ (itsW D L ++ [])))) ((((((List.Perm.refl _)).append_left _).trans (pm_sw _ _ _))).append_left _) ?_
  refine v_perm (ws' := ([(e, .inr (16, [.int mo, .ref (u1.1), .int sz]))] ++ (itsW D L ++ ([(u1.1, .inl (dO_ D, (u1.2.1), .inr <| .inr <| .inr <| .inr <| (u1.2.2)))] ++ [])))) ((((((List.Perm.refl _)).append_left _).trans (pm_sw _ _ _))).append_left _) ?_
  exact v_aret (u := (u1.1, (u1.2.1), (u1.2.2))) 10 hF (Or.inr ⟨_, rfl⟩) hR (Nat.le_of_ble_eq_true rfl) (Nat.le_of_ble_eq_true rfl) dJ26_grow_10 rfl h
def w_J26_add_20 (d10 : Nat) (e : Nat) (mo : Int32) (sz : Int32) (z : Nat × Nat × Int32 × Int32 × Int32) (x3 : Int32) (Q : (Nat × Nat × (Nat → Option Nat) × Int32 × Int32) → Prop) : Prop :=
  ((¬ x3 = (0 : Int32) → False) ∧ (x3 = (0 : Int32) → w_J26_grow0 e mo sz (fun u2 => itOk d10 z ∧ vp_in x3 (u2.2) ∧ ∀ f4 : Nat → Option Nat, f4 = va_up (((fun _ => none))) x3.toNatClampNeg (some (z.1)) → ∀ y6 : Int32, y6 = (x3 + (1 : Int32)) → Q ((u2.1, (u2.2), f4, mo, y6)))))
theorem ds_J26_add_2 : yJ26_add_2.cls = yJ26_add_2.cls ∧ yJ26_add_2.cls ≠ "java/lang/invoke/MethodHandle" ∧ yJ26_add_2.cls ≠ "java/lang/invoke/VarHandle" ∧ (parseMethodDescriptor yJ26_add_2.desc).map (fun d => d.parameters.length) = some 3 := by decide +kernel
set_option maxHeartbeats 4000000 in
theorem c_J26_add_20 (l : Launch) (D : va_G) (e : Nat) (mo : Int32) (sz : Int32) (z : Nat × Nat × Int32 × Int32 × Int32) (x3 : Int32) (Q : (Nat × Nat × (Nat → Option Nat) × Int32 × Int32) → Prop) (h : w_J26_add_20 (D.2 1005 10) e mo sz z x3 Q) : Ctv l D yJ26_add_2 cJ26_add_2 4 (rmk 3 1 64 107) [.ref e, .ref (z.1), .ref (D.2 1002 0), .int x3] ([(e, .inr (16, [.int mo, .ref (D.2 1002 0), .int sz]))] ++ (itW D z ++ [])) (fun u : Nat × Nat × (Nat → Option Nat) × Int32 × Int32 => ([(e, .inr (16, [.int (u.2.2.2.1), .ref (u.1), .int (u.2.2.2.2)]))] ++ ([(u.1, .inl (dO_ D, u.2.1, .inr <| .inr <| .inr <| .inr <| u.2.2.1))] ++ (itW D z ++ [])))) Q 1 64 := by
  refine Ctv.of (by decide) (Nat.le_of_ble_eq_true rfl) (fun x hF hR => ?_)
  replace hF : vF x l D "java/util/ArrayList" cJ26_add_2 (rmk 3 1 64 107) 4 none := hF
  unfold w_J26_add_20 at h
  refine v_iload_n 0 hF dJ26_add_2_0 rfl 3 rfl ?_
  refine v_aload_n 1 hF dJ26_add_2_1 rfl 2 rfl ?_
  refine v_tlen0 2 hF dJ26_add_2_2 ?_
  refine v_icmp_ne 3 11 hF dJ26_add_2_3 (by decide) (fun c1 => ?_) (fun c1 => ?_)
  · replace h := h.1 c1
    exact h.elim
  · replace h := h.2 c1
    refine v_aload_n 6 hF dJ26_add_2_6 rfl 0 rfl ?_
    refine v_callVr (As := []) (b := e) (wr := (itW D z ++ [])) 7 hF (c_J26_grow0 l D e mo sz _ h) (((List.Perm.refl _)).trans (List.Perm.of_eq (by simp only [List.append_assoc, List.nil_append, List.append_nil]))) ⟨0, 16, _, TJ26, 3, rfl, rfl⟩ q1647 q1649 qs28 q111 q1650 ds_J26_grow ⟨rfl, rfl, (Nat.le_of_ble_eq_true rfl), (Nat.le_of_ble_eq_true rfl)⟩ (Nat.le_of_ble_eq_true rfl) ⟨(Nat.le_of_ble_eq_true rfl), (Nat.le_of_ble_eq_true rfl)⟩ dJ26_add_2_7 (fun u2 h => ?_)
    refine v_eqw (ws1 := ([(e, .inr (16, [.int mo, .ref (u2.1), .int sz]))] ++ ([(u2.1, .inl (dO_ D, (u2.2), .inr <| .inr <| .inr <| .inr <| ((fun _ => none))))] ++ (itW D z ++ [])))) (by simp only [List.append_assoc, List.nil_append, List.append_nil]) ?_
    refine v_astore_n [(0, .ref e), (1, .ref (z.1)), (2, .ref (u2.1)), (3, .int x3)] [1, 2, 0, 3] 10 hF dJ26_add_2_10 rfl (Nat.le_of_ble_eq_true rfl) rfl ?_
    refine v_aload_n 11 hF dJ26_add_2_11 rfl 2 rfl ?_
    refine v_iload_n 12 hF dJ26_add_2_12 rfl 3 rfl ?_
    refine v_aload_n 13 hF dJ26_add_2_13 rfl 1 rfl ?_
    obtain ⟨o5, o3, h⟩ := h
    obtain ⟨f4, ef4⟩ : ∃ zz9 : Nat → Option Nat, zz9 = va_up (((fun _ => none))) x3.toNatClampNeg (some (z.1)) := ⟨_, rfl⟩
    replace h := h f4 ef4
    refine v_aastD ([(e, .inr (16, [.int mo, .ref (u2.1), .int sz]))] ++ ([(u2.1, .inl (dO_ D, (u2.2), .inr <| .inr <| .inr <| .inr <| f4))] ++ (itW D z ++ []))) 14 hF 1 rfl (vROw.appr (vROw.appr (vROw.app (it_RO o5)))) o3 (by rw [ef4]; rfl) dJ26_add_2_14 ?_
    refine v_aload_n 15 hF dJ26_add_2_15 rfl 0 rfl ?_
    refine v_iload_n 16 hF dJ26_add_2_16 rfl 3 rfl ?_
    refine v_iconst (v := 1) 17 hF dJ26_add_2_17 (by decide) ?_
    refine v_iadd 18 hF dJ26_add_2_18 ?_
    refine v_nm (fun y6 ey6 => ?_)
    replace h := h y6 ey6
    refine v_put ([(e, .inr (16, [.int mo, .ref (u2.1), .int y6]))] ++ ([(u2.1, .inl (dO_ D, (u2.2), .inr <| .inr <| .inr <| .inr <| f4))] ++ (itW D z ++ []))) 19 hF in_J26 tyJ26_ok nmJ26 0 rfl rfl 2 (Nat.le_of_ble_eq_true rfl) q1533 rfl rfl rfl rfl rfl (Nat.le_of_ble_eq_true rfl) rfl dJ26_add_2_19 ?_
    exact v_vret (u := (u2.1, (u2.2), f4, mo, y6)) 22 hF hR (Nat.le_of_ble_eq_true rfl) (Nat.le_of_ble_eq_true rfl) dJ26_add_2_22 h
def w_J26_add0 (d10 : Nat) (e : Nat) (mo : Int32) (sz : Int32) (z : Nat × Nat × Int32 × Int32 × Int32) (Q : Int32 → (Nat × Nat × (Nat → Option Nat) × Int32 × Int32) → Prop) : Prop :=
  ∀ y1 : Int32, y1 = (mo + (1 : Int32)) → w_J26_add_20 d10 e y1 sz z sz (fun u2 => Q ((1 : Int32)) ((u2.1, (u2.2.1), (u2.2.2.1), u2.2.2.2.1, u2.2.2.2.2)))
theorem ds_J26_add : yJ26_add.cls = yJ26_add.cls ∧ yJ26_add.cls ≠ "java/lang/invoke/MethodHandle" ∧ yJ26_add.cls ≠ "java/lang/invoke/VarHandle" ∧ (parseMethodDescriptor yJ26_add.desc).map (fun d => d.parameters.length) = some 1 := by decide +kernel
set_option maxHeartbeats 4000000 in
theorem c_J26_add0 (l : Launch) (D : va_G) (e : Nat) (mo : Int32) (sz : Int32) (z : Nat × Nat × Int32 × Int32 × Int32) (Q : Int32 → (Nat × Nat × (Nat → Option Nat) × Int32 × Int32) → Prop) (h : w_J26_add0 (D.2 1005 10) e mo sz z Q) : Cti l D yJ26_add cJ26_add 2 .boolean (rmk 4 1 64 130) [.ref e, .ref (z.1)] ([(e, .inr (16, [.int mo, .ref (D.2 1002 0), .int sz]))] ++ (itW D z ++ [])) (fun u : Nat × Nat × (Nat → Option Nat) × Int32 × Int32 => ([(e, .inr (16, [.int (u.2.2.2.1), .ref (u.1), .int (u.2.2.2.2)]))] ++ ([(u.1, .inl (dO_ D, u.2.1, .inr <| .inr <| .inr <| .inr <| u.2.2.1))] ++ (itW D z ++ [])))) Q 1 64 := by
  refine Cti.of (by decide) (Nat.le_of_ble_eq_true rfl) (fun x hF hR => ?_)
  replace hF : vF x l D "java/util/ArrayList" cJ26_add (rmk 4 1 64 130) 2 (some .boolean) := hF
  unfold w_J26_add0 at h
  refine v_aload_n 0 hF dJ26_add_0 rfl 0 rfl ?_
  refine v_dup 1 hF dJ26_add_1 rfl ?_
  refine v_getR 2 hF in_J26 0 rfl rfl 0 (Nat.le_of_ble_eq_true rfl) q1537 q1536 rfl dJ26_add_2 ?_
  refine v_iconst (v := 1) 5 hF dJ26_add_5 (by decide) ?_
  refine v_iadd 6 hF dJ26_add_6 ?_
  refine v_nm (fun y1 ey1 => ?_)
  replace h := h y1 ey1
  refine v_putR ([(e, .inr (16, [.int y1, .ref (D.2 1002 0), .int sz]))] ++ (itW D z ++ [])) 7 hF in_J26 tyJ26_ok nmJ26 0 rfl rfl 0 (Nat.le_of_ble_eq_true rfl) q1537 q1536 rfl rfl rfl rfl (Nat.le_of_ble_eq_true rfl) rfl dJ26_add_7 ?_
  refine v_aload_n 10 hF dJ26_add_10 rfl 0 rfl ?_
  refine v_aload_n 11 hF dJ26_add_11 rfl 1 rfl ?_
  refine v_aload_n 12 hF dJ26_add_12 rfl 0 rfl ?_
  refine v_get 13 hF in_J26 0 rfl rfl 1 (Nat.le_of_ble_eq_true rfl) q1530 rfl rfl dJ26_add_13 ?_
  refine v_aload_n 16 hF dJ26_add_16 rfl 0 rfl ?_
  refine v_get 17 hF in_J26 0 rfl rfl 2 (Nat.le_of_ble_eq_true rfl) q1533 rfl rfl dJ26_add_17 ?_
  refine v_callVv (As := [.ref (z.1), .ref (D.2 1002 0), .int sz]) (b := e) (wr := ([])) 20 hF (c_J26_add_20 l D e y1 sz z sz _ h) (((List.Perm.refl _)).trans (List.Perm.of_eq (by simp only [List.append_assoc, List.nil_append, List.append_nil]))) ⟨0, 16, _, TJ26, 3, rfl, rfl⟩ q1643 q1645 qs27 q111 q1646 ds_J26_add_2 ⟨rfl, rfl, (Nat.le_of_ble_eq_true rfl), (Nat.le_of_ble_eq_true rfl)⟩ (Nat.le_of_ble_eq_true rfl) ⟨(Nat.le_of_ble_eq_true rfl), (Nat.le_of_ble_eq_true rfl)⟩ dJ26_add_20 (fun u2 h => ?_)
  refine v_eqw (ws1 := ([(e, .inr (16, [.int (u2.2.2.2.1), .ref (u2.1), .int (u2.2.2.2.2)]))] ++ ([(u2.1, .inl (dO_ D, (u2.2.1), .inr <| .inr <| .inr <| .inr <| (u2.2.2.1)))] ++ (itW D z ++ [])))) (by simp only [List.append_assoc, List.nil_append, List.append_nil]) ?_
  refine v_iconst (v := 1) 23 hF dJ26_add_23 (by decide) ?_
  exact v_zret (u := (u2.1, (u2.2.1), (u2.2.2.1), u2.2.2.2.1, u2.2.2.2.2)) 24 hF hR (Nat.le_of_ble_eq_true rfl) (Nat.le_of_ble_eq_true rfl) rfl dJ26_add_24 h
def w_J26_add_2 (d10 : Nat) (e : Nat) (mo : Int32) (sz : Int32) (y : Nat) (cap : Nat) (f : Nat → Option Nat) (L : List (Nat × Nat × Int32 × Int32 × Int32)) (z : Nat × Nat × Int32 × Int32 × Int32) (x3 : Int32) (Q : (Nat × Nat × (Nat → Option Nat) × Int32 × Int32) → Prop) : Prop :=
  ((¬ x3 = (Int32.ofNat cap) → itOk d10 z ∧ vp_in x3 cap ∧ ∀ f3 : Nat → Option Nat, f3 = va_up f x3.toNatClampNeg (some (z.1)) → ∀ y5 : Int32, y5 = (x3 + (1 : Int32)) → Q ((y, cap, f3, mo, y5))) ∧ (x3 = (Int32.ofNat cap) → w_J26_grow d10 e mo sz y cap f L (fun u6 => itOk d10 z ∧ vp_in x3 (u6.2.1) ∧ ∀ f8 : Nat → Option Nat, f8 = va_up (u6.2.2) x3.toNatClampNeg (some (z.1)) → ∀ y10 : Int32, y10 = (x3 + (1 : Int32)) → Q ((u6.1, (u6.2.1), f8, mo, y10)))))
set_option maxHeartbeats 4000000 in
theorem c_J26_add_2 (l : Launch) (D : va_G) (e : Nat) (mo : Int32) (sz : Int32) (y : Nat) (cap : Nat) (f : Nat → Option Nat) (L : List (Nat × Nat × Int32 × Int32 × Int32)) (z : Nat × Nat × Int32 × Int32 × Int32) (x3 : Int32) (Q : (Nat × Nat × (Nat → Option Nat) × Int32 × Int32) → Prop) (h : w_J26_add_2 (D.2 1005 10) e mo sz y cap f L z x3 Q) : Ctv l D yJ26_add_2 cJ26_add_2 4 (rmk 5 1 64 151) [.ref e, .ref (z.1), .ref y, .int x3] ([(e, .inr (16, [.int mo, .ref y, .int sz]))] ++ ([(y, .inl (dO_ D, cap, .inr <| .inr <| .inr <| .inr <| f))] ++ (itsW D L ++ (itW D z ++ [])))) (fun u : Nat × Nat × (Nat → Option Nat) × Int32 × Int32 => ([(e, .inr (16, [.int (u.2.2.2.1), .ref (u.1), .int (u.2.2.2.2)]))] ++ ([(u.1, .inl (dO_ D, u.2.1, .inr <| .inr <| .inr <| .inr <| u.2.2.1))] ++ (itsW D L ++ (itW D z ++ []))))) Q 1 64 := by
  refine Ctv.of (by decide) (Nat.le_of_ble_eq_true rfl) (fun x hF hR => ?_)
  replace hF : vF x l D "java/util/ArrayList" cJ26_add_2 (rmk 5 1 64 151) 4 none := hF
  unfold w_J26_add_2 at h
  refine v_iload_n 0 hF dJ26_add_2_0 rfl 3 rfl ?_
  refine v_aload_n 1 hF dJ26_add_2_1 rfl 2 rfl ?_
  refine v_alen (v := Int32.ofNat cap) 2 hF 1 5 rfl rfl rfl dJ26_add_2_2 ?_
  refine v_icmp_ne 3 11 hF dJ26_add_2_3 (by decide) (fun c1 => ?_) (fun c1 => ?_)
  · replace h := h.1 c1
    refine v_aload_n 11 hF dJ26_add_2_11 rfl 2 rfl ?_
    refine v_iload_n 12 hF dJ26_add_2_12 rfl 3 rfl ?_
    refine v_aload_n 13 hF dJ26_add_2_13 rfl 1 rfl ?_
    obtain ⟨o4, o2, h⟩ := h
    obtain ⟨f3, ef3⟩ : ∃ zz9 : Nat → Option Nat, zz9 = va_up f x3.toNatClampNeg (some (z.1)) := ⟨_, rfl⟩
    replace h := h f3 ef3
    refine v_aastD ([(e, .inr (16, [.int mo, .ref y, .int sz]))] ++ ([(y, .inl (dO_ D, cap, .inr <| .inr <| .inr <| .inr <| f3))] ++ (itsW D L ++ (itW D z ++ [])))) 14 hF 1 rfl (vROw.appr (vROw.appr (vROw.appr (vROw.app (it_RO o4))))) o2 (by rw [ef3]; rfl) dJ26_add_2_14 ?_
    refine v_aload_n 15 hF dJ26_add_2_15 rfl 0 rfl ?_
    refine v_iload_n 16 hF dJ26_add_2_16 rfl 3 rfl ?_
    refine v_iconst (v := 1) 17 hF dJ26_add_2_17 (by decide) ?_
    refine v_iadd 18 hF dJ26_add_2_18 ?_
    refine v_nm (fun y5 ey5 => ?_)
    replace h := h y5 ey5
    refine v_put ([(e, .inr (16, [.int mo, .ref y, .int y5]))] ++ ([(y, .inl (dO_ D, cap, .inr <| .inr <| .inr <| .inr <| f3))] ++ (itsW D L ++ (itW D z ++ [])))) 19 hF in_J26 tyJ26_ok nmJ26 0 rfl rfl 2 (Nat.le_of_ble_eq_true rfl) q1533 rfl rfl rfl rfl rfl (Nat.le_of_ble_eq_true rfl) rfl dJ26_add_2_19 ?_
    exact v_vret (u := (y, cap, f3, mo, y5)) 22 hF hR (Nat.le_of_ble_eq_true rfl) (Nat.le_of_ble_eq_true rfl) dJ26_add_2_22 h
  · replace h := h.2 c1
    refine v_aload_n 6 hF dJ26_add_2_6 rfl 0 rfl ?_
    refine v_callVr (As := []) (b := e) (wr := (itW D z ++ [])) 7 hF (c_J26_grow l D e mo sz y cap f L _ h) (((List.Perm.refl _)).trans (List.Perm.of_eq (by simp only [List.append_assoc, List.nil_append, List.append_nil]))) ⟨0, 16, _, TJ26, 3, rfl, rfl⟩ q1647 q1649 qs28 q111 q1650 ds_J26_grow ⟨rfl, rfl, (Nat.le_of_ble_eq_true rfl), (Nat.le_of_ble_eq_true rfl)⟩ (Nat.le_of_ble_eq_true rfl) ⟨(Nat.le_of_ble_eq_true rfl), (Nat.le_of_ble_eq_true rfl)⟩ dJ26_add_2_7 (fun u6 h => ?_)
    refine v_eqw (ws1 := ([(e, .inr (16, [.int mo, .ref (u6.1), .int sz]))] ++ (itsW D L ++ ([(u6.1, .inl (dO_ D, (u6.2.1), .inr <| .inr <| .inr <| .inr <| (u6.2.2)))] ++ (itW D z ++ []))))) (by simp only [List.append_assoc, List.nil_append, List.append_nil]) ?_
    refine v_perm (ws' := ([(e, .inr (16, [.int mo, .ref (u6.1), .int sz]))] ++ ([(u6.1, .inl (dO_ D, (u6.2.1), .inr <| .inr <| .inr <| .inr <| (u6.2.2)))] ++ (itsW D L ++ (itW D z ++ []))))) ((((((List.Perm.refl _)).append_left _).trans (pm_sw _ _ _))).append_left _) ?_
    refine v_astore_n [(0, .ref e), (1, .ref (z.1)), (2, .ref (u6.1)), (3, .int x3)] [1, 2, 0, 3] 10 hF dJ26_add_2_10 rfl (Nat.le_of_ble_eq_true rfl) rfl ?_
    refine v_aload_n 11 hF dJ26_add_2_11 rfl 2 rfl ?_
    refine v_iload_n 12 hF dJ26_add_2_12 rfl 3 rfl ?_
    refine v_aload_n 13 hF dJ26_add_2_13 rfl 1 rfl ?_
    obtain ⟨o9, o7, h⟩ := h
    obtain ⟨f8, ef8⟩ : ∃ zz9 : Nat → Option Nat, zz9 = va_up (u6.2.2) x3.toNatClampNeg (some (z.1)) := ⟨_, rfl⟩
    replace h := h f8 ef8
    refine v_aastD ([(e, .inr (16, [.int mo, .ref (u6.1), .int sz]))] ++ ([(u6.1, .inl (dO_ D, (u6.2.1), .inr <| .inr <| .inr <| .inr <| f8))] ++ (itsW D L ++ (itW D z ++ [])))) 14 hF 1 rfl (vROw.appr (vROw.appr (vROw.appr (vROw.app (it_RO o9))))) o7 (by rw [ef8]; rfl) dJ26_add_2_14 ?_
    refine v_aload_n 15 hF dJ26_add_2_15 rfl 0 rfl ?_
    refine v_iload_n 16 hF dJ26_add_2_16 rfl 3 rfl ?_
    refine v_iconst (v := 1) 17 hF dJ26_add_2_17 (by decide) ?_
    refine v_iadd 18 hF dJ26_add_2_18 ?_
    refine v_nm (fun y10 ey10 => ?_)
    replace h := h y10 ey10
    refine v_put ([(e, .inr (16, [.int mo, .ref (u6.1), .int y10]))] ++ ([(u6.1, .inl (dO_ D, (u6.2.1), .inr <| .inr <| .inr <| .inr <| f8))] ++ (itsW D L ++ (itW D z ++ [])))) 19 hF in_J26 tyJ26_ok nmJ26 0 rfl rfl 2 (Nat.le_of_ble_eq_true rfl) q1533 rfl rfl rfl rfl rfl (Nat.le_of_ble_eq_true rfl) rfl dJ26_add_2_19 ?_
    exact v_vret (u := (u6.1, (u6.2.1), f8, mo, y10)) 22 hF hR (Nat.le_of_ble_eq_true rfl) (Nat.le_of_ble_eq_true rfl) dJ26_add_2_22 h
def w_J26_add (d10 : Nat) (e : Nat) (mo : Int32) (sz : Int32) (y : Nat) (cap : Nat) (f : Nat → Option Nat) (L : List (Nat × Nat × Int32 × Int32 × Int32)) (z : Nat × Nat × Int32 × Int32 × Int32) (Q : Int32 → (Nat × Nat × (Nat → Option Nat) × Int32 × Int32) → Prop) : Prop :=
  ∀ y1 : Int32, y1 = (mo + (1 : Int32)) → w_J26_add_2 d10 e y1 sz y cap f L z sz (fun u2 => Q ((1 : Int32)) ((u2.1, (u2.2.1), (u2.2.2.1), u2.2.2.2.1, u2.2.2.2.2)))
set_option maxHeartbeats 4000000 in
theorem c_J26_add (l : Launch) (D : va_G) (e : Nat) (mo : Int32) (sz : Int32) (y : Nat) (cap : Nat) (f : Nat → Option Nat) (L : List (Nat × Nat × Int32 × Int32 × Int32)) (z : Nat × Nat × Int32 × Int32 × Int32) (Q : Int32 → (Nat × Nat × (Nat → Option Nat) × Int32 × Int32) → Prop) (h : w_J26_add (D.2 1005 10) e mo sz y cap f L z Q) : Cti l D yJ26_add cJ26_add 2 .boolean (rmk 6 1 64 174) [.ref e, .ref (z.1)] ([(e, .inr (16, [.int mo, .ref y, .int sz]))] ++ ([(y, .inl (dO_ D, cap, .inr <| .inr <| .inr <| .inr <| f))] ++ (itsW D L ++ (itW D z ++ [])))) (fun u : Nat × Nat × (Nat → Option Nat) × Int32 × Int32 => ([(e, .inr (16, [.int (u.2.2.2.1), .ref (u.1), .int (u.2.2.2.2)]))] ++ ([(u.1, .inl (dO_ D, u.2.1, .inr <| .inr <| .inr <| .inr <| u.2.2.1))] ++ (itsW D L ++ (itW D z ++ []))))) Q 1 64 := by
  refine Cti.of (by decide) (Nat.le_of_ble_eq_true rfl) (fun x hF hR => ?_)
  replace hF : vF x l D "java/util/ArrayList" cJ26_add (rmk 6 1 64 174) 2 (some .boolean) := hF
  unfold w_J26_add at h
  refine v_aload_n 0 hF dJ26_add_0 rfl 0 rfl ?_
  refine v_dup 1 hF dJ26_add_1 rfl ?_
  refine v_getR 2 hF in_J26 0 rfl rfl 0 (Nat.le_of_ble_eq_true rfl) q1537 q1536 rfl dJ26_add_2 ?_
  refine v_iconst (v := 1) 5 hF dJ26_add_5 (by decide) ?_
  refine v_iadd 6 hF dJ26_add_6 ?_
  refine v_nm (fun y1 ey1 => ?_)
  replace h := h y1 ey1
  refine v_putR ([(e, .inr (16, [.int y1, .ref y, .int sz]))] ++ ([(y, .inl (dO_ D, cap, .inr <| .inr <| .inr <| .inr <| f))] ++ (itsW D L ++ (itW D z ++ [])))) 7 hF in_J26 tyJ26_ok nmJ26 0 rfl rfl 0 (Nat.le_of_ble_eq_true rfl) q1537 q1536 rfl rfl rfl rfl (Nat.le_of_ble_eq_true rfl) rfl dJ26_add_7 ?_
  refine v_aload_n 10 hF dJ26_add_10 rfl 0 rfl ?_
  refine v_aload_n 11 hF dJ26_add_11 rfl 1 rfl ?_
  refine v_aload_n 12 hF dJ26_add_12 rfl 0 rfl ?_
  refine v_get 13 hF in_J26 0 rfl rfl 1 (Nat.le_of_ble_eq_true rfl) q1530 rfl rfl dJ26_add_13 ?_
  refine v_aload_n 16 hF dJ26_add_16 rfl 0 rfl ?_
  refine v_get 17 hF in_J26 0 rfl rfl 2 (Nat.le_of_ble_eq_true rfl) q1533 rfl rfl dJ26_add_17 ?_
  refine v_callVv (As := [.ref (z.1), .ref y, .int sz]) (b := e) (wr := ([])) 20 hF (c_J26_add_2 l D e y1 sz y cap f L z sz _ h) (((List.Perm.refl _)).trans (List.Perm.of_eq (by simp only [List.append_assoc, List.nil_append, List.append_nil]))) ⟨0, 16, _, TJ26, 3, rfl, rfl⟩ q1643 q1645 qs27 q111 q1646 ds_J26_add_2 ⟨rfl, rfl, (Nat.le_of_ble_eq_true rfl), (Nat.le_of_ble_eq_true rfl)⟩ (Nat.le_of_ble_eq_true rfl) ⟨(Nat.le_of_ble_eq_true rfl), (Nat.le_of_ble_eq_true rfl)⟩ dJ26_add_20 (fun u2 h => ?_)
  refine v_eqw (ws1 := ([(e, .inr (16, [.int (u2.2.2.2.1), .ref (u2.1), .int (u2.2.2.2.2)]))] ++ ([(u2.1, .inl (dO_ D, (u2.2.1), .inr <| .inr <| .inr <| .inr <| (u2.2.2.1)))] ++ (itsW D L ++ (itW D z ++ []))))) (by simp only [List.append_assoc, List.nil_append, List.append_nil]) ?_
  refine v_iconst (v := 1) 23 hF dJ26_add_23 (by decide) ?_
  exact v_zret (u := (u2.1, (u2.2.1), (u2.2.2.1), u2.2.2.2.1, u2.2.2.2.2)) 24 hF hR (Nat.le_of_ble_eq_true rfl) (Nat.le_of_ble_eq_true rfl) rfl dJ26_add_24 h
def w_J18_init (r : Nat) (cu : Int32) (la : Int32) (ex : Int32) (e : Nat) (mo : Int32) (sz : Int32) (y : Nat) (cap : Nat) (f : Nat → Option Nat) (Q : (Unit) → Prop) : Prop :=
  Q ()
theorem ds_J18_init : yJ18_init.cls = yJ18_init.cls ∧ yJ18_init.cls ≠ "java/lang/invoke/MethodHandle" ∧ yJ18_init.cls ≠ "java/lang/invoke/VarHandle" ∧ (parseMethodDescriptor yJ18_init.desc).map (fun d => d.parameters.length) = some 1 := by decide +kernel
set_option maxHeartbeats 4000000 in
theorem c_J18_init (l : Launch) (D : va_G) (r : Nat) (cu : Int32) (la : Int32) (ex : Int32) (e : Nat) (mo : Int32) (sz : Int32) (y : Nat) (cap : Nat) (f : Nat → Option Nat) (Q : (Unit) → Prop) (h : w_J18_init r cu la ex e mo sz y cap f Q) : Ctv l D yJ18_init cJ18_init 2 (rmk 1 0 0 64) [.ref r, .ref e] ([(r, .inr (17, [.int cu, .int la, .int ex, .null]))] ++ ([(e, .inr (16, [.int mo, .ref y, .int sz]))] ++ ([(y, .inl (dO_ D, cap, .inr <| .inr <| .inr <| .inr <| f))] ++ []))) (fun u : Unit => ([(r, .inr (17, [.int cu, .int ((-1 : Int32)), .int mo, .ref e]))] ++ ([(e, .inr (16, [.int mo, .ref y, .int sz]))] ++ ([(y, .inl (dO_ D, cap, .inr <| .inr <| .inr <| .inr <| f))] ++ [])))) Q 0 0 := by
  refine Ctv.ofI rfl (by decide) (Nat.le_of_ble_eq_true rfl) (fun x hF hR hI => ?_)
  replace hF : vF x l D "java/util/ArrayList$Itr" cJ18_init (rmk 1 0 0 64) 2 none := hF
  unfold w_J18_init at h
  refine v_aload_n 0 hF dJ18_init_0 rfl 0 rfl ?_
  refine v_aload_n 1 hF dJ18_init_1 rfl 1 rfl ?_
  refine v_putF ([(r, .inr (17, [.int cu, .int la, .int ex, .ref e]))] ++ ([(e, .inr (16, [.int mo, .ref y, .int sz]))] ++ ([(y, .inl (dO_ D, cap, .inr <| .inr <| .inr <| .inr <| f))] ++ []))) 2 hF hI in_J18 tyJ18_ok nmJ18 0 rfl rfl 3 (Nat.le_of_ble_eq_true rfl) q988 rfl rfl rfl rfl rfl rfl (Nat.le_of_ble_eq_true rfl) rfl dJ18_init_2 ?_
  refine v_aload_n 5 hF dJ18_init_5 rfl 0 rfl ?_
  refine v_objInit 6 hF q984 q121 q122 dJ18_init_6 (Nat.le_of_ble_eq_true rfl) (Nat.le_of_ble_eq_true rfl) ?_
  refine v_aload_n 9 hF dJ18_init_9 rfl 0 rfl ?_
  refine v_iconst (v := -1) 10 hF dJ18_init_10 (by decide) ?_
  refine v_put ([(r, .inr (17, [.int cu, .int ((-1 : Int32)), .int ex, .ref e]))] ++ ([(e, .inr (16, [.int mo, .ref y, .int sz]))] ++ ([(y, .inl (dO_ D, cap, .inr <| .inr <| .inr <| .inr <| f))] ++ []))) 11 hF in_J18 tyJ18_ok nmJ18 0 rfl rfl 1 (Nat.le_of_ble_eq_true rfl) q986 rfl rfl rfl rfl rfl (Nat.le_of_ble_eq_true rfl) rfl dJ18_init_11 ?_
  refine v_aload_n 14 hF dJ18_init_14 rfl 0 rfl ?_
  refine v_aload_n 15 hF dJ18_init_15 rfl 0 rfl ?_
  refine v_get 16 hF in_J18 0 rfl rfl 3 (Nat.le_of_ble_eq_true rfl) q988 rfl rfl dJ18_init_16 ?_
  refine v_getR 19 hF in_J26 1 rfl rfl 0 (Nat.le_of_ble_eq_true rfl) q1535 q1536 rfl dJ18_init_19 ?_
  refine v_put ([(r, .inr (17, [.int cu, .int ((-1 : Int32)), .int mo, .ref e]))] ++ ([(e, .inr (16, [.int mo, .ref y, .int sz]))] ++ ([(y, .inl (dO_ D, cap, .inr <| .inr <| .inr <| .inr <| f))] ++ []))) 22 hF in_J18 tyJ18_ok nmJ18 0 rfl rfl 2 (Nat.le_of_ble_eq_true rfl) q987 rfl rfl rfl rfl rfl (Nat.le_of_ble_eq_true rfl) rfl dJ18_init_22 ?_
  exact v_vret (u := ()) 25 hF hR (Nat.le_of_ble_eq_true rfl) (Nat.le_of_ble_eq_true rfl) dJ18_init_25 h
def w_J26_iterator (e : Nat) (mo : Int32) (sz : Int32) (y : Nat) (cap : Nat) (f : Nat → Option Nat) (Q : (Nat) → Prop) : Prop :=
  ∀ q1 : Nat, w_J18_init q1 ((0 : Int32)) ((0 : Int32)) ((0 : Int32)) e mo sz y cap f (fun u2 => Q q1)
theorem ds_J26_iterator : yJ26_iterator.cls = yJ26_iterator.cls ∧ yJ26_iterator.cls ≠ "java/lang/invoke/MethodHandle" ∧ yJ26_iterator.cls ≠ "java/lang/invoke/VarHandle" ∧ (parseMethodDescriptor yJ26_iterator.desc).map (fun d => d.parameters.length) = some 0 := by decide +kernel
set_option maxHeartbeats 4000000 in
theorem c_J26_iterator (l : Launch) (D : va_G) (e : Nat) (mo : Int32) (sz : Int32) (y : Nat) (cap : Nat) (f : Nat → Option Nat) (Q : (Nat) → Prop) (h : w_J26_iterator e mo sz y cap f Q) : Ctr l D yJ26_iterator cJ26_iterator 1 (.object "java/util/Iterator") (rmk 2 1 4 85) [.ref e] ([(e, .inr (16, [.int mo, .ref y, .int sz]))] ++ ([(y, .inl (dO_ D, cap, .inr <| .inr <| .inr <| .inr <| f))] ++ [])) (fun u : Nat => ([(e, .inr (16, [.int mo, .ref y, .int sz]))] ++ ([(y, .inl (dO_ D, cap, .inr <| .inr <| .inr <| .inr <| f))] ++ ([(u, .inr (17, [.int ((0 : Int32)), .int ((-1 : Int32)), .int mo, .ref e]))] ++ [])))) (fun u : Nat => u) Q 1 4 := by
  refine Ctr.of (by decide) (Nat.le_of_ble_eq_true rfl) (fun x hF hR => ?_)
  replace hF : vF x l D "java/util/ArrayList" cJ26_iterator (rmk 2 1 4 85) 1 (some (.object "java/util/Iterator")) := hF
  unfold w_J26_iterator at h
  refine v_new [.int ((0 : Int32)), .int ((0 : Int32)), .int ((0 : Int32)), .null] 0 hF in_J18 tyJ18_ok q979 q980 q99 (ci := 17) rfl (fun j hj => by rcases (show j = 0 ∨ j = 1 ∨ j = 2 ∨ j = 3 by omega) with rfl | rfl | rfl | rfl <;> rfl) ⟨(Nat.le_of_ble_eq_true rfl), (Nat.le_of_ble_eq_true rfl)⟩ dJ26_iterator_0 (fun q1 => ?_)
  replace h := h q1
  refine v_eqw (ws1 := ([(e, .inr (16, [.int mo, .ref y, .int sz]))] ++ ([(y, .inl (dO_ D, cap, .inr <| .inr <| .inr <| .inr <| f))] ++ ([(q1, .inr (17, [.int ((0 : Int32)), .int ((0 : Int32)), .int ((0 : Int32)), .null]))] ++ [])))) (by simp only [List.append_assoc, List.nil_append, List.append_nil]) ?_
  refine v_dup 3 hF dJ26_iterator_3 rfl ?_
  refine v_aload_n 4 hF dJ26_iterator_4 rfl 0 rfl ?_
  refine v_callIv (As := [.ref e]) (b := q1) (wr := ([])) 5 hF (c_J18_init l D q1 ((0 : Int32)) ((0 : Int32)) ((0 : Int32)) e mo sz y cap f _ h) (((((((((List.Perm.refl _)).append_left _).trans (pm_sw _ _ _))).append_left _).trans (pm_sw _ _ _))).trans (List.Perm.of_eq (by simp only [List.append_assoc, List.nil_append, List.append_nil]))) rfl q981 q982 q99 q983 ds_J18_init ⟨rfl, rfl, (Nat.le_of_ble_eq_true rfl), (Nat.le_of_ble_eq_true rfl)⟩ (Nat.le_of_ble_eq_true rfl) ⟨(Nat.le_of_ble_eq_true rfl), (Nat.le_of_ble_eq_true rfl)⟩ dJ26_iterator_5 (fun u2 h => ?_)
  refine v_eqw (ws1 := ([(q1, .inr (17, [.int ((0 : Int32)), .int ((-1 : Int32)), .int mo, .ref e]))] ++ ([(e, .inr (16, [.int mo, .ref y, .int sz]))] ++ ([(y, .inl (dO_ D, cap, .inr <| .inr <| .inr <| .inr <| f))] ++ [])))) (by simp only [List.append_assoc, List.nil_append, List.append_nil]) ?_
  refine v_perm (ws' := ([(e, .inr (16, [.int mo, .ref y, .int sz]))] ++ ([(y, .inl (dO_ D, cap, .inr <| .inr <| .inr <| .inr <| f))] ++ ([(q1, .inr (17, [.int ((0 : Int32)), .int ((-1 : Int32)), .int mo, .ref e]))] ++ [])))) (((((List.Perm.refl _)).append_left _).trans (pm_sw _ _ _)).trans ((((((List.Perm.refl _)).append_left _).trans (pm_sw _ _ _))).append_left _)) ?_
  exact v_aret (u := q1) 8 hF (Or.inl ⟨_, rfl⟩) hR (Nat.le_of_ble_eq_true rfl) (Nat.le_of_ble_eq_true rfl) dJ26_iterator_8 rfl h
def w_J18_hasNext (r : Nat) (cu : Int32) (la : Int32) (ex : Int32) (e : Nat) (mo : Int32) (sz : Int32) (y : Nat) (cap : Nat) (f : Nat → Option Nat) (Q : Int32 → (Unit) → Prop) : Prop :=
  ((cu = sz → Q ((0 : Int32)) ()) ∧ (¬ cu = sz → Q ((1 : Int32)) ()))
theorem ds_J18_hasNext : yJ18_hasNext.cls = yJ18_hasNext.cls ∧ yJ18_hasNext.cls ≠ "java/lang/invoke/MethodHandle" ∧ yJ18_hasNext.cls ≠ "java/lang/invoke/VarHandle" ∧ (parseMethodDescriptor yJ18_hasNext.desc).map (fun d => d.parameters.length) = some 0 := by decide +kernel
set_option maxHeartbeats 4000000 in
theorem c_J18_hasNext (l : Launch) (D : va_G) (r : Nat) (cu : Int32) (la : Int32) (ex : Int32) (e : Nat) (mo : Int32) (sz : Int32) (y : Nat) (cap : Nat) (f : Nat → Option Nat) (Q : Int32 → (Unit) → Prop) (h : w_J18_hasNext r cu la ex e mo sz y cap f Q) : Cti l D yJ18_hasNext cJ18_hasNext 1 .boolean (rmk 0 0 0 0) [.ref r] ([(r, .inr (17, [.int cu, .int la, .int ex, .ref e]))] ++ ([(e, .inr (16, [.int mo, .ref y, .int sz]))] ++ ([(y, .inl (dO_ D, cap, .inr <| .inr <| .inr <| .inr <| f))] ++ []))) (fun u : Unit => ([(r, .inr (17, [.int cu, .int la, .int ex, .ref e]))] ++ ([(e, .inr (16, [.int mo, .ref y, .int sz]))] ++ ([(y, .inl (dO_ D, cap, .inr <| .inr <| .inr <| .inr <| f))] ++ [])))) Q 0 0 := by
  refine Cti.of (by decide) (Nat.le_of_ble_eq_true rfl) (fun x hF hR => ?_)
  replace hF : vF x l D "java/util/ArrayList$Itr" cJ18_hasNext (rmk 0 0 0 0) 1 (some .boolean) := hF
  unfold w_J18_hasNext at h
  refine v_aload_n 0 hF dJ18_hasNext_0 rfl 0 rfl ?_
  refine v_get 1 hF in_J18 0 rfl rfl 0 (Nat.le_of_ble_eq_true rfl) q985 rfl rfl dJ18_hasNext_1 ?_
  refine v_aload_n 4 hF dJ18_hasNext_4 rfl 0 rfl ?_
  refine v_get 5 hF in_J18 0 rfl rfl 3 (Nat.le_of_ble_eq_true rfl) q988 rfl rfl dJ18_hasNext_5 ?_
  refine v_getN 8 hF in_J26 1 rfl rfl 2 (Nat.le_of_ble_eq_true rfl) q1532 rfl rfl dJ18_hasNext_8 ?_
  refine v_icmp_eq 11 18 hF dJ18_hasNext_11 (by decide) (fun c1 => ?_) (fun c1 => ?_)
  · replace h := h.1 c1
    refine v_iconst (v := 0) 18 hF dJ18_hasNext_18 (by decide) ?_
    exact v_zret (u := ()) 19 hF hR (Nat.le_of_ble_eq_true rfl) (Nat.le_of_ble_eq_true rfl) rfl dJ18_hasNext_19 h
  · replace h := h.2 c1
    refine v_iconst (v := 1) 14 hF dJ18_hasNext_14 (by decide) ?_
    refine v_goto 15 19 hF dJ18_hasNext_15 (by decide) ?_
    exact v_zret (u := ()) 19 hF hR (Nat.le_of_ble_eq_true rfl) (Nat.le_of_ble_eq_true rfl) rfl dJ18_hasNext_19 h
def w_J18_checkForComodification (r : Nat) (cu : Int32) (la : Int32) (ex : Int32) (e : Nat) (mo : Int32) (sz : Int32) (y : Nat) (cap : Nat) (f : Nat → Option Nat) (Q : (Unit) → Prop) : Prop :=
  ((mo = ex → Q ()) ∧ (¬ mo = ex → False))
theorem ds_J18_checkForComodification : yJ18_checkForComodification.cls = yJ18_checkForComodification.cls ∧ yJ18_checkForComodification.cls ≠ "java/lang/invoke/MethodHandle" ∧ yJ18_checkForComodification.cls ≠ "java/lang/invoke/VarHandle" ∧ (parseMethodDescriptor yJ18_checkForComodification.desc).map (fun d => d.parameters.length) = some 0 := by decide +kernel
set_option maxHeartbeats 4000000 in
theorem c_J18_checkForComodification (l : Launch) (D : va_G) (r : Nat) (cu : Int32) (la : Int32) (ex : Int32) (e : Nat) (mo : Int32) (sz : Int32) (y : Nat) (cap : Nat) (f : Nat → Option Nat) (Q : (Unit) → Prop) (h : w_J18_checkForComodification r cu la ex e mo sz y cap f Q) : Ctv l D yJ18_checkForComodification cJ18_checkForComodification 1 (rmk 0 0 0 0) [.ref r] ([(r, .inr (17, [.int cu, .int la, .int ex, .ref e]))] ++ ([(e, .inr (16, [.int mo, .ref y, .int sz]))] ++ ([(y, .inl (dO_ D, cap, .inr <| .inr <| .inr <| .inr <| f))] ++ []))) (fun u : Unit => ([(r, .inr (17, [.int cu, .int la, .int ex, .ref e]))] ++ ([(e, .inr (16, [.int mo, .ref y, .int sz]))] ++ ([(y, .inl (dO_ D, cap, .inr <| .inr <| .inr <| .inr <| f))] ++ [])))) Q 0 0 := by
  refine Ctv.of (by decide) (Nat.le_of_ble_eq_true rfl) (fun x hF hR => ?_)
  replace hF : vF x l D "java/util/ArrayList$Itr" cJ18_checkForComodification (rmk 0 0 0 0) 1 none := hF
  unfold w_J18_checkForComodification at h
  refine v_aload_n 0 hF dJ18_checkForComodification_0 rfl 0 rfl ?_
  refine v_get 1 hF in_J18 0 rfl rfl 3 (Nat.le_of_ble_eq_true rfl) q988 rfl rfl dJ18_checkForComodification_1 ?_
  refine v_getR 4 hF in_J26 1 rfl rfl 0 (Nat.le_of_ble_eq_true rfl) q1535 q1536 rfl dJ18_checkForComodification_4 ?_
  refine v_aload_n 7 hF dJ18_checkForComodification_7 rfl 0 rfl ?_
  refine v_get 8 hF in_J18 0 rfl rfl 2 (Nat.le_of_ble_eq_true rfl) q987 rfl rfl dJ18_checkForComodification_8 ?_
  refine v_icmp_eq 11 22 hF dJ18_checkForComodification_11 (by decide) (fun c1 => ?_) (fun c1 => ?_)
  · replace h := h.1 c1
    exact v_vret (u := ()) 22 hF hR (Nat.le_of_ble_eq_true rfl) (Nat.le_of_ble_eq_true rfl) dJ18_checkForComodification_22 h
  · replace h := h.2 c1
    exact h.elim
def w_J18_next (r : Nat) (cu : Int32) (la : Int32) (ex : Int32) (e : Nat) (mo : Int32) (sz : Int32) (y : Nat) (cap : Nat) (f : Nat → Option Nat) (Q : (Nat × Int32 × Int32) → Prop) : Prop :=
  w_J18_checkForComodification r cu la ex e mo sz y cap f (fun u1 => ((cu < sz → ((cu < (Int32.ofNat cap) → ∀ y4 : Int32, y4 = (cu + (1 : Int32)) → vp_in cu cap ∧ ∃ r6 : Nat, f cu.toNatClampNeg = some r6 ∧ Q ((r6, y4, cu))) ∧ (¬ cu < (Int32.ofNat cap) → False))) ∧ (¬ cu < sz → False)))
theorem ds_J18_next : yJ18_next.cls = yJ18_next.cls ∧ yJ18_next.cls ≠ "java/lang/invoke/MethodHandle" ∧ yJ18_next.cls ≠ "java/lang/invoke/VarHandle" ∧ (parseMethodDescriptor yJ18_next.desc).map (fun d => d.parameters.length) = some 0 := by decide +kernel
set_option maxHeartbeats 4000000 in
theorem c_J18_next (l : Launch) (D : va_G) (r : Nat) (cu : Int32) (la : Int32) (ex : Int32) (e : Nat) (mo : Int32) (sz : Int32) (y : Nat) (cap : Nat) (f : Nat → Option Nat) (Q : (Nat × Int32 × Int32) → Prop) (h : w_J18_next r cu la ex e mo sz y cap f Q) : Ctr l D yJ18_next cJ18_next 3 (.object "java/lang/Object") (rmk 1 0 0 20) [.ref r] ([(r, .inr (17, [.int cu, .int la, .int ex, .ref e]))] ++ ([(e, .inr (16, [.int mo, .ref y, .int sz]))] ++ ([(y, .inl (dO_ D, cap, .inr <| .inr <| .inr <| .inr <| f))] ++ []))) (fun u : Nat × Int32 × Int32 => ([(r, .inr (17, [.int (u.2.1), .int (u.2.2), .int ex, .ref e]))] ++ ([(e, .inr (16, [.int mo, .ref y, .int sz]))] ++ ([(y, .inl (dO_ D, cap, .inr <| .inr <| .inr <| .inr <| f))] ++ [])))) (fun u : Nat × Int32 × Int32 => u.1) Q 0 0 := by
  refine Ctr.of (by decide) (Nat.le_of_ble_eq_true rfl) (fun x hF hR => ?_)
  replace hF : vF x l D "java/util/ArrayList$Itr" cJ18_next (rmk 1 0 0 20) 3 (some (.object "java/lang/Object")) := hF
  unfold w_J18_next at h
  refine v_aload_n 0 hF dJ18_next_0 rfl 0 rfl ?_
  refine v_callVv (As := []) (b := r) (wr := ([])) 1 hF (c_J18_checkForComodification l D r cu la ex e mo sz y cap f _ h) (((List.Perm.refl _)).trans (List.Perm.of_eq (by simp only [List.append_assoc, List.nil_append, List.append_nil]))) ⟨0, 17, _, TJ18, 4, rfl, rfl⟩ q1173 q1174 q1175 q99 q1176 ds_J18_checkForComodification ⟨rfl, rfl, (Nat.le_of_ble_eq_true rfl), (Nat.le_of_ble_eq_true rfl)⟩ (Nat.le_of_ble_eq_true rfl) ⟨(Nat.le_of_ble_eq_true rfl), (Nat.le_of_ble_eq_true rfl)⟩ dJ18_next_1 (fun u1 h => ?_)
  refine v_eqw (ws1 := ([(r, .inr (17, [.int cu, .int la, .int ex, .ref e]))] ++ ([(e, .inr (16, [.int mo, .ref y, .int sz]))] ++ ([(y, .inl (dO_ D, cap, .inr <| .inr <| .inr <| .inr <| f))] ++ [])))) (by simp only [List.append_assoc, List.nil_append, List.append_nil]) ?_
  refine v_aload_n 4 hF dJ18_next_4 rfl 0 rfl ?_
  refine v_get 5 hF in_J18 0 rfl rfl 0 (Nat.le_of_ble_eq_true rfl) q985 rfl rfl dJ18_next_5 ?_
  refine v_istore_n [(0, .ref r), (1, .int cu)] [1, 0] 8 hF dJ18_next_8 rfl (Nat.le_of_ble_eq_true rfl) rfl ?_
  refine v_iload_n 9 hF dJ18_next_9 rfl 1 rfl ?_
  refine v_aload_n 10 hF dJ18_next_10 rfl 0 rfl ?_
  refine v_get 11 hF in_J18 0 rfl rfl 3 (Nat.le_of_ble_eq_true rfl) q988 rfl rfl dJ18_next_11 ?_
  refine v_getN 14 hF in_J26 1 rfl rfl 2 (Nat.le_of_ble_eq_true rfl) q1532 rfl rfl dJ18_next_14 ?_
  refine v_icmp_lt 17 28 hF dJ18_next_17 (by decide) (fun c2 => ?_) (fun c2 => ?_)
  · replace h := h.1 c2
    refine v_aload_n 28 hF dJ18_next_28 rfl 0 rfl ?_
    refine v_get 29 hF in_J18 0 rfl rfl 3 (Nat.le_of_ble_eq_true rfl) q988 rfl rfl dJ18_next_29 ?_
    refine v_get 32 hF in_J26 1 rfl rfl 1 (Nat.le_of_ble_eq_true rfl) q1531 rfl rfl dJ18_next_32 ?_
    refine v_astore_n [(0, .ref r), (1, .int cu), (2, .ref y)] [1, 2, 0] 35 hF dJ18_next_35 rfl (Nat.le_of_ble_eq_true rfl) rfl ?_
    refine v_iload_n 36 hF dJ18_next_36 rfl 1 rfl ?_
    refine v_aload_n 37 hF dJ18_next_37 rfl 2 rfl ?_
    refine v_alen (v := Int32.ofNat cap) 38 hF 2 5 rfl rfl rfl dJ18_next_38 ?_
    refine v_icmp_lt 39 50 hF dJ18_next_39 (by decide) (fun c3 => ?_) (fun c3 => ?_)
    · replace h := h.1 c3
      refine v_aload_n 50 hF dJ18_next_50 rfl 0 rfl ?_
      refine v_iload_n 51 hF dJ18_next_51 rfl 1 rfl ?_
      refine v_iconst (v := 1) 52 hF dJ18_next_52 (by decide) ?_
      refine v_iadd 53 hF dJ18_next_53 ?_
      refine v_nm (fun y4 ey4 => ?_)
      replace h := h y4 ey4
      refine v_put ([(r, .inr (17, [.int y4, .int la, .int ex, .ref e]))] ++ ([(e, .inr (16, [.int mo, .ref y, .int sz]))] ++ ([(y, .inl (dO_ D, cap, .inr <| .inr <| .inr <| .inr <| f))] ++ []))) 54 hF in_J18 tyJ18_ok nmJ18 0 rfl rfl 0 (Nat.le_of_ble_eq_true rfl) q985 rfl rfl rfl rfl rfl (Nat.le_of_ble_eq_true rfl) rfl dJ18_next_54 ?_
      refine v_aload_n 57 hF dJ18_next_57 rfl 2 rfl ?_
      refine v_aload_n 58 hF dJ18_next_58 rfl 0 rfl ?_
      refine v_iload_n 59 hF dJ18_next_59 rfl 1 rfl ?_
      refine v_dup_x1 60 hF dJ18_next_60 rfl rfl ?_
      refine v_put ([(r, .inr (17, [.int y4, .int cu, .int ex, .ref e]))] ++ ([(e, .inr (16, [.int mo, .ref y, .int sz]))] ++ ([(y, .inl (dO_ D, cap, .inr <| .inr <| .inr <| .inr <| f))] ++ []))) 61 hF in_J18 tyJ18_ok nmJ18 0 rfl rfl 1 (Nat.le_of_ble_eq_true rfl) q986 rfl rfl rfl rfl rfl (Nat.le_of_ble_eq_true rfl) rfl dJ18_next_61 ?_
      obtain ⟨o5, r6, c7, h⟩ := h
      refine v_aald 64 hF 2 rfl o5 dJ18_next_64 (fun c => absurd (c.symm.trans c7) (by simp)) (fun b9 c => ?_)
      obtain rfl : r6 = b9 := Option.some.inj (c7.symm.trans c)
      exact v_aret (u := (r6, y4, cu)) 65 hF (Or.inl ⟨_, rfl⟩) hR (Nat.le_of_ble_eq_true rfl) (Nat.le_of_ble_eq_true rfl) dJ18_next_65 rfl h
    · replace h := h.2 c3
      exact h.elim
  · replace h := h.2 c2
    exact h.elim
