/-! The classes by number; the interfaces' calls -/
set_option maxRecDepth 100000
def cl0 : List vw_C := [(RX1, TX1, 10), (RX10, TX10, 2), (RX11, TX11, 6), (RX12, TX12, 6), (RX13, TX13, 2), (RX14, TX14, 7), (RX2, TX2, 24), (RX3, TX3, 5), (RX5, TX5, 4), (RX6, TX6, 4), (RX7, TX7, 18), (RX8, TX8, 7), (RX9, TX9, 2), (RJ1, TJ1, 3), (RJ3, TJ3, 4), (RJ20, TJ20, 1), (RJ26, TJ26, 3), (RJ18, TJ18, 4), (RJ10, TJ10, 6), (RJ11, TJ11, 6), (RJ14, TJ14, 6), (RJ15, TJ15, 6), (RJ16, TJ16, 6), (RJ21, TJ21, 6), (RJ27, TJ27, 6), (RJ9, TJ9, 6), (RJ17, TJ17, 4), (RJ4, TJ4, 4)]
def fw0 : List (String × MethodName × MethodName) := [(RX9, ⟨"java/lang/Iterable", "iterator", "()Ljava/util/Iterator;"⟩, yX9_iterator), (RX10, ⟨"java/util/Iterator", "hasNext", "()Z"⟩, yX10_hasNext), (RX10, ⟨"java/util/Iterator", "next", "()Ljava/lang/Object;"⟩, ⟨RX10, "next", "()Ljava/lang/Object;"⟩), (RJ26, ⟨"java/util/List", "add", "(Ljava/lang/Object;)Z"⟩, ⟨RJ26, "add", "(Ljava/lang/Object;)Z"⟩), (RJ26, ⟨"java/util/List", "iterator", "()Ljava/util/Iterator;"⟩, ⟨RJ26, "iterator", "()Ljava/util/Iterator;"⟩), (RJ18, ⟨"java/util/Iterator", "hasNext", "()Z"⟩, ⟨RJ18, "hasNext", "()Z"⟩), (RJ18, ⟨"java/util/Iterator", "next", "()Ljava/lang/Object;"⟩, ⟨RJ18, "next", "()Ljava/lang/Object;"⟩)]

/-! THE JUDGEMENT vV: the kit's W with heap, written places and locals hidden: a world, listed locals, pc, stack. Rows turn vV at an instruction into vV at the next. -/
set_option maxRecDepth 100000
/-- a row of numbers replaced -/
def upR (f : Nat → Nat → Int32) (r : Nat) (g : Nat → Int32) : Nat → Nat → Int32 := fun j => bif Nat.beq j r then g else f j
/-- one number replaced -/
def upN (f : Nat → Nat → Int32) (r i : Nat) (v : Int32) : Nat → Nat → Int32 := upR f r (upd (f r) i v)
def nwOk : Cond → Bool
  | .fieldLinkNest _ _ _ _ _ _ => true
  | .methodLinkNest _ _ _ _ => true
  | .castable _ _ => true
  | .declares _ => true
  | .privateMethod _ => true
  | .arrayOver (.object _) => true
  | _ => false
/-- the tables' words that ride by name -/
def vNW (U : State) : Prop := ∀ w ∈ lw_tbl, nwOk w = true → w.before #[] U = true
theorem vNW.warm {s U : State} (hW : s.WarmedH U.vm) (h : vNW s) : vNW U := by
  intro w hw hk
  have h1 := h w hw hk
  cases w with
  | fieldLinkNest a i b n d hh => exact va_Nw.warmF hW h1
  | methodLinkNest a i x hh => exact va_Nw.warmM hW h1
  | castable C T => exact va_Nw.warmC hW h1
  | declares x => exact va_Nw.warmD hW h1
  | privateMethod x => exact va_tabs rfl (rfl : (s.setVm U.vm).vm = U.vm) (by rw [Cond.privateMethod_setVm hW.alike]; exact h1)
  | arrayOver ty =>
    cases ty with
    | object C => exact va_AO.moved hW.alike h1
    | _ => cases hk
  | _ => cases hk
theorem vNW.of {A : Array Value} {U : State} (h : ∀ w ∈ lw_tbl, w.before A U = true) : vNW U := by
  intro w hw hk
  have h1 := h w hw
  cases w with
  | fieldLinkNest a i b n d hh => exact va_Nw.of rfl h1
  | methodLinkNest a i x hh => exact va_Nw.of rfl h1
  | castable C T => exact va_Nw.of rfl h1
  | declares x => exact va_Nw.of rfl h1
  | privateMethod x => exact va_Nw.of rfl h1
  | arrayOver ty =>
    cases ty with
    | object C => exact va_AO.of h1
    | _ => cases hk
  | _ => cases hk
/-- the interfaces' calls -/
def vFwOk (q : String × MethodName × MethodName) : Prop := q.2.1.cls ≠ "java/lang/invoke/MethodHandle" ∧ q.2.1.cls ≠ "java/lang/invoke/VarHandle"
def vFW (fl : List (String × MethodName × MethodName)) (U : State) : Prop := ∀ q ∈ fl, vFwOk q ∧ va_Fw q.1 q.2.1 q.2.2 U
theorem vFW.warm {fl : List (String × MethodName × MethodName)} {s U : State} (hW : s.WarmedH U.vm) (h : vFW fl s) : vFW fl U := fun q hq => ⟨(h q hq).1, va_Fw.moved (h q hq).1 hW.alike (h q hq).2⟩
/-- the array classes: their numbers stand in D behind 1000 -/
abbrev dI_ (D : va_G) : ClassId := D.1 1000
abbrev dJ_ (D : va_G) : ClassId := D.1 1001
abbrev dD_ (D : va_G) : ClassId := D.1 1002
abbrev dC_ (D : va_G) : ClassId := D.1 1003
abbrev dB_ (D : va_G) : ClassId := D.1 1004
abbrev dO_ (D : va_G) : ClassId := D.1 1005
abbrev tys0 (D : va_G) : List (ClassId × FieldType) := [(dI_ D, .int), (dJ_ D, .long), (dD_ D, .double), (dC_ D, .char), (dB_ D, .byte), (dO_ D, .object "java/lang/Object")]
def doneN : MethodName := ⟨"BrookWeirs$Deed", "done", "(LBrookWeirs$Brook;)I"⟩
def vDX (x : MethodName) (U : State) : Prop := (Cond.declares x).before #[] U = true ∧ (Cond.interfaceMethod x.cls x.cls x.name x.desc).before #[] U = true
theorem vDX.moved {x : MethodName} (hx : x.cls ≠ "java/lang/invoke/MethodHandle" ∧ x.cls ≠ "java/lang/invoke/VarHandle") {u U : State} (hvm : u.vm.Alike U.vm) (h : vDX x u) : vDX x U := by
  obtain ⟨h1, h2⟩ := h
  obtain ⟨r, meth, hn, -⟩ := Cond.declares_spec h1
  have tr : ∀ {c : Cond}, c.onTables = true → c.before #[] (u.setVm U.vm) = true → c.before #[] U = true := by
    intro c hc h
    have e := Cond.onTables_vm (A := #[]) (A' := #[]) (U := u) (U' := U) U.vm c hc
    have hU : U.setVm U.vm = U := rfl
    rw [hU] at e
    rw [← e]
    exact h
  exact ⟨tr rfl (by rw [Cond.declares_setVm hvm]; exact h1), tr rfl (by rw [Cond.interfaceMethod_setVm hvm (r := r) hn hx]; exact h2)⟩
abbrev vDN (U : State) : Prop := vDX doneN U
theorem vDN.moved {u U : State} (hvm : u.vm.Alike U.vm) (h : vDN u) : vDN U := vDX.moved (by decide) hvm h
/-- the sites of lambdas: facts of the tables alone -/
def vLS (D : va_G) (U : State) : Prop := vDN U ∧ LmAt Lm1_σ Lm1_xN 1 249 (D.1 1011) (.constant (D.2 1005 1)) U ∧ LmAt Lm2_σ Lm2_xN 42 120 (D.1 1012) (.makes (D.1 1012)) U ∧ LmAt Lm3_σ Lm3_xN 3 127 (D.1 1013) (.makes (D.1 1013)) U ∧ LmAt Lm4_σ Lm4_xN 4 145 (D.1 1014) (.makes (D.1 1014)) U ∧ LmAt Lm5_σ Lm5_xN 3 151 (D.1 1015) (.makes (D.1 1015)) U ∧ LmAt Lm6_σ Lm6_xN 2 240 (D.1 1016) (.makes (D.1 1016)) U ∧ LmAt Lm7_σ Lm7_xN 1 252 (D.1 1017) (.constant (D.2 1005 7)) U ∧ LmAt Lm8_σ Lm8_xN 10 285 (D.1 1018) (.makes (D.1 1018)) U ∧ LmAt Lm9_σ Lm9_xN 15 68 (D.1 1019) (.makes (D.1 1019)) U ∧ LmAt Lm10_σ Lm10_xN 30 71 (D.1 1020) (.constant (D.2 1005 10)) U ∧ LmAt Lm11_σ Lm11_xN 21 57 (D.1 1021) (.makes (D.1 1021)) U ∧ LmAt Lm12_σ Lm12_xN 21 63 (D.1 1022) (.makes (D.1 1022)) U ∧ LmAt Lm13_σ Lm13_xN 42 53 (D.1 1023) (.makes (D.1 1023)) U
theorem vLS.warm {D : va_G} {s U : State} (hW : s.WarmedH U.vm) (h : vLS D s) : vLS D U := ⟨h.1.moved hW.alike, LmAt.warm hW h.2.1, LmAt.warm hW h.2.2.1, LmAt.warm hW h.2.2.2.1, LmAt.warm hW h.2.2.2.2.1, LmAt.warm hW h.2.2.2.2.2.1, LmAt.warm hW h.2.2.2.2.2.2.1, LmAt.warm hW h.2.2.2.2.2.2.2.1, LmAt.warm hW h.2.2.2.2.2.2.2.2.1, LmAt.warm hW h.2.2.2.2.2.2.2.2.2.1, LmAt.warm hW h.2.2.2.2.2.2.2.2.2.2.1, LmAt.warm hW h.2.2.2.2.2.2.2.2.2.2.2.1, LmAt.warm hW h.2.2.2.2.2.2.2.2.2.2.2.2.1, LmAt.warm hW h.2.2.2.2.2.2.2.2.2.2.2.2.2⟩
theorem vLS.blind {D : va_G} {U : State} {g : JFrame} {mk : MethodId} {a : Array Value} (h : vLS D U) : vLS D (U.calling g mk a) := ⟨vDN.moved (u := U) (U := U.calling g mk a) (Vm.Alike.refl U.vm) h.1, LmAt.same (s := U) (U := U.calling g mk a) rfl h.2.1, LmAt.same (s := U) (U := U.calling g mk a) rfl h.2.2.1, LmAt.same (s := U) (U := U.calling g mk a) rfl h.2.2.2.1, LmAt.same (s := U) (U := U.calling g mk a) rfl h.2.2.2.2.1, LmAt.same (s := U) (U := U.calling g mk a) rfl h.2.2.2.2.2.1, LmAt.same (s := U) (U := U.calling g mk a) rfl h.2.2.2.2.2.2.1, LmAt.same (s := U) (U := U.calling g mk a) rfl h.2.2.2.2.2.2.2.1, LmAt.same (s := U) (U := U.calling g mk a) rfl h.2.2.2.2.2.2.2.2.1, LmAt.same (s := U) (U := U.calling g mk a) rfl h.2.2.2.2.2.2.2.2.2.1, LmAt.same (s := U) (U := U.calling g mk a) rfl h.2.2.2.2.2.2.2.2.2.2.1, LmAt.same (s := U) (U := U.calling g mk a) rfl h.2.2.2.2.2.2.2.2.2.2.2.1, LmAt.same (s := U) (U := U.calling g mk a) rfl h.2.2.2.2.2.2.2.2.2.2.2.2.1, LmAt.same (s := U) (U := U.calling g mk a) rfl h.2.2.2.2.2.2.2.2.2.2.2.2.2⟩
/-- the constant lambdas' objects; the object that 'choose' makes, if it lies there: D.2 1006 says where and what -/
def vKc (H : Heap) (A : Nat → Prop) (q : Nat) (ce : Cell) : Prop := H[q]? = some ce ∧ ¬ A q
theorem vKc.kept {A : Nat → Prop} {H H1 : Heap} {q : Nat} {ce : Cell} (h : vKc H A q ce) (hq : ∀ a : Nat, a < H.size → ¬ A a → H1[a]? = H[a]?) : vKc H1 A q ce := ⟨by rw [hq q (Array.getElem?_eq_some_iff.mp h.1).1 h.2]; exact h.1, h.2⟩
theorem vKc.narrow {A B : Nat → Prop} {H : Heap} {q : Nat} {ce : Cell} (h : vKc H A q ce) (hAB : ∀ q, B q → A q) : vKc H B q ce := ⟨h.1, fun hb => h.2 (hAB q hb)⟩
def cCell (D : va_G) (j : Nat) : Cell := { cls := D.1 (1010 + j), slots := #[], vm := .none }
def chCell (D : va_G) : Cell := { cls := D.1 1018, slots := #[.ref (D.2 1006 2), .int (Int32.ofNat (D.2 1006 3))], vm := .none }
def vLM (D : va_G) (A : Nat → Prop) (H : Heap) : Prop := vKc H A (D.2 1005 1) (cCell D 1) ∧ vKc H A (D.2 1005 7) (cCell D 7) ∧ vKc H A (D.2 1005 10) (cCell D 10) ∧ (D.2 1006 0 = 0 ∨ vKc H A (D.2 1006 1) (chCell D))
theorem vLM.kept {D : va_G} {A : Nat → Prop} {H H1 : Heap} (h : vLM D A H) (hq : ∀ a : Nat, a < H.size → ¬ A a → H1[a]? = H[a]?) : vLM D A H1 := ⟨h.1.kept hq, h.2.1.kept hq, h.2.2.1.kept hq, h.2.2.2.imp id fun g => g.kept hq⟩
theorem vLM.narrow {D : va_G} {A B : Nat → Prop} {H : Heap} (h : vLM D A H) (hAB : ∀ q, B q → A q) : vLM D B H := ⟨h.1.narrow hAB, h.2.1.narrow hAB, h.2.2.1.narrow hAB, h.2.2.2.imp id fun g => g.narrow hAB⟩
/-- cells that nobody writes: statics, the cache of Integers, String constants, the constant lambdas; their addresses stand in D.2 from 1000 on -/
def vZA (D : va_G) (A : Nat → Prop) (U : State) (H : Heap) : Prop :=
  (vx_Zq Bundle.tN "UNASSIGNED_STACK" Bundle.steD A U H ∧ vx_Zq Bundle.tN "SUPPRESSED_SENTINEL" Bundle.listD A U H) ∧
  (va_Z "java/lang/String" "COMPACT_STRINGS" "Z" (.int 1) A U H ∧ va_Z "java/lang/StringUTF16" "$assertionsDisabled" "Z" (.int 1) A U H ∧ va_Z "java/lang/StringUTF16" "HI_BYTE_SHIFT" "I" (.int 0) A U H ∧ va_Z "java/lang/StringUTF16" "LO_BYTE_SHIFT" "I" (.int 8) A U H) ∧
  (va_Z "java/lang/Integer$IntegerCache" "high" "I" (.int 127) A U H ∧ va_Z "java/lang/Integer$IntegerCache" "cache" "[Ljava/lang/Integer;" (.ref (D.2 1000 0)) A U H ∧ va_T (.object "java/lang/Integer") (D.2 1000 0) 256 (fun k => .ref (D.2 1001 k)) A U H ∧ vb_C (D.2 1001) A U H) ∧
  (va_Z "java/util/ArrayList" "DEFAULTCAPACITY_EMPTY_ELEMENTDATA" "[Ljava/lang/Object;" (.ref (D.2 1002 0)) A U H ∧ va_T (.object "java/lang/Object") (D.2 1002 0) 0 (fun _ => .null) A U H) ∧
  va_Zq "jdk/internal/util/Preconditions" "SIOOBE_FORMATTER" "Ljava/util/function/BiFunction;" A U H ∧
  vk_S 2 [6, 2] [[114, 110, 98, 111, 115, 101], [102, 109]] (D.2 1003) (D.2 1004) A U H ∧ vLM D A H
theorem vZA.kept {D : va_G} {A : Nat → Prop} {U : State} {H H1 : Heap} (h : vZA D A U H) (hq : ∀ a : Nat, a < H.size → ¬ A a → H1[a]? = H[a]?) : vZA D A U H1 :=
  ⟨⟨h.1.1.kept hq, h.1.2.kept hq⟩, ⟨h.2.1.1.kept hq, h.2.1.2.1.kept hq, h.2.1.2.2.1.kept hq, h.2.1.2.2.2.kept hq⟩, ⟨h.2.2.1.1.kept hq, h.2.2.1.2.1.kept hq, h.2.2.1.2.2.1.kept hq, h.2.2.1.2.2.2.kept hq⟩, ⟨h.2.2.2.1.1.kept hq, h.2.2.2.1.2.kept hq⟩, h.2.2.2.2.1.kept hq, h.2.2.2.2.2.1.kept hq, h.2.2.2.2.2.2.kept hq⟩
theorem vZA.narrow {D : va_G} {A B : Nat → Prop} {U : State} {H : Heap} (h : vZA D A U H) (hAB : ∀ q, B q → A q) : vZA D B U H :=
  ⟨⟨h.1.1.narrow hAB, h.1.2.narrow hAB⟩, ⟨h.2.1.1.narrow hAB, h.2.1.2.1.narrow hAB, h.2.1.2.2.1.narrow hAB, h.2.1.2.2.2.narrow hAB⟩, ⟨h.2.2.1.1.narrow hAB, h.2.2.1.2.1.narrow hAB, h.2.2.1.2.2.1.narrow hAB, h.2.2.1.2.2.2.narrow hAB⟩, ⟨h.2.2.2.1.1.narrow hAB, h.2.2.2.1.2.narrow hAB⟩, h.2.2.2.2.1.narrow hAB, h.2.2.2.2.2.1.narrow hAB, h.2.2.2.2.2.2.narrow hAB⟩
theorem vZA.moved {D : va_G} {A : Nat → Prop} {u U : State} {H : Heap} (v : u.vm.Alike U.vm) (h : vZA D A u H) : vZA D A U H :=
  ⟨⟨vx_Zq.moved v h.1.1, vx_Zq.moved v h.1.2⟩, ⟨va_Z.moved v h.2.1.1, va_Z.moved v h.2.1.2.1, va_Z.moved v h.2.1.2.2.1, va_Z.moved v h.2.1.2.2.2⟩, ⟨va_Z.moved v h.2.2.1.1, va_Z.moved v h.2.2.1.2.1, va_T.moved v h.2.2.1.2.2.1, vb_C.moved v h.2.2.1.2.2.2⟩, ⟨va_Z.moved v h.2.2.2.1.1, va_T.moved v h.2.2.2.1.2⟩, va_Zq.moved v h.2.2.2.2.1, vk_S.moved v h.2.2.2.2.2.1, h.2.2.2.2.2.2⟩
/-- classes of exceptions that others' handlers let by -/
def nc0 : List (String × String) := [("java/lang/IndexOutOfBoundsException", "BrookWeirs$Refusal"), ("java/lang/IllegalArgumentException", "BrookWeirs$Refusal"), ("java/lang/IllegalArgumentException", "java/lang/IndexOutOfBoundsException"), ("java/lang/UnsupportedOperationException", "java/lang/IllegalArgumentException"), ("java/lang/UnsupportedOperationException", "java/lang/IndexOutOfBoundsException"), ("java/lang/IllegalArgumentException", "java/util/NoSuchElementException"), ("java/lang/IndexOutOfBoundsException", "java/lang/IllegalArgumentException"), ("java/util/NoSuchElementException", "java/lang/IndexOutOfBoundsException"), ("java/util/NoSuchElementException", "java/lang/IllegalArgumentException")]
def vNC (U : State) : Prop := ∀ q ∈ nc0, va_Nc q.1 q.2 U
/-- what holds of the tables all through the run -/
def vEN (D : va_G) (U : State) : Prop := va_K D cl0 (tys0 D) U ∧ vNW U ∧ vFW fw0 U ∧ vLS D U ∧ vk_R "BrookWeirsModel" 210 "rnbose" (D.2 1003 0) U ∧ vk_R "BrookWeirsModel" 219 "fm" (D.2 1003 1) U ∧ vNC U ∧ va_Mi "[Ljava/lang/Object;" (D.2 1007 0) U
theorem vEN.warm {D : va_G} {s U : State} (hW : s.WarmedH U.vm) (h : vEN D s) : vEN D U := ⟨va_K.moved hW.alike h.1, h.2.1.warm hW, h.2.2.1.warm hW, h.2.2.2.1.warm hW, h.2.2.2.2.1.warm hW, h.2.2.2.2.2.1.warm hW, fun q hq => va_Nc.moved hW.alike (h.2.2.2.2.2.2.1 q hq), va_Mi.moved hW.alike h.2.2.2.2.2.2.2⟩
theorem vEN.blind {D : va_G} {U : State} {g : JFrame} {mk : MethodId} {a : Array Value} (h : vEN D U) : vEN D (U.calling g mk a) := by
  refine ⟨va_K.moved (u := U) (U := U.calling g mk a) (Vm.Alike.refl U.vm) h.1, fun w hw hk => ?_, fun q hq => ⟨(h.2.2.1 q hq).1, va_Fw.moved (h.2.2.1 q hq).1 (u := U) (U := U.calling g mk a) (Vm.Alike.refl U.vm) (h.2.2.1 q hq).2⟩, h.2.2.2.1.blind, vk_R.same (u := U) (U := U.calling g mk a) rfl h.2.2.2.2.1, vk_R.same (u := U) (U := U.calling g mk a) rfl h.2.2.2.2.2.1, fun q hq => va_Nc.moved (u := U) (U := U.calling g mk a) (Vm.Alike.refl U.vm) (h.2.2.2.2.2.2.1 q hq), va_Mi.moved (u := U) (U := U.calling g mk a) (Vm.Alike.refl U.vm) h.2.2.2.2.2.2.2⟩
  have h1 := h.2.1 w hw hk
  have e : U.vm = (U.calling g mk a).vm := rfl
  cases w with
  | fieldLinkNest a i b n d hh => exact va_Nw.same rfl e h1
  | methodLinkNest a i x hh => exact va_Nw.same rfl e h1
  | castable C T => exact va_Nw.same rfl e h1
  | declares x => exact va_Nw.same rfl e h1
  | privateMethod x => exact va_Nw.same rfl e h1
  | arrayOver ty =>
    cases ty with
    | object C => exact va_AO.moved (Vm.Alike.refl U.vm) h1
    | _ => cases hk
  | _ => cases hk
/-- what a method's body has fixed -/
abbrev vC : Type := Program × Launch × Env × Room × State × MethodId × Array Value × List Frame × Method × Code × (State → Prop) × va_G × (Nat → Prop) × Nat
def vV (x : vC) (k n : Nat) (ws : va_W) (lv : List (Nat × Value)) (pc : Nat) (st : List Value) : Prop :=
  match x with
  | (p, l, e, R, s, m, args, below, meth, c, Q, D, A, nL) => ∀ (H : Heap) (locs : List Loc) (ls : Array Slot), va_P D cl0 ws H → va_D A ws → va_S A s.heap H locs → lv_has ls nL lv → W p l e R s m args below meth c H locs k n Q (F0 m pc ls st)
/-- the body's fixed facts: its launch, classes' numbers, own class, code, room, locals, answer -/
def vF (x : vC) (l0 : Launch) (D0 : va_G) (own : String) (cc : ByteArray) (rm : Room) (nL0 : Nat) (rt : Option FieldType) : Prop :=
  match x with
  | (p, l, _, R, s, m, args, _, meth, c, _, D, A, nL) => l = l0 ∧ D = D0 ∧ R = rm ∧ nL = nL0 ∧ p.tables.exec = Jvm.exec ∧ c.code = cc ∧ c.maxLocals = nL ∧ s.vm.findClass own = some m.cls ∧ (∀ w ∈ lw_all, w.before args s = true) ∧ (∀ q, s.heap.size ≤ q → A q) ∧ meth.locks = false ∧ meth.sig.returnType = rt ∧ vEN D s ∧ vZA D A s s.heap
/-- the body's end: an int (or a smaller kind) -/
def vRi {S : Type} (x : vC) (w1 : S → va_W) (Qi : Int32 → S → Prop) (mc ms : Nat) : Prop :=
  match x with
  | (_, _, _, _, s, _, args, below, _, _, Q, D, A, _) => Q = MQ below (va_Qi Qi (fun u t => va_P D cl0 (w1 u) t.heap ∧ va_D A (w1 u)) A) args s mc ms A
def vRv {S : Type} (x : vC) (w1 : S → va_W) (Qi : S → Prop) (mc ms : Nat) : Prop :=
  match x with
  | (_, _, _, _, s, _, args, below, _, _, Q, D, A, _) => Q = MQ below (va_Qv Qi (fun u t => va_P D cl0 (w1 u) t.heap ∧ va_D A (w1 u)) A) args s mc ms A
def vRd {S : Type} (x : vC) (w1 : S → va_W) (Qi : UInt64 → S → Prop) (mc ms : Nat) : Prop :=
  match x with
  | (_, _, _, _, s, _, args, below, _, _, Q, D, A, _) => Q = MQ below (va_Qd Qi (fun u t => va_P D cl0 (w1 u) t.heap ∧ va_D A (w1 u)) A) args s mc ms A
def vRf {S : Type} (x : vC) (w1 : S → va_W) (Qi : UInt32 → S → Prop) (mc ms : Nat) : Prop :=
  match x with
  | (_, _, _, _, s, _, args, below, _, _, Q, D, A, _) => Q = MQ below (va_Qf Qi (fun u t => va_P D cl0 (w1 u) t.heap ∧ va_D A (w1 u)) A) args s mc ms A
/-- a reference is handed back: its address is told by the state -/
def vRr {S : Type} (x : vC) (w1 : S → va_W) (ad : S → Nat) (Qi : S → Prop) (mc ms : Nat) : Prop :=
  match x with
  | (_, _, _, _, s, _, args, below, _, _, Q, D, A, _) => Q = MQ below (va_Qr Qi (fun u a t => a = ad u ∧ va_P D cl0 (w1 u) t.heap ∧ va_D A (w1 u)) A) args s mc ms A
/-- a contract: the world w0 at the start, w1 u at the end, Q of the answer and u -/
abbrev vPc (D : va_G) (av : List Value) (w0 : va_W) (sz : Nat) : Array Value → State → Prop := va_Pc av (fun U => U.heap.size = sz ∧ va_P D cl0 w0 U.heap ∧ vEN D U ∧ va_D (fun _ => True) w0 ∧ vZA D (va_A w0 sz) U U.heap)
def Cti (l : Launch) (D : va_G) (y : MethodName) (cc : ByteArray) (maxL : Nat) (rt : FieldType) (rm : Room) (av : List Value) {S : Type} (w0 : va_W) (w1 : S → va_W) (Q : Int32 → S → Prop) (mc ms : Nat) : Prop :=
  ∀ sz, Met l y (ws_ y cc maxL (some rt)) rm (vPc D av w0 sz) (va_Qi Q (fun u t => va_P D cl0 (w1 u) t.heap ∧ va_D (va_A w0 sz) (w1 u)) (va_A w0 sz)) mc ms (va_A w0 sz)
def Ctv (l : Launch) (D : va_G) (y : MethodName) (cc : ByteArray) (maxL : Nat) (rm : Room) (av : List Value) {S : Type} (w0 : va_W) (w1 : S → va_W) (Q : S → Prop) (mc ms : Nat) : Prop :=
  ∀ sz, Met l y (ws_ y cc maxL none) rm (vPc D av w0 sz) (va_Qv Q (fun u t => va_P D cl0 (w1 u) t.heap ∧ va_D (va_A w0 sz) (w1 u)) (va_A w0 sz)) mc ms (va_A w0 sz)
def Ctd (l : Launch) (D : va_G) (y : MethodName) (cc : ByteArray) (maxL : Nat) (rm : Room) (av : List Value) {S : Type} (w0 : va_W) (w1 : S → va_W) (Q : UInt64 → S → Prop) (mc ms : Nat) : Prop :=
  ∀ sz, Met l y (ws_ y cc maxL (some .double)) rm (vPc D av w0 sz) (va_Qd Q (fun u t => va_P D cl0 (w1 u) t.heap ∧ va_D (va_A w0 sz) (w1 u)) (va_A w0 sz)) mc ms (va_A w0 sz)
def Ctf (l : Launch) (D : va_G) (y : MethodName) (cc : ByteArray) (maxL : Nat) (rm : Room) (av : List Value) {S : Type} (w0 : va_W) (w1 : S → va_W) (Q : UInt32 → S → Prop) (mc ms : Nat) : Prop :=
  ∀ sz, Met l y (ws_ y cc maxL (some .float)) rm (vPc D av w0 sz) (va_Qf Q (fun u t => va_P D cl0 (w1 u) t.heap ∧ va_D (va_A w0 sz) (w1 u)) (va_A w0 sz)) mc ms (va_A w0 sz)
def Ctr (l : Launch) (D : va_G) (y : MethodName) (cc : ByteArray) (maxL : Nat) (rt : FieldType) (rm : Room) (av : List Value) {S : Type} (w0 : va_W) (w1 : S → va_W) (ad : S → Nat) (Q : S → Prop) (mc ms : Nat) : Prop :=
  ∀ sz, Met l y (ws_ y cc maxL (some rt)) rm (vPc D av w0 sz) (va_Qr Q (fun u a t => a = ad u ∧ va_P D cl0 (w1 u) t.heap ∧ va_D (va_A w0 sz) (w1 u)) (va_A w0 sz)) mc ms (va_A w0 sz)
theorem Cti.of {l : Launch} {D : va_G} {y : MethodName} {cc : ByteArray} {maxL : Nat} {rt : FieldType} {rm : Room} {av : List Value} {S : Type} {w0 : va_W} {w1 : S → va_W} {Q : Int32 → S → Prop} {mc ms : Nat} (hy : plainName y.cls = true) (hn : (lg_sl av).length ≤ maxL)
    (h : ∀ x : vC, vF x l D y.cls cc rm maxL (some rt) → vRi x w1 Q mc ms → vV x 0 0 w0 (lv_args 0 av) 0 []) : Cti l D y cc maxL rt rm av w0 w1 Q mc ms := by
  intro sz
  refine Met.ofW (cc := cc) (maxL := maxL) (ret := (some rt)) hy rfl ?_
  intro p e s m args below meth c s₁ B hml hv
  obtain ⟨rfl, hsz, hP, hE, hD0, hZ⟩ := hv
  have hts := atoms_spec (ws := ws_ y cc maxL (some rt)) B.pre
  have hts : ∀ w ∈ lw_all, w.before _ s = true := fun w h => hts w (List.mem_cons_of_mem _ h)
  have hown : s.vm.findClass y.cls = some m.cls := findClass_of_methodNamed B.named
  subst hsz
  have hD := hD0.self (sz := s.heap.size)
  have hA : ∀ q : Nat, s.heap.size ≤ q → va_A w0 s.heap.size q := fun q h => Or.inr h
  have hl := lv_entry av (n := maxL) hn
  rw [lg_entry_eq]
  exact h (p, l, e, (headSpec (ws_ y cc maxL (some rt)) rm).room, s, m, av.toArray, below, meth, c, _, D, va_A w0 s.heap.size, maxL)
    ⟨rfl, rfl, rfl, rfl, B.exec, B.bytes, hml, hown, hts, hA, B.notSynchronized, B.returns, hE, hZ⟩ rfl s.heap [] _ hP hD va_S.rf hl
theorem Ctv.of {l : Launch} {D : va_G} {y : MethodName} {cc : ByteArray} {maxL : Nat} {rm : Room} {av : List Value} {S : Type} {w0 : va_W} {w1 : S → va_W} {Q : S → Prop} {mc ms : Nat} (hy : plainName y.cls = true) (hn : (lg_sl av).length ≤ maxL)
    (h : ∀ x : vC, vF x l D y.cls cc rm maxL none → vRv x w1 Q mc ms → vV x 0 0 w0 (lv_args 0 av) 0 []) : Ctv l D y cc maxL rm av w0 w1 Q mc ms := by
  intro sz
  refine Met.ofW (cc := cc) (maxL := maxL) (ret := none) hy rfl ?_
  intro p e s m args below meth c s₁ B hml hv
  obtain ⟨rfl, hsz, hP, hE, hD0, hZ⟩ := hv
  have hts := atoms_spec (ws := ws_ y cc maxL none) B.pre
  have hts : ∀ w ∈ lw_all, w.before _ s = true := fun w h => hts w (List.mem_cons_of_mem _ h)
  have hown : s.vm.findClass y.cls = some m.cls := findClass_of_methodNamed B.named
  subst hsz
  have hD := hD0.self (sz := s.heap.size)
  have hA : ∀ q : Nat, s.heap.size ≤ q → va_A w0 s.heap.size q := fun q h => Or.inr h
  have hl := lv_entry av (n := maxL) hn
  rw [lg_entry_eq]
  exact h (p, l, e, (headSpec (ws_ y cc maxL none) rm).room, s, m, av.toArray, below, meth, c, _, D, va_A w0 s.heap.size, maxL)
    ⟨rfl, rfl, rfl, rfl, B.exec, B.bytes, hml, hown, hts, hA, B.notSynchronized, B.returns, hE, hZ⟩ rfl s.heap [] _ hP hD va_S.rf hl
theorem Ctd.of {l : Launch} {D : va_G} {y : MethodName} {cc : ByteArray} {maxL : Nat} {rm : Room} {av : List Value} {S : Type} {w0 : va_W} {w1 : S → va_W} {Q : UInt64 → S → Prop} {mc ms : Nat} (hy : plainName y.cls = true) (hn : (lg_sl av).length ≤ maxL)
    (h : ∀ x : vC, vF x l D y.cls cc rm maxL (some .double) → vRd x w1 Q mc ms → vV x 0 0 w0 (lv_args 0 av) 0 []) : Ctd l D y cc maxL rm av w0 w1 Q mc ms := by
  intro sz
  refine Met.ofW (cc := cc) (maxL := maxL) (ret := (some .double)) hy rfl ?_
  intro p e s m args below meth c s₁ B hml hv
  obtain ⟨rfl, hsz, hP, hE, hD0, hZ⟩ := hv
  have hts := atoms_spec (ws := ws_ y cc maxL (some .double)) B.pre
  have hts : ∀ w ∈ lw_all, w.before _ s = true := fun w h => hts w (List.mem_cons_of_mem _ h)
  have hown : s.vm.findClass y.cls = some m.cls := findClass_of_methodNamed B.named
  subst hsz
  have hD := hD0.self (sz := s.heap.size)
  have hA : ∀ q : Nat, s.heap.size ≤ q → va_A w0 s.heap.size q := fun q h => Or.inr h
  have hl := lv_entry av (n := maxL) hn
  rw [lg_entry_eq]
  exact h (p, l, e, (headSpec (ws_ y cc maxL (some .double)) rm).room, s, m, av.toArray, below, meth, c, _, D, va_A w0 s.heap.size, maxL)
    ⟨rfl, rfl, rfl, rfl, B.exec, B.bytes, hml, hown, hts, hA, B.notSynchronized, B.returns, hE, hZ⟩ rfl s.heap [] _ hP hD va_S.rf hl
theorem Ctf.of {l : Launch} {D : va_G} {y : MethodName} {cc : ByteArray} {maxL : Nat} {rm : Room} {av : List Value} {S : Type} {w0 : va_W} {w1 : S → va_W} {Q : UInt32 → S → Prop} {mc ms : Nat} (hy : plainName y.cls = true) (hn : (lg_sl av).length ≤ maxL)
    (h : ∀ x : vC, vF x l D y.cls cc rm maxL (some .float) → vRf x w1 Q mc ms → vV x 0 0 w0 (lv_args 0 av) 0 []) : Ctf l D y cc maxL rm av w0 w1 Q mc ms := by
  intro sz
  refine Met.ofW (cc := cc) (maxL := maxL) (ret := (some .float)) hy rfl ?_
  intro p e s m args below meth c s₁ B hml hv
  obtain ⟨rfl, hsz, hP, hE, hD0, hZ⟩ := hv
  have hts := atoms_spec (ws := ws_ y cc maxL (some .float)) B.pre
  have hts : ∀ w ∈ lw_all, w.before _ s = true := fun w h => hts w (List.mem_cons_of_mem _ h)
  have hown : s.vm.findClass y.cls = some m.cls := findClass_of_methodNamed B.named
  subst hsz
  have hD := hD0.self (sz := s.heap.size)
  have hA : ∀ q : Nat, s.heap.size ≤ q → va_A w0 s.heap.size q := fun q h => Or.inr h
  have hl := lv_entry av (n := maxL) hn
  rw [lg_entry_eq]
  exact h (p, l, e, (headSpec (ws_ y cc maxL (some .float)) rm).room, s, m, av.toArray, below, meth, c, _, D, va_A w0 s.heap.size, maxL)
    ⟨rfl, rfl, rfl, rfl, B.exec, B.bytes, hml, hown, hts, hA, B.notSynchronized, B.returns, hE, hZ⟩ rfl s.heap [] _ hP hD va_S.rf hl
theorem Ctr.of {l : Launch} {D : va_G} {y : MethodName} {cc : ByteArray} {maxL : Nat} {rt : FieldType} {rm : Room} {av : List Value} {S : Type} {w0 : va_W} {w1 : S → va_W} {ad : S → Nat} {Q : S → Prop} {mc ms : Nat} (hy : plainName y.cls = true) (hn : (lg_sl av).length ≤ maxL)
    (h : ∀ x : vC, vF x l D y.cls cc rm maxL (some rt) → vRr x w1 ad Q mc ms → vV x 0 0 w0 (lv_args 0 av) 0 []) : Ctr l D y cc maxL rt rm av w0 w1 ad Q mc ms := by
  intro sz
  refine Met.ofW (cc := cc) (maxL := maxL) (ret := (some rt)) hy rfl ?_
  intro p e s m args below meth c s₁ B hml hv
  obtain ⟨rfl, hsz, hP, hE, hD0, hZ⟩ := hv
  have hts := atoms_spec (ws := ws_ y cc maxL (some rt)) B.pre
  have hts : ∀ w ∈ lw_all, w.before _ s = true := fun w h => hts w (List.mem_cons_of_mem _ h)
  have hown : s.vm.findClass y.cls = some m.cls := findClass_of_methodNamed B.named
  subst hsz
  have hD := hD0.self (sz := s.heap.size)
  have hA : ∀ q : Nat, s.heap.size ≤ q → va_A w0 s.heap.size q := fun q h => Or.inr h
  have hl := lv_entry av (n := maxL) hn
  rw [lg_entry_eq]
  exact h (p, l, e, (headSpec (ws_ y cc maxL (some rt)) rm).room, s, m, av.toArray, below, meth, c, _, D, va_A w0 s.heap.size, maxL)
    ⟨rfl, rfl, rfl, rfl, B.exec, B.bytes, hml, hown, hts, hA, B.notSynchronized, B.returns, hE, hZ⟩ rfl s.heap [] _ hP hD va_S.rf hl
/-- the body is a constructor's -/
def vI (x : vC) : Prop :=
  match x with
  | (_, _, _, _, _, _, _, _, meth, _, _, _, _, _) => meth.name = "<init>"
theorem Ctv.ofI {l : Launch} {D : va_G} {y : MethodName} {cc : ByteArray} {maxL : Nat} {rm : Room} {av : List Value} {S : Type} {w0 : va_W} {w1 : S → va_W} {Q : S → Prop} {mc ms : Nat} (hyn : y.name = "<init>") (hy : plainName y.cls = true) (hn : (lg_sl av).length ≤ maxL)
    (h : ∀ x : vC, vF x l D y.cls cc rm maxL none → vRv x w1 Q mc ms → vI x → vV x 0 0 w0 (lv_args 0 av) 0 []) : Ctv l D y cc maxL rm av w0 w1 Q mc ms := by
  intro sz
  refine Met.ofW (cc := cc) (maxL := maxL) (ret := none) hy rfl ?_
  intro p e s m args below meth c s₁ B hml hv
  obtain ⟨rfl, hsz, hP, hE, hD0, hZ⟩ := hv
  have hts := atoms_spec (ws := ws_ y cc maxL none) B.pre
  have hts : ∀ w ∈ lw_all, w.before _ s = true := fun w h => hts w (List.mem_cons_of_mem _ h)
  have hown : s.vm.findClass y.cls = some m.cls := findClass_of_methodNamed B.named
  subst hsz
  have hD := hD0.self (sz := s.heap.size)
  have hA : ∀ q : Nat, s.heap.size ≤ q → va_A w0 s.heap.size q := fun q h => Or.inr h
  have hl := lv_entry av (n := maxL) hn
  rw [lg_entry_eq]
  exact h (p, l, e, (headSpec (ws_ y cc maxL none) rm).room, s, m, av.toArray, below, meth, c, _, D, va_A w0 s.heap.size, maxL)
    ⟨rfl, rfl, rfl, rfl, B.exec, B.bytes, hml, hown, hts, hA, B.notSynchronized, B.returns, hE, hZ⟩ rfl ((name_of_methodNamed B.named B.method).1.trans hyn) s.heap [] _ hP hD va_S.rf hl
theorem v_iconst {x : vC} {l : Launch} {D : va_G} {own : String} {cc : ByteArray} {rm : Room} {nL : Nat} {rt : Option FieldType} {k n : Nat} {ws : va_W} {lv : List (Nat × Value)} {st : List Value} {z : Int} {v : Int32} (pc : Nat) (hF : vF x l D own cc rm nL rt) (hd : decode cc pc = .ok (.iconst z, 1)) (hv : Int32.ofInt z = v)
    (kk : vV x k n ws lv (pc + 1) (.int v :: st)) : vV x k n ws lv pc (st) := by
  obtain ⟨p, l, e, R, s, m, args, below, meth, c, Q, D, A, nL⟩ := x
  obtain ⟨rfl, rfl, rfl, rfl, hx, hb, hml, hown, hts, hA, hlocks, hret, hE, hZ⟩ := hF
  intro H locs ls hP hD hS hl
  exact lv_iconst hx hb hd hv (kk H locs ls hP hD hS hl)
theorem v_bipush {x : vC} {l : Launch} {D : va_G} {own : String} {cc : ByteArray} {rm : Room} {nL : Nat} {rt : Option FieldType} {k n : Nat} {ws : va_W} {lv : List (Nat × Value)} {st : List Value} {z : Int} {v : Int32} (pc : Nat) (hF : vF x l D own cc rm nL rt) (hd : decode cc pc = .ok (.bipush z, 2)) (hv : (Int8.ofInt z).toInt32 = v)
    (kk : vV x k n ws lv (pc + 2) (.int v :: st)) : vV x k n ws lv pc (st) := by
  obtain ⟨p, l, e, R, s, m, args, below, meth, c, Q, D, A, nL⟩ := x
  obtain ⟨rfl, rfl, rfl, rfl, hx, hb, hml, hown, hts, hA, hlocks, hret, hE, hZ⟩ := hF
  intro H locs ls hP hD hS hl
  exact lv_bipush hx hb hd hv (kk H locs ls hP hD hS hl)
theorem v_sipush {x : vC} {l : Launch} {D : va_G} {own : String} {cc : ByteArray} {rm : Room} {nL : Nat} {rt : Option FieldType} {k n : Nat} {ws : va_W} {lv : List (Nat × Value)} {st : List Value} {z : Int} {v : Int32} (pc : Nat) (hF : vF x l D own cc rm nL rt) (hd : decode cc pc = .ok (.sipush z, 3)) (hv : (Int16.ofInt z).toInt32 = v)
    (kk : vV x k n ws lv (pc + 3) (.int v :: st)) : vV x k n ws lv pc (st) := by
  obtain ⟨p, l, e, R, s, m, args, below, meth, c, Q, D, A, nL⟩ := x
  obtain ⟨rfl, rfl, rfl, rfl, hx, hb, hml, hown, hts, hA, hlocks, hret, hE, hZ⟩ := hF
  intro H locs ls hP hD hS hl
  exact lv_sipush hx hb hd hv (kk H locs ls hP hD hS hl)
theorem v_ldc {x : vC} {l : Launch} {D : va_G} {own : String} {cc : ByteArray} {rm : Room} {nL : Nat} {rt : Option FieldType} {k n : Nat} {ws : va_W} {lv : List (Nat × Value)} {st : List Value} {idx : Nat} {v : Int32} (pc : Nat) (hF : vF x l D own cc rm nL rt) (hd : decode cc pc = .ok (.ldc idx, 2)) (hq : Cond.constant own idx v ∈ lw_all)
    (kk : vV x k n ws lv (pc + 2) (.int v :: st)) : vV x k n ws lv pc (st) := by
  obtain ⟨p, l, e, R, s, m, args, below, meth, c, Q, D, A, nL⟩ := x
  obtain ⟨rfl, rfl, rfl, rfl, hx, hb, hml, hown, hts, hA, hlocks, hret, hE, hZ⟩ := hF
  intro H locs ls hP hD hS hl
  exact lv_ldc hx hb hown (hts _ hq) hd (kk H locs ls hP hD hS hl)
theorem v_ldcw {x : vC} {l : Launch} {D : va_G} {own : String} {cc : ByteArray} {rm : Room} {nL : Nat} {rt : Option FieldType} {k n : Nat} {ws : va_W} {lv : List (Nat × Value)} {st : List Value} {idx : Nat} {v : Int32} (pc : Nat) (hF : vF x l D own cc rm nL rt) (hd : decode cc pc = .ok (.ldc_w idx, 3)) (hq : Cond.constant own idx v ∈ lw_all)
    (kk : vV x k n ws lv (pc + 3) (.int v :: st)) : vV x k n ws lv pc (st) := by
  obtain ⟨p, l, e, R, s, m, args, below, meth, c, Q, D, A, nL⟩ := x
  obtain ⟨rfl, rfl, rfl, rfl, hx, hb, hml, hown, hts, hA, hlocks, hret, hE, hZ⟩ := hF
  intro H locs ls hP hD hS hl
  exact lv_ldcw hx hb hown (hts _ hq) hd (kk H locs ls hP hD hS hl)
theorem v_aconst_null {x : vC} {l : Launch} {D : va_G} {own : String} {cc : ByteArray} {rm : Room} {nL : Nat} {rt : Option FieldType} {k n : Nat} {ws : va_W} {lv : List (Nat × Value)} {st : List Value}  (pc : Nat) (hF : vF x l D own cc rm nL rt) (hd : decode cc pc = .ok (.aconst_null, 1))
    (kk : vV x k n ws lv (pc + 1) (.null :: st)) : vV x k n ws lv pc (st) := by
  obtain ⟨p, l, e, R, s, m, args, below, meth, c, Q, D, A, nL⟩ := x
  obtain ⟨rfl, rfl, rfl, rfl, hx, hb, hml, hown, hts, hA, hlocks, hret, hE, hZ⟩ := hF
  intro H locs ls hP hD hS hl
  exact lv_null hx hb hd (kk H locs ls hP hD hS hl)
theorem v_iload_n {x : vC} {l : Launch} {D : va_G} {own : String} {cc : ByteArray} {rm : Room} {nL : Nat} {rt : Option FieldType} {k n : Nat} {ws : va_W} {lv : List (Nat × Value)} {st : List Value} {q : Fin 4} {i : Nat} {y : Int32} (pc : Nat) (hF : vF x l D own cc rm nL rt) (hd : decode cc pc = .ok (.iload_n q, 1)) (hi : (q : Nat) = i) (j : Nat) (hj : lv[j]? = some (i, .int y))
    (kk : vV x k n ws lv (pc + 1) (.int y :: st)) : vV x k n ws lv pc (st) := by
  obtain ⟨p, l, e, R, s, m, args, below, meth, c, Q, D, A, nL⟩ := x
  obtain ⟨rfl, rfl, rfl, rfl, hx, hb, hml, hown, hts, hA, hlocks, hret, hE, hZ⟩ := hF
  intro H locs ls hP hD hS hl
  exact lv_iload_n hx hb hd hi (lv_at hl j hj) (kk H locs ls hP hD hS hl)
theorem v_iload {x : vC} {l : Launch} {D : va_G} {own : String} {cc : ByteArray} {rm : Room} {nL : Nat} {rt : Option FieldType} {k n : Nat} {ws : va_W} {lv : List (Nat × Value)} {st : List Value} {i : Nat} {y : Int32} (pc : Nat) (hF : vF x l D own cc rm nL rt) (hd : decode cc pc = .ok (.iload i, 2)) (j : Nat) (hj : lv[j]? = some (i, .int y))
    (kk : vV x k n ws lv (pc + 2) (.int y :: st)) : vV x k n ws lv pc (st) := by
  obtain ⟨p, l, e, R, s, m, args, below, meth, c, Q, D, A, nL⟩ := x
  obtain ⟨rfl, rfl, rfl, rfl, hx, hb, hml, hown, hts, hA, hlocks, hret, hE, hZ⟩ := hF
  intro H locs ls hP hD hS hl
  exact lv_iload hx hb hd (lv_at hl j hj) (kk H locs ls hP hD hS hl)
theorem v_aload_n {x : vC} {l : Launch} {D : va_G} {own : String} {cc : ByteArray} {rm : Room} {nL : Nat} {rt : Option FieldType} {k n : Nat} {ws : va_W} {lv : List (Nat × Value)} {st : List Value} {q : Fin 4} {i : Nat} {y : Nat} (pc : Nat) (hF : vF x l D own cc rm nL rt) (hd : decode cc pc = .ok (.aload_n q, 1)) (hi : (q : Nat) = i) (j : Nat) (hj : lv[j]? = some (i, .ref y))
    (kk : vV x k n ws lv (pc + 1) (.ref y :: st)) : vV x k n ws lv pc (st) := by
  obtain ⟨p, l, e, R, s, m, args, below, meth, c, Q, D, A, nL⟩ := x
  obtain ⟨rfl, rfl, rfl, rfl, hx, hb, hml, hown, hts, hA, hlocks, hret, hE, hZ⟩ := hF
  intro H locs ls hP hD hS hl
  exact lv_aload_n hx hb hd hi (lv_at hl j hj) (kk H locs ls hP hD hS hl)
theorem v_aload {x : vC} {l : Launch} {D : va_G} {own : String} {cc : ByteArray} {rm : Room} {nL : Nat} {rt : Option FieldType} {k n : Nat} {ws : va_W} {lv : List (Nat × Value)} {st : List Value} {i : Nat} {y : Nat} (pc : Nat) (hF : vF x l D own cc rm nL rt) (hd : decode cc pc = .ok (.aload i, 2)) (j : Nat) (hj : lv[j]? = some (i, .ref y))
    (kk : vV x k n ws lv (pc + 2) (.ref y :: st)) : vV x k n ws lv pc (st) := by
  obtain ⟨p, l, e, R, s, m, args, below, meth, c, Q, D, A, nL⟩ := x
  obtain ⟨rfl, rfl, rfl, rfl, hx, hb, hml, hown, hts, hA, hlocks, hret, hE, hZ⟩ := hF
  intro H locs ls hP hD hS hl
  exact lv_aload hx hb hd (lv_at hl j hj) (kk H locs ls hP hD hS hl)
theorem v_lload_n {x : vC} {l : Launch} {D : va_G} {own : String} {cc : ByteArray} {rm : Room} {nL : Nat} {rt : Option FieldType} {k n : Nat} {ws : va_W} {lv : List (Nat × Value)} {st : List Value} {q : Fin 4} {i : Nat} {y : Int64} (pc : Nat) (hF : vF x l D own cc rm nL rt) (hd : decode cc pc = .ok (.lload_n q, 1)) (hi : (q : Nat) = i) (j : Nat) (hj : lv[j]? = some (i, .long y))
    (kk : vV x k n ws lv (pc + 1) (.long y :: st)) : vV x k n ws lv pc (st) := by
  obtain ⟨p, l, e, R, s, m, args, below, meth, c, Q, D, A, nL⟩ := x
  obtain ⟨rfl, rfl, rfl, rfl, hx, hb, hml, hown, hts, hA, hlocks, hret, hE, hZ⟩ := hF
  intro H locs ls hP hD hS hl
  exact lv_lload_n hx hb hd hi (lv_at hl j hj) (kk H locs ls hP hD hS hl)
theorem v_lload {x : vC} {l : Launch} {D : va_G} {own : String} {cc : ByteArray} {rm : Room} {nL : Nat} {rt : Option FieldType} {k n : Nat} {ws : va_W} {lv : List (Nat × Value)} {st : List Value} {i : Nat} {y : Int64} (pc : Nat) (hF : vF x l D own cc rm nL rt) (hd : decode cc pc = .ok (.lload i, 2)) (j : Nat) (hj : lv[j]? = some (i, .long y))
    (kk : vV x k n ws lv (pc + 2) (.long y :: st)) : vV x k n ws lv pc (st) := by
  obtain ⟨p, l, e, R, s, m, args, below, meth, c, Q, D, A, nL⟩ := x
  obtain ⟨rfl, rfl, rfl, rfl, hx, hb, hml, hown, hts, hA, hlocks, hret, hE, hZ⟩ := hF
  intro H locs ls hP hD hS hl
  exact lv_lload hx hb hd (lv_at hl j hj) (kk H locs ls hP hD hS hl)
theorem v_dload_n {x : vC} {l : Launch} {D : va_G} {own : String} {cc : ByteArray} {rm : Room} {nL : Nat} {rt : Option FieldType} {k n : Nat} {ws : va_W} {lv : List (Nat × Value)} {st : List Value} {q : Fin 4} {i : Nat} {y : UInt64} (pc : Nat) (hF : vF x l D own cc rm nL rt) (hd : decode cc pc = .ok (.dload_n q, 1)) (hi : (q : Nat) = i) (j : Nat) (hj : lv[j]? = some (i, .double y))
    (kk : vV x k n ws lv (pc + 1) (.double y :: st)) : vV x k n ws lv pc (st) := by
  obtain ⟨p, l, e, R, s, m, args, below, meth, c, Q, D, A, nL⟩ := x
  obtain ⟨rfl, rfl, rfl, rfl, hx, hb, hml, hown, hts, hA, hlocks, hret, hE, hZ⟩ := hF
  intro H locs ls hP hD hS hl
  exact lv_dload_n hx hb hd hi (lv_at hl j hj) (kk H locs ls hP hD hS hl)
theorem v_dload {x : vC} {l : Launch} {D : va_G} {own : String} {cc : ByteArray} {rm : Room} {nL : Nat} {rt : Option FieldType} {k n : Nat} {ws : va_W} {lv : List (Nat × Value)} {st : List Value} {i : Nat} {y : UInt64} (pc : Nat) (hF : vF x l D own cc rm nL rt) (hd : decode cc pc = .ok (.dload i, 2)) (j : Nat) (hj : lv[j]? = some (i, .double y))
    (kk : vV x k n ws lv (pc + 2) (.double y :: st)) : vV x k n ws lv pc (st) := by
  obtain ⟨p, l, e, R, s, m, args, below, meth, c, Q, D, A, nL⟩ := x
  obtain ⟨rfl, rfl, rfl, rfl, hx, hb, hml, hown, hts, hA, hlocks, hret, hE, hZ⟩ := hF
  intro H locs ls hP hD hS hl
  exact lv_dload hx hb hd (lv_at hl j hj) (kk H locs ls hP hD hS hl)
theorem v_fload_n {x : vC} {l : Launch} {D : va_G} {own : String} {cc : ByteArray} {rm : Room} {nL : Nat} {rt : Option FieldType} {k n : Nat} {ws : va_W} {lv : List (Nat × Value)} {st : List Value} {q : Fin 4} {i : Nat} {y : UInt32} (pc : Nat) (hF : vF x l D own cc rm nL rt) (hd : decode cc pc = .ok (.fload_n q, 1)) (hi : (q : Nat) = i) (j : Nat) (hj : lv[j]? = some (i, .float y))
    (kk : vV x k n ws lv (pc + 1) (.float y :: st)) : vV x k n ws lv pc (st) := by
  obtain ⟨p, l, e, R, s, m, args, below, meth, c, Q, D, A, nL⟩ := x
  obtain ⟨rfl, rfl, rfl, rfl, hx, hb, hml, hown, hts, hA, hlocks, hret, hE, hZ⟩ := hF
  intro H locs ls hP hD hS hl
  exact lv_fload_n hx hb hd hi (lv_at hl j hj) (kk H locs ls hP hD hS hl)
theorem v_fload {x : vC} {l : Launch} {D : va_G} {own : String} {cc : ByteArray} {rm : Room} {nL : Nat} {rt : Option FieldType} {k n : Nat} {ws : va_W} {lv : List (Nat × Value)} {st : List Value} {i : Nat} {y : UInt32} (pc : Nat) (hF : vF x l D own cc rm nL rt) (hd : decode cc pc = .ok (.fload i, 2)) (j : Nat) (hj : lv[j]? = some (i, .float y))
    (kk : vV x k n ws lv (pc + 2) (.float y :: st)) : vV x k n ws lv pc (st) := by
  obtain ⟨p, l, e, R, s, m, args, below, meth, c, Q, D, A, nL⟩ := x
  obtain ⟨rfl, rfl, rfl, rfl, hx, hb, hml, hown, hts, hA, hlocks, hret, hE, hZ⟩ := hF
  intro H locs ls hP hD hS hl
  exact lv_fload hx hb hd (lv_at hl j hj) (kk H locs ls hP hD hS hl)
theorem v_istore_n {x : vC} {l : Launch} {D : va_G} {own : String} {cc : ByteArray} {rm : Room} {nL : Nat} {rt : Option FieldType} {k n : Nat} {ws : va_W} {lv : List (Nat × Value)} {st : List Value} {q : Fin 4} {i : Nat} {y : Int32} (lv1 : List (Nat × Value)) (ks : List Nat) (pc : Nat) (hF : vF x l D own cc rm nL rt) (hd : decode cc pc = .ok (.istore_n q, 1)) (hi : (q : Nat) = i) (hn : i < nL) (hl1 : lv_pick ((i, Value.int y) :: lv.filter (fun q => !(q.1 == i) && !(q.1 + 1 == i && q.2.category == 2))) ks = lv1)
    (kk : vV x k n ws lv1 (pc + 1) st) : vV x k n ws lv pc (.int y :: st) := by
  obtain ⟨p, l, e, R, s, m, args, below, meth, c, Q, D, A, nL⟩ := x
  obtain ⟨rfl, rfl, rfl, rfl, hx, hb, hml, hown, hts, hA, hlocks, hret, hE, hZ⟩ := hF
  intro H locs ls hP hD hS hl
  exact lv_istore_n hx hb hd hi hl hn rfl (fun ls hl => kk H locs ls hP hD hS (lv_sub hl ks hl1))
theorem v_istore {x : vC} {l : Launch} {D : va_G} {own : String} {cc : ByteArray} {rm : Room} {nL : Nat} {rt : Option FieldType} {k n : Nat} {ws : va_W} {lv : List (Nat × Value)} {st : List Value} {i : Nat} {y : Int32} (lv1 : List (Nat × Value)) (ks : List Nat) (pc : Nat) (hF : vF x l D own cc rm nL rt) (hd : decode cc pc = .ok (.istore i, 2)) (hn : i < nL) (hl1 : lv_pick ((i, Value.int y) :: lv.filter (fun q => !(q.1 == i) && !(q.1 + 1 == i && q.2.category == 2))) ks = lv1)
    (kk : vV x k n ws lv1 (pc + 2) st) : vV x k n ws lv pc (.int y :: st) := by
  obtain ⟨p, l, e, R, s, m, args, below, meth, c, Q, D, A, nL⟩ := x
  obtain ⟨rfl, rfl, rfl, rfl, hx, hb, hml, hown, hts, hA, hlocks, hret, hE, hZ⟩ := hF
  intro H locs ls hP hD hS hl
  exact lv_istore hx hb hd hl hn rfl (fun ls hl => kk H locs ls hP hD hS (lv_sub hl ks hl1))
theorem v_astore_n {x : vC} {l : Launch} {D : va_G} {own : String} {cc : ByteArray} {rm : Room} {nL : Nat} {rt : Option FieldType} {k n : Nat} {ws : va_W} {lv : List (Nat × Value)} {st : List Value} {q : Fin 4} {i : Nat} {y : Nat} (lv1 : List (Nat × Value)) (ks : List Nat) (pc : Nat) (hF : vF x l D own cc rm nL rt) (hd : decode cc pc = .ok (.astore_n q, 1)) (hi : (q : Nat) = i) (hn : i < nL) (hl1 : lv_pick ((i, Value.ref y) :: lv.filter (fun q => !(q.1 == i) && !(q.1 + 1 == i && q.2.category == 2))) ks = lv1)
    (kk : vV x k n ws lv1 (pc + 1) st) : vV x k n ws lv pc (.ref y :: st) := by
  obtain ⟨p, l, e, R, s, m, args, below, meth, c, Q, D, A, nL⟩ := x
  obtain ⟨rfl, rfl, rfl, rfl, hx, hb, hml, hown, hts, hA, hlocks, hret, hE, hZ⟩ := hF
  intro H locs ls hP hD hS hl
  exact lv_astore_n hx hb hd hi hl hn rfl (fun ls hl => kk H locs ls hP hD hS (lv_sub hl ks hl1))
theorem v_astore {x : vC} {l : Launch} {D : va_G} {own : String} {cc : ByteArray} {rm : Room} {nL : Nat} {rt : Option FieldType} {k n : Nat} {ws : va_W} {lv : List (Nat × Value)} {st : List Value} {i : Nat} {y : Nat} (lv1 : List (Nat × Value)) (ks : List Nat) (pc : Nat) (hF : vF x l D own cc rm nL rt) (hd : decode cc pc = .ok (.astore i, 2)) (hn : i < nL) (hl1 : lv_pick ((i, Value.ref y) :: lv.filter (fun q => !(q.1 == i) && !(q.1 + 1 == i && q.2.category == 2))) ks = lv1)
    (kk : vV x k n ws lv1 (pc + 2) st) : vV x k n ws lv pc (.ref y :: st) := by
  obtain ⟨p, l, e, R, s, m, args, below, meth, c, Q, D, A, nL⟩ := x
  obtain ⟨rfl, rfl, rfl, rfl, hx, hb, hml, hown, hts, hA, hlocks, hret, hE, hZ⟩ := hF
  intro H locs ls hP hD hS hl
  exact lv_astore hx hb hd hl hn rfl (fun ls hl => kk H locs ls hP hD hS (lv_sub hl ks hl1))
theorem v_fstore_n {x : vC} {l : Launch} {D : va_G} {own : String} {cc : ByteArray} {rm : Room} {nL : Nat} {rt : Option FieldType} {k n : Nat} {ws : va_W} {lv : List (Nat × Value)} {st : List Value} {q : Fin 4} {i : Nat} {y : UInt32} (lv1 : List (Nat × Value)) (ks : List Nat) (pc : Nat) (hF : vF x l D own cc rm nL rt) (hd : decode cc pc = .ok (.fstore_n q, 1)) (hi : (q : Nat) = i) (hn : i < nL) (hl1 : lv_pick ((i, Value.float y) :: lv.filter (fun q => !(q.1 == i) && !(q.1 + 1 == i && q.2.category == 2))) ks = lv1)
    (kk : vV x k n ws lv1 (pc + 1) st) : vV x k n ws lv pc (.float y :: st) := by
  obtain ⟨p, l, e, R, s, m, args, below, meth, c, Q, D, A, nL⟩ := x
  obtain ⟨rfl, rfl, rfl, rfl, hx, hb, hml, hown, hts, hA, hlocks, hret, hE, hZ⟩ := hF
  intro H locs ls hP hD hS hl
  exact lv_fstore_n hx hb hd hi hl hn rfl (fun ls hl => kk H locs ls hP hD hS (lv_sub hl ks hl1))
theorem v_fstore {x : vC} {l : Launch} {D : va_G} {own : String} {cc : ByteArray} {rm : Room} {nL : Nat} {rt : Option FieldType} {k n : Nat} {ws : va_W} {lv : List (Nat × Value)} {st : List Value} {i : Nat} {y : UInt32} (lv1 : List (Nat × Value)) (ks : List Nat) (pc : Nat) (hF : vF x l D own cc rm nL rt) (hd : decode cc pc = .ok (.fstore i, 2)) (hn : i < nL) (hl1 : lv_pick ((i, Value.float y) :: lv.filter (fun q => !(q.1 == i) && !(q.1 + 1 == i && q.2.category == 2))) ks = lv1)
    (kk : vV x k n ws lv1 (pc + 2) st) : vV x k n ws lv pc (.float y :: st) := by
  obtain ⟨p, l, e, R, s, m, args, below, meth, c, Q, D, A, nL⟩ := x
  obtain ⟨rfl, rfl, rfl, rfl, hx, hb, hml, hown, hts, hA, hlocks, hret, hE, hZ⟩ := hF
  intro H locs ls hP hD hS hl
  exact lv_fstore hx hb hd hl hn rfl (fun ls hl => kk H locs ls hP hD hS (lv_sub hl ks hl1))
theorem v_iinc {x : vC} {l : Launch} {D : va_G} {own : String} {cc : ByteArray} {rm : Room} {nL : Nat} {rt : Option FieldType} {k n : Nat} {ws : va_W} {lv : List (Nat × Value)} {st : List Value} {i : Nat} {z : Int} {y v : Int32} (lv1 : List (Nat × Value)) (ks : List Nat) (pc : Nat) (hF : vF x l D own cc rm nL rt) (hd : decode cc pc = .ok (.iinc i z, 3)) (j : Nat) (hj : lv[j]? = some (i, .int y)) (hv : y + Int32.ofInt z = v) (hn : i < nL) (hl1 : lv_pick ((i, Value.int v) :: lv.filter (fun q => !(q.1 == i) && !(q.1 + 1 == i && q.2.category == 2))) ks = lv1)
    (kk : vV x k n ws lv1 (pc + 3) st) : vV x k n ws lv pc (st) := by
  obtain ⟨p, l, e, R, s, m, args, below, meth, c, Q, D, A, nL⟩ := x
  obtain ⟨rfl, rfl, rfl, rfl, hx, hb, hml, hown, hts, hA, hlocks, hret, hE, hZ⟩ := hF
  intro H locs ls hP hD hS hl
  exact lv_iinc hx hb hd hl hj hv hn rfl (fun ls hl => kk H locs ls hP hD hS (lv_sub hl ks hl1))
theorem v_iadd {x : vC} {l : Launch} {D : va_G} {own : String} {cc : ByteArray} {rm : Room} {nL : Nat} {rt : Option FieldType} {k n : Nat} {ws : va_W} {lv : List (Nat × Value)} {st : List Value} {a b : Int32} (pc : Nat) (hF : vF x l D own cc rm nL rt) (hd : decode cc pc = .ok (.iadd, 1))
    (kk : vV x k n ws lv (pc + 1) (.int (a + b) :: st)) : vV x k n ws lv pc (.int b :: .int a :: st) := by
  obtain ⟨p, l, e, R, s, m, args, below, meth, c, Q, D, A, nL⟩ := x
  obtain ⟨rfl, rfl, rfl, rfl, hx, hb, hml, hown, hts, hA, hlocks, hret, hE, hZ⟩ := hF
  intro H locs ls hP hD hS hl
  exact lv_iadd hx hb hd (kk H locs ls hP hD hS hl)
theorem v_isub {x : vC} {l : Launch} {D : va_G} {own : String} {cc : ByteArray} {rm : Room} {nL : Nat} {rt : Option FieldType} {k n : Nat} {ws : va_W} {lv : List (Nat × Value)} {st : List Value} {a b : Int32} (pc : Nat) (hF : vF x l D own cc rm nL rt) (hd : decode cc pc = .ok (.isub, 1))
    (kk : vV x k n ws lv (pc + 1) (.int (a - b) :: st)) : vV x k n ws lv pc (.int b :: .int a :: st) := by
  obtain ⟨p, l, e, R, s, m, args, below, meth, c, Q, D, A, nL⟩ := x
  obtain ⟨rfl, rfl, rfl, rfl, hx, hb, hml, hown, hts, hA, hlocks, hret, hE, hZ⟩ := hF
  intro H locs ls hP hD hS hl
  exact lv_isub hx hb hd (kk H locs ls hP hD hS hl)
theorem v_imul {x : vC} {l : Launch} {D : va_G} {own : String} {cc : ByteArray} {rm : Room} {nL : Nat} {rt : Option FieldType} {k n : Nat} {ws : va_W} {lv : List (Nat × Value)} {st : List Value} {a b : Int32} (pc : Nat) (hF : vF x l D own cc rm nL rt) (hd : decode cc pc = .ok (.imul, 1))
    (kk : vV x k n ws lv (pc + 1) (.int (a * b) :: st)) : vV x k n ws lv pc (.int b :: .int a :: st) := by
  obtain ⟨p, l, e, R, s, m, args, below, meth, c, Q, D, A, nL⟩ := x
  obtain ⟨rfl, rfl, rfl, rfl, hx, hb, hml, hown, hts, hA, hlocks, hret, hE, hZ⟩ := hF
  intro H locs ls hP hD hS hl
  exact lv_imul hx hb hd (kk H locs ls hP hD hS hl)
theorem v_iand {x : vC} {l : Launch} {D : va_G} {own : String} {cc : ByteArray} {rm : Room} {nL : Nat} {rt : Option FieldType} {k n : Nat} {ws : va_W} {lv : List (Nat × Value)} {st : List Value} {a b : Int32} (pc : Nat) (hF : vF x l D own cc rm nL rt) (hd : decode cc pc = .ok (.iand, 1))
    (kk : vV x k n ws lv (pc + 1) (.int (a &&& b) :: st)) : vV x k n ws lv pc (.int b :: .int a :: st) := by
  obtain ⟨p, l, e, R, s, m, args, below, meth, c, Q, D, A, nL⟩ := x
  obtain ⟨rfl, rfl, rfl, rfl, hx, hb, hml, hown, hts, hA, hlocks, hret, hE, hZ⟩ := hF
  intro H locs ls hP hD hS hl
  exact lv_iand hx hb hd (kk H locs ls hP hD hS hl)
theorem v_ior {x : vC} {l : Launch} {D : va_G} {own : String} {cc : ByteArray} {rm : Room} {nL : Nat} {rt : Option FieldType} {k n : Nat} {ws : va_W} {lv : List (Nat × Value)} {st : List Value} {a b : Int32} (pc : Nat) (hF : vF x l D own cc rm nL rt) (hd : decode cc pc = .ok (.ior, 1))
    (kk : vV x k n ws lv (pc + 1) (.int (a ||| b) :: st)) : vV x k n ws lv pc (.int b :: .int a :: st) := by
  obtain ⟨p, l, e, R, s, m, args, below, meth, c, Q, D, A, nL⟩ := x
  obtain ⟨rfl, rfl, rfl, rfl, hx, hb, hml, hown, hts, hA, hlocks, hret, hE, hZ⟩ := hF
  intro H locs ls hP hD hS hl
  exact lv_ior hx hb hd (kk H locs ls hP hD hS hl)
theorem v_ixor {x : vC} {l : Launch} {D : va_G} {own : String} {cc : ByteArray} {rm : Room} {nL : Nat} {rt : Option FieldType} {k n : Nat} {ws : va_W} {lv : List (Nat × Value)} {st : List Value} {a b : Int32} (pc : Nat) (hF : vF x l D own cc rm nL rt) (hd : decode cc pc = .ok (.ixor, 1))
    (kk : vV x k n ws lv (pc + 1) (.int (a ^^^ b) :: st)) : vV x k n ws lv pc (.int b :: .int a :: st) := by
  obtain ⟨p, l, e, R, s, m, args, below, meth, c, Q, D, A, nL⟩ := x
  obtain ⟨rfl, rfl, rfl, rfl, hx, hb, hml, hown, hts, hA, hlocks, hret, hE, hZ⟩ := hF
  intro H locs ls hP hD hS hl
  exact lv_ixor hx hb hd (kk H locs ls hP hD hS hl)
theorem v_ishl {x : vC} {l : Launch} {D : va_G} {own : String} {cc : ByteArray} {rm : Room} {nL : Nat} {rt : Option FieldType} {k n : Nat} {ws : va_W} {lv : List (Nat × Value)} {st : List Value} {a b : Int32} (pc : Nat) (hF : vF x l D own cc rm nL rt) (hd : decode cc pc = .ok (.ishl, 1))
    (kk : vV x k n ws lv (pc + 1) (.int (a <<< (b &&& 31)) :: st)) : vV x k n ws lv pc (.int b :: .int a :: st) := by
  obtain ⟨p, l, e, R, s, m, args, below, meth, c, Q, D, A, nL⟩ := x
  obtain ⟨rfl, rfl, rfl, rfl, hx, hb, hml, hown, hts, hA, hlocks, hret, hE, hZ⟩ := hF
  intro H locs ls hP hD hS hl
  exact lv_ishl hx hb hd (kk H locs ls hP hD hS hl)
theorem v_ishr {x : vC} {l : Launch} {D : va_G} {own : String} {cc : ByteArray} {rm : Room} {nL : Nat} {rt : Option FieldType} {k n : Nat} {ws : va_W} {lv : List (Nat × Value)} {st : List Value} {a b : Int32} (pc : Nat) (hF : vF x l D own cc rm nL rt) (hd : decode cc pc = .ok (.ishr, 1))
    (kk : vV x k n ws lv (pc + 1) (.int (a >>> (b &&& 31)) :: st)) : vV x k n ws lv pc (.int b :: .int a :: st) := by
  obtain ⟨p, l, e, R, s, m, args, below, meth, c, Q, D, A, nL⟩ := x
  obtain ⟨rfl, rfl, rfl, rfl, hx, hb, hml, hown, hts, hA, hlocks, hret, hE, hZ⟩ := hF
  intro H locs ls hP hD hS hl
  exact lv_ishr hx hb hd (kk H locs ls hP hD hS hl)
theorem v_iushr {x : vC} {l : Launch} {D : va_G} {own : String} {cc : ByteArray} {rm : Room} {nL : Nat} {rt : Option FieldType} {k n : Nat} {ws : va_W} {lv : List (Nat × Value)} {st : List Value} {a b : Int32} (pc : Nat) (hF : vF x l D own cc rm nL rt) (hd : decode cc pc = .ok (.iushr, 1))
    (kk : vV x k n ws lv (pc + 1) (.int (a.toUInt32 >>> (b.toUInt32 &&& Int32.toUInt32 31)).toInt32 :: st)) : vV x k n ws lv pc (.int b :: .int a :: st) := by
  obtain ⟨p, l, e, R, s, m, args, below, meth, c, Q, D, A, nL⟩ := x
  obtain ⟨rfl, rfl, rfl, rfl, hx, hb, hml, hown, hts, hA, hlocks, hret, hE, hZ⟩ := hF
  intro H locs ls hP hD hS hl
  exact lv_iushr hx hb hd rfl (kk H locs ls hP hD hS hl)
theorem v_idiv {x : vC} {l : Launch} {D : va_G} {own : String} {cc : ByteArray} {rm : Room} {nL : Nat} {rt : Option FieldType} {k n : Nat} {ws : va_W} {lv : List (Nat × Value)} {st : List Value} {a b : Int32} (pc : Nat) (hF : vF x l D own cc rm nL rt) (hd : decode cc pc = .ok (.idiv, 1)) (hne : ¬ b = 0)
    (kk : vV x k n ws lv (pc + 1) (.int (a / b) :: st)) : vV x k n ws lv pc (.int b :: .int a :: st) := by
  obtain ⟨p, l, e, R, s, m, args, below, meth, c, Q, D, A, nL⟩ := x
  obtain ⟨rfl, rfl, rfl, rfl, hx, hb, hml, hown, hts, hA, hlocks, hret, hE, hZ⟩ := hF
  intro H locs ls hP hD hS hl
  exact lv_idiv hx hb hd hne (kk H locs ls hP hD hS hl)
theorem v_irem {x : vC} {l : Launch} {D : va_G} {own : String} {cc : ByteArray} {rm : Room} {nL : Nat} {rt : Option FieldType} {k n : Nat} {ws : va_W} {lv : List (Nat × Value)} {st : List Value} {a b : Int32} (pc : Nat) (hF : vF x l D own cc rm nL rt) (hd : decode cc pc = .ok (.irem, 1)) (hne : ¬ b = 0)
    (kk : vV x k n ws lv (pc + 1) (.int (a - a / b * b) :: st)) : vV x k n ws lv pc (.int b :: .int a :: st) := by
  obtain ⟨p, l, e, R, s, m, args, below, meth, c, Q, D, A, nL⟩ := x
  obtain ⟨rfl, rfl, rfl, rfl, hx, hb, hml, hown, hts, hA, hlocks, hret, hE, hZ⟩ := hF
  intro H locs ls hP hD hS hl
  exact lv_irem hx hb hd hne (kk H locs ls hP hD hS hl)
theorem v_ineg {x : vC} {l : Launch} {D : va_G} {own : String} {cc : ByteArray} {rm : Room} {nL : Nat} {rt : Option FieldType} {k n : Nat} {ws : va_W} {lv : List (Nat × Value)} {st : List Value} {a : Int32} (pc : Nat) (hF : vF x l D own cc rm nL rt) (hd : decode cc pc = .ok (.ineg, 1))
    (kk : vV x k n ws lv (pc + 1) (.int (-a) :: st)) : vV x k n ws lv pc (.int a :: st) := by
  obtain ⟨p, l, e, R, s, m, args, below, meth, c, Q, D, A, nL⟩ := x
  obtain ⟨rfl, rfl, rfl, rfl, hx, hb, hml, hown, hts, hA, hlocks, hret, hE, hZ⟩ := hF
  intro H locs ls hP hD hS hl
  exact lv_ineg hx hb hd (kk H locs ls hP hD hS hl)
theorem v_i2c {x : vC} {l : Launch} {D : va_G} {own : String} {cc : ByteArray} {rm : Room} {nL : Nat} {rt : Option FieldType} {k n : Nat} {ws : va_W} {lv : List (Nat × Value)} {st : List Value} {a : Int32} (pc : Nat) (hF : vF x l D own cc rm nL rt) (hd : decode cc pc = .ok (.i2c, 1))
    (kk : vV x k n ws lv (pc + 1) (.int (a.toUInt32 % 65536).toInt32 :: st)) : vV x k n ws lv pc (.int a :: st) := by
  obtain ⟨p, l, e, R, s, m, args, below, meth, c, Q, D, A, nL⟩ := x
  obtain ⟨rfl, rfl, rfl, rfl, hx, hb, hml, hown, hts, hA, hlocks, hret, hE, hZ⟩ := hF
  intro H locs ls hP hD hS hl
  exact lv_i2c hx hb hd rfl (kk H locs ls hP hD hS hl)
theorem v_i2b {x : vC} {l : Launch} {D : va_G} {own : String} {cc : ByteArray} {rm : Room} {nL : Nat} {rt : Option FieldType} {k n : Nat} {ws : va_W} {lv : List (Nat × Value)} {st : List Value} {a : Int32} (pc : Nat) (hF : vF x l D own cc rm nL rt) (hd : decode cc pc = .ok (.i2b, 1))
    (kk : vV x k n ws lv (pc + 1) (.int a.toInt8.toInt32 :: st)) : vV x k n ws lv pc (.int a :: st) := by
  obtain ⟨p, l, e, R, s, m, args, below, meth, c, Q, D, A, nL⟩ := x
  obtain ⟨rfl, rfl, rfl, rfl, hx, hb, hml, hown, hts, hA, hlocks, hret, hE, hZ⟩ := hF
  intro H locs ls hP hD hS hl
  exact lv_i2b hx hb hd rfl (kk H locs ls hP hD hS hl)
theorem v_i2l {x : vC} {l : Launch} {D : va_G} {own : String} {cc : ByteArray} {rm : Room} {nL : Nat} {rt : Option FieldType} {k n : Nat} {ws : va_W} {lv : List (Nat × Value)} {st : List Value} {a : Int32} (pc : Nat) (hF : vF x l D own cc rm nL rt) (hd : decode cc pc = .ok (.i2l, 1))
    (kk : vV x k n ws lv (pc + 1) (.long a.toInt64 :: st)) : vV x k n ws lv pc (.int a :: st) := by
  obtain ⟨p, l, e, R, s, m, args, below, meth, c, Q, D, A, nL⟩ := x
  obtain ⟨rfl, rfl, rfl, rfl, hx, hb, hml, hown, hts, hA, hlocks, hret, hE, hZ⟩ := hF
  intro H locs ls hP hD hS hl
  exact lv_i2l hx hb hd rfl (kk H locs ls hP hD hS hl)
theorem v_i2d {x : vC} {l : Launch} {D : va_G} {own : String} {cc : ByteArray} {rm : Room} {nL : Nat} {rt : Option FieldType} {k n : Nat} {ws : va_W} {lv : List (Nat × Value)} {st : List Value} {a : Int32} (pc : Nat) (hF : vF x l D own cc rm nL rt) (hd : decode cc pc = .ok (.i2d, 1))
    (kk : vV x k n ws lv (pc + 1) (.double (FP.i2d a) :: st)) : vV x k n ws lv pc (.int a :: st) := by
  obtain ⟨p, l, e, R, s, m, args, below, meth, c, Q, D, A, nL⟩ := x
  obtain ⟨rfl, rfl, rfl, rfl, hx, hb, hml, hown, hts, hA, hlocks, hret, hE, hZ⟩ := hF
  intro H locs ls hP hD hS hl
  exact lv_i2d hx hb hd (kk H locs ls hP hD hS hl)
theorem v_i2f {x : vC} {l : Launch} {D : va_G} {own : String} {cc : ByteArray} {rm : Room} {nL : Nat} {rt : Option FieldType} {k n : Nat} {ws : va_W} {lv : List (Nat × Value)} {st : List Value} {a : Int32} (pc : Nat) (hF : vF x l D own cc rm nL rt) (hd : decode cc pc = .ok (.i2f, 1))
    (kk : vV x k n ws lv (pc + 1) (.float (FP.i2f a) :: st)) : vV x k n ws lv pc (.int a :: st) := by
  obtain ⟨p, l, e, R, s, m, args, below, meth, c, Q, D, A, nL⟩ := x
  obtain ⟨rfl, rfl, rfl, rfl, hx, hb, hml, hown, hts, hA, hlocks, hret, hE, hZ⟩ := hF
  intro H locs ls hP hD hS hl
  exact lv_i2f hx hb hd (kk H locs ls hP hD hS hl)
theorem v_f2d {x : vC} {l : Launch} {D : va_G} {own : String} {cc : ByteArray} {rm : Room} {nL : Nat} {rt : Option FieldType} {k n : Nat} {ws : va_W} {lv : List (Nat × Value)} {st : List Value} {a : UInt32} (pc : Nat) (hF : vF x l D own cc rm nL rt) (hd : decode cc pc = .ok (.f2d, 1)) (hne : vf_n64 (FP.f2d a))
    (kk : vV x k n ws lv (pc + 1) (.double (FP.f2d a) :: st)) : vV x k n ws lv pc (.float a :: st) := by
  obtain ⟨p, l, e, R, s, m, args, below, meth, c, Q, D, A, nL⟩ := x
  obtain ⟨rfl, rfl, rfl, rfl, hx, hb, hml, hown, hts, hA, hlocks, hret, hE, hZ⟩ := hF
  intro H locs ls hP hD hS hl
  exact lv_f2d hx hb hd hne (kk H locs ls hP hD hS hl)
theorem v_ddiv {x : vC} {l : Launch} {D : va_G} {own : String} {cc : ByteArray} {rm : Room} {nL : Nat} {rt : Option FieldType} {k n : Nat} {ws : va_W} {lv : List (Nat × Value)} {st : List Value} {a b : UInt64} (pc : Nat) (hF : vF x l D own cc rm nL rt) (hd : decode cc pc = .ok (.ddiv, 1)) (hne : vf_n64 (FP.ddiv a b))
    (kk : vV x k n ws lv (pc + 1) (.double (FP.ddiv a b) :: st)) : vV x k n ws lv pc (.double b :: .double a :: st) := by
  obtain ⟨p, l, e, R, s, m, args, below, meth, c, Q, D, A, nL⟩ := x
  obtain ⟨rfl, rfl, rfl, rfl, hx, hb, hml, hown, hts, hA, hlocks, hret, hE, hZ⟩ := hF
  intro H locs ls hP hD hS hl
  exact lv_ddiv hx hb hd hne (kk H locs ls hP hD hS hl)
theorem v_fdiv {x : vC} {l : Launch} {D : va_G} {own : String} {cc : ByteArray} {rm : Room} {nL : Nat} {rt : Option FieldType} {k n : Nat} {ws : va_W} {lv : List (Nat × Value)} {st : List Value} {a b : UInt32} (pc : Nat) (hF : vF x l D own cc rm nL rt) (hd : decode cc pc = .ok (.fdiv, 1)) (hne : vf_n32 (FP.fdiv a b))
    (kk : vV x k n ws lv (pc + 1) (.float (FP.fdiv a b) :: st)) : vV x k n ws lv pc (.float b :: .float a :: st) := by
  obtain ⟨p, l, e, R, s, m, args, below, meth, c, Q, D, A, nL⟩ := x
  obtain ⟨rfl, rfl, rfl, rfl, hx, hb, hml, hown, hts, hA, hlocks, hret, hE, hZ⟩ := hF
  intro H locs ls hP hD hS hl
  exact lv_fdiv hx hb hd hne (kk H locs ls hP hD hS hl)
theorem v_dcmp {x : vC} {l : Launch} {D : va_G} {own : String} {cc : ByteArray} {rm : Room} {nL : Nat} {rt : Option FieldType} {k n : Nat} {ws : va_W} {lv : List (Nat × Value)} {st : List Value} {a b : UInt64} {op : CmpOp} (pc : Nat) (hF : vF x l D own cc rm nL rt) (hd : decode cc pc = .ok (.dcmp op, 1))
    (kk : vV x k n ws lv (pc + 1) (.int (Op.cmpValue (FP.dcmp a b) op) :: st)) : vV x k n ws lv pc (.double b :: .double a :: st) := by
  obtain ⟨p, l, e, R, s, m, args, below, meth, c, Q, D, A, nL⟩ := x
  obtain ⟨rfl, rfl, rfl, rfl, hx, hb, hml, hown, hts, hA, hlocks, hret, hE, hZ⟩ := hF
  intro H locs ls hP hD hS hl
  exact lv_dcmp hx hb hd (kk H locs ls hP hD hS hl)
theorem v_dconst0 {x : vC} {l : Launch} {D : va_G} {own : String} {cc : ByteArray} {rm : Room} {nL : Nat} {rt : Option FieldType} {k n : Nat} {ws : va_W} {lv : List (Nat × Value)} {st : List Value}  (pc : Nat) (hF : vF x l D own cc rm nL rt) (hd : decode cc pc = .ok (.dconst 0, 1))
    (kk : vV x k n ws lv (pc + 1) (.double FP.dconst0 :: st)) : vV x k n ws lv pc (st) := by
  obtain ⟨p, l, e, R, s, m, args, below, meth, c, Q, D, A, nL⟩ := x
  obtain ⟨rfl, rfl, rfl, rfl, hx, hb, hml, hown, hts, hA, hlocks, hret, hE, hZ⟩ := hF
  intro H locs ls hP hD hS hl
  exact lv_dconst0 hx hb hd (kk H locs ls hP hD hS hl)
theorem v_fconst0 {x : vC} {l : Launch} {D : va_G} {own : String} {cc : ByteArray} {rm : Room} {nL : Nat} {rt : Option FieldType} {k n : Nat} {ws : va_W} {lv : List (Nat × Value)} {st : List Value}  (pc : Nat) (hF : vF x l D own cc rm nL rt) (hd : decode cc pc = .ok (.fconst 0, 1))
    (kk : vV x k n ws lv (pc + 1) (.float FP.fconst0 :: st)) : vV x k n ws lv pc (st) := by
  obtain ⟨p, l, e, R, s, m, args, below, meth, c, Q, D, A, nL⟩ := x
  obtain ⟨rfl, rfl, rfl, rfl, hx, hb, hml, hown, hts, hA, hlocks, hret, hE, hZ⟩ := hF
  intro H locs ls hP hD hS hl
  exact lv_fconst0 hx hb hd (kk H locs ls hP hD hS hl)
theorem v_dup {x : vC} {l : Launch} {D : va_G} {own : String} {cc : ByteArray} {rm : Room} {nL : Nat} {rt : Option FieldType} {k n : Nat} {ws : va_W} {lv : List (Nat × Value)} {st : List Value} {va : Value} (pc : Nat) (hF : vF x l D own cc rm nL rt) (hd : decode cc pc = .ok (.dup, 1)) (hva : va.category = 1)
    (kk : vV x k n ws lv (pc + 1) (va :: va :: st)) : vV x k n ws lv pc (va :: st) := by
  obtain ⟨p, l, e, R, s, m, args, below, meth, c, Q, D, A, nL⟩ := x
  obtain ⟨rfl, rfl, rfl, rfl, hx, hb, hml, hown, hts, hA, hlocks, hret, hE, hZ⟩ := hF
  intro H locs ls hP hD hS hl
  exact lv_dup hx hb hd hva (kk H locs ls hP hD hS hl)
theorem v_pop {x : vC} {l : Launch} {D : va_G} {own : String} {cc : ByteArray} {rm : Room} {nL : Nat} {rt : Option FieldType} {k n : Nat} {ws : va_W} {lv : List (Nat × Value)} {st : List Value} {va : Value} (pc : Nat) (hF : vF x l D own cc rm nL rt) (hd : decode cc pc = .ok (.pop, 1)) (hva : va.category = 1)
    (kk : vV x k n ws lv (pc + 1) (st)) : vV x k n ws lv pc (va :: st) := by
  obtain ⟨p, l, e, R, s, m, args, below, meth, c, Q, D, A, nL⟩ := x
  obtain ⟨rfl, rfl, rfl, rfl, hx, hb, hml, hown, hts, hA, hlocks, hret, hE, hZ⟩ := hF
  intro H locs ls hP hD hS hl
  exact lv_pop hx hb hd hva (kk H locs ls hP hD hS hl)
theorem v_dup_x1 {x : vC} {l : Launch} {D : va_G} {own : String} {cc : ByteArray} {rm : Room} {nL : Nat} {rt : Option FieldType} {k n : Nat} {ws : va_W} {lv : List (Nat × Value)} {st : List Value} {va vb : Value} (pc : Nat) (hF : vF x l D own cc rm nL rt) (hd : decode cc pc = .ok (.dup_x1, 1)) (hva : va.category = 1) (hvb : vb.category = 1)
    (kk : vV x k n ws lv (pc + 1) (va :: vb :: va :: st)) : vV x k n ws lv pc (va :: vb :: st) := by
  obtain ⟨p, l, e, R, s, m, args, below, meth, c, Q, D, A, nL⟩ := x
  obtain ⟨rfl, rfl, rfl, rfl, hx, hb, hml, hown, hts, hA, hlocks, hret, hE, hZ⟩ := hF
  intro H locs ls hP hD hS hl
  exact lv_dup_x1 hx hb hd hva hvb (kk H locs ls hP hD hS hl)
theorem v_dup_x2 {x : vC} {l : Launch} {D : va_G} {own : String} {cc : ByteArray} {rm : Room} {nL : Nat} {rt : Option FieldType} {k n : Nat} {ws : va_W} {lv : List (Nat × Value)} {st : List Value} {va vb vd : Value} (pc : Nat) (hF : vF x l D own cc rm nL rt) (hd : decode cc pc = .ok (.dup_x2, 1)) (hva : va.category = 1) (hvb : vb.category = 1) (hvd : vd.category = 1)
    (kk : vV x k n ws lv (pc + 1) (va :: vb :: vd :: va :: st)) : vV x k n ws lv pc (va :: vb :: vd :: st) := by
  obtain ⟨p, l, e, R, s, m, args, below, meth, c, Q, D, A, nL⟩ := x
  obtain ⟨rfl, rfl, rfl, rfl, hx, hb, hml, hown, hts, hA, hlocks, hret, hE, hZ⟩ := hF
  intro H locs ls hP hD hS hl
  exact lv_dup_x2 hx hb hd hva hvb hvd (kk H locs ls hP hD hS hl)
theorem v_dup2 {x : vC} {l : Launch} {D : va_G} {own : String} {cc : ByteArray} {rm : Room} {nL : Nat} {rt : Option FieldType} {k n : Nat} {ws : va_W} {lv : List (Nat × Value)} {st : List Value} {va vb : Value} (pc : Nat) (hF : vF x l D own cc rm nL rt) (hd : decode cc pc = .ok (.dup2, 1)) (hva : va.category = 1) (hvb : vb.category = 1)
    (kk : vV x k n ws lv (pc + 1) (va :: vb :: va :: vb :: st)) : vV x k n ws lv pc (va :: vb :: st) := by
  obtain ⟨p, l, e, R, s, m, args, below, meth, c, Q, D, A, nL⟩ := x
  obtain ⟨rfl, rfl, rfl, rfl, hx, hb, hml, hown, hts, hA, hlocks, hret, hE, hZ⟩ := hF
  intro H locs ls hP hD hS hl
  exact lv_dup2_11 hx hb hd hva hvb (kk H locs ls hP hD hS hl)
theorem v_icmp_eq {x : vC} {l : Launch} {D : va_G} {own : String} {cc : ByteArray} {rm : Room} {nL : Nat} {rt : Option FieldType} {k n : Nat} {ws : va_W} {lv : List (Nat × Value)} {st : List Value} {a b : Int32} {off : Int} (pc tgt : Nat) (hF : vF x l D own cc rm nL rt) (hd : decode cc pc = .ok (.if_icmp .eq off, 3)) (ht : (pc : Int) + off = (tgt : Int))
    (kt : a = b → vV x k n ws lv tgt st) (kf : ¬ a = b → vV x k n ws lv (pc + 3) st) : vV x k n ws lv pc (.int b :: .int a :: st) := by
  obtain ⟨p, l, e, R, s, m, args, below, meth, c, Q, D, A, nL⟩ := x
  obtain ⟨rfl, rfl, rfl, rfl, hx, hb, hml, hown, hts, hA, hlocks, hret, hE, hZ⟩ := hF
  intro H locs ls hP hD hS hl
  exact lv_icmp_eq hx hb hd ht (fun q => kt q H locs ls hP hD hS hl) (fun q => kf q H locs ls hP hD hS hl)
theorem v_if_eq {x : vC} {l : Launch} {D : va_G} {own : String} {cc : ByteArray} {rm : Room} {nL : Nat} {rt : Option FieldType} {k n : Nat} {ws : va_W} {lv : List (Nat × Value)} {st : List Value} {a : Int32} {off : Int} (pc tgt : Nat) (hF : vF x l D own cc rm nL rt) (hd : decode cc pc = .ok (.ifCond .eq off, 3)) (ht : (pc : Int) + off = (tgt : Int))
    (kt : a = 0 → vV x k n ws lv tgt st) (kf : ¬ a = 0 → vV x k n ws lv (pc + 3) st) : vV x k n ws lv pc (.int a :: st) := by
  obtain ⟨p, l, e, R, s, m, args, below, meth, c, Q, D, A, nL⟩ := x
  obtain ⟨rfl, rfl, rfl, rfl, hx, hb, hml, hown, hts, hA, hlocks, hret, hE, hZ⟩ := hF
  intro H locs ls hP hD hS hl
  exact lv_if_eq hx hb hd ht (fun q => kt q H locs ls hP hD hS hl) (fun q => kf q H locs ls hP hD hS hl)
theorem v_icmp_ne {x : vC} {l : Launch} {D : va_G} {own : String} {cc : ByteArray} {rm : Room} {nL : Nat} {rt : Option FieldType} {k n : Nat} {ws : va_W} {lv : List (Nat × Value)} {st : List Value} {a b : Int32} {off : Int} (pc tgt : Nat) (hF : vF x l D own cc rm nL rt) (hd : decode cc pc = .ok (.if_icmp .ne off, 3)) (ht : (pc : Int) + off = (tgt : Int))
    (kt : ¬ a = b → vV x k n ws lv tgt st) (kf : a = b → vV x k n ws lv (pc + 3) st) : vV x k n ws lv pc (.int b :: .int a :: st) := by
  obtain ⟨p, l, e, R, s, m, args, below, meth, c, Q, D, A, nL⟩ := x
  obtain ⟨rfl, rfl, rfl, rfl, hx, hb, hml, hown, hts, hA, hlocks, hret, hE, hZ⟩ := hF
  intro H locs ls hP hD hS hl
  exact lv_icmp_ne hx hb hd ht (fun q => kt q H locs ls hP hD hS hl) (fun q => kf q H locs ls hP hD hS hl)
theorem v_if_ne {x : vC} {l : Launch} {D : va_G} {own : String} {cc : ByteArray} {rm : Room} {nL : Nat} {rt : Option FieldType} {k n : Nat} {ws : va_W} {lv : List (Nat × Value)} {st : List Value} {a : Int32} {off : Int} (pc tgt : Nat) (hF : vF x l D own cc rm nL rt) (hd : decode cc pc = .ok (.ifCond .ne off, 3)) (ht : (pc : Int) + off = (tgt : Int))
    (kt : ¬ a = 0 → vV x k n ws lv tgt st) (kf : a = 0 → vV x k n ws lv (pc + 3) st) : vV x k n ws lv pc (.int a :: st) := by
  obtain ⟨p, l, e, R, s, m, args, below, meth, c, Q, D, A, nL⟩ := x
  obtain ⟨rfl, rfl, rfl, rfl, hx, hb, hml, hown, hts, hA, hlocks, hret, hE, hZ⟩ := hF
  intro H locs ls hP hD hS hl
  exact lv_if_ne hx hb hd ht (fun q => kt q H locs ls hP hD hS hl) (fun q => kf q H locs ls hP hD hS hl)
theorem v_icmp_lt {x : vC} {l : Launch} {D : va_G} {own : String} {cc : ByteArray} {rm : Room} {nL : Nat} {rt : Option FieldType} {k n : Nat} {ws : va_W} {lv : List (Nat × Value)} {st : List Value} {a b : Int32} {off : Int} (pc tgt : Nat) (hF : vF x l D own cc rm nL rt) (hd : decode cc pc = .ok (.if_icmp .lt off, 3)) (ht : (pc : Int) + off = (tgt : Int))
    (kt : a < b → vV x k n ws lv tgt st) (kf : ¬ a < b → vV x k n ws lv (pc + 3) st) : vV x k n ws lv pc (.int b :: .int a :: st) := by
  obtain ⟨p, l, e, R, s, m, args, below, meth, c, Q, D, A, nL⟩ := x
  obtain ⟨rfl, rfl, rfl, rfl, hx, hb, hml, hown, hts, hA, hlocks, hret, hE, hZ⟩ := hF
  intro H locs ls hP hD hS hl
  exact lv_icmp_lt hx hb hd ht (fun q => kt q H locs ls hP hD hS hl) (fun q => kf q H locs ls hP hD hS hl)
theorem v_if_lt {x : vC} {l : Launch} {D : va_G} {own : String} {cc : ByteArray} {rm : Room} {nL : Nat} {rt : Option FieldType} {k n : Nat} {ws : va_W} {lv : List (Nat × Value)} {st : List Value} {a : Int32} {off : Int} (pc tgt : Nat) (hF : vF x l D own cc rm nL rt) (hd : decode cc pc = .ok (.ifCond .lt off, 3)) (ht : (pc : Int) + off = (tgt : Int))
    (kt : a < 0 → vV x k n ws lv tgt st) (kf : ¬ a < 0 → vV x k n ws lv (pc + 3) st) : vV x k n ws lv pc (.int a :: st) := by
  obtain ⟨p, l, e, R, s, m, args, below, meth, c, Q, D, A, nL⟩ := x
  obtain ⟨rfl, rfl, rfl, rfl, hx, hb, hml, hown, hts, hA, hlocks, hret, hE, hZ⟩ := hF
  intro H locs ls hP hD hS hl
  exact lv_if_lt hx hb hd ht (fun q => kt q H locs ls hP hD hS hl) (fun q => kf q H locs ls hP hD hS hl)
theorem v_icmp_ge {x : vC} {l : Launch} {D : va_G} {own : String} {cc : ByteArray} {rm : Room} {nL : Nat} {rt : Option FieldType} {k n : Nat} {ws : va_W} {lv : List (Nat × Value)} {st : List Value} {a b : Int32} {off : Int} (pc tgt : Nat) (hF : vF x l D own cc rm nL rt) (hd : decode cc pc = .ok (.if_icmp .ge off, 3)) (ht : (pc : Int) + off = (tgt : Int))
    (kt : b ≤ a → vV x k n ws lv tgt st) (kf : ¬ b ≤ a → vV x k n ws lv (pc + 3) st) : vV x k n ws lv pc (.int b :: .int a :: st) := by
  obtain ⟨p, l, e, R, s, m, args, below, meth, c, Q, D, A, nL⟩ := x
  obtain ⟨rfl, rfl, rfl, rfl, hx, hb, hml, hown, hts, hA, hlocks, hret, hE, hZ⟩ := hF
  intro H locs ls hP hD hS hl
  exact lv_icmp_ge hx hb hd ht (fun q => kt q H locs ls hP hD hS hl) (fun q => kf q H locs ls hP hD hS hl)
theorem v_if_ge {x : vC} {l : Launch} {D : va_G} {own : String} {cc : ByteArray} {rm : Room} {nL : Nat} {rt : Option FieldType} {k n : Nat} {ws : va_W} {lv : List (Nat × Value)} {st : List Value} {a : Int32} {off : Int} (pc tgt : Nat) (hF : vF x l D own cc rm nL rt) (hd : decode cc pc = .ok (.ifCond .ge off, 3)) (ht : (pc : Int) + off = (tgt : Int))
    (kt : 0 ≤ a → vV x k n ws lv tgt st) (kf : ¬ 0 ≤ a → vV x k n ws lv (pc + 3) st) : vV x k n ws lv pc (.int a :: st) := by
  obtain ⟨p, l, e, R, s, m, args, below, meth, c, Q, D, A, nL⟩ := x
  obtain ⟨rfl, rfl, rfl, rfl, hx, hb, hml, hown, hts, hA, hlocks, hret, hE, hZ⟩ := hF
  intro H locs ls hP hD hS hl
  exact lv_if_ge hx hb hd ht (fun q => kt q H locs ls hP hD hS hl) (fun q => kf q H locs ls hP hD hS hl)
theorem v_icmp_gt {x : vC} {l : Launch} {D : va_G} {own : String} {cc : ByteArray} {rm : Room} {nL : Nat} {rt : Option FieldType} {k n : Nat} {ws : va_W} {lv : List (Nat × Value)} {st : List Value} {a b : Int32} {off : Int} (pc tgt : Nat) (hF : vF x l D own cc rm nL rt) (hd : decode cc pc = .ok (.if_icmp .gt off, 3)) (ht : (pc : Int) + off = (tgt : Int))
    (kt : b < a → vV x k n ws lv tgt st) (kf : ¬ b < a → vV x k n ws lv (pc + 3) st) : vV x k n ws lv pc (.int b :: .int a :: st) := by
  obtain ⟨p, l, e, R, s, m, args, below, meth, c, Q, D, A, nL⟩ := x
  obtain ⟨rfl, rfl, rfl, rfl, hx, hb, hml, hown, hts, hA, hlocks, hret, hE, hZ⟩ := hF
  intro H locs ls hP hD hS hl
  exact lv_icmp_gt hx hb hd ht (fun q => kt q H locs ls hP hD hS hl) (fun q => kf q H locs ls hP hD hS hl)
theorem v_if_gt {x : vC} {l : Launch} {D : va_G} {own : String} {cc : ByteArray} {rm : Room} {nL : Nat} {rt : Option FieldType} {k n : Nat} {ws : va_W} {lv : List (Nat × Value)} {st : List Value} {a : Int32} {off : Int} (pc tgt : Nat) (hF : vF x l D own cc rm nL rt) (hd : decode cc pc = .ok (.ifCond .gt off, 3)) (ht : (pc : Int) + off = (tgt : Int))
    (kt : 0 < a → vV x k n ws lv tgt st) (kf : ¬ 0 < a → vV x k n ws lv (pc + 3) st) : vV x k n ws lv pc (.int a :: st) := by
  obtain ⟨p, l, e, R, s, m, args, below, meth, c, Q, D, A, nL⟩ := x
  obtain ⟨rfl, rfl, rfl, rfl, hx, hb, hml, hown, hts, hA, hlocks, hret, hE, hZ⟩ := hF
  intro H locs ls hP hD hS hl
  exact lv_if_gt hx hb hd ht (fun q => kt q H locs ls hP hD hS hl) (fun q => kf q H locs ls hP hD hS hl)
theorem v_icmp_le {x : vC} {l : Launch} {D : va_G} {own : String} {cc : ByteArray} {rm : Room} {nL : Nat} {rt : Option FieldType} {k n : Nat} {ws : va_W} {lv : List (Nat × Value)} {st : List Value} {a b : Int32} {off : Int} (pc tgt : Nat) (hF : vF x l D own cc rm nL rt) (hd : decode cc pc = .ok (.if_icmp .le off, 3)) (ht : (pc : Int) + off = (tgt : Int))
    (kt : a ≤ b → vV x k n ws lv tgt st) (kf : ¬ a ≤ b → vV x k n ws lv (pc + 3) st) : vV x k n ws lv pc (.int b :: .int a :: st) := by
  obtain ⟨p, l, e, R, s, m, args, below, meth, c, Q, D, A, nL⟩ := x
  obtain ⟨rfl, rfl, rfl, rfl, hx, hb, hml, hown, hts, hA, hlocks, hret, hE, hZ⟩ := hF
  intro H locs ls hP hD hS hl
  exact lv_icmp_le hx hb hd ht (fun q => kt q H locs ls hP hD hS hl) (fun q => kf q H locs ls hP hD hS hl)
theorem v_if_le {x : vC} {l : Launch} {D : va_G} {own : String} {cc : ByteArray} {rm : Room} {nL : Nat} {rt : Option FieldType} {k n : Nat} {ws : va_W} {lv : List (Nat × Value)} {st : List Value} {a : Int32} {off : Int} (pc tgt : Nat) (hF : vF x l D own cc rm nL rt) (hd : decode cc pc = .ok (.ifCond .le off, 3)) (ht : (pc : Int) + off = (tgt : Int))
    (kt : a ≤ 0 → vV x k n ws lv tgt st) (kf : ¬ a ≤ 0 → vV x k n ws lv (pc + 3) st) : vV x k n ws lv pc (.int a :: st) := by
  obtain ⟨p, l, e, R, s, m, args, below, meth, c, Q, D, A, nL⟩ := x
  obtain ⟨rfl, rfl, rfl, rfl, hx, hb, hml, hown, hts, hA, hlocks, hret, hE, hZ⟩ := hF
  intro H locs ls hP hD hS hl
  exact lv_if_le hx hb hd ht (fun q => kt q H locs ls hP hD hS hl) (fun q => kf q H locs ls hP hD hS hl)
theorem v_goto {x : vC} {l : Launch} {D : va_G} {own : String} {cc : ByteArray} {rm : Room} {nL : Nat} {rt : Option FieldType} {k n : Nat} {ws : va_W} {lv : List (Nat × Value)} {st : List Value} {off : Int} (pc tgt : Nat) (hF : vF x l D own cc rm nL rt) (hd : decode cc pc = .ok (.goto off, 3)) (ht : (pc : Int) + off = (tgt : Int))
    (kk : vV x k n ws lv tgt st) : vV x k n ws lv pc st := by
  obtain ⟨p, l, e, R, s, m, args, below, meth, c, Q, D, A, nL⟩ := x
  obtain ⟨rfl, rfl, rfl, rfl, hx, hb, hml, hown, hts, hA, hlocks, hret, hE, hZ⟩ := hF
  intro H locs ls hP hD hS hl
  exact lv_goto hx hb hd ht (kk H locs ls hP hD hS hl)
theorem v_ifnull {x : vC} {l : Launch} {D : va_G} {own : String} {cc : ByteArray} {rm : Room} {nL : Nat} {rt : Option FieldType} {k n : Nat} {ws : va_W} {lv : List (Nat × Value)} {st : List Value} {off : Int} {b : Nat} (pc : Nat) (hF : vF x l D own cc rm nL rt) (hd : decode cc pc = .ok (.ifnull off, 3)) (kk : vV x k n ws lv (pc + 3) st) : vV x k n ws lv pc (.ref b :: st) := by
  obtain ⟨p, l, e, R, s, m, args, below, meth, c, Q, D, A, nL⟩ := x
  obtain ⟨rfl, rfl, rfl, rfl, hx, hb, hml, hown, hts, hA, hlocks, hret, hE, hZ⟩ := hF
  intro H locs ls hP hD hS hl
  exact lv_ifnull hx hb hd (kk H locs ls hP hD hS hl)
theorem v_ifnullN {x : vC} {l : Launch} {D : va_G} {own : String} {cc : ByteArray} {rm : Room} {nL : Nat} {rt : Option FieldType} {k n : Nat} {ws : va_W} {lv : List (Nat × Value)} {st : List Value} {off : Int} (pc tgt : Nat) (hF : vF x l D own cc rm nL rt) (hd : decode cc pc = .ok (.ifnull off, 3)) (ht : (pc : Int) + off = (tgt : Int)) (kk : vV x k n ws lv tgt st) : vV x k n ws lv pc (.null :: st) := by
  obtain ⟨p, l, e, R, s, m, args, below, meth, c, Q, D, A, nL⟩ := x
  obtain ⟨rfl, rfl, rfl, rfl, hx, hb, hml, hown, hts, hA, hlocks, hret, hE, hZ⟩ := hF
  intro H locs ls hP hD hS hl
  exact lv_ifnullN hx hb hd ht (kk H locs ls hP hD hS hl)
theorem v_ifnonnull {x : vC} {l : Launch} {D : va_G} {own : String} {cc : ByteArray} {rm : Room} {nL : Nat} {rt : Option FieldType} {k n : Nat} {ws : va_W} {lv : List (Nat × Value)} {st : List Value} {off : Int} {b : Nat} (pc tgt : Nat) (hF : vF x l D own cc rm nL rt) (hd : decode cc pc = .ok (.ifnonnull off, 3)) (ht : (pc : Int) + off = (tgt : Int)) (kk : vV x k n ws lv tgt st) : vV x k n ws lv pc (.ref b :: st) := by
  obtain ⟨p, l, e, R, s, m, args, below, meth, c, Q, D, A, nL⟩ := x
  obtain ⟨rfl, rfl, rfl, rfl, hx, hb, hml, hown, hts, hA, hlocks, hret, hE, hZ⟩ := hF
  intro H locs ls hP hD hS hl
  exact lv_ifnonnull hx hb hd ht (kk H locs ls hP hD hS hl)
theorem v_ifnonnullN {x : vC} {l : Launch} {D : va_G} {own : String} {cc : ByteArray} {rm : Room} {nL : Nat} {rt : Option FieldType} {k n : Nat} {ws : va_W} {lv : List (Nat × Value)} {st : List Value} {off : Int} (pc : Nat) (hF : vF x l D own cc rm nL rt) (hd : decode cc pc = .ok (.ifnonnull off, 3)) (kk : vV x k n ws lv (pc + 3) st) : vV x k n ws lv pc (.null :: st) := by
  obtain ⟨p, l, e, R, s, m, args, below, meth, c, Q, D, A, nL⟩ := x
  obtain ⟨rfl, rfl, rfl, rfl, hx, hb, hml, hown, hts, hA, hlocks, hret, hE, hZ⟩ := hF
  intro H locs ls hP hD hS hl
  exact lv_ifnonnullN hx hb hd (kk H locs ls hP hD hS hl)
theorem v_tableIn {x : vC} {l : Launch} {D : va_G} {own : String} {cc : ByteArray} {rm : Room} {nL : Nat} {rt : Option FieldType} {k n : Nat} {ws : va_W} {lv : List (Nat × Value)} {st : List Value} {dflt lo hi off : Int} {offs : Array Int} {len : Nat} {y : Int32} (pc tgt : Nat) (hF : vF x l D own cc rm nL rt) (hd : decode cc pc = .ok (.tableswitch dflt lo hi offs, len)) (h1 : ¬ y.toInt < lo) (h2 : ¬ hi < y.toInt) (ho : offs[(y.toInt - lo).toNat]? = some off) (ht : (pc : Int) + off = (tgt : Int)) (kk : vV x k n ws lv tgt st) : vV x k n ws lv pc (.int y :: st) := by
  obtain ⟨p, l, e, R, s, m, args, below, meth, c, Q, D, A, nL⟩ := x
  obtain ⟨rfl, rfl, rfl, rfl, hx, hb, hml, hown, hts, hA, hlocks, hret, hE, hZ⟩ := hF
  intro H locs ls hP hD hS hl
  exact lv_tableIn hx hb hd h1 h2 ho ht (kk H locs ls hP hD hS hl)
theorem v_tableOut {x : vC} {l : Launch} {D : va_G} {own : String} {cc : ByteArray} {rm : Room} {nL : Nat} {rt : Option FieldType} {k n : Nat} {ws : va_W} {lv : List (Nat × Value)} {st : List Value} {dflt lo hi : Int} {offs : Array Int} {len : Nat} {y : Int32} (pc tgt : Nat) (hF : vF x l D own cc rm nL rt) (hd : decode cc pc = .ok (.tableswitch dflt lo hi offs, len)) (h : y.toInt < lo ∨ hi < y.toInt) (ht : (pc : Int) + dflt = (tgt : Int)) (kk : vV x k n ws lv tgt st) : vV x k n ws lv pc (.int y :: st) := by
  obtain ⟨p, l, e, R, s, m, args, below, meth, c, Q, D, A, nL⟩ := x
  obtain ⟨rfl, rfl, rfl, rfl, hx, hb, hml, hown, hts, hA, hlocks, hret, hE, hZ⟩ := hF
  intro H locs ls hP hD hS hl
  exact lv_tableOut hx hb hd h ht (kk H locs ls hP hD hS hl)
theorem v_nm {x : vC} {k n : Nat} {ws : va_W} {lv : List (Nat × Value)} {st : List Value} {pc : Nat} {a : Int32} (kk : ∀ y : Int32, y = a → vV x k n ws lv pc (.int y :: st)) : vV x k n ws lv pc (.int a :: st) := kk a rfl
theorem v_nmw {x : vC} {k n : Nat} {lv : List (Nat × Value)} {st : List Value} {pc : Nat} {S : Type} {w : S → va_W} {a : S} (kk : ∀ y : S, y = a → vV x k n (w y) lv pc st) : vV x k n (w a) lv pc st := kk a rfl
theorem v_sub {x : vC} {k n : Nat} {ws : va_W} {lv : List (Nat × Value)} {st : List Value} {pc : Nat} (lv1 : List (Nat × Value)) (ks : List Nat) (h : lv_pick lv ks = lv1) (kk : vV x k n ws lv1 pc st) : vV x k n ws lv pc st := by
  obtain ⟨p, l, e, R, s, m, args, below, meth, c, Q, D, A, nL⟩ := x
  intro H locs ls hP hD hS hl
  exact kk H locs ls hP hD hS (lv_sub hl ks h)
theorem v_widen {x : vC} {k n k1 n1 : Nat} {ws : va_W} {lv : List (Nat × Value)} {st : List Value} {pc : Nat} (h1 : k ≤ k1) (h2 : n ≤ n1) (kk : vV x k1 n1 ws lv pc st) : vV x k n ws lv pc st := by
  obtain ⟨p, l, e, R, s, m, args, below, meth, c, Q, D, A, nL⟩ := x
  intro H locs ls hP hD hS hl
  exact W.widen h1 h2 (kk H locs ls hP hD hS hl)
/-- the world under another name -/
theorem v_eqw {x : vC} {k n : Nat} {ws ws1 : va_W} {lv : List (Nat × Value)} {st : List Value} {pc : Nat} (h : ws1 = ws) (kk : vV x k n ws1 lv pc st) : vV x k n ws lv pc st := h ▸ kk
theorem v_perm0 (ws : va_W) : ws.Perm (ws ++ []) := by rw [List.append_nil]
/-- the world in another order -/
theorem vP_perm {D : va_G} {cl : List vw_C} {ws ws' : va_W} {H : Heap} (hp : ws.Perm ws') (h : va_P D cl ws H) : va_P D cl ws' H := by
  intro j q hq
  have hm : q ∈ ws := hp.mem_iff.mpr (List.mem_of_getElem? hq)
  obtain ⟨i, hi⟩ := List.getElem?_of_mem hm
  exact h i q hi
theorem vD_iff {A : Nat → Prop} {ws : va_W} : va_D A ws ↔ (ws.map Prod.fst).Nodup ∧ ∀ q ∈ ws, A q.1 := by
  constructor
  · intro h
    refine ⟨?_, fun q hq => ?_⟩
    · unfold List.Nodup
      rw [List.pairwise_iff_getElem]
      intro i j hi hj hij he
      rw [List.getElem_map, List.getElem_map] at he
      rw [List.length_map] at hi hj
      have := h.1 i j _ _ (List.getElem?_eq_getElem hi) (List.getElem?_eq_getElem hj) he
      omega
    · obtain ⟨i, hi⟩ := List.getElem?_of_mem hq
      exact h.2 i q hi
  · intro h
    refine ⟨fun i j p q hi hj hpq => ?_, fun j q hq => h.2 q (List.mem_of_getElem? hq)⟩
    obtain ⟨hi', rfl⟩ := List.getElem?_eq_some_iff.mp hi
    obtain ⟨hj', rfl⟩ := List.getElem?_eq_some_iff.mp hj
    have h1 := h.1
    unfold List.Nodup at h1
    rw [List.pairwise_iff_getElem] at h1
    rcases Nat.lt_trichotomy i j with hlt | he | hlt
    · exact absurd (by rw [List.getElem_map, List.getElem_map]; exact hpq) (h1 i j (by rw [List.length_map]; exact hi') (by rw [List.length_map]; exact hj') hlt)
    · exact he
    · exact absurd (by rw [List.getElem_map, List.getElem_map]; exact hpq.symm) (h1 j i (by rw [List.length_map]; exact hj') (by rw [List.length_map]; exact hi') hlt)
theorem vD_perm {A : Nat → Prop} {ws ws' : va_W} (hp : ws.Perm ws') (h : va_D A ws) : va_D A ws' := by
  rw [vD_iff] at h ⊢
  exact ⟨(hp.map Prod.fst).nodup_iff.mp h.1, fun q hq => h.2 q (hp.mem_iff.mpr hq)⟩
theorem v_perm {x : vC} {k n : Nat} {ws ws' : va_W} {lv : List (Nat × Value)} {st : List Value} {pc : Nat} (hp : ws.Perm ws') (kk : vV x k n ws' lv pc st) : vV x k n ws lv pc st := by
  obtain ⟨p, l, e, R, s, m, args, below, meth, c, Q, D, A, nL⟩ := x
  intro H locs ls hP hD hS hl
  exact kk H locs ls (vP_perm hp hP) (vD_perm hp hD) hS hl
/-- cells are let go -/
theorem v_drop {x : vC} {k n : Nat} {ws ws' : va_W} {lv : List (Nat × Value)} {st : List Value} {pc : Nat} (hp : ∀ q ∈ ws', q ∈ ws) (hn : ws'.Sublist ws) (kk : vV x k n ws' lv pc st) : vV x k n ws lv pc st := by
  obtain ⟨p, l, e, R, s, m, args, below, meth, c, Q, D, A, nL⟩ := x
  intro H locs ls hP hD hS hl
  refine kk H locs ls ?_ ?_ hS hl
  · intro j q hq
    obtain ⟨i, hi⟩ := List.getElem?_of_mem (hp q (List.mem_of_getElem? hq))
    exact hP i q hi
  · rw [vD_iff] at hD ⊢
    exact ⟨(hn.map Prod.fst).nodup hD.1, fun q hq => hD.2 q (hp q hq)⟩
theorem v_get {x : vC} {l : Launch} {D : va_G} {own : String} {cc : ByteArray} {rm : Room} {nL : Nat} {rt : Option FieldType} {k n : Nat} {ws : va_W} {lv : List (Nat × Value)} {st : List Value} {C : String} {T : u_T} {N ci idx b : Nat} {fs : List Value} {v : Value} (pc : Nat) (hF : vF x l D own cc rm nL rt) (hin : ∀ w ∈ u_ws C T N, w ∈ lw_all) (q0 : Nat) (he : ws[q0]? = some (b, .inr (ci, fs))) (hc : cl0[ci]? = some (C, T, N)) (kf : Nat) (hk : kf < N) (hq : Cond.fieldLink own idx C (T kf).2.1 (T kf).2.2.1 ∈ lw_all) (hT : (T kf).1 = C) (hv : fs[kf]? = some v) (hd : decode cc pc = .ok (.getfield idx, 3))
    (kk : vV x k n ws lv (pc + 3) (v :: st)) : vV x k n ws lv pc (.ref b :: st) := by
  obtain ⟨p, l, e, R, s, m, args, below, meth, c, Q, D, A, nL⟩ := x
  obtain ⟨rfl, rfl, rfl, rfl, hx, hb, hml, hown, hts, hA, hlocks, hret, hE, hZ⟩ := hF
  intro H locs ls hP hD hS hl
  exact va_get (D := D) (ci := ci) (v := v) (C := C) (T := T) (N := N) hx hb hts hin hown hE.1 hP q0 he hc kf hk (hts _ hq) (fun y h9 => by rw [hT] at h9; exact h9) hv hd (kk H locs ls hP hD hS hl)
theorem v_put {x : vC} {l : Launch} {D : va_G} {own : String} {cc : ByteArray} {rm : Room} {nL : Nat} {rt : Option FieldType} {k n : Nat} {ws : va_W} {lv : List (Nat × Value)} {st : List Value} {C : String} {T : u_T} {N ci idx b : Nat} {fs : List Value} {v : Value} {ty0 : Nat → FieldType} {ty : FieldType} (ws1 : va_W) (pc : Nat) (hF : vF x l D own cc rm nL rt) (hin : ∀ w ∈ u_ws C T N, w ∈ lw_all) (hty : ∀ k, k < N → parseFieldDescriptor (T k).2.2.1 = some (ty0 k)) (hnm : ∀ a, a < N → ∀ b, b < N → a ≠ b → (T a).2.1 ≠ (T b).2.1) (q0 : Nat) (he : ws[q0]? = some (b, .inr (ci, fs))) (hc : cl0[ci]? = some (C, T, N)) (kf : Nat) (hk : kf < N) (hq : Cond.fieldLink own idx C (T kf).2.1 (T kf).2.2.1 ∈ lw_all) (hT : (T kf).1 = C) (hfin : (T kf).2.2.2 = false) (hty1 : ty0 kf = ty) (hn : narrow ty v = v) (hfit : fits ty v = true) (hlen : kf < fs.length) (hw : ws.set q0 (b, .inr (ci, fs.set kf v)) = ws1) (hd : decode cc pc = .ok (.putfield idx, 3))
    (kk : vV x k n ws1 lv (pc + 3) st) : vV x k n ws lv pc (v :: .ref b :: st) := by
  subst hw
  obtain ⟨p, l, e, R, s, m, args, below, meth, c, Q, D, A, nL⟩ := x
  obtain ⟨rfl, rfl, rfl, rfl, hx, hb, hml, hown, hts, hA, hlocks, hret, hE, hZ⟩ := hF
  intro H locs ls hP hD hS hl
  exact va_put (D := D) (ci := ci) (v := v) (ty := ty) (C := C) (T := T) (N := N) hx hb hts hin ty0 hty hnm hown hE.1 hP hD hS q0 he hc kf hk (hts _ hq) (fun y h9 => by rw [hT] at h9; exact h9) hfin (by rw [hty kf hk, hty1]) hn hfit hlen hd (fun H locs hP hD hS => kk H locs ls hP hD hS hl)
theorem v_getN {x : vC} {l : Launch} {D : va_G} {own : String} {cc : ByteArray} {rm : Room} {nL : Nat} {rt : Option FieldType} {k n : Nat} {ws : va_W} {lv : List (Nat × Value)} {st : List Value} {C : String} {T : u_T} {N ci idx b : Nat} {fs : List Value} {host : String} {v : Value} (pc : Nat) (hF : vF x l D own cc rm nL rt) (hin : ∀ w ∈ u_ws C T N, w ∈ lw_all) (q0 : Nat) (he : ws[q0]? = some (b, .inr (ci, fs))) (hc : cl0[ci]? = some (C, T, N)) (kf : Nat) (hk : kf < N) (hq : Cond.fieldLinkNest own idx C (T kf).2.1 (T kf).2.2.1 host ∈ lw_tbl) (hT : (T kf).1 = C) (hv : fs[kf]? = some v) (hd : decode cc pc = .ok (.getfield idx, 3))
    (kk : vV x k n ws lv (pc + 3) (v :: st)) : vV x k n ws lv pc (.ref b :: st) := by
  obtain ⟨p, l, e, R, s, m, args, below, meth, c, Q, D, A, nL⟩ := x
  obtain ⟨rfl, rfl, rfl, rfl, hx, hb, hml, hown, hts, hA, hlocks, hret, hE, hZ⟩ := hF
  intro H locs ls hP hD hS hl
  exact va_getN (D := D) (ci := ci) (v := v) (C := C) (T := T) (N := N) hx hb hts hin hown hE.1 hP q0 he hc kf hk (va_Nw.use rfl (hE.2.1 _ hq rfl)) (fun y h9 => by rw [hT] at h9; exact h9) hv hd (kk H locs ls hP hD hS hl)
theorem v_putN {x : vC} {l : Launch} {D : va_G} {own : String} {cc : ByteArray} {rm : Room} {nL : Nat} {rt : Option FieldType} {k n : Nat} {ws : va_W} {lv : List (Nat × Value)} {st : List Value} {C : String} {T : u_T} {N ci idx b : Nat} {fs : List Value} {host : String} {v : Value} {ty0 : Nat → FieldType} {ty : FieldType} (ws1 : va_W) (pc : Nat) (hF : vF x l D own cc rm nL rt) (hin : ∀ w ∈ u_ws C T N, w ∈ lw_all) (hty : ∀ k, k < N → parseFieldDescriptor (T k).2.2.1 = some (ty0 k)) (hnm : ∀ a, a < N → ∀ b, b < N → a ≠ b → (T a).2.1 ≠ (T b).2.1) (q0 : Nat) (he : ws[q0]? = some (b, .inr (ci, fs))) (hc : cl0[ci]? = some (C, T, N)) (kf : Nat) (hk : kf < N) (hq : Cond.fieldLinkNest own idx C (T kf).2.1 (T kf).2.2.1 host ∈ lw_tbl) (hT : (T kf).1 = C) (hfin : (T kf).2.2.2 = false) (hty1 : ty0 kf = ty) (hn : narrow ty v = v) (hfit : fits ty v = true) (hlen : kf < fs.length) (hw : ws.set q0 (b, .inr (ci, fs.set kf v)) = ws1) (hd : decode cc pc = .ok (.putfield idx, 3))
    (kk : vV x k n ws1 lv (pc + 3) st) : vV x k n ws lv pc (v :: .ref b :: st) := by
  subst hw
  obtain ⟨p, l, e, R, s, m, args, below, meth, c, Q, D, A, nL⟩ := x
  obtain ⟨rfl, rfl, rfl, rfl, hx, hb, hml, hown, hts, hA, hlocks, hret, hE, hZ⟩ := hF
  intro H locs ls hP hD hS hl
  exact va_putN (D := D) (ci := ci) (v := v) (ty := ty) (C := C) (T := T) (N := N) hx hb hts hin ty0 hty hnm hown hE.1 hP hD hS q0 he hc kf hk (va_Nw.use rfl (hE.2.1 _ hq rfl)) (fun y h9 => by rw [hT] at h9; exact h9) hfin (by rw [hty kf hk, hty1]) hn hfit hlen hd (fun H locs hP hD hS => kk H locs ls hP hD hS hl)
theorem v_putF {x : vC} {l : Launch} {D : va_G} {own : String} {cc : ByteArray} {rm : Room} {nL : Nat} {rt : Option FieldType} {k n : Nat} {ws : va_W} {lv : List (Nat × Value)} {st : List Value} {C : String} {T : u_T} {N ci idx b : Nat} {fs : List Value} {v : Value} {ty0 : Nat → FieldType} {ty : FieldType} (ws1 : va_W) (pc : Nat) (hF : vF x l D own cc rm nL rt) (hini : vI x) (hin : ∀ w ∈ u_ws C T N, w ∈ lw_all) (hty : ∀ k, k < N → parseFieldDescriptor (T k).2.2.1 = some (ty0 k)) (hnm : ∀ a, a < N → ∀ b, b < N → a ≠ b → (T a).2.1 ≠ (T b).2.1) (q0 : Nat) (he : ws[q0]? = some (b, .inr (ci, fs))) (hc : cl0[ci]? = some (C, T, N)) (kf : Nat) (hk : kf < N) (hq : Cond.fieldLink own idx C (T kf).2.1 (T kf).2.2.1 ∈ lw_all) (hT : (T kf).1 = C) (hCo : C = own) (hfin : (T kf).2.2.2 = true) (hty1 : ty0 kf = ty) (hn : narrow ty v = v) (hfit : fits ty v = true) (hlen : kf < fs.length) (hw : ws.set q0 (b, .inr (ci, fs.set kf v)) = ws1) (hd : decode cc pc = .ok (.putfield idx, 3))
    (kk : vV x k n ws1 lv (pc + 3) st) : vV x k n ws lv pc (v :: .ref b :: st) := by
  subst hw
  obtain ⟨p, l, e, R, s, m, args, below, meth, c, Q, D, A, nL⟩ := x
  obtain ⟨rfl, rfl, rfl, rfl, hx, hb, hml, hown, hts, hA, hlocks, hret, hE, hZ⟩ := hF
  intro H locs ls hP hD hS hl
  exact va_putF (D := D) (ci := ci) (v := v) (ty := ty) (C := C) (T := T) (N := N) hx hb hts hin ty0 hty hnm hown hE.1 hP hD hS q0 he hc kf hk (hts _ hq) (fun y h9 => by rw [hT] at h9; exact h9) hfin hini (hT.trans hCo) (by rw [hty kf hk, hty1]) hn hfit hlen hd (fun H locs hP hD hS => kk H locs ls hP hD hS hl)
theorem v_getO {x : vC} {l : Launch} {D : va_G} {own : String} {cc : ByteArray} {rm : Room} {nL : Nat} {rt : Option FieldType} {k n : Nat} {ws : va_W} {lv : List (Nat × Value)} {st : List Value} {C : String} {T : u_T} {N ci idx b : Nat} {fs : List Value} {v : Value} (pc : Nat) (hF : vF x l D own cc rm nL rt) (hin : ∀ w ∈ u_ws C T N, w ∈ lw_all) (q0 : Nat) (he : ws[q0]? = some (b, .inr (ci, fs))) (hc : cl0[ci]? = some (C, T, N)) (kf : Nat) (hk : kf < N) (hq : Cond.fieldLink own idx (T kf).1 (T kf).2.1 (T kf).2.2.1 ∈ lw_all) (hv : fs[kf]? = some v) (hd : decode cc pc = .ok (.getfield idx, 3))
    (kk : vV x k n ws lv (pc + 3) (v :: st)) : vV x k n ws lv pc (.ref b :: st) := by
  obtain ⟨p, l, e, R, s, m, args, below, meth, c, Q, D, A, nL⟩ := x
  obtain ⟨rfl, rfl, rfl, rfl, hx, hb, hml, hown, hts, hA, hlocks, hret, hE, hZ⟩ := hF
  intro H locs ls hP hD hS hl
  exact va_get (D := D) (ci := ci) (v := v) (C := C) (T := T) (N := N) hx hb hts hin hown hE.1 hP q0 he hc kf hk (hts _ hq) (fun y h9 => h9) hv hd (kk H locs ls hP hD hS hl)
theorem v_putO {x : vC} {l : Launch} {D : va_G} {own : String} {cc : ByteArray} {rm : Room} {nL : Nat} {rt : Option FieldType} {k n : Nat} {ws : va_W} {lv : List (Nat × Value)} {st : List Value} {C : String} {T : u_T} {N ci idx b : Nat} {fs : List Value} {v : Value} {ty0 : Nat → FieldType} {ty : FieldType} (ws1 : va_W) (pc : Nat) (hF : vF x l D own cc rm nL rt) (hin : ∀ w ∈ u_ws C T N, w ∈ lw_all) (hty : ∀ k, k < N → parseFieldDescriptor (T k).2.2.1 = some (ty0 k)) (hnm : ∀ a, a < N → ∀ b, b < N → a ≠ b → (T a).2.1 ≠ (T b).2.1) (q0 : Nat) (he : ws[q0]? = some (b, .inr (ci, fs))) (hc : cl0[ci]? = some (C, T, N)) (kf : Nat) (hk : kf < N) (hq : Cond.fieldLink own idx (T kf).1 (T kf).2.1 (T kf).2.2.1 ∈ lw_all) (hfin : (T kf).2.2.2 = false) (hty1 : ty0 kf = ty) (hn : narrow ty v = v) (hfit : fits ty v = true) (hlen : kf < fs.length) (hw : ws.set q0 (b, .inr (ci, fs.set kf v)) = ws1) (hd : decode cc pc = .ok (.putfield idx, 3))
    (kk : vV x k n ws1 lv (pc + 3) st) : vV x k n ws lv pc (v :: .ref b :: st) := by
  subst hw
  obtain ⟨p, l, e, R, s, m, args, below, meth, c, Q, D, A, nL⟩ := x
  obtain ⟨rfl, rfl, rfl, rfl, hx, hb, hml, hown, hts, hA, hlocks, hret, hE, hZ⟩ := hF
  intro H locs ls hP hD hS hl
  exact va_put (D := D) (ci := ci) (v := v) (ty := ty) (C := C) (T := T) (N := N) hx hb hts hin ty0 hty hnm hown hE.1 hP hD hS q0 he hc kf hk (hts _ hq) (fun y h9 => h9) hfin (by rw [hty kf hk, hty1]) hn hfit hlen hd (fun H locs hP hD hS => kk H locs ls hP hD hS hl)
theorem v_aload_nN {x : vC} {l : Launch} {D : va_G} {own : String} {cc : ByteArray} {rm : Room} {nL : Nat} {rt : Option FieldType} {k n : Nat} {ws : va_W} {lv : List (Nat × Value)} {st : List Value} {q : Fin 4} {i : Nat} (pc : Nat) (hF : vF x l D own cc rm nL rt) (hd : decode cc pc = .ok (.aload_n q, 1)) (hi : (q : Nat) = i) (j : Nat) (hj : lv[j]? = some (i, .null))
    (kk : vV x k n ws lv (pc + 1) (.null :: st)) : vV x k n ws lv pc (st) := by
  obtain ⟨p, l, e, R, s, m, args, below, meth, c, Q, D, A, nL⟩ := x
  obtain ⟨rfl, rfl, rfl, rfl, hx, hb, hml, hown, hts, hA, hlocks, hret, hE, hZ⟩ := hF
  intro H locs ls hP hD hS hl
  exact lv_aload_nN hx hb hd hi (lv_at hl j hj) (kk H locs ls hP hD hS hl)
theorem v_getsq {x : vC} {l : Launch} {D : va_G} {own : String} {cc : ByteArray} {rm : Room} {nL : Nat} {rt : Option FieldType} {k n : Nat} {ws : va_W} {lv : List (Nat × Value)} {st : List Value} {C nm ds : String} {idx : Nat} (pc : Nat) (hF : vF x l D own cc rm nL rt) (hz : ∀ (A : Nat → Prop) (U : State) (H : Heap), vZA D A U H → va_Zq C nm ds A U H) (hq : Cond.fieldLink own idx C nm ds ∈ lw_all) (hd : decode cc pc = .ok (.getstatic idx, 3))
    (kk : ∀ v : Value, v = .null ∨ (∃ t, v = .ref t) → vV x k n ws lv (pc + 3) (v :: st)) : vV x k n ws lv pc st := by
  obtain ⟨p, l, e, R, s, m, args, below, meth, c, Q, D, A, nL⟩ := x
  obtain ⟨rfl, rfl, rfl, rfl, hx, hb, hml, hown, hts, hA, hlocks, hret, hE, hZ⟩ := hF
  intro H locs ls hP hD hS hl
  rcases hz _ _ _ hZ with h9 | ⟨t, h9⟩
  · exact va_gets hx hb h9 hS hown (hts _ hq) (fun _ h => h) hd (kk .null (Or.inl rfl) H locs ls hP hD hS hl)
  · exact va_gets hx hb h9 hS hown (hts _ hq) (fun _ h => h) hd (kk (.ref t) (Or.inr ⟨t, rfl⟩) H locs ls hP hD hS hl)
theorem v_alen {x : vC} {l : Launch} {D : va_G} {own : String} {cc : ByteArray} {rm : Room} {nL : Nat} {rt : Option FieldType} {k n : Nat} {ws : va_W} {lv : List (Nat × Value)} {st : List Value} {b : Nat} {cA : ClassId} {a : vp_A} {ty : FieldType} (pc : Nat) (hF : vF x l D own cc rm nL rt) (q0 t0 : Nat) (ha : ws[q0]? = some (b, .inl (cA, a))) (ht : (tys0 D)[t0]? = some (cA, ty)) {v : Int32} (hv : Int32.ofNat a.1 = v) (hd : decode cc pc = .ok (.arraylength, 1))
    (kk : vV x k n ws lv (pc + 1) (.int v :: st)) : vV x k n ws lv pc (.ref b :: st) := by
  obtain ⟨p, l, e, R, s, m, args, below, meth, c, Q, D, A, nL⟩ := x
  obtain ⟨rfl, rfl, rfl, rfl, hx, hb, hml, hown, hts, hA, hlocks, hret, hE, hZ⟩ := hF
  intro H locs ls hP hD hS hl
  exact va_alen hx hb hE.1 hP q0 t0 ha ht hv hd (kk H locs ls hP hD hS hl)
theorem v_iald {x : vC} {l : Launch} {D : va_G} {own : String} {cc : ByteArray} {rm : Room} {nL : Nat} {rt : Option FieldType} {k n : Nat} {ws : va_W} {lv : List (Nat × Value)} {st : List Value} {b len : Nat} {f : Nat → Int32} {i : Int32} (pc : Nat) (hF : vF x l D own cc rm nL rt) (q0 : Nat) (ha : ws[q0]? = some (b, .inl (dI_ D, len, .inl f))) (hi : vp_in i len) (hd : decode cc pc = .ok (.iaload, 1))
    (kk : vV x k n ws lv (pc + 1) (.int (f i.toNatClampNeg) :: st)) : vV x k n ws lv pc (.int i :: .ref b :: st) := by
  obtain ⟨p, l, e, R, s, m, args, below, meth, c, Q, D, A, nL⟩ := x
  obtain ⟨rfl, rfl, rfl, rfl, hx, hb, hml, hown, hts, hA, hlocks, hret, hE, hZ⟩ := hF
  intro H locs ls hP hD hS hl
  exact va_iald hx hb hE.1 hP q0 0 ha rfl hi hd (kk H locs ls hP hD hS hl)
theorem v_cald {x : vC} {l : Launch} {D : va_G} {own : String} {cc : ByteArray} {rm : Room} {nL : Nat} {rt : Option FieldType} {k n : Nat} {ws : va_W} {lv : List (Nat × Value)} {st : List Value} {b len : Nat} {f : Nat → Int32} {i : Int32} (pc : Nat) (hF : vF x l D own cc rm nL rt) (q0 : Nat) (ha : ws[q0]? = some (b, .inl (dC_ D, len, .inl f))) (hi : vp_in i len) (hd : decode cc pc = .ok (.caload, 1))
    (kk : vV x k n ws lv (pc + 1) (.int (f i.toNatClampNeg) :: st)) : vV x k n ws lv pc (.int i :: .ref b :: st) := by
  obtain ⟨p, l, e, R, s, m, args, below, meth, c, Q, D, A, nL⟩ := x
  obtain ⟨rfl, rfl, rfl, rfl, hx, hb, hml, hown, hts, hA, hlocks, hret, hE, hZ⟩ := hF
  intro H locs ls hP hD hS hl
  exact va_cald hx hb hE.1 hP q0 3 ha rfl hi hd (kk H locs ls hP hD hS hl)
theorem v_bald {x : vC} {l : Launch} {D : va_G} {own : String} {cc : ByteArray} {rm : Room} {nL : Nat} {rt : Option FieldType} {k n : Nat} {ws : va_W} {lv : List (Nat × Value)} {st : List Value} {b len : Nat} {f : Nat → Int32} {i : Int32} (pc : Nat) (hF : vF x l D own cc rm nL rt) (q0 : Nat) (ha : ws[q0]? = some (b, .inl (dB_ D, len, .inl f))) (hi : vp_in i len) (hd : decode cc pc = .ok (.baload, 1))
    (kk : vV x k n ws lv (pc + 1) (.int (f i.toNatClampNeg) :: st)) : vV x k n ws lv pc (.int i :: .ref b :: st) := by
  obtain ⟨p, l, e, R, s, m, args, below, meth, c, Q, D, A, nL⟩ := x
  obtain ⟨rfl, rfl, rfl, rfl, hx, hb, hml, hown, hts, hA, hlocks, hret, hE, hZ⟩ := hF
  intro H locs ls hP hD hS hl
  exact va_bald hx hb hE.1 hP q0 4 ha rfl hi hd (kk H locs ls hP hD hS hl)
theorem v_iast {x : vC} {l : Launch} {D : va_G} {own : String} {cc : ByteArray} {rm : Room} {nL : Nat} {rt : Option FieldType} {k n : Nat} {ws : va_W} {lv : List (Nat × Value)} {st : List Value} {b len : Nat} {f : Nat → Int32} {i v : Int32} (ws1 : va_W) (pc : Nat) (hF : vF x l D own cc rm nL rt) (q0 : Nat) (ha : ws[q0]? = some (b, .inl (dI_ D, len, .inl f))) (hi : vp_in i len) (hw : ws.set q0 (b, .inl (dI_ D, len, .inl (upd f i.toNatClampNeg v))) = ws1) (hd : decode cc pc = .ok (.iastore, 1))
    (kk : vV x k n ws1 lv (pc + 1) st) : vV x k n ws lv pc (.int v :: .int i :: .ref b :: st) := by
  subst hw
  obtain ⟨p, l, e, R, s, m, args, below, meth, c, Q, D, A, nL⟩ := x
  obtain ⟨rfl, rfl, rfl, rfl, hx, hb, hml, hown, hts, hA, hlocks, hret, hE, hZ⟩ := hF
  intro H locs ls hP hD hS hl
  exact va_iast hx hb hE.1 hP hD hS q0 0 ha rfl hi hd (fun H locs hP hD hS => kk H locs ls hP hD hS hl)
theorem v_cast {x : vC} {l : Launch} {D : va_G} {own : String} {cc : ByteArray} {rm : Room} {nL : Nat} {rt : Option FieldType} {k n : Nat} {ws : va_W} {lv : List (Nat × Value)} {st : List Value} {b len : Nat} {f : Nat → Int32} {i v : Int32} (ws1 : va_W) (pc : Nat) (hF : vF x l D own cc rm nL rt) (q0 : Nat) (ha : ws[q0]? = some (b, .inl (dC_ D, len, .inl f))) (hi : vp_in i len) (hw : ws.set q0 (b, .inl (dC_ D, len, .inl (upd f i.toNatClampNeg (vp_nar .char v)))) = ws1) (hd : decode cc pc = .ok (.castore, 1))
    (kk : vV x k n ws1 lv (pc + 1) st) : vV x k n ws lv pc (.int v :: .int i :: .ref b :: st) := by
  subst hw
  obtain ⟨p, l, e, R, s, m, args, below, meth, c, Q, D, A, nL⟩ := x
  obtain ⟨rfl, rfl, rfl, rfl, hx, hb, hml, hown, hts, hA, hlocks, hret, hE, hZ⟩ := hF
  intro H locs ls hP hD hS hl
  exact va_cast hx hb hE.1 hP hD hS q0 3 ha rfl hi hd (fun H locs hP hD hS => kk H locs ls hP hD hS hl)
theorem v_aald {x : vC} {l : Launch} {D : va_G} {own : String} {cc : ByteArray} {rm : Room} {nL : Nat} {rt : Option FieldType} {k n : Nat} {ws : va_W} {lv : List (Nat × Value)} {st : List Value} {b len : Nat} {f : Nat → Option Nat} {i : Int32} (pc : Nat) (hF : vF x l D own cc rm nL rt) (q0 : Nat) (ha : ws[q0]? = some (b, .inl (dO_ D, len, .inr (.inr (.inr (.inr f)))))) (hi : vp_in i len) (hd : decode cc pc = .ok (.aaload, 1))
    (kn : f i.toNatClampNeg = none → vV x k n ws lv (pc + 1) (.null :: st)) (ks : ∀ b : Nat, f i.toNatClampNeg = some b → vV x k n ws lv (pc + 1) (.ref b :: st)) : vV x k n ws lv pc (.int i :: .ref b :: st) := by
  obtain ⟨p, l, e, R, s, m, args, below, meth, c, Q, D, A, nL⟩ := x
  obtain ⟨rfl, rfl, rfl, rfl, hx, hb, hml, hown, hts, hA, hlocks, hret, hE, hZ⟩ := hF
  intro H locs ls hP hD hS hl
  refine va_aldq hx hb hE.1 hP q0 5 ha rfl hi hd ?_
  cases hf : f i.toNatClampNeg with
  | none => exact kn hf H locs ls hP hD hS hl
  | some b2 => exact ks b2 hf H locs ls hP hD hS hl
theorem v_aastN {x : vC} {l : Launch} {D : va_G} {own : String} {cc : ByteArray} {rm : Room} {nL : Nat} {rt : Option FieldType} {k n : Nat} {ws : va_W} {lv : List (Nat × Value)} {st : List Value} {b len : Nat} {f : Nat → Option Nat} {i : Int32} (ws1 : va_W) (pc : Nat) (hF : vF x l D own cc rm nL rt) (q0 : Nat) (ha : ws[q0]? = some (b, .inl (dO_ D, len, .inr (.inr (.inr (.inr f)))))) (hi : vp_in i len) (hw : ws.set q0 (b, .inl (dO_ D, len, .inr (.inr (.inr (.inr (va_up f i.toNatClampNeg none)))))) = ws1) (hd : decode cc pc = .ok (.aastore, 1))
    (kk : vV x k n ws1 lv (pc + 1) st) : vV x k n ws lv pc (.null :: .int i :: .ref b :: st) := by
  subst hw
  obtain ⟨p, l, e, R, s, m, args, below, meth, c, Q, D, A, nL⟩ := x
  obtain ⟨rfl, rfl, rfl, rfl, hx, hb, hml, hown, hts, hA, hlocks, hret, hE, hZ⟩ := hF
  intro H locs ls hP hD hS hl
  exact va_astqN hx hb hE.1 hP hD hS q0 5 ha rfl hi hd (fun H locs hP hD hS => kk H locs ls hP hD hS hl)
theorem v_aastO {x : vC} {l : Launch} {D : va_G} {own : String} {cc : ByteArray} {rm : Room} {nL : Nat} {rt : Option FieldType} {k n : Nat} {ws : va_W} {lv : List (Nat × Value)} {st : List Value} {b len qk ci v : Nat} {vs : List Value} {r : vw_C} {f : Nat → Option Nat} {i : Int32} (ws1 : va_W) (pc : Nat) (hF : vF x l D own cc rm nL rt) (q0 : Nat) (ha : ws[q0]? = some (b, .inl (dO_ D, len, .inr (.inr (.inr (.inr f)))))) (hca : Cond.castable r.1 "java/lang/Object" ∈ lw_tbl) (hv : ws[qk]? = some (v, .inr (ci, vs))) (hc : cl0[ci]? = some r) (hi : vp_in i len) (hw : ws.set q0 (b, .inl (dO_ D, len, .inr (.inr (.inr (.inr (va_up f i.toNatClampNeg (some v))))))) = ws1) (hd : decode cc pc = .ok (.aastore, 1))
    (kk : vV x k n ws1 lv (pc + 1) st) : vV x k n ws lv pc (.ref v :: .int i :: .ref b :: st) := by
  subst hw
  obtain ⟨p, l, e, R, s, m, args, below, meth, c, Q, D, A, nL⟩ := x
  obtain ⟨rfl, rfl, rfl, rfl, hx, hb, hml, hown, hts, hA, hlocks, hret, hE, hZ⟩ := hF
  intro H locs ls hP hD hS hl
  exact va_astqO hx hb hE.1 hP hD hS q0 5 qk ci ha rfl (hE.2.1 _ hca rfl) hv hc hi hd (fun H locs hP hD hS => kk H locs ls hP hD hS hl)
theorem v_copyi {x : vC} {l : Launch} {D : va_G} {own : String} {cc : ByteArray} {rm : Room} {nL : Nat} {rt : Option FieldType} {k n : Nat} {ws : va_W} {lv : List (Nat × Value)} {st : List Value} {idx b0 b1 n0 n1 : Nat} {f g : Nat → Int32} {sp dp ct : Int32} (ws1 : va_W) (pc : Nat) (hF : vF x l D own cc rm nL rt) (hq : Cond.methodLink own idx arraycopyName ∈ lw_all) (hq1 : Cond.native arraycopyName ∈ lw_all) (hq2 : Cond.static arraycopyName ∈ lw_all) (hq3 : Cond.initialized "java/lang/System" ∈ lw_all) (q0 q1 : Nat) (ha0 : ws[q0]? = some (b0, .inl (dI_ D, n0, .inl f))) (ha1 : ws[q1]? = some (b1, .inl (dI_ D, n1, .inl g))) (h1 : ¬ sp < 0) (h2 : ¬ dp < 0) (h3 : ¬ ct < 0) (h4 : sp.toNatClampNeg + ct.toNatClampNeg ≤ n0) (h5 : dp.toNatClampNeg + ct.toNatClampNeg ≤ n1) (hfr : 1 ≤ rm.frames) (hlo : (st.map fun v => v.category).sum + (nativeFrameWords "java/lang/System" "arraycopy" 5 + 11) ≤ rm.locals) (hw : ws.set q1 (b1, .inl (dI_ D, n1, .inl (va_cpy f g sp.toNatClampNeg dp.toNatClampNeg ct.toNatClampNeg))) = ws1) (hd : decode cc pc = .ok (.invokestatic idx, 3))
    (kk : vV x k n ws1 lv (pc + 3) st) : vV x k n ws lv pc (.int ct :: .int dp :: .ref b1 :: .int sp :: .ref b0 :: st) := by
  subst hw
  obtain ⟨p, l, e, R, s, m, args, below, meth, c, Q, D, A, nL⟩ := x
  obtain ⟨rfl, rfl, rfl, rfl, hx, hb, hml, hown, hts, hA, hlocks, hret, hE, hZ⟩ := hF
  intro H locs ls hP hD hS hl
  exact va_copyi hx hb (hml.trans hl.1.symm) hown (hts _ hq) (hts _ hq1) (hts _ hq2) (hts _ hq3) hE.1 hP hD hS q0 q1 0 0 ha0 ha1 rfl rfl rfl h1 h2 h3 h4 h5 (fun _ _ => rfl) hfr hlo hd (fun H locs hP hD hS => kk H locs ls hP hD hS hl)
theorem v_mmax {x : vC} {l : Launch} {D : va_G} {own : String} {cc : ByteArray} {rm : Room} {nL : Nat} {rt : Option FieldType} {k n : Nat} {ws : va_W} {lv : List (Nat × Value)} {st : List Value} {idx : Nat} {a b : Int32} (pc : Nat) (hF : vF x l D own cc rm nL rt) (hq : Cond.methodLink own idx Lib.Math.max.name ∈ lw_all) (hq1 : Cond.static Lib.Math.max.name ∈ lw_all) (hq2 : Cond.initialized "java/lang/Math" ∈ lw_all) (hq3 : Cond.code Lib.Math.max.name Lib.Math.max.code 2 (some .int) ∈ lw_all) (hfr : 1 ≤ rm.frames) (hlo : (st.map fun v => v.category).sum + 13 ≤ rm.locals) (hcs : k ≤ rm.cells ∧ n ≤ rm.slots) (hd : decode cc pc = .ok (.invokestatic idx, 3))
    (kk : vV x k n ws lv (pc + 3) (.int (if a < b then b else a) :: st)) : vV x k n ws lv pc (.int b :: .int a :: st) := by
  obtain ⟨p, l, e, R, s, m, args, below, meth, c, Q, D, A, nL⟩ := x
  obtain ⟨rfl, rfl, rfl, rfl, hx, hb, hml, hown, hts, hA, hlocks, hret, hE, hZ⟩ := hF
  intro H locs ls hP hD hS hl
  exact va_mmax hx hb (hml.trans hl.1.symm) hown (hts _ hq) (hts _ hq1) (hts _ hq2) (hts _ hq3) hfr hlo hcs.1 hcs.2 hd (kk H locs ls hP hD hS hl)
theorem v_mmin {x : vC} {l : Launch} {D : va_G} {own : String} {cc : ByteArray} {rm : Room} {nL : Nat} {rt : Option FieldType} {k n : Nat} {ws : va_W} {lv : List (Nat × Value)} {st : List Value} {idx : Nat} {a b : Int32} (pc : Nat) (hF : vF x l D own cc rm nL rt) (hq : Cond.methodLink own idx Lib.Math.min.name ∈ lw_all) (hq1 : Cond.static Lib.Math.min.name ∈ lw_all) (hq2 : Cond.initialized "java/lang/Math" ∈ lw_all) (hq3 : Cond.code Lib.Math.min.name Lib.Math.min.code 2 (some .int) ∈ lw_all) (hfr : 1 ≤ rm.frames) (hlo : (st.map fun v => v.category).sum + 13 ≤ rm.locals) (hcs : k ≤ rm.cells ∧ n ≤ rm.slots) (hd : decode cc pc = .ok (.invokestatic idx, 3))
    (kk : vV x k n ws lv (pc + 3) (.int (if b < a then b else a) :: st)) : vV x k n ws lv pc (.int b :: .int a :: st) := by
  obtain ⟨p, l, e, R, s, m, args, below, meth, c, Q, D, A, nL⟩ := x
  obtain ⟨rfl, rfl, rfl, rfl, hx, hb, hml, hown, hts, hA, hlocks, hret, hE, hZ⟩ := hF
  intro H locs ls hP hD hS hl
  exact va_mmin hx hb (hml.trans hl.1.symm) hown (hts _ hq) (hts _ hq1) (hts _ hq2) (hts _ hq3) hfr hlo hcs.1 hcs.2 hd (kk H locs ls hP hD hS hl)
theorem v_iret {x : vC} {l : Launch} {D : va_G} {own : String} {cc : ByteArray} {rm : Room} {nL : Nat} {k n : Nat} {lv : List (Nat × Value)} {S : Type} {w1 : S → va_W} {Qi : Int32 → S → Prop} {mc ms : Nat} {r : Int32} {u : S} (pc : Nat) (hF : vF x l D own cc rm nL (some .int)) (hR : vRi x w1 Qi mc ms) (hk : k ≤ mc) (hn : n ≤ ms) (hd : decode cc pc = .ok (.ireturn, 1)) (h : Qi r u) : vV x k n (w1 u) lv pc [.int r] := by
  obtain ⟨p, l, e, R, s, m, args, below, meth, c, Q, D, A, nL⟩ := x
  obtain ⟨rfl, rfl, rfl, rfl, hx, hb, hml, hown, hts, hA, hlocks, hret, hE, hZ⟩ := hF
  intro H locs ls hP hD hS hl
  have hR : Q = _ := hR
  subst hR
  exact W.widen hk hn (W.iret (v := r) hx hb hret (fun t ht hW => ⟨⟨r, u, rfl, h, by rw [ht]; exact hP, hD⟩, hS.F ht⟩) hS.2.2 hd hlocks)
theorem v_zret {x : vC} {l : Launch} {D : va_G} {own : String} {cc : ByteArray} {rm : Room} {nL : Nat} {ty : FieldType} {k n : Nat} {lv : List (Nat × Value)} {S : Type} {w1 : S → va_W} {Qi : Int32 → S → Prop} {mc ms : Nat} {r : Int32} {u : S} (pc : Nat) (hF : vF x l D own cc rm nL (some ty)) (hR : vRi x w1 Qi mc ms) (hk : k ≤ mc) (hn : n ≤ ms) (hr : narrow ty (.int r) = .int r) (hd : decode cc pc = .ok (.ireturn, 1)) (h : Qi r u) : vV x k n (w1 u) lv pc [.int r] := by
  obtain ⟨p, l, e, R, s, m, args, below, meth, c, Q, D, A, nL⟩ := x
  obtain ⟨rfl, rfl, rfl, rfl, hx, hb, hml, hown, hts, hA, hlocks, hret, hE, hZ⟩ := hF
  intro H locs ls hP hD hS hl
  have hR : Q = _ := hR
  subst hR
  exact W.widen hk hn (W.zret (v := r) hx hb hret hr (fun t ht hW => ⟨⟨r, u, rfl, h, by rw [ht]; exact hP, hD⟩, hS.F ht⟩) hS.2.2 hd hlocks)
theorem v_vret {x : vC} {l : Launch} {D : va_G} {own : String} {cc : ByteArray} {rm : Room} {nL : Nat} {k n : Nat} {lv : List (Nat × Value)} {S : Type} {w1 : S → va_W} {Qi : S → Prop} {mc ms : Nat} {u : S} (pc : Nat) (hF : vF x l D own cc rm nL none) (hR : vRv x w1 Qi mc ms) (hk : k ≤ mc) (hn : n ≤ ms) (hd : decode cc pc = .ok (.return_, 1)) (h : Qi u) : vV x k n (w1 u) lv pc [] := by
  obtain ⟨p, l, e, R, s, m, args, below, meth, c, Q, D, A, nL⟩ := x
  obtain ⟨rfl, rfl, rfl, rfl, hx, hb, hml, hown, hts, hA, hlocks, hret, hE, hZ⟩ := hF
  intro H locs ls hP hD hS hl
  have hR : Q = _ := hR
  subst hR
  exact W.widen hk hn (W.vret hx hb hret (fun t ht hW => ⟨⟨u, rfl, h, by rw [ht]; exact hP, hD⟩, hS.F ht⟩) hS.2.2 hd hlocks)
theorem v_dret {x : vC} {l : Launch} {D : va_G} {own : String} {cc : ByteArray} {rm : Room} {nL : Nat} {k n : Nat} {lv : List (Nat × Value)} {S : Type} {w1 : S → va_W} {Qi : UInt64 → S → Prop} {mc ms : Nat} {r : UInt64} {u : S} (pc : Nat) (hF : vF x l D own cc rm nL (some .double)) (hR : vRd x w1 Qi mc ms) (hk : k ≤ mc) (hn : n ≤ ms) (hd : decode cc pc = .ok (.dreturn, 1)) (h : Qi r u) : vV x k n (w1 u) lv pc [.double r] := by
  obtain ⟨p, l, e, R, s, m, args, below, meth, c, Q, D, A, nL⟩ := x
  obtain ⟨rfl, rfl, rfl, rfl, hx, hb, hml, hown, hts, hA, hlocks, hret, hE, hZ⟩ := hF
  intro H locs ls hP hD hS hl
  have hR : Q = _ := hR
  subst hR
  exact W.widen hk hn (W.dret (v := r) hx hb hret (fun t ht hW => ⟨⟨r, u, rfl, h, by rw [ht]; exact hP, hD⟩, hS.F ht⟩) hS.2.2 hd hlocks)
theorem v_fret {x : vC} {l : Launch} {D : va_G} {own : String} {cc : ByteArray} {rm : Room} {nL : Nat} {k n : Nat} {lv : List (Nat × Value)} {S : Type} {w1 : S → va_W} {Qi : UInt32 → S → Prop} {mc ms : Nat} {r : UInt32} {u : S} (pc : Nat) (hF : vF x l D own cc rm nL (some .float)) (hR : vRf x w1 Qi mc ms) (hk : k ≤ mc) (hn : n ≤ ms) (hd : decode cc pc = .ok (.freturn, 1)) (h : Qi r u) : vV x k n (w1 u) lv pc [.float r] := by
  obtain ⟨p, l, e, R, s, m, args, below, meth, c, Q, D, A, nL⟩ := x
  obtain ⟨rfl, rfl, rfl, rfl, hx, hb, hml, hown, hts, hA, hlocks, hret, hE, hZ⟩ := hF
  intro H locs ls hP hD hS hl
  have hR : Q = _ := hR
  subst hR
  exact W.widen hk hn (W.fret (v := r) hx hb hret (fun t ht hW => ⟨⟨r, u, rfl, h, by rw [ht]; exact hP, hD⟩, hS.F ht⟩) hS.2.2 hd hlocks)
theorem v_aret {x : vC} {l : Launch} {D : va_G} {own : String} {cc : ByteArray} {rm : Room} {nL : Nat} {ty : FieldType} {k n : Nat} {lv : List (Nat × Value)} {S : Type} {w1 : S → va_W} {ad : S → Nat} {Qi : S → Prop} {mc ms : Nat} {u : S} {b : Nat} (pc : Nat) (hF : vF x l D own cc rm nL (some ty)) (hty : (∃ n, ty = .object n) ∨ ∃ t, ty = .array t) (hR : vRr x w1 ad Qi mc ms) (hk : k ≤ mc) (hn : n ≤ ms) (hd : decode cc pc = .ok (.areturn, 1)) (hb1 : b = ad u) (h : Qi u) : vV x k n (w1 u) lv pc [.ref b] := by
  subst hb1
  obtain ⟨p, l, e, R, s, m, args, below, meth, c, Q, D, A, nL⟩ := x
  obtain ⟨rfl, rfl, rfl, rfl, hx, hb, hml, hown, hts, hA, hlocks, hret, hE, hZ⟩ := hF
  intro H locs ls hP hD hS hl
  have hR : Q = _ := hR
  subst hR
  exact W.widen hk hn (W.aret hx hb hret hty (Or.inr ⟨_, rfl⟩) (fun t ht hW => ⟨⟨u, ad u, rfl, h, rfl, by rw [ht]; exact hP, hD⟩, hS.F ht⟩) hS.2.2 hd hlocks)
theorem vP_left {D : va_G} {cl : List vw_C} {w0 wr : va_W} {H : Heap} (h : va_P D cl (w0 ++ wr) H) : va_P D cl w0 H := by
  intro j q hq
  exact h j q (by rw [List.getElem?_append_left (List.getElem?_eq_some_iff.mp hq).1]; exact hq)
theorem vP_right {D : va_G} {cl : List vw_C} {w0 wr : va_W} {H : Heap} (h : va_P D cl (w0 ++ wr) H) : va_P D cl wr H := by
  intro j q hq
  exact h (w0.length + j) q (by rw [List.getElem?_append_right (Nat.le_add_right _ _), Nat.add_sub_cancel_left]; exact hq)
theorem vD_left {A : Nat → Prop} {w0 wr : va_W} (h : va_D A (w0 ++ wr)) : va_D A w0 := by
  rw [vD_iff] at h ⊢
  rw [List.map_append] at h
  exact ⟨(List.nodup_append.mp h.1).1, fun q hq => h.2 q (List.mem_append_left _ hq)⟩
theorem vD_right {A : Nat → Prop} {w0 wr : va_W} (h : va_D A (w0 ++ wr)) : va_D A wr := by
  rw [vD_iff] at h ⊢
  rw [List.map_append] at h
  exact ⟨(List.nodup_append.mp h.1).2.1, fun q hq => h.2 q (List.mem_append_right _ hq)⟩
theorem vfree {A0 : Nat → Prop} {w0 : va_W} {H0 H : Heap} {locs : List Loc} (hD : va_D A0 w0) (hS : va_S A0 H0 H locs) (hA : ∀ q, H0.size ≤ q → A0 q) : ∀ q, va_A w0 H.size q → A0 q := by
  intro q h
  rcases h with ⟨j, e, h⟩ | h
  · exact hD.2 j (q, e) h
  · exact hA q (Nat.le_trans hS.1 h)
theorem vjoin {A0 : Nat → Prop} {D : va_G} {cl : List vw_C} {w0 wr w1 : va_W} {H H1 : Heap} (hP : va_P D cl (w0 ++ wr) H) (hD : va_D A0 (w0 ++ wr))
    (hk : ∀ q : Nat, q < H.size → ¬ va_A w0 H.size q → H1[q]? = H[q]?) (hF : ∀ q, va_A w0 H.size q → A0 q) (hP1 : va_P D cl w1 H1) (hD1 : va_D (va_A w0 H.size) w1) : va_P D cl (w1 ++ wr) H1 ∧ va_D A0 (w1 ++ wr) := by
  have hnd := (vD_iff.mp hD).1
  rw [List.map_append] at hnd
  have apart : ∀ q ∈ wr, q.1 < H.size ∧ ¬ va_A w0 H.size q.1 := by
    intro q hq
    obtain ⟨i, hi⟩ := List.getElem?_of_mem hq
    have hl := (vP_right hP i q hi).lt
    refine ⟨hl, fun h => ?_⟩
    rcases h with ⟨j, e, h⟩ | h
    · exact (List.nodup_append.mp hnd).2.2 q.1 (List.mem_map.mpr ⟨(q.1, e), List.mem_of_getElem? h, rfl⟩) q.1 (List.mem_map.mpr ⟨q, hq, rfl⟩) rfl
    · omega
  refine ⟨va_P.app hP1 (fun j q hq => ?_), ?_⟩
  · obtain ⟨g1, g2⟩ := apart q (List.mem_of_getElem? hq)
    exact (vP_right hP j q hq).kept (hk q.1 g1 g2)
  · rw [vD_iff] at hD1 ⊢
    refine ⟨?_, fun q hq => ?_⟩
    · rw [List.map_append]
      refine List.nodup_append.mpr ⟨hD1.1, (List.nodup_append.mp hnd).2.1, ?_⟩
      intro a ha b hb hab
      obtain ⟨q, hq, rfl⟩ := List.mem_map.mp ha
      obtain ⟨q2, hq2, rfl⟩ := List.mem_map.mp hb
      exact (apart q2 hq2).2 (by rw [← hab]; exact hD1.2 q hq)
    · rcases List.mem_append.mp hq with h | h
      · exact hF _ (hD1.2 q h)
      · exact (vD_iff.mp hD).2 q (List.mem_append_right _ h)
theorem v_callVi {x : vC} {l : Launch} {D : va_G} {own : String} {cc : ByteArray} {rm : Room} {nL : Nat} {rt : Option FieldType} {k n : Nat} {ws : va_W} {lv : List (Nat × Value)} {st : List Value} {S : Type} {idx maxL mc ms : Nat} {y : MethodName} {bytes : ByteArray} {rt2 : FieldType} {rm2 : Room} {As : List Value} {b : Nat} {w0 wr : va_W} {w1 : S → va_W} {Q2 : Int32 → S → Prop} (pc : Nat) (hF : vF x l D own cc rm nL rt) (hM : Cti l D y bytes maxL rt2 rm2 (.ref b :: As) w0 w1 Q2 mc ms) (hp : ws.Perm (w0 ++ wr)) (hrv : ∃ (q0 ci : Nat) (fs : List Value) (T : u_T) (N : Nat), w0[q0]? = some (b, .inr (ci, fs)) ∧ cl0[ci]? = some (y.cls, T, N)) (hq1 : Cond.methodLink own idx y ∈ lw_all) (hq2 : Cond.instanceMethod y ∈ lw_all) (hq3 : Cond.selects y.cls y y ∈ lw_all) (hq4 : Cond.initialized y.cls ∈ lw_all) (hq5 : Cond.code y bytes maxL (some rt2) ∈ lw_all) (hds : y.cls = y.cls ∧ y.cls ≠ "java/lang/invoke/MethodHandle" ∧ y.cls ≠ "java/lang/invoke/VarHandle" ∧ (parseMethodDescriptor y.desc).map (fun d => d.parameters.length) = some As.length)
    (hrm : rm2.cells = mc ∧ rm2.slots = ms ∧ rm2.frames + 1 ≤ rm.frames ∧ 8 + (maxL + 11) + rm2.locals ≤ rm.locals) (hst : (st.map fun v => v.category).sum ≤ 8) (hcs : k + mc ≤ rm.cells ∧ n + ms ≤ rm.slots) (hd : decode cc pc = .ok (.invokevirtual idx, 3))
    (kk : ∀ (r : Int32) (u : S), Q2 r u → vV x (k + mc) (n + ms) (w1 u ++ wr) lv (pc + 3) (.int r :: st)) : vV x k n ws lv pc (As.reverse ++ .ref b :: st) := by
  obtain ⟨q9, ci9, fs9, T9, N9, he9, hc9⟩ := hrv
  obtain ⟨p, l, e, R, s, m, args, below, meth, c, Q, D, A, nL⟩ := x
  obtain ⟨rfl, rfl, rfl, rfl, hx, hb, hml, hown, hts, hA, hlocks, hret, hE, hZ⟩ := hF
  intro H locs ls hP hD hS hl
  have hP := vP_perm hp hP
  have hD := vD_perm hp hD
  have hPc : va_P D cl0 w0 H := vP_left hP
  have hDc : va_D A w0 := vD_left hD
  have hFc : ∀ q, va_A w0 H.size q → A q := vfree hDc hS hA
  refine va_calli (va_runV (As := As) (rest := st) (b := b) ⟨hx, hb, hml, hown, hts⟩ (hM H.size) (cwV As.length hts (lw_V hq1 hq2 hq3 hq4 hq5) rfl hrm.1 hrm.2.1 hds hrm.2.2) ⟨fun a U g mk q => by obtain ⟨q0, q1, qP, qK, qD, qZ⟩ := q; exact ⟨q0, q1, qP, qK.blind, qD, vZA.moved (u := U) (U := U.calling g mk a) (Vm.Alike.refl U.vm) qZ⟩, va_recv hE.1 hPc (ci := ci9) (q0 := q9) hc9 he9, fun U hU hW => ⟨rfl, by rw [hU], by rw [hU]; exact hPc, hE.warm hW, hDc.weaken (fun _ _ _ _ => trivial), by rw [hU]; exact vZA.moved hW.alike ((hZ.kept hS.2.1).narrow hFc)⟩⟩ rfl rfl hl.1 rfl (lv_room hst) hd hcs) hS (fun q _ h => hFc q h) hFc (fun r u t H1 locs ht hvm hw1 hB hz1 hk1 hS => ?_)
  obtain ⟨hP1, hD1⟩ := hB
  rw [ht] at hP1
  obtain ⟨hP, hD⟩ := vjoin hP hD hk1 hFc hP1 hD1
  exact kk r u hw1 H1 locs ls hP hD hS hl
theorem v_callSi {x : vC} {l : Launch} {D : va_G} {own : String} {cc : ByteArray} {rm : Room} {nL : Nat} {rt : Option FieldType} {k n : Nat} {ws : va_W} {lv : List (Nat × Value)} {st : List Value} {S : Type} {idx maxL mc ms : Nat} {y : MethodName} {bytes : ByteArray} {rt2 : FieldType} {rm2 : Room} {As : List Value} {w0 wr : va_W} {w1 : S → va_W} {Q2 : Int32 → S → Prop} (pc : Nat) (hF : vF x l D own cc rm nL rt) (hM : Cti l D y bytes maxL rt2 rm2 As w0 w1 Q2 mc ms) (hp : ws.Perm (w0 ++ wr)) (hq1 : Cond.methodLink own idx y ∈ lw_all) (hq2 : Cond.static y ∈ lw_all) (hq3 : Cond.initialized y.cls ∈ lw_all) (hq5 : Cond.code y bytes maxL (some rt2) ∈ lw_all) (hds : y.cls = y.cls ∧ y.cls ≠ "java/lang/invoke/MethodHandle" ∧ y.cls ≠ "java/lang/invoke/VarHandle" ∧ (parseMethodDescriptor y.desc).map (fun d => d.parameters.length) = some As.length)
    (hrm : rm2.cells = mc ∧ rm2.slots = ms ∧ rm2.frames + 1 ≤ rm.frames ∧ 8 + (maxL + 11) + rm2.locals ≤ rm.locals) (hst : (st.map fun v => v.category).sum ≤ 8) (hcs : k + mc ≤ rm.cells ∧ n + ms ≤ rm.slots) (hd : decode cc pc = .ok (.invokestatic idx, 3))
    (kk : ∀ (r : Int32) (u : S), Q2 r u → vV x (k + mc) (n + ms) (w1 u ++ wr) lv (pc + 3) (.int r :: st)) : vV x k n ws lv pc (As.reverse ++ st) := by
  obtain ⟨p, l, e, R, s, m, args, below, meth, c, Q, D, A, nL⟩ := x
  obtain ⟨rfl, rfl, rfl, rfl, hx, hb, hml, hown, hts, hA, hlocks, hret, hE, hZ⟩ := hF
  intro H locs ls hP hD hS hl
  have hP := vP_perm hp hP
  have hD := vD_perm hp hD
  have hPc : va_P D cl0 w0 H := vP_left hP
  have hDc : va_D A w0 := vD_left hD
  have hFc : ∀ q, va_A w0 H.size q → A q := vfree hDc hS hA
  refine va_calli (va_runS (As := As) (rest := st) ⟨hx, hb, hml, hown, hts⟩ (hM H.size) (va_cwS As.length hts (lw_S hq1 hq2 hq3 hq5) rfl hrm.1 hrm.2.1 hds.2 hrm.2.2) ⟨fun a U g mk q => by obtain ⟨q0, q1, qP, qK, qD, qZ⟩ := q; exact ⟨q0, q1, qP, qK.blind, qD, vZA.moved (u := U) (U := U.calling g mk a) (Vm.Alike.refl U.vm) qZ⟩, fun U hU hW => ⟨rfl, by rw [hU], by rw [hU]; exact hPc, hE.warm hW, hDc.weaken (fun _ _ _ _ => trivial), by rw [hU]; exact vZA.moved hW.alike ((hZ.kept hS.2.1).narrow hFc)⟩⟩ rfl rfl hl.1 rfl (lv_room hst) hd hcs) hS (fun q _ h => hFc q h) hFc (fun r u t H1 locs ht hvm hw1 hB hz1 hk1 hS => ?_)
  obtain ⟨hP1, hD1⟩ := hB
  rw [ht] at hP1
  obtain ⟨hP, hD⟩ := vjoin hP hD hk1 hFc hP1 hD1
  exact kk r u hw1 H1 locs ls hP hD hS hl
theorem v_callSNi {x : vC} {l : Launch} {D : va_G} {own : String} {cc : ByteArray} {rm : Room} {nL : Nat} {rt : Option FieldType} {k n : Nat} {ws : va_W} {lv : List (Nat × Value)} {st : List Value} {S : Type} {idx maxL mc ms : Nat} {y : MethodName} {bytes : ByteArray} {rt2 : FieldType} {rm2 : Room} {As : List Value} {w0 wr : va_W} {w1 : S → va_W} {Q2 : Int32 → S → Prop} (pc : Nat) (hF : vF x l D own cc rm nL rt) (hM : Cti l D y bytes maxL rt2 rm2 As w0 w1 Q2 mc ms) (hp : ws.Perm (w0 ++ wr)) {host : String} (hq1 : Cond.methodLinkNest own idx y host ∈ lw_tbl) (hq2 : Cond.static y ∈ lw_all) (hq3 : Cond.initialized y.cls ∈ lw_all) (hq5 : Cond.code y bytes maxL (some rt2) ∈ lw_all) (hds : y.cls = y.cls ∧ y.cls ≠ "java/lang/invoke/MethodHandle" ∧ y.cls ≠ "java/lang/invoke/VarHandle" ∧ (parseMethodDescriptor y.desc).map (fun d => d.parameters.length) = some As.length)
    (hrm : rm2.cells = mc ∧ rm2.slots = ms ∧ rm2.frames + 1 ≤ rm.frames ∧ 8 + (maxL + 11) + rm2.locals ≤ rm.locals) (hst : (st.map fun v => v.category).sum ≤ 8) (hcs : k + mc ≤ rm.cells ∧ n + ms ≤ rm.slots) (hd : decode cc pc = .ok (.invokestatic idx, 3))
    (kk : ∀ (r : Int32) (u : S), Q2 r u → vV x (k + mc) (n + ms) (w1 u ++ wr) lv (pc + 3) (.int r :: st)) : vV x k n ws lv pc (As.reverse ++ st) := by
  obtain ⟨p, l, e, R, s, m, args, below, meth, c, Q, D, A, nL⟩ := x
  obtain ⟨rfl, rfl, rfl, rfl, hx, hb, hml, hown, hts, hA, hlocks, hret, hE, hZ⟩ := hF
  intro H locs ls hP hD hS hl
  have hP := vP_perm hp hP
  have hD := vD_perm hp hD
  have hPc : va_P D cl0 w0 H := vP_left hP
  have hDc : va_D A w0 := vD_left hD
  have hFc : ∀ q, va_A w0 H.size q → A q := vfree hDc hS hA
  refine va_calli (va_runSN (As := As) (rest := st) ⟨hx, hb, hml, hown, hts⟩ (hM H.size) ⟨va_cnB As.length hts (lw_meth hq5) rfl hrm.1 hrm.2.1 (hE.2.1 _ hq1 rfl) (hts _ hq3) hds.2 hrm.2.2, hts _ hq2, trivial⟩ ⟨fun a U g mk q => by obtain ⟨q0, q1, qP, qK, qD, qZ⟩ := q; exact ⟨q0, q1, qP, qK.blind, qD, vZA.moved (u := U) (U := U.calling g mk a) (Vm.Alike.refl U.vm) qZ⟩, fun U hU hW => ⟨rfl, by rw [hU], by rw [hU]; exact hPc, hE.warm hW, hDc.weaken (fun _ _ _ _ => trivial), by rw [hU]; exact vZA.moved hW.alike ((hZ.kept hS.2.1).narrow hFc)⟩⟩ rfl rfl hl.1 rfl (lv_room hst) hd hcs) hS (fun q _ h => hFc q h) hFc (fun r u t H1 locs ht hvm hw1 hB hz1 hk1 hS => ?_)
  obtain ⟨hP1, hD1⟩ := hB
  rw [ht] at hP1
  obtain ⟨hP, hD⟩ := vjoin hP hD hk1 hFc hP1 hD1
  exact kk r u hw1 H1 locs ls hP hD hS hl
theorem v_callVv {x : vC} {l : Launch} {D : va_G} {own : String} {cc : ByteArray} {rm : Room} {nL : Nat} {rt : Option FieldType} {k n : Nat} {ws : va_W} {lv : List (Nat × Value)} {st : List Value} {S : Type} {idx maxL mc ms : Nat} {y : MethodName} {bytes : ByteArray} {rm2 : Room} {As : List Value} {b : Nat} {w0 wr : va_W} {w1 : S → va_W} {Q2 : S → Prop} (pc : Nat) (hF : vF x l D own cc rm nL rt) (hM : Ctv l D y bytes maxL rm2 (.ref b :: As) w0 w1 Q2 mc ms) (hp : ws.Perm (w0 ++ wr)) (hrv : ∃ (q0 ci : Nat) (fs : List Value) (T : u_T) (N : Nat), w0[q0]? = some (b, .inr (ci, fs)) ∧ cl0[ci]? = some (y.cls, T, N)) (hq1 : Cond.methodLink own idx y ∈ lw_all) (hq2 : Cond.instanceMethod y ∈ lw_all) (hq3 : Cond.selects y.cls y y ∈ lw_all) (hq4 : Cond.initialized y.cls ∈ lw_all) (hq5 : Cond.code y bytes maxL none ∈ lw_all) (hds : y.cls = y.cls ∧ y.cls ≠ "java/lang/invoke/MethodHandle" ∧ y.cls ≠ "java/lang/invoke/VarHandle" ∧ (parseMethodDescriptor y.desc).map (fun d => d.parameters.length) = some As.length)
    (hrm : rm2.cells = mc ∧ rm2.slots = ms ∧ rm2.frames + 1 ≤ rm.frames ∧ 8 + (maxL + 11) + rm2.locals ≤ rm.locals) (hst : (st.map fun v => v.category).sum ≤ 8) (hcs : k + mc ≤ rm.cells ∧ n + ms ≤ rm.slots) (hd : decode cc pc = .ok (.invokevirtual idx, 3))
    (kk : ∀ (u : S), Q2 u → vV x (k + mc) (n + ms) (w1 u ++ wr) lv (pc + 3) st) : vV x k n ws lv pc (As.reverse ++ .ref b :: st) := by
  obtain ⟨q9, ci9, fs9, T9, N9, he9, hc9⟩ := hrv
  obtain ⟨p, l, e, R, s, m, args, below, meth, c, Q, D, A, nL⟩ := x
  obtain ⟨rfl, rfl, rfl, rfl, hx, hb, hml, hown, hts, hA, hlocks, hret, hE, hZ⟩ := hF
  intro H locs ls hP hD hS hl
  have hP := vP_perm hp hP
  have hD := vD_perm hp hD
  have hPc : va_P D cl0 w0 H := vP_left hP
  have hDc : va_D A w0 := vD_left hD
  have hFc : ∀ q, va_A w0 H.size q → A q := vfree hDc hS hA
  refine va_callv (va_runV (As := As) (rest := st) (b := b) ⟨hx, hb, hml, hown, hts⟩ (hM H.size) (cwV As.length hts (lw_V hq1 hq2 hq3 hq4 hq5) rfl hrm.1 hrm.2.1 hds hrm.2.2) ⟨fun a U g mk q => by obtain ⟨q0, q1, qP, qK, qD, qZ⟩ := q; exact ⟨q0, q1, qP, qK.blind, qD, vZA.moved (u := U) (U := U.calling g mk a) (Vm.Alike.refl U.vm) qZ⟩, va_recv hE.1 hPc (ci := ci9) (q0 := q9) hc9 he9, fun U hU hW => ⟨rfl, by rw [hU], by rw [hU]; exact hPc, hE.warm hW, hDc.weaken (fun _ _ _ _ => trivial), by rw [hU]; exact vZA.moved hW.alike ((hZ.kept hS.2.1).narrow hFc)⟩⟩ rfl rfl hl.1 rfl (lv_room hst) hd hcs) hS (fun q _ h => hFc q h) hFc (fun u t H1 locs ht hvm hw1 hB hz1 hk1 hS => ?_)
  obtain ⟨hP1, hD1⟩ := hB
  rw [ht] at hP1
  obtain ⟨hP, hD⟩ := vjoin hP hD hk1 hFc hP1 hD1
  exact kk u hw1 H1 locs ls hP hD hS hl
theorem v_callSv {x : vC} {l : Launch} {D : va_G} {own : String} {cc : ByteArray} {rm : Room} {nL : Nat} {rt : Option FieldType} {k n : Nat} {ws : va_W} {lv : List (Nat × Value)} {st : List Value} {S : Type} {idx maxL mc ms : Nat} {y : MethodName} {bytes : ByteArray} {rm2 : Room} {As : List Value} {w0 wr : va_W} {w1 : S → va_W} {Q2 : S → Prop} (pc : Nat) (hF : vF x l D own cc rm nL rt) (hM : Ctv l D y bytes maxL rm2 As w0 w1 Q2 mc ms) (hp : ws.Perm (w0 ++ wr)) (hq1 : Cond.methodLink own idx y ∈ lw_all) (hq2 : Cond.static y ∈ lw_all) (hq3 : Cond.initialized y.cls ∈ lw_all) (hq5 : Cond.code y bytes maxL none ∈ lw_all) (hds : y.cls = y.cls ∧ y.cls ≠ "java/lang/invoke/MethodHandle" ∧ y.cls ≠ "java/lang/invoke/VarHandle" ∧ (parseMethodDescriptor y.desc).map (fun d => d.parameters.length) = some As.length)
    (hrm : rm2.cells = mc ∧ rm2.slots = ms ∧ rm2.frames + 1 ≤ rm.frames ∧ 8 + (maxL + 11) + rm2.locals ≤ rm.locals) (hst : (st.map fun v => v.category).sum ≤ 8) (hcs : k + mc ≤ rm.cells ∧ n + ms ≤ rm.slots) (hd : decode cc pc = .ok (.invokestatic idx, 3))
    (kk : ∀ (u : S), Q2 u → vV x (k + mc) (n + ms) (w1 u ++ wr) lv (pc + 3) st) : vV x k n ws lv pc (As.reverse ++ st) := by
  obtain ⟨p, l, e, R, s, m, args, below, meth, c, Q, D, A, nL⟩ := x
  obtain ⟨rfl, rfl, rfl, rfl, hx, hb, hml, hown, hts, hA, hlocks, hret, hE, hZ⟩ := hF
  intro H locs ls hP hD hS hl
  have hP := vP_perm hp hP
  have hD := vD_perm hp hD
  have hPc : va_P D cl0 w0 H := vP_left hP
  have hDc : va_D A w0 := vD_left hD
  have hFc : ∀ q, va_A w0 H.size q → A q := vfree hDc hS hA
  refine va_callv (va_runS (As := As) (rest := st) ⟨hx, hb, hml, hown, hts⟩ (hM H.size) (va_cwS As.length hts (lw_S hq1 hq2 hq3 hq5) rfl hrm.1 hrm.2.1 hds.2 hrm.2.2) ⟨fun a U g mk q => by obtain ⟨q0, q1, qP, qK, qD, qZ⟩ := q; exact ⟨q0, q1, qP, qK.blind, qD, vZA.moved (u := U) (U := U.calling g mk a) (Vm.Alike.refl U.vm) qZ⟩, fun U hU hW => ⟨rfl, by rw [hU], by rw [hU]; exact hPc, hE.warm hW, hDc.weaken (fun _ _ _ _ => trivial), by rw [hU]; exact vZA.moved hW.alike ((hZ.kept hS.2.1).narrow hFc)⟩⟩ rfl rfl hl.1 rfl (lv_room hst) hd hcs) hS (fun q _ h => hFc q h) hFc (fun u t H1 locs ht hvm hw1 hB hz1 hk1 hS => ?_)
  obtain ⟨hP1, hD1⟩ := hB
  rw [ht] at hP1
  obtain ⟨hP, hD⟩ := vjoin hP hD hk1 hFc hP1 hD1
  exact kk u hw1 H1 locs ls hP hD hS hl
theorem v_callIv {x : vC} {l : Launch} {D : va_G} {own : String} {cc : ByteArray} {rm : Room} {nL : Nat} {rt : Option FieldType} {k n : Nat} {ws : va_W} {lv : List (Nat × Value)} {st : List Value} {S : Type} {idx maxL mc ms : Nat} {y : MethodName} {bytes : ByteArray} {rm2 : Room} {As : List Value} {b : Nat} {w0 wr : va_W} {w1 : S → va_W} {Q2 : S → Prop} (pc : Nat) (hF : vF x l D own cc rm nL rt) (hM : Ctv l D y bytes maxL rm2 (.ref b :: As) w0 w1 Q2 mc ms) (hp : ws.Perm (w0 ++ wr)) (hyn : y.name = "<init>") (hq1 : Cond.methodLink own idx y ∈ lw_all) (hq2 : Cond.instanceMethod y ∈ lw_all) (hq4 : Cond.initialized y.cls ∈ lw_all) (hq5 : Cond.code y bytes maxL none ∈ lw_all) (hds : y.cls = y.cls ∧ y.cls ≠ "java/lang/invoke/MethodHandle" ∧ y.cls ≠ "java/lang/invoke/VarHandle" ∧ (parseMethodDescriptor y.desc).map (fun d => d.parameters.length) = some As.length)
    (hrm : rm2.cells = mc ∧ rm2.slots = ms ∧ rm2.frames + 1 ≤ rm.frames ∧ 8 + (maxL + 11) + rm2.locals ≤ rm.locals) (hst : (st.map fun v => v.category).sum ≤ 8) (hcs : k + mc ≤ rm.cells ∧ n + ms ≤ rm.slots) (hd : decode cc pc = .ok (.invokespecial idx, 3))
    (kk : ∀ (u : S), Q2 u → vV x (k + mc) (n + ms) (w1 u ++ wr) lv (pc + 3) st) : vV x k n ws lv pc (As.reverse ++ .ref b :: st) := by
  obtain ⟨p, l, e, R, s, m, args, below, meth, c, Q, D, A, nL⟩ := x
  obtain ⟨rfl, rfl, rfl, rfl, hx, hb, hml, hown, hts, hA, hlocks, hret, hE, hZ⟩ := hF
  intro H locs ls hP hD hS hl
  have hP := vP_perm hp hP
  have hD := vD_perm hp hD
  have hPc : va_P D cl0 w0 H := vP_left hP
  have hDc : va_D A w0 := vD_left hD
  have hFc : ∀ q, va_A w0 H.size q → A q := vfree hDc hS hA
  refine va_callv (va_runI (As := As) (rest := st) (b := b) ⟨hx, hb, hml, hown, hts⟩ (hM H.size) (cwI As.length hts (lw_meth hq5) rfl hrm.1 hrm.2.1 (hts _ hq4) (hts _ hq1) (hts _ hq2) hyn hds.2 hrm.2.2) ⟨fun a U g mk q => by obtain ⟨q0, q1, qP, qK, qD, qZ⟩ := q; exact ⟨q0, q1, qP, qK.blind, qD, vZA.moved (u := U) (U := U.calling g mk a) (Vm.Alike.refl U.vm) qZ⟩, fun U hU hW => ⟨rfl, by rw [hU], by rw [hU]; exact hPc, hE.warm hW, hDc.weaken (fun _ _ _ _ => trivial), by rw [hU]; exact vZA.moved hW.alike ((hZ.kept hS.2.1).narrow hFc)⟩⟩ rfl rfl hl.1 rfl (lv_room hst) hd hcs) hS (fun q _ h => hFc q h) hFc (fun u t H1 locs ht hvm hw1 hB hz1 hk1 hS => ?_)
  obtain ⟨hP1, hD1⟩ := hB
  rw [ht] at hP1
  obtain ⟨hP, hD⟩ := vjoin hP hD hk1 hFc hP1 hD1
  exact kk u hw1 H1 locs ls hP hD hS hl
theorem v_callSNv {x : vC} {l : Launch} {D : va_G} {own : String} {cc : ByteArray} {rm : Room} {nL : Nat} {rt : Option FieldType} {k n : Nat} {ws : va_W} {lv : List (Nat × Value)} {st : List Value} {S : Type} {idx maxL mc ms : Nat} {y : MethodName} {bytes : ByteArray} {rm2 : Room} {As : List Value} {w0 wr : va_W} {w1 : S → va_W} {Q2 : S → Prop} (pc : Nat) (hF : vF x l D own cc rm nL rt) (hM : Ctv l D y bytes maxL rm2 As w0 w1 Q2 mc ms) (hp : ws.Perm (w0 ++ wr)) {host : String} (hq1 : Cond.methodLinkNest own idx y host ∈ lw_tbl) (hq2 : Cond.static y ∈ lw_all) (hq3 : Cond.initialized y.cls ∈ lw_all) (hq5 : Cond.code y bytes maxL none ∈ lw_all) (hds : y.cls = y.cls ∧ y.cls ≠ "java/lang/invoke/MethodHandle" ∧ y.cls ≠ "java/lang/invoke/VarHandle" ∧ (parseMethodDescriptor y.desc).map (fun d => d.parameters.length) = some As.length)
    (hrm : rm2.cells = mc ∧ rm2.slots = ms ∧ rm2.frames + 1 ≤ rm.frames ∧ 8 + (maxL + 11) + rm2.locals ≤ rm.locals) (hst : (st.map fun v => v.category).sum ≤ 8) (hcs : k + mc ≤ rm.cells ∧ n + ms ≤ rm.slots) (hd : decode cc pc = .ok (.invokestatic idx, 3))
    (kk : ∀ (u : S), Q2 u → vV x (k + mc) (n + ms) (w1 u ++ wr) lv (pc + 3) st) : vV x k n ws lv pc (As.reverse ++ st) := by
  obtain ⟨p, l, e, R, s, m, args, below, meth, c, Q, D, A, nL⟩ := x
  obtain ⟨rfl, rfl, rfl, rfl, hx, hb, hml, hown, hts, hA, hlocks, hret, hE, hZ⟩ := hF
  intro H locs ls hP hD hS hl
  have hP := vP_perm hp hP
  have hD := vD_perm hp hD
  have hPc : va_P D cl0 w0 H := vP_left hP
  have hDc : va_D A w0 := vD_left hD
  have hFc : ∀ q, va_A w0 H.size q → A q := vfree hDc hS hA
  refine va_callv (va_runSN (As := As) (rest := st) ⟨hx, hb, hml, hown, hts⟩ (hM H.size) ⟨va_cnB As.length hts (lw_meth hq5) rfl hrm.1 hrm.2.1 (hE.2.1 _ hq1 rfl) (hts _ hq3) hds.2 hrm.2.2, hts _ hq2, trivial⟩ ⟨fun a U g mk q => by obtain ⟨q0, q1, qP, qK, qD, qZ⟩ := q; exact ⟨q0, q1, qP, qK.blind, qD, vZA.moved (u := U) (U := U.calling g mk a) (Vm.Alike.refl U.vm) qZ⟩, fun U hU hW => ⟨rfl, by rw [hU], by rw [hU]; exact hPc, hE.warm hW, hDc.weaken (fun _ _ _ _ => trivial), by rw [hU]; exact vZA.moved hW.alike ((hZ.kept hS.2.1).narrow hFc)⟩⟩ rfl rfl hl.1 rfl (lv_room hst) hd hcs) hS (fun q _ h => hFc q h) hFc (fun u t H1 locs ht hvm hw1 hB hz1 hk1 hS => ?_)
  obtain ⟨hP1, hD1⟩ := hB
  rw [ht] at hP1
  obtain ⟨hP, hD⟩ := vjoin hP hD hk1 hFc hP1 hD1
  exact kk u hw1 H1 locs ls hP hD hS hl
theorem v_callINv {x : vC} {l : Launch} {D : va_G} {own : String} {cc : ByteArray} {rm : Room} {nL : Nat} {rt : Option FieldType} {k n : Nat} {ws : va_W} {lv : List (Nat × Value)} {st : List Value} {S : Type} {idx maxL mc ms : Nat} {y : MethodName} {bytes : ByteArray} {rm2 : Room} {As : List Value} {b : Nat} {w0 wr : va_W} {w1 : S → va_W} {Q2 : S → Prop} (pc : Nat) (hF : vF x l D own cc rm nL rt) (hM : Ctv l D y bytes maxL rm2 (.ref b :: As) w0 w1 Q2 mc ms) (hp : ws.Perm (w0 ++ wr)) {host : String} (hyn : y.name = "<init>") (hq1 : Cond.methodLinkNest own idx y host ∈ lw_tbl) (hq2 : Cond.instanceMethod y ∈ lw_all) (hq4 : Cond.initialized y.cls ∈ lw_all) (hq5 : Cond.code y bytes maxL none ∈ lw_all) (hds : y.cls = y.cls ∧ y.cls ≠ "java/lang/invoke/MethodHandle" ∧ y.cls ≠ "java/lang/invoke/VarHandle" ∧ (parseMethodDescriptor y.desc).map (fun d => d.parameters.length) = some As.length)
    (hrm : rm2.cells = mc ∧ rm2.slots = ms ∧ rm2.frames + 1 ≤ rm.frames ∧ 8 + (maxL + 11) + rm2.locals ≤ rm.locals) (hst : (st.map fun v => v.category).sum ≤ 8) (hcs : k + mc ≤ rm.cells ∧ n + ms ≤ rm.slots) (hd : decode cc pc = .ok (.invokespecial idx, 3))
    (kk : ∀ (u : S), Q2 u → vV x (k + mc) (n + ms) (w1 u ++ wr) lv (pc + 3) st) : vV x k n ws lv pc (As.reverse ++ .ref b :: st) := by
  obtain ⟨p, l, e, R, s, m, args, below, meth, c, Q, D, A, nL⟩ := x
  obtain ⟨rfl, rfl, rfl, rfl, hx, hb, hml, hown, hts, hA, hlocks, hret, hE, hZ⟩ := hF
  intro H locs ls hP hD hS hl
  have hP := vP_perm hp hP
  have hD := vD_perm hp hD
  have hPc : va_P D cl0 w0 H := vP_left hP
  have hDc : va_D A w0 := vD_left hD
  have hFc : ∀ q, va_A w0 H.size q → A q := vfree hDc hS hA
  refine va_callv (va_runIN (As := As) (rest := st) (b := b) ⟨hx, hb, hml, hown, hts⟩ (hM H.size) ⟨va_cnB As.length hts (lw_meth hq5) rfl hrm.1 hrm.2.1 (hE.2.1 _ hq1 rfl) (hts _ hq4) hds.2 hrm.2.2, hyn, hts _ hq2⟩ ⟨fun a U g mk q => by obtain ⟨q0, q1, qP, qK, qD, qZ⟩ := q; exact ⟨q0, q1, qP, qK.blind, qD, vZA.moved (u := U) (U := U.calling g mk a) (Vm.Alike.refl U.vm) qZ⟩, fun U hU hW => ⟨rfl, by rw [hU], by rw [hU]; exact hPc, hE.warm hW, hDc.weaken (fun _ _ _ _ => trivial), by rw [hU]; exact vZA.moved hW.alike ((hZ.kept hS.2.1).narrow hFc)⟩⟩ rfl rfl hl.1 rfl (lv_room hst) hd hcs) hS (fun q _ h => hFc q h) hFc (fun u t H1 locs ht hvm hw1 hB hz1 hk1 hS => ?_)
  obtain ⟨hP1, hD1⟩ := hB
  rw [ht] at hP1
  obtain ⟨hP, hD⟩ := vjoin hP hD hk1 hFc hP1 hD1
  exact kk u hw1 H1 locs ls hP hD hS hl
theorem v_callVr {x : vC} {l : Launch} {D : va_G} {own : String} {cc : ByteArray} {rm : Room} {nL : Nat} {rt : Option FieldType} {k n : Nat} {ws : va_W} {lv : List (Nat × Value)} {st : List Value} {S : Type} {idx maxL mc ms : Nat} {y : MethodName} {bytes : ByteArray} {rt2 : FieldType} {rm2 : Room} {As : List Value} {b : Nat} {w0 wr : va_W} {w1 : S → va_W} {ad : S → Nat} {Q2 : S → Prop} (pc : Nat) (hF : vF x l D own cc rm nL rt) (hM : Ctr l D y bytes maxL rt2 rm2 (.ref b :: As) w0 w1 ad Q2 mc ms) (hp : ws.Perm (w0 ++ wr)) (hrv : ∃ (q0 ci : Nat) (fs : List Value) (T : u_T) (N : Nat), w0[q0]? = some (b, .inr (ci, fs)) ∧ cl0[ci]? = some (y.cls, T, N)) (hq1 : Cond.methodLink own idx y ∈ lw_all) (hq2 : Cond.instanceMethod y ∈ lw_all) (hq3 : Cond.selects y.cls y y ∈ lw_all) (hq4 : Cond.initialized y.cls ∈ lw_all) (hq5 : Cond.code y bytes maxL (some rt2) ∈ lw_all) (hds : y.cls = y.cls ∧ y.cls ≠ "java/lang/invoke/MethodHandle" ∧ y.cls ≠ "java/lang/invoke/VarHandle" ∧ (parseMethodDescriptor y.desc).map (fun d => d.parameters.length) = some As.length)
    (hrm : rm2.cells = mc ∧ rm2.slots = ms ∧ rm2.frames + 1 ≤ rm.frames ∧ 8 + (maxL + 11) + rm2.locals ≤ rm.locals) (hst : (st.map fun v => v.category).sum ≤ 8) (hcs : k + mc ≤ rm.cells ∧ n + ms ≤ rm.slots) (hd : decode cc pc = .ok (.invokevirtual idx, 3))
    (kk : ∀ (u : S), Q2 u → vV x (k + mc) (n + ms) (w1 u ++ wr) lv (pc + 3) (.ref (ad u) :: st)) : vV x k n ws lv pc (As.reverse ++ .ref b :: st) := by
  obtain ⟨q9, ci9, fs9, T9, N9, he9, hc9⟩ := hrv
  obtain ⟨p, l, e, R, s, m, args, below, meth, c, Q, D, A, nL⟩ := x
  obtain ⟨rfl, rfl, rfl, rfl, hx, hb, hml, hown, hts, hA, hlocks, hret, hE, hZ⟩ := hF
  intro H locs ls hP hD hS hl
  have hP := vP_perm hp hP
  have hD := vD_perm hp hD
  have hPc : va_P D cl0 w0 H := vP_left hP
  have hDc : va_D A w0 := vD_left hD
  have hFc : ∀ q, va_A w0 H.size q → A q := vfree hDc hS hA
  refine va_callr (va_runV (As := As) (rest := st) (b := b) ⟨hx, hb, hml, hown, hts⟩ (hM H.size) (cwV As.length hts (lw_V hq1 hq2 hq3 hq4 hq5) rfl hrm.1 hrm.2.1 hds hrm.2.2) ⟨fun a U g mk q => by obtain ⟨q0, q1, qP, qK, qD, qZ⟩ := q; exact ⟨q0, q1, qP, qK.blind, qD, vZA.moved (u := U) (U := U.calling g mk a) (Vm.Alike.refl U.vm) qZ⟩, va_recv hE.1 hPc (ci := ci9) (q0 := q9) hc9 he9, fun U hU hW => ⟨rfl, by rw [hU], by rw [hU]; exact hPc, hE.warm hW, hDc.weaken (fun _ _ _ _ => trivial), by rw [hU]; exact vZA.moved hW.alike ((hZ.kept hS.2.1).narrow hFc)⟩⟩ rfl rfl hl.1 rfl (lv_room hst) hd hcs) hS (fun q _ h => hFc q h) hFc (fun u a9 t H1 locs ht hvm hw1 hB hz1 hk1 hS => ?_)
  obtain ⟨rfl, hP1, hD1⟩ := hB
  rw [ht] at hP1
  obtain ⟨hP, hD⟩ := vjoin hP hD hk1 hFc hP1 hD1
  exact kk u hw1 H1 locs ls hP hD hS hl
theorem v_callSr {x : vC} {l : Launch} {D : va_G} {own : String} {cc : ByteArray} {rm : Room} {nL : Nat} {rt : Option FieldType} {k n : Nat} {ws : va_W} {lv : List (Nat × Value)} {st : List Value} {S : Type} {idx maxL mc ms : Nat} {y : MethodName} {bytes : ByteArray} {rt2 : FieldType} {rm2 : Room} {As : List Value} {w0 wr : va_W} {w1 : S → va_W} {ad : S → Nat} {Q2 : S → Prop} (pc : Nat) (hF : vF x l D own cc rm nL rt) (hM : Ctr l D y bytes maxL rt2 rm2 As w0 w1 ad Q2 mc ms) (hp : ws.Perm (w0 ++ wr)) (hq1 : Cond.methodLink own idx y ∈ lw_all) (hq2 : Cond.static y ∈ lw_all) (hq3 : Cond.initialized y.cls ∈ lw_all) (hq5 : Cond.code y bytes maxL (some rt2) ∈ lw_all) (hds : y.cls = y.cls ∧ y.cls ≠ "java/lang/invoke/MethodHandle" ∧ y.cls ≠ "java/lang/invoke/VarHandle" ∧ (parseMethodDescriptor y.desc).map (fun d => d.parameters.length) = some As.length)
    (hrm : rm2.cells = mc ∧ rm2.slots = ms ∧ rm2.frames + 1 ≤ rm.frames ∧ 8 + (maxL + 11) + rm2.locals ≤ rm.locals) (hst : (st.map fun v => v.category).sum ≤ 8) (hcs : k + mc ≤ rm.cells ∧ n + ms ≤ rm.slots) (hd : decode cc pc = .ok (.invokestatic idx, 3))
    (kk : ∀ (u : S), Q2 u → vV x (k + mc) (n + ms) (w1 u ++ wr) lv (pc + 3) (.ref (ad u) :: st)) : vV x k n ws lv pc (As.reverse ++ st) := by
  obtain ⟨p, l, e, R, s, m, args, below, meth, c, Q, D, A, nL⟩ := x
  obtain ⟨rfl, rfl, rfl, rfl, hx, hb, hml, hown, hts, hA, hlocks, hret, hE, hZ⟩ := hF
  intro H locs ls hP hD hS hl
  have hP := vP_perm hp hP
  have hD := vD_perm hp hD
  have hPc : va_P D cl0 w0 H := vP_left hP
  have hDc : va_D A w0 := vD_left hD
  have hFc : ∀ q, va_A w0 H.size q → A q := vfree hDc hS hA
  refine va_callr (va_runS (As := As) (rest := st) ⟨hx, hb, hml, hown, hts⟩ (hM H.size) (va_cwS As.length hts (lw_S hq1 hq2 hq3 hq5) rfl hrm.1 hrm.2.1 hds.2 hrm.2.2) ⟨fun a U g mk q => by obtain ⟨q0, q1, qP, qK, qD, qZ⟩ := q; exact ⟨q0, q1, qP, qK.blind, qD, vZA.moved (u := U) (U := U.calling g mk a) (Vm.Alike.refl U.vm) qZ⟩, fun U hU hW => ⟨rfl, by rw [hU], by rw [hU]; exact hPc, hE.warm hW, hDc.weaken (fun _ _ _ _ => trivial), by rw [hU]; exact vZA.moved hW.alike ((hZ.kept hS.2.1).narrow hFc)⟩⟩ rfl rfl hl.1 rfl (lv_room hst) hd hcs) hS (fun q _ h => hFc q h) hFc (fun u a9 t H1 locs ht hvm hw1 hB hz1 hk1 hS => ?_)
  obtain ⟨rfl, hP1, hD1⟩ := hB
  rw [ht] at hP1
  obtain ⟨hP, hD⟩ := vjoin hP hD hk1 hFc hP1 hD1
  exact kk u hw1 H1 locs ls hP hD hS hl
theorem v_callSNr {x : vC} {l : Launch} {D : va_G} {own : String} {cc : ByteArray} {rm : Room} {nL : Nat} {rt : Option FieldType} {k n : Nat} {ws : va_W} {lv : List (Nat × Value)} {st : List Value} {S : Type} {idx maxL mc ms : Nat} {y : MethodName} {bytes : ByteArray} {rt2 : FieldType} {rm2 : Room} {As : List Value} {w0 wr : va_W} {w1 : S → va_W} {ad : S → Nat} {Q2 : S → Prop} (pc : Nat) (hF : vF x l D own cc rm nL rt) (hM : Ctr l D y bytes maxL rt2 rm2 As w0 w1 ad Q2 mc ms) (hp : ws.Perm (w0 ++ wr)) {host : String} (hq1 : Cond.methodLinkNest own idx y host ∈ lw_tbl) (hq2 : Cond.static y ∈ lw_all) (hq3 : Cond.initialized y.cls ∈ lw_all) (hq5 : Cond.code y bytes maxL (some rt2) ∈ lw_all) (hds : y.cls = y.cls ∧ y.cls ≠ "java/lang/invoke/MethodHandle" ∧ y.cls ≠ "java/lang/invoke/VarHandle" ∧ (parseMethodDescriptor y.desc).map (fun d => d.parameters.length) = some As.length)
    (hrm : rm2.cells = mc ∧ rm2.slots = ms ∧ rm2.frames + 1 ≤ rm.frames ∧ 8 + (maxL + 11) + rm2.locals ≤ rm.locals) (hst : (st.map fun v => v.category).sum ≤ 8) (hcs : k + mc ≤ rm.cells ∧ n + ms ≤ rm.slots) (hd : decode cc pc = .ok (.invokestatic idx, 3))
    (kk : ∀ (u : S), Q2 u → vV x (k + mc) (n + ms) (w1 u ++ wr) lv (pc + 3) (.ref (ad u) :: st)) : vV x k n ws lv pc (As.reverse ++ st) := by
  obtain ⟨p, l, e, R, s, m, args, below, meth, c, Q, D, A, nL⟩ := x
  obtain ⟨rfl, rfl, rfl, rfl, hx, hb, hml, hown, hts, hA, hlocks, hret, hE, hZ⟩ := hF
  intro H locs ls hP hD hS hl
  have hP := vP_perm hp hP
  have hD := vD_perm hp hD
  have hPc : va_P D cl0 w0 H := vP_left hP
  have hDc : va_D A w0 := vD_left hD
  have hFc : ∀ q, va_A w0 H.size q → A q := vfree hDc hS hA
  refine va_callr (va_runSN (As := As) (rest := st) ⟨hx, hb, hml, hown, hts⟩ (hM H.size) ⟨va_cnB As.length hts (lw_meth hq5) rfl hrm.1 hrm.2.1 (hE.2.1 _ hq1 rfl) (hts _ hq3) hds.2 hrm.2.2, hts _ hq2, trivial⟩ ⟨fun a U g mk q => by obtain ⟨q0, q1, qP, qK, qD, qZ⟩ := q; exact ⟨q0, q1, qP, qK.blind, qD, vZA.moved (u := U) (U := U.calling g mk a) (Vm.Alike.refl U.vm) qZ⟩, fun U hU hW => ⟨rfl, by rw [hU], by rw [hU]; exact hPc, hE.warm hW, hDc.weaken (fun _ _ _ _ => trivial), by rw [hU]; exact vZA.moved hW.alike ((hZ.kept hS.2.1).narrow hFc)⟩⟩ rfl rfl hl.1 rfl (lv_room hst) hd hcs) hS (fun q _ h => hFc q h) hFc (fun u a9 t H1 locs ht hvm hw1 hB hz1 hk1 hS => ?_)
  obtain ⟨rfl, hP1, hD1⟩ := hB
  rw [ht] at hP1
  obtain ⟨hP, hD⟩ := vjoin hP hD hk1 hFc hP1 hD1
  exact kk u hw1 H1 locs ls hP hD hS hl
theorem v_callVd {x : vC} {l : Launch} {D : va_G} {own : String} {cc : ByteArray} {rm : Room} {nL : Nat} {rt : Option FieldType} {k n : Nat} {ws : va_W} {lv : List (Nat × Value)} {st : List Value} {S : Type} {idx maxL mc ms : Nat} {y : MethodName} {bytes : ByteArray} {rm2 : Room} {As : List Value} {b : Nat} {w0 wr : va_W} {w1 : S → va_W} {Q2 : UInt64 → S → Prop} (pc : Nat) (hF : vF x l D own cc rm nL rt) (hM : Ctd l D y bytes maxL rm2 (.ref b :: As) w0 w1 Q2 mc ms) (hp : ws.Perm (w0 ++ wr)) (hrv : ∃ (q0 ci : Nat) (fs : List Value) (T : u_T) (N : Nat), w0[q0]? = some (b, .inr (ci, fs)) ∧ cl0[ci]? = some (y.cls, T, N)) (hq1 : Cond.methodLink own idx y ∈ lw_all) (hq2 : Cond.instanceMethod y ∈ lw_all) (hq3 : Cond.selects y.cls y y ∈ lw_all) (hq4 : Cond.initialized y.cls ∈ lw_all) (hq5 : Cond.code y bytes maxL (some .double) ∈ lw_all) (hds : y.cls = y.cls ∧ y.cls ≠ "java/lang/invoke/MethodHandle" ∧ y.cls ≠ "java/lang/invoke/VarHandle" ∧ (parseMethodDescriptor y.desc).map (fun d => d.parameters.length) = some As.length)
    (hrm : rm2.cells = mc ∧ rm2.slots = ms ∧ rm2.frames + 1 ≤ rm.frames ∧ 8 + (maxL + 11) + rm2.locals ≤ rm.locals) (hst : (st.map fun v => v.category).sum ≤ 8) (hcs : k + mc ≤ rm.cells ∧ n + ms ≤ rm.slots) (hd : decode cc pc = .ok (.invokevirtual idx, 3))
    (kk : ∀ (r : UInt64) (u : S), Q2 r u → vV x (k + mc) (n + ms) (w1 u ++ wr) lv (pc + 3) (.double r :: st)) : vV x k n ws lv pc (As.reverse ++ .ref b :: st) := by
  obtain ⟨q9, ci9, fs9, T9, N9, he9, hc9⟩ := hrv
  obtain ⟨p, l, e, R, s, m, args, below, meth, c, Q, D, A, nL⟩ := x
  obtain ⟨rfl, rfl, rfl, rfl, hx, hb, hml, hown, hts, hA, hlocks, hret, hE, hZ⟩ := hF
  intro H locs ls hP hD hS hl
  have hP := vP_perm hp hP
  have hD := vD_perm hp hD
  have hPc : va_P D cl0 w0 H := vP_left hP
  have hDc : va_D A w0 := vD_left hD
  have hFc : ∀ q, va_A w0 H.size q → A q := vfree hDc hS hA
  refine va_calld (va_runV (As := As) (rest := st) (b := b) ⟨hx, hb, hml, hown, hts⟩ (hM H.size) (cwV As.length hts (lw_V hq1 hq2 hq3 hq4 hq5) rfl hrm.1 hrm.2.1 hds hrm.2.2) ⟨fun a U g mk q => by obtain ⟨q0, q1, qP, qK, qD, qZ⟩ := q; exact ⟨q0, q1, qP, qK.blind, qD, vZA.moved (u := U) (U := U.calling g mk a) (Vm.Alike.refl U.vm) qZ⟩, va_recv hE.1 hPc (ci := ci9) (q0 := q9) hc9 he9, fun U hU hW => ⟨rfl, by rw [hU], by rw [hU]; exact hPc, hE.warm hW, hDc.weaken (fun _ _ _ _ => trivial), by rw [hU]; exact vZA.moved hW.alike ((hZ.kept hS.2.1).narrow hFc)⟩⟩ rfl rfl hl.1 rfl (lv_room hst) hd hcs) hS (fun q _ h => hFc q h) hFc (fun r u t H1 locs ht hvm hw1 hB hz1 hk1 hS => ?_)
  obtain ⟨hP1, hD1⟩ := hB
  rw [ht] at hP1
  obtain ⟨hP, hD⟩ := vjoin hP hD hk1 hFc hP1 hD1
  exact kk r u hw1 H1 locs ls hP hD hS hl
theorem v_callSd {x : vC} {l : Launch} {D : va_G} {own : String} {cc : ByteArray} {rm : Room} {nL : Nat} {rt : Option FieldType} {k n : Nat} {ws : va_W} {lv : List (Nat × Value)} {st : List Value} {S : Type} {idx maxL mc ms : Nat} {y : MethodName} {bytes : ByteArray} {rm2 : Room} {As : List Value} {w0 wr : va_W} {w1 : S → va_W} {Q2 : UInt64 → S → Prop} (pc : Nat) (hF : vF x l D own cc rm nL rt) (hM : Ctd l D y bytes maxL rm2 As w0 w1 Q2 mc ms) (hp : ws.Perm (w0 ++ wr)) (hq1 : Cond.methodLink own idx y ∈ lw_all) (hq2 : Cond.static y ∈ lw_all) (hq3 : Cond.initialized y.cls ∈ lw_all) (hq5 : Cond.code y bytes maxL (some .double) ∈ lw_all) (hds : y.cls = y.cls ∧ y.cls ≠ "java/lang/invoke/MethodHandle" ∧ y.cls ≠ "java/lang/invoke/VarHandle" ∧ (parseMethodDescriptor y.desc).map (fun d => d.parameters.length) = some As.length)
    (hrm : rm2.cells = mc ∧ rm2.slots = ms ∧ rm2.frames + 1 ≤ rm.frames ∧ 8 + (maxL + 11) + rm2.locals ≤ rm.locals) (hst : (st.map fun v => v.category).sum ≤ 8) (hcs : k + mc ≤ rm.cells ∧ n + ms ≤ rm.slots) (hd : decode cc pc = .ok (.invokestatic idx, 3))
    (kk : ∀ (r : UInt64) (u : S), Q2 r u → vV x (k + mc) (n + ms) (w1 u ++ wr) lv (pc + 3) (.double r :: st)) : vV x k n ws lv pc (As.reverse ++ st) := by
  obtain ⟨p, l, e, R, s, m, args, below, meth, c, Q, D, A, nL⟩ := x
  obtain ⟨rfl, rfl, rfl, rfl, hx, hb, hml, hown, hts, hA, hlocks, hret, hE, hZ⟩ := hF
  intro H locs ls hP hD hS hl
  have hP := vP_perm hp hP
  have hD := vD_perm hp hD
  have hPc : va_P D cl0 w0 H := vP_left hP
  have hDc : va_D A w0 := vD_left hD
  have hFc : ∀ q, va_A w0 H.size q → A q := vfree hDc hS hA
  refine va_calld (va_runS (As := As) (rest := st) ⟨hx, hb, hml, hown, hts⟩ (hM H.size) (va_cwS As.length hts (lw_S hq1 hq2 hq3 hq5) rfl hrm.1 hrm.2.1 hds.2 hrm.2.2) ⟨fun a U g mk q => by obtain ⟨q0, q1, qP, qK, qD, qZ⟩ := q; exact ⟨q0, q1, qP, qK.blind, qD, vZA.moved (u := U) (U := U.calling g mk a) (Vm.Alike.refl U.vm) qZ⟩, fun U hU hW => ⟨rfl, by rw [hU], by rw [hU]; exact hPc, hE.warm hW, hDc.weaken (fun _ _ _ _ => trivial), by rw [hU]; exact vZA.moved hW.alike ((hZ.kept hS.2.1).narrow hFc)⟩⟩ rfl rfl hl.1 rfl (lv_room hst) hd hcs) hS (fun q _ h => hFc q h) hFc (fun r u t H1 locs ht hvm hw1 hB hz1 hk1 hS => ?_)
  obtain ⟨hP1, hD1⟩ := hB
  rw [ht] at hP1
  obtain ⟨hP, hD⟩ := vjoin hP hD hk1 hFc hP1 hD1
  exact kk r u hw1 H1 locs ls hP hD hS hl
theorem v_callSNd {x : vC} {l : Launch} {D : va_G} {own : String} {cc : ByteArray} {rm : Room} {nL : Nat} {rt : Option FieldType} {k n : Nat} {ws : va_W} {lv : List (Nat × Value)} {st : List Value} {S : Type} {idx maxL mc ms : Nat} {y : MethodName} {bytes : ByteArray} {rm2 : Room} {As : List Value} {w0 wr : va_W} {w1 : S → va_W} {Q2 : UInt64 → S → Prop} (pc : Nat) (hF : vF x l D own cc rm nL rt) (hM : Ctd l D y bytes maxL rm2 As w0 w1 Q2 mc ms) (hp : ws.Perm (w0 ++ wr)) {host : String} (hq1 : Cond.methodLinkNest own idx y host ∈ lw_tbl) (hq2 : Cond.static y ∈ lw_all) (hq3 : Cond.initialized y.cls ∈ lw_all) (hq5 : Cond.code y bytes maxL (some .double) ∈ lw_all) (hds : y.cls = y.cls ∧ y.cls ≠ "java/lang/invoke/MethodHandle" ∧ y.cls ≠ "java/lang/invoke/VarHandle" ∧ (parseMethodDescriptor y.desc).map (fun d => d.parameters.length) = some As.length)
    (hrm : rm2.cells = mc ∧ rm2.slots = ms ∧ rm2.frames + 1 ≤ rm.frames ∧ 8 + (maxL + 11) + rm2.locals ≤ rm.locals) (hst : (st.map fun v => v.category).sum ≤ 8) (hcs : k + mc ≤ rm.cells ∧ n + ms ≤ rm.slots) (hd : decode cc pc = .ok (.invokestatic idx, 3))
    (kk : ∀ (r : UInt64) (u : S), Q2 r u → vV x (k + mc) (n + ms) (w1 u ++ wr) lv (pc + 3) (.double r :: st)) : vV x k n ws lv pc (As.reverse ++ st) := by
  obtain ⟨p, l, e, R, s, m, args, below, meth, c, Q, D, A, nL⟩ := x
  obtain ⟨rfl, rfl, rfl, rfl, hx, hb, hml, hown, hts, hA, hlocks, hret, hE, hZ⟩ := hF
  intro H locs ls hP hD hS hl
  have hP := vP_perm hp hP
  have hD := vD_perm hp hD
  have hPc : va_P D cl0 w0 H := vP_left hP
  have hDc : va_D A w0 := vD_left hD
  have hFc : ∀ q, va_A w0 H.size q → A q := vfree hDc hS hA
  refine va_calld (va_runSN (As := As) (rest := st) ⟨hx, hb, hml, hown, hts⟩ (hM H.size) ⟨va_cnB As.length hts (lw_meth hq5) rfl hrm.1 hrm.2.1 (hE.2.1 _ hq1 rfl) (hts _ hq3) hds.2 hrm.2.2, hts _ hq2, trivial⟩ ⟨fun a U g mk q => by obtain ⟨q0, q1, qP, qK, qD, qZ⟩ := q; exact ⟨q0, q1, qP, qK.blind, qD, vZA.moved (u := U) (U := U.calling g mk a) (Vm.Alike.refl U.vm) qZ⟩, fun U hU hW => ⟨rfl, by rw [hU], by rw [hU]; exact hPc, hE.warm hW, hDc.weaken (fun _ _ _ _ => trivial), by rw [hU]; exact vZA.moved hW.alike ((hZ.kept hS.2.1).narrow hFc)⟩⟩ rfl rfl hl.1 rfl (lv_room hst) hd hcs) hS (fun q _ h => hFc q h) hFc (fun r u t H1 locs ht hvm hw1 hB hz1 hk1 hS => ?_)
  obtain ⟨hP1, hD1⟩ := hB
  rw [ht] at hP1
  obtain ⟨hP, hD⟩ := vjoin hP hD hk1 hFc hP1 hD1
  exact kk r u hw1 H1 locs ls hP hD hS hl
theorem v_callVf {x : vC} {l : Launch} {D : va_G} {own : String} {cc : ByteArray} {rm : Room} {nL : Nat} {rt : Option FieldType} {k n : Nat} {ws : va_W} {lv : List (Nat × Value)} {st : List Value} {S : Type} {idx maxL mc ms : Nat} {y : MethodName} {bytes : ByteArray} {rm2 : Room} {As : List Value} {b : Nat} {w0 wr : va_W} {w1 : S → va_W} {Q2 : UInt32 → S → Prop} (pc : Nat) (hF : vF x l D own cc rm nL rt) (hM : Ctf l D y bytes maxL rm2 (.ref b :: As) w0 w1 Q2 mc ms) (hp : ws.Perm (w0 ++ wr)) (hrv : ∃ (q0 ci : Nat) (fs : List Value) (T : u_T) (N : Nat), w0[q0]? = some (b, .inr (ci, fs)) ∧ cl0[ci]? = some (y.cls, T, N)) (hq1 : Cond.methodLink own idx y ∈ lw_all) (hq2 : Cond.instanceMethod y ∈ lw_all) (hq3 : Cond.selects y.cls y y ∈ lw_all) (hq4 : Cond.initialized y.cls ∈ lw_all) (hq5 : Cond.code y bytes maxL (some .float) ∈ lw_all) (hds : y.cls = y.cls ∧ y.cls ≠ "java/lang/invoke/MethodHandle" ∧ y.cls ≠ "java/lang/invoke/VarHandle" ∧ (parseMethodDescriptor y.desc).map (fun d => d.parameters.length) = some As.length)
    (hrm : rm2.cells = mc ∧ rm2.slots = ms ∧ rm2.frames + 1 ≤ rm.frames ∧ 8 + (maxL + 11) + rm2.locals ≤ rm.locals) (hst : (st.map fun v => v.category).sum ≤ 8) (hcs : k + mc ≤ rm.cells ∧ n + ms ≤ rm.slots) (hd : decode cc pc = .ok (.invokevirtual idx, 3))
    (kk : ∀ (r : UInt32) (u : S), Q2 r u → vV x (k + mc) (n + ms) (w1 u ++ wr) lv (pc + 3) (.float r :: st)) : vV x k n ws lv pc (As.reverse ++ .ref b :: st) := by
  obtain ⟨q9, ci9, fs9, T9, N9, he9, hc9⟩ := hrv
  obtain ⟨p, l, e, R, s, m, args, below, meth, c, Q, D, A, nL⟩ := x
  obtain ⟨rfl, rfl, rfl, rfl, hx, hb, hml, hown, hts, hA, hlocks, hret, hE, hZ⟩ := hF
  intro H locs ls hP hD hS hl
  have hP := vP_perm hp hP
  have hD := vD_perm hp hD
  have hPc : va_P D cl0 w0 H := vP_left hP
  have hDc : va_D A w0 := vD_left hD
  have hFc : ∀ q, va_A w0 H.size q → A q := vfree hDc hS hA
  refine va_callf (va_runV (As := As) (rest := st) (b := b) ⟨hx, hb, hml, hown, hts⟩ (hM H.size) (cwV As.length hts (lw_V hq1 hq2 hq3 hq4 hq5) rfl hrm.1 hrm.2.1 hds hrm.2.2) ⟨fun a U g mk q => by obtain ⟨q0, q1, qP, qK, qD, qZ⟩ := q; exact ⟨q0, q1, qP, qK.blind, qD, vZA.moved (u := U) (U := U.calling g mk a) (Vm.Alike.refl U.vm) qZ⟩, va_recv hE.1 hPc (ci := ci9) (q0 := q9) hc9 he9, fun U hU hW => ⟨rfl, by rw [hU], by rw [hU]; exact hPc, hE.warm hW, hDc.weaken (fun _ _ _ _ => trivial), by rw [hU]; exact vZA.moved hW.alike ((hZ.kept hS.2.1).narrow hFc)⟩⟩ rfl rfl hl.1 rfl (lv_room hst) hd hcs) hS (fun q _ h => hFc q h) hFc (fun r u t H1 locs ht hvm hw1 hB hz1 hk1 hS => ?_)
  obtain ⟨hP1, hD1⟩ := hB
  rw [ht] at hP1
  obtain ⟨hP, hD⟩ := vjoin hP hD hk1 hFc hP1 hD1
  exact kk r u hw1 H1 locs ls hP hD hS hl
theorem v_callSf {x : vC} {l : Launch} {D : va_G} {own : String} {cc : ByteArray} {rm : Room} {nL : Nat} {rt : Option FieldType} {k n : Nat} {ws : va_W} {lv : List (Nat × Value)} {st : List Value} {S : Type} {idx maxL mc ms : Nat} {y : MethodName} {bytes : ByteArray} {rm2 : Room} {As : List Value} {w0 wr : va_W} {w1 : S → va_W} {Q2 : UInt32 → S → Prop} (pc : Nat) (hF : vF x l D own cc rm nL rt) (hM : Ctf l D y bytes maxL rm2 As w0 w1 Q2 mc ms) (hp : ws.Perm (w0 ++ wr)) (hq1 : Cond.methodLink own idx y ∈ lw_all) (hq2 : Cond.static y ∈ lw_all) (hq3 : Cond.initialized y.cls ∈ lw_all) (hq5 : Cond.code y bytes maxL (some .float) ∈ lw_all) (hds : y.cls = y.cls ∧ y.cls ≠ "java/lang/invoke/MethodHandle" ∧ y.cls ≠ "java/lang/invoke/VarHandle" ∧ (parseMethodDescriptor y.desc).map (fun d => d.parameters.length) = some As.length)
    (hrm : rm2.cells = mc ∧ rm2.slots = ms ∧ rm2.frames + 1 ≤ rm.frames ∧ 8 + (maxL + 11) + rm2.locals ≤ rm.locals) (hst : (st.map fun v => v.category).sum ≤ 8) (hcs : k + mc ≤ rm.cells ∧ n + ms ≤ rm.slots) (hd : decode cc pc = .ok (.invokestatic idx, 3))
    (kk : ∀ (r : UInt32) (u : S), Q2 r u → vV x (k + mc) (n + ms) (w1 u ++ wr) lv (pc + 3) (.float r :: st)) : vV x k n ws lv pc (As.reverse ++ st) := by
  obtain ⟨p, l, e, R, s, m, args, below, meth, c, Q, D, A, nL⟩ := x
  obtain ⟨rfl, rfl, rfl, rfl, hx, hb, hml, hown, hts, hA, hlocks, hret, hE, hZ⟩ := hF
  intro H locs ls hP hD hS hl
  have hP := vP_perm hp hP
  have hD := vD_perm hp hD
  have hPc : va_P D cl0 w0 H := vP_left hP
  have hDc : va_D A w0 := vD_left hD
  have hFc : ∀ q, va_A w0 H.size q → A q := vfree hDc hS hA
  refine va_callf (va_runS (As := As) (rest := st) ⟨hx, hb, hml, hown, hts⟩ (hM H.size) (va_cwS As.length hts (lw_S hq1 hq2 hq3 hq5) rfl hrm.1 hrm.2.1 hds.2 hrm.2.2) ⟨fun a U g mk q => by obtain ⟨q0, q1, qP, qK, qD, qZ⟩ := q; exact ⟨q0, q1, qP, qK.blind, qD, vZA.moved (u := U) (U := U.calling g mk a) (Vm.Alike.refl U.vm) qZ⟩, fun U hU hW => ⟨rfl, by rw [hU], by rw [hU]; exact hPc, hE.warm hW, hDc.weaken (fun _ _ _ _ => trivial), by rw [hU]; exact vZA.moved hW.alike ((hZ.kept hS.2.1).narrow hFc)⟩⟩ rfl rfl hl.1 rfl (lv_room hst) hd hcs) hS (fun q _ h => hFc q h) hFc (fun r u t H1 locs ht hvm hw1 hB hz1 hk1 hS => ?_)
  obtain ⟨hP1, hD1⟩ := hB
  rw [ht] at hP1
  obtain ⟨hP, hD⟩ := vjoin hP hD hk1 hFc hP1 hD1
  exact kk r u hw1 H1 locs ls hP hD hS hl
theorem v_callSNf {x : vC} {l : Launch} {D : va_G} {own : String} {cc : ByteArray} {rm : Room} {nL : Nat} {rt : Option FieldType} {k n : Nat} {ws : va_W} {lv : List (Nat × Value)} {st : List Value} {S : Type} {idx maxL mc ms : Nat} {y : MethodName} {bytes : ByteArray} {rm2 : Room} {As : List Value} {w0 wr : va_W} {w1 : S → va_W} {Q2 : UInt32 → S → Prop} (pc : Nat) (hF : vF x l D own cc rm nL rt) (hM : Ctf l D y bytes maxL rm2 As w0 w1 Q2 mc ms) (hp : ws.Perm (w0 ++ wr)) {host : String} (hq1 : Cond.methodLinkNest own idx y host ∈ lw_tbl) (hq2 : Cond.static y ∈ lw_all) (hq3 : Cond.initialized y.cls ∈ lw_all) (hq5 : Cond.code y bytes maxL (some .float) ∈ lw_all) (hds : y.cls = y.cls ∧ y.cls ≠ "java/lang/invoke/MethodHandle" ∧ y.cls ≠ "java/lang/invoke/VarHandle" ∧ (parseMethodDescriptor y.desc).map (fun d => d.parameters.length) = some As.length)
    (hrm : rm2.cells = mc ∧ rm2.slots = ms ∧ rm2.frames + 1 ≤ rm.frames ∧ 8 + (maxL + 11) + rm2.locals ≤ rm.locals) (hst : (st.map fun v => v.category).sum ≤ 8) (hcs : k + mc ≤ rm.cells ∧ n + ms ≤ rm.slots) (hd : decode cc pc = .ok (.invokestatic idx, 3))
    (kk : ∀ (r : UInt32) (u : S), Q2 r u → vV x (k + mc) (n + ms) (w1 u ++ wr) lv (pc + 3) (.float r :: st)) : vV x k n ws lv pc (As.reverse ++ st) := by
  obtain ⟨p, l, e, R, s, m, args, below, meth, c, Q, D, A, nL⟩ := x
  obtain ⟨rfl, rfl, rfl, rfl, hx, hb, hml, hown, hts, hA, hlocks, hret, hE, hZ⟩ := hF
  intro H locs ls hP hD hS hl
  have hP := vP_perm hp hP
  have hD := vD_perm hp hD
  have hPc : va_P D cl0 w0 H := vP_left hP
  have hDc : va_D A w0 := vD_left hD
  have hFc : ∀ q, va_A w0 H.size q → A q := vfree hDc hS hA
  refine va_callf (va_runSN (As := As) (rest := st) ⟨hx, hb, hml, hown, hts⟩ (hM H.size) ⟨va_cnB As.length hts (lw_meth hq5) rfl hrm.1 hrm.2.1 (hE.2.1 _ hq1 rfl) (hts _ hq3) hds.2 hrm.2.2, hts _ hq2, trivial⟩ ⟨fun a U g mk q => by obtain ⟨q0, q1, qP, qK, qD, qZ⟩ := q; exact ⟨q0, q1, qP, qK.blind, qD, vZA.moved (u := U) (U := U.calling g mk a) (Vm.Alike.refl U.vm) qZ⟩, fun U hU hW => ⟨rfl, by rw [hU], by rw [hU]; exact hPc, hE.warm hW, hDc.weaken (fun _ _ _ _ => trivial), by rw [hU]; exact vZA.moved hW.alike ((hZ.kept hS.2.1).narrow hFc)⟩⟩ rfl rfl hl.1 rfl (lv_room hst) hd hcs) hS (fun q _ h => hFc q h) hFc (fun r u t H1 locs ht hvm hw1 hB hz1 hk1 hS => ?_)
  obtain ⟨hP1, hD1⟩ := hB
  rw [ht] at hP1
  obtain ⟨hP, hD⟩ := vjoin hP hD hk1 hFc hP1 hD1
  exact kk r u hw1 H1 locs ls hP hD hS hl
theorem v_at {args : Array Value} {s : State} {L : List Cond} {ps : List Nat} (hts : ∀ w ∈ lw_all, w.before args s = true) (hN : vNW s) (h : L = ps.filterMap (fun i => lw_tbl[i]?)) (hg : L.all (fun w => goodWord w || nwOk w) = true) : ∀ w ∈ L, w.before args s = true := by
  intro w hw
  have h1 := List.all_eq_true.mp hg w hw
  rw [h] at hw
  obtain ⟨i, -, hi⟩ := List.mem_filterMap.mp hw
  have ht : w ∈ lw_tbl := List.mem_of_getElem? hi
  rw [Bool.or_eq_true] at h1
  rcases h1 with h1 | h1
  · exact hts w (lw_g ht h1)
  · have h2 := hN w ht h1
    cases w with
    | fieldLinkNest a i b n d hh => exact va_Nw.use rfl h2
    | methodLinkNest a i x hh => exact va_Nw.use rfl h2
    | castable C T => exact va_Nw.use rfl h2
    | declares x => exact va_Nw.use rfl h2
    | privateMethod x => exact va_Nw.use rfl h2
    | arrayOver ty =>
      cases ty with
      | object C => exact va_AO.use h2
      | _ => cases h1
    | _ => cases h1
/-- the exceptions of the system's own that carry a number: Refusal, FaultException -/
def rfF (r : Int32) : List Value := [.null, .null, .null, .null, .null, .int 0, .int r]
def vPay (E : String) (ci : Nat) : Prop := (E = RX8 ∧ ci = 11) ∨ (E = RX14 ∧ ci = 5)
/-- the world behind a throw: X of the exception's class and the state; Y of its class, number and the state, its object beside the world -/
def vBX {S : Type} (D : va_G) (w1 : S → va_W) (X : String → S → Prop) (Y : String → Int32 → S → Prop) (A : Nat → Prop) : String → S × Option (Nat × Int32) → Addr → State → Prop := fun E u q t =>
  match u.2 with
  | none => X E u.1 ∧ va_P D cl0 (w1 u.1) t.heap ∧ va_D A (w1 u.1)
  | some (ci, r) => Y E r u.1 ∧ vPay E ci ∧ va_P D cl0 ((q, .inr (ci, rfF r)) :: w1 u.1) t.heap ∧ va_D A ((q, .inr (ci, rfF r)) :: w1 u.1)
abbrev vXC {S : Type} (D : va_G) (w1 : S → va_W) (X : String → S → Prop) (Y : String → Int32 → S → Prop) (A : Nat → Prop) : String → Addr → State → State → Prop := vx_X (fun _ : S × Option (Nat × Int32) => True) (vBX D w1 X Y A) A
/-- an exception q of class E flies over the frame -/
def vT (x : vC) (k n : Nat) (ws : va_W) (lv : List (Nat × Value)) (pc : Nat) (st : List Value) (E : String) (q : Nat) : Prop :=
  match x with
  | (p, l, e, R, s, m, args, below, meth, c, Q, D, A, nL) => ∀ (H : Heap) (locs : List Loc) (ls : Array Slot) (ce : Cell), va_P D cl0 ws H → va_D A ws → va_S A s.heap H locs → lv_has ls nL lv → H[q]? = some ce → ce.vm = .none → s.vm.findClass E = some ce.cls → vx_W p l e R s m args below meth c H locs k n Q (F0 m pc ls st) q
/-- no handlers -/
def vN (x : vC) : Prop :=
  match x with
  | (_, _, _, _, _, _, _, _, _, c, _, _, _, _) => ∀ z ∈ c.exceptionTable.toList, False
theorem vT_perm {x : vC} {k n : Nat} {ws ws' : va_W} {lv : List (Nat × Value)} {st : List Value} {pc : Nat} {E : String} {q : Nat} (hp : ws.Perm ws') (kk : vT x k n ws' lv pc st E q) : vT x k n ws lv pc st E q := by
  obtain ⟨p, l, e, R, s, m, args, below, meth, c, Q, D, A, nL⟩ := x
  intro H locs ls ce hP hD hS hl h1 h2 h3
  exact kk H locs ls ce (vP_perm hp hP) (vD_perm hp hD) hS hl h1 h2 h3
theorem vT_widen {x : vC} {k n k1 n1 : Nat} {ws : va_W} {lv : List (Nat × Value)} {st : List Value} {pc : Nat} {E : String} {q : Nat} (h1 : k ≤ k1) (h2 : n ≤ n1) (kk : vT x k1 n1 ws lv pc st E q) : vT x k n ws lv pc st E q := by
  obtain ⟨p, l, e, R, s, m, args, below, meth, c, Q, D, A, nL⟩ := x
  intro H locs ls ce hP hD hS hl g1 g2 g3
  exact vx_widen h1 h2 (kk H locs ls ce hP hD hS hl g1 g2 g3)
def vXi {S : Type} (x : vC) (w1 : S → va_W) (Qi : Int32 → S → Prop) (X : String → S → Prop) (Y : String → Int32 → S → Prop) (mc ms : Nat) : Prop :=
  match x with
  | (_, _, _, _, s, _, args, below, _, _, Q, D, A, _) => Q = vx_MQ below (va_Qi Qi (fun u t => va_P D cl0 (w1 u) t.heap ∧ va_D A (w1 u)) A) (vXC D w1 X Y A) args s mc ms A
def Cxi (l : Launch) (D : va_G) (y : MethodName) (cc : ByteArray) (maxL : Nat) (rt : FieldType) (rm : Room) (av : List Value) {S : Type} (w0 : va_W) (w1 : S → va_W) (Qi : Int32 → S → Prop) (X : String → S → Prop) (Y : String → Int32 → S → Prop) (mc ms : Nat) : Prop :=
  ∀ sz, vx_Met l y (ws_ y cc maxL (some rt)) rm (vPc D av w0 sz) (va_Qi Qi (fun u t => va_P D cl0 (w1 u) t.heap ∧ va_D (va_A w0 sz) (w1 u)) (va_A w0 sz)) (vXC D w1 X Y (va_A w0 sz)) mc ms (va_A w0 sz)
theorem Cxi.of {l : Launch} {D : va_G} {y : MethodName} {cc : ByteArray} {maxL : Nat} {rt : FieldType} {rm : Room} {av : List Value} {S : Type} {w0 : va_W} {w1 : S → va_W} {Qi : Int32 → S → Prop} {X : String → S → Prop} {Y : String → Int32 → S → Prop} {mc ms : Nat} (hy : plainName y.cls = true) (hn : (lg_sl av).length ≤ maxL)
    (h : ∀ x : vC, vF x l D y.cls cc rm maxL (some rt) → vXi x w1 Qi X Y mc ms → vN x → vV x 0 0 w0 (lv_args 0 av) 0 []) : Cxi l D y cc maxL rt rm av w0 w1 Qi X Y mc ms := by
  intro sz
  refine vx_ofW (cc := cc) (maxL := maxL) (ret := (some rt)) hy rfl ?_
  intro p e s m args below meth c s₁ B hml hnt hv
  obtain ⟨rfl, hsz, hP, hE, hD0, hZ⟩ := hv
  have hts := atoms_spec (ws := ws_ y cc maxL (some rt)) B.pre
  have hts : ∀ w ∈ lw_all, w.before _ s = true := fun w h => hts w (List.mem_cons_of_mem _ h)
  have hown : s.vm.findClass y.cls = some m.cls := findClass_of_methodNamed B.named
  subst hsz
  have hD := hD0.self (sz := s.heap.size)
  have hA : ∀ q : Nat, s.heap.size ≤ q → va_A w0 s.heap.size q := fun q h => Or.inr h
  have hl := lv_entry av (n := maxL) hn
  rw [lg_entry_eq]
  exact h (p, l, e, (headSpec (ws_ y cc maxL (some rt)) rm).room, s, m, av.toArray, below, meth, c, _, D, va_A w0 s.heap.size, maxL)
    ⟨rfl, rfl, rfl, rfl, B.exec, B.bytes, hml, hown, hts, hA, B.notSynchronized, B.returns, hE, hZ⟩ rfl hnt s.heap [] _ hP hD va_S.rf hl
theorem v_outi {x : vC} {l : Launch} {D : va_G} {own : String} {cc : ByteArray} {rm : Room} {nL : Nat} {rt : Option FieldType} {k n : Nat} {lv : List (Nat × Value)} {st : List Value} {S : Type} {w1 : S → va_W} {Qi : Int32 → S → Prop} {X : String → S → Prop} {Y : String → Int32 → S → Prop} {mc ms : Nat} {u : S} {E : String} {q pc : Nat} (hF : vF x l D own cc rm nL rt) (hR : vXi x w1 Qi X Y mc ms) (hN : vN x) (hk : k ≤ mc) (hn : n ≤ ms) (h : X E u) : vT x k n (w1 u) lv pc st E q := by
  obtain ⟨p, l, e, R, s, m, args, below, meth, c, Q, D, A, nL⟩ := x
  obtain ⟨rfl, rfl, rfl, rfl, hx, hb, hml, hown, hts, hA, hlocks, hret, hE, hZ⟩ := hF
  intro H locs ls ce hP hD hS hl h1 h2 h3
  have hR : Q = _ := hR
  subst hR
  exact vx_out (fun z hz => (hN z hz).elim) hlocks h1 h2 h3 (fun t ht hv => ⟨(u, none), trivial, ⟨h, by rw [ht]; exact hP, hD⟩, hS.F ht⟩) hS.2.2 hk hn
theorem v_outYi {x : vC} {l : Launch} {D : va_G} {own : String} {cc : ByteArray} {rm : Room} {nL : Nat} {rt : Option FieldType} {k n : Nat} {lv : List (Nat × Value)} {st : List Value} {S : Type} {w1 : S → va_W} {Qi : Int32 → S → Prop} {X : String → S → Prop} {Y : String → Int32 → S → Prop} {mc ms : Nat} {u : S} {E : String} {q pc ci : Nat} {r : Int32} (hF : vF x l D own cc rm nL rt) (hR : vXi x w1 Qi X Y mc ms) (hN : vN x) (hk : k ≤ mc) (hn : n ≤ ms) (hy : vPay E ci) (h : Y E r u) : vT x k n ((q, .inr (ci, rfF r)) :: w1 u) lv pc st E q := by
  obtain ⟨p, l, e, R, s, m, args, below, meth, c, Q, D, A, nL⟩ := x
  obtain ⟨rfl, rfl, rfl, rfl, hx, hb, hml, hown, hts, hA, hlocks, hret, hE, hZ⟩ := hF
  intro H locs ls ce hP hD hS hl h1 h2 h3
  have hR : Q = _ := hR
  subst hR
  exact vx_out (fun z hz => (hN z hz).elim) hlocks h1 h2 h3 (fun t ht hv => ⟨(u, some (ci, r)), trivial, ⟨h, hy, by rw [ht]; exact hP, hD⟩, hS.F ht⟩) hS.2.2 hk hn
/-- new E; dup; invokespecial E.<init>(); athrow -/
theorem v_throw0i {x : vC} {l : Launch} {D : va_G} {own : String} {cc : ByteArray} {rm : Room} {nL : Nat} {rt : Option FieldType} {k n : Nat} {lv : List (Nat × Value)} {st : List Value} {S : Type} {w1 : S → va_W} {Qi : Int32 → S → Prop} {X : String → S → Prop} {Y : String → Int32 → S → Prop} {mc ms : Nat} {u : S} {cls : String} {names : List String} {ik ic : Nat} {ps : List Nat} (pc : Nat) (hF : vF x l D own cc rm nL rt) (hR : vXi x w1 Qi X Y mc ms) (hN : vN x) (hl : l.stackTraces = false) (hcls : Bundle.fit cls = true) (hnames : ∀ n ∈ names, Bundle.fit n = true) (hq1 : Cond.classLink own ik cls ∈ lw_all) (hq2 : Cond.initialized cls ∈ lw_all) (hat : vx_at0 own ic cls names = ps.filterMap (fun i => lw_tbl[i]?)) (hat2 : (vx_at0 own ic cls names).all (fun w => goodWord w || nwOk w) = true) (hat3 : (Cond.classLink own ik cls :: Cond.initialized cls :: vx_at0 own ic cls names).all vx_ot = true)
    (d0 : decode cc pc = .ok (.new ik, 3)) (d3 : decode cc (pc + 3) = .ok (.dup, 1)) (d4 : decode cc (pc + 4) = .ok (.invokespecial ic, 3)) (d7 : decode cc (pc + 7) = .ok (.athrow, 1)) (hrm : names.length + 3 < rm.frames ∧ (st.map fun v => v.category).sum + (13 * (names.length + 1) + 42) ≤ rm.locals) (hcs : k + 1 ≤ rm.cells ∧ n + 6 ≤ rm.slots) (hk : k + 1 ≤ mc) (hn : n + 6 ≤ ms) (h : X cls u) : vV x k n (w1 u) lv pc st := by
  obtain ⟨p, l, e, R, s, m, args, below, meth, c, Q, D, A, nL⟩ := x
  obtain ⟨rfl, rfl, rfl, rfl, hx, hb, hml, hown, hts, hA, hlocks, hret, hE, hZ⟩ := hF
  intro H locs ls hP hD hS hl9
  have hR : Q = _ := hR
  subst hR
  refine vx_throw0 hx hb hl hown hcls hnames (hts _ hq1) (hts _ hq2) (v_at hts hE.2.1 hat hat2) (fun w hw => List.all_eq_true.mp hat3 w hw) hZ.1.1 hZ.1.2 hS (hl9.1.trans hml.symm) d0 d3 d4 d7 (fun z hz => (hN z hz).elim) hrm.1 hrm.2 hcs.1 hcs.2 hlocks (fun q9 t hv hz hk9 => ⟨(u, none), trivial, ⟨h, hP.kept (fun j q hq => hk9 q.1 (hP j q hq).lt), hD⟩, ?_⟩) hS.2.2 hk hn
  exact ⟨Nat.le_trans hS.1 hz, fun q h1 h2 => by rw [hk9 q (Nat.lt_of_lt_of_le h1 hS.1)]; exact hS.2.1 q h1 h2⟩
def vXv {S : Type} (x : vC) (w1 : S → va_W) (Qi : S → Prop) (X : String → S → Prop) (Y : String → Int32 → S → Prop) (mc ms : Nat) : Prop :=
  match x with
  | (_, _, _, _, s, _, args, below, _, _, Q, D, A, _) => Q = vx_MQ below (va_Qv Qi (fun u t => va_P D cl0 (w1 u) t.heap ∧ va_D A (w1 u)) A) (vXC D w1 X Y A) args s mc ms A
def Cxv (l : Launch) (D : va_G) (y : MethodName) (cc : ByteArray) (maxL : Nat) (rm : Room) (av : List Value) {S : Type} (w0 : va_W) (w1 : S → va_W) (Qi : S → Prop) (X : String → S → Prop) (Y : String → Int32 → S → Prop) (mc ms : Nat) : Prop :=
  ∀ sz, vx_Met l y (ws_ y cc maxL none) rm (vPc D av w0 sz) (va_Qv Qi (fun u t => va_P D cl0 (w1 u) t.heap ∧ va_D (va_A w0 sz) (w1 u)) (va_A w0 sz)) (vXC D w1 X Y (va_A w0 sz)) mc ms (va_A w0 sz)
theorem Cxv.of {l : Launch} {D : va_G} {y : MethodName} {cc : ByteArray} {maxL : Nat} {rm : Room} {av : List Value} {S : Type} {w0 : va_W} {w1 : S → va_W} {Qi : S → Prop} {X : String → S → Prop} {Y : String → Int32 → S → Prop} {mc ms : Nat} (hy : plainName y.cls = true) (hn : (lg_sl av).length ≤ maxL)
    (h : ∀ x : vC, vF x l D y.cls cc rm maxL none → vXv x w1 Qi X Y mc ms → vN x → vV x 0 0 w0 (lv_args 0 av) 0 []) : Cxv l D y cc maxL rm av w0 w1 Qi X Y mc ms := by
  intro sz
  refine vx_ofW (cc := cc) (maxL := maxL) (ret := none) hy rfl ?_
  intro p e s m args below meth c s₁ B hml hnt hv
  obtain ⟨rfl, hsz, hP, hE, hD0, hZ⟩ := hv
  have hts := atoms_spec (ws := ws_ y cc maxL none) B.pre
  have hts : ∀ w ∈ lw_all, w.before _ s = true := fun w h => hts w (List.mem_cons_of_mem _ h)
  have hown : s.vm.findClass y.cls = some m.cls := findClass_of_methodNamed B.named
  subst hsz
  have hD := hD0.self (sz := s.heap.size)
  have hA : ∀ q : Nat, s.heap.size ≤ q → va_A w0 s.heap.size q := fun q h => Or.inr h
  have hl := lv_entry av (n := maxL) hn
  rw [lg_entry_eq]
  exact h (p, l, e, (headSpec (ws_ y cc maxL none) rm).room, s, m, av.toArray, below, meth, c, _, D, va_A w0 s.heap.size, maxL)
    ⟨rfl, rfl, rfl, rfl, B.exec, B.bytes, hml, hown, hts, hA, B.notSynchronized, B.returns, hE, hZ⟩ rfl hnt s.heap [] _ hP hD va_S.rf hl
theorem v_outv {x : vC} {l : Launch} {D : va_G} {own : String} {cc : ByteArray} {rm : Room} {nL : Nat} {rt : Option FieldType} {k n : Nat} {lv : List (Nat × Value)} {st : List Value} {S : Type} {w1 : S → va_W} {Qi : S → Prop} {X : String → S → Prop} {Y : String → Int32 → S → Prop} {mc ms : Nat} {u : S} {E : String} {q pc : Nat} (hF : vF x l D own cc rm nL rt) (hR : vXv x w1 Qi X Y mc ms) (hN : vN x) (hk : k ≤ mc) (hn : n ≤ ms) (h : X E u) : vT x k n (w1 u) lv pc st E q := by
  obtain ⟨p, l, e, R, s, m, args, below, meth, c, Q, D, A, nL⟩ := x
  obtain ⟨rfl, rfl, rfl, rfl, hx, hb, hml, hown, hts, hA, hlocks, hret, hE, hZ⟩ := hF
  intro H locs ls ce hP hD hS hl h1 h2 h3
  have hR : Q = _ := hR
  subst hR
  exact vx_out (fun z hz => (hN z hz).elim) hlocks h1 h2 h3 (fun t ht hv => ⟨(u, none), trivial, ⟨h, by rw [ht]; exact hP, hD⟩, hS.F ht⟩) hS.2.2 hk hn
theorem v_outYv {x : vC} {l : Launch} {D : va_G} {own : String} {cc : ByteArray} {rm : Room} {nL : Nat} {rt : Option FieldType} {k n : Nat} {lv : List (Nat × Value)} {st : List Value} {S : Type} {w1 : S → va_W} {Qi : S → Prop} {X : String → S → Prop} {Y : String → Int32 → S → Prop} {mc ms : Nat} {u : S} {E : String} {q pc ci : Nat} {r : Int32} (hF : vF x l D own cc rm nL rt) (hR : vXv x w1 Qi X Y mc ms) (hN : vN x) (hk : k ≤ mc) (hn : n ≤ ms) (hy : vPay E ci) (h : Y E r u) : vT x k n ((q, .inr (ci, rfF r)) :: w1 u) lv pc st E q := by
  obtain ⟨p, l, e, R, s, m, args, below, meth, c, Q, D, A, nL⟩ := x
  obtain ⟨rfl, rfl, rfl, rfl, hx, hb, hml, hown, hts, hA, hlocks, hret, hE, hZ⟩ := hF
  intro H locs ls ce hP hD hS hl h1 h2 h3
  have hR : Q = _ := hR
  subst hR
  exact vx_out (fun z hz => (hN z hz).elim) hlocks h1 h2 h3 (fun t ht hv => ⟨(u, some (ci, r)), trivial, ⟨h, hy, by rw [ht]; exact hP, hD⟩, hS.F ht⟩) hS.2.2 hk hn
/-- new E; dup; invokespecial E.<init>(); athrow -/
theorem v_throw0v {x : vC} {l : Launch} {D : va_G} {own : String} {cc : ByteArray} {rm : Room} {nL : Nat} {rt : Option FieldType} {k n : Nat} {lv : List (Nat × Value)} {st : List Value} {S : Type} {w1 : S → va_W} {Qi : S → Prop} {X : String → S → Prop} {Y : String → Int32 → S → Prop} {mc ms : Nat} {u : S} {cls : String} {names : List String} {ik ic : Nat} {ps : List Nat} (pc : Nat) (hF : vF x l D own cc rm nL rt) (hR : vXv x w1 Qi X Y mc ms) (hN : vN x) (hl : l.stackTraces = false) (hcls : Bundle.fit cls = true) (hnames : ∀ n ∈ names, Bundle.fit n = true) (hq1 : Cond.classLink own ik cls ∈ lw_all) (hq2 : Cond.initialized cls ∈ lw_all) (hat : vx_at0 own ic cls names = ps.filterMap (fun i => lw_tbl[i]?)) (hat2 : (vx_at0 own ic cls names).all (fun w => goodWord w || nwOk w) = true) (hat3 : (Cond.classLink own ik cls :: Cond.initialized cls :: vx_at0 own ic cls names).all vx_ot = true)
    (d0 : decode cc pc = .ok (.new ik, 3)) (d3 : decode cc (pc + 3) = .ok (.dup, 1)) (d4 : decode cc (pc + 4) = .ok (.invokespecial ic, 3)) (d7 : decode cc (pc + 7) = .ok (.athrow, 1)) (hrm : names.length + 3 < rm.frames ∧ (st.map fun v => v.category).sum + (13 * (names.length + 1) + 42) ≤ rm.locals) (hcs : k + 1 ≤ rm.cells ∧ n + 6 ≤ rm.slots) (hk : k + 1 ≤ mc) (hn : n + 6 ≤ ms) (h : X cls u) : vV x k n (w1 u) lv pc st := by
  obtain ⟨p, l, e, R, s, m, args, below, meth, c, Q, D, A, nL⟩ := x
  obtain ⟨rfl, rfl, rfl, rfl, hx, hb, hml, hown, hts, hA, hlocks, hret, hE, hZ⟩ := hF
  intro H locs ls hP hD hS hl9
  have hR : Q = _ := hR
  subst hR
  refine vx_throw0 hx hb hl hown hcls hnames (hts _ hq1) (hts _ hq2) (v_at hts hE.2.1 hat hat2) (fun w hw => List.all_eq_true.mp hat3 w hw) hZ.1.1 hZ.1.2 hS (hl9.1.trans hml.symm) d0 d3 d4 d7 (fun z hz => (hN z hz).elim) hrm.1 hrm.2 hcs.1 hcs.2 hlocks (fun q9 t hv hz hk9 => ⟨(u, none), trivial, ⟨h, hP.kept (fun j q hq => hk9 q.1 (hP j q hq).lt), hD⟩, ?_⟩) hS.2.2 hk hn
  exact ⟨Nat.le_trans hS.1 hz, fun q h1 h2 => by rw [hk9 q (Nat.lt_of_lt_of_le h1 hS.1)]; exact hS.2.1 q h1 h2⟩
def vXr {S : Type} (x : vC) (w1 : S → va_W) (ad : S → Nat) (Qi : S → Prop) (X : String → S → Prop) (Y : String → Int32 → S → Prop) (mc ms : Nat) : Prop :=
  match x with
  | (_, _, _, _, s, _, args, below, _, _, Q, D, A, _) => Q = vx_MQ below (va_Qr Qi (fun u a t => a = ad u ∧ va_P D cl0 (w1 u) t.heap ∧ va_D A (w1 u)) A) (vXC D w1 X Y A) args s mc ms A
def Cxr (l : Launch) (D : va_G) (y : MethodName) (cc : ByteArray) (maxL : Nat) (rt : FieldType) (rm : Room) (av : List Value) {S : Type} (w0 : va_W) (w1 : S → va_W) (ad : S → Nat) (Qi : S → Prop) (X : String → S → Prop) (Y : String → Int32 → S → Prop) (mc ms : Nat) : Prop :=
  ∀ sz, vx_Met l y (ws_ y cc maxL (some rt)) rm (vPc D av w0 sz) (va_Qr Qi (fun u a t => a = ad u ∧ va_P D cl0 (w1 u) t.heap ∧ va_D (va_A w0 sz) (w1 u)) (va_A w0 sz)) (vXC D w1 X Y (va_A w0 sz)) mc ms (va_A w0 sz)
theorem Cxr.of {l : Launch} {D : va_G} {y : MethodName} {cc : ByteArray} {maxL : Nat} {rt : FieldType} {rm : Room} {av : List Value} {S : Type} {w0 : va_W} {w1 : S → va_W} {ad : S → Nat} {Qi : S → Prop} {X : String → S → Prop} {Y : String → Int32 → S → Prop} {mc ms : Nat} (hy : plainName y.cls = true) (hn : (lg_sl av).length ≤ maxL)
    (h : ∀ x : vC, vF x l D y.cls cc rm maxL (some rt) → vXr x w1 ad Qi X Y mc ms → vN x → vV x 0 0 w0 (lv_args 0 av) 0 []) : Cxr l D y cc maxL rt rm av w0 w1 ad Qi X Y mc ms := by
  intro sz
  refine vx_ofW (cc := cc) (maxL := maxL) (ret := (some rt)) hy rfl ?_
  intro p e s m args below meth c s₁ B hml hnt hv
  obtain ⟨rfl, hsz, hP, hE, hD0, hZ⟩ := hv
  have hts := atoms_spec (ws := ws_ y cc maxL (some rt)) B.pre
  have hts : ∀ w ∈ lw_all, w.before _ s = true := fun w h => hts w (List.mem_cons_of_mem _ h)
  have hown : s.vm.findClass y.cls = some m.cls := findClass_of_methodNamed B.named
  subst hsz
  have hD := hD0.self (sz := s.heap.size)
  have hA : ∀ q : Nat, s.heap.size ≤ q → va_A w0 s.heap.size q := fun q h => Or.inr h
  have hl := lv_entry av (n := maxL) hn
  rw [lg_entry_eq]
  exact h (p, l, e, (headSpec (ws_ y cc maxL (some rt)) rm).room, s, m, av.toArray, below, meth, c, _, D, va_A w0 s.heap.size, maxL)
    ⟨rfl, rfl, rfl, rfl, B.exec, B.bytes, hml, hown, hts, hA, B.notSynchronized, B.returns, hE, hZ⟩ rfl hnt s.heap [] _ hP hD va_S.rf hl
theorem v_outr {x : vC} {l : Launch} {D : va_G} {own : String} {cc : ByteArray} {rm : Room} {nL : Nat} {rt : Option FieldType} {k n : Nat} {lv : List (Nat × Value)} {st : List Value} {S : Type} {w1 : S → va_W} {ad : S → Nat} {Qi : S → Prop} {X : String → S → Prop} {Y : String → Int32 → S → Prop} {mc ms : Nat} {u : S} {E : String} {q pc : Nat} (hF : vF x l D own cc rm nL rt) (hR : vXr x w1 ad Qi X Y mc ms) (hN : vN x) (hk : k ≤ mc) (hn : n ≤ ms) (h : X E u) : vT x k n (w1 u) lv pc st E q := by
  obtain ⟨p, l, e, R, s, m, args, below, meth, c, Q, D, A, nL⟩ := x
  obtain ⟨rfl, rfl, rfl, rfl, hx, hb, hml, hown, hts, hA, hlocks, hret, hE, hZ⟩ := hF
  intro H locs ls ce hP hD hS hl h1 h2 h3
  have hR : Q = _ := hR
  subst hR
  exact vx_out (fun z hz => (hN z hz).elim) hlocks h1 h2 h3 (fun t ht hv => ⟨(u, none), trivial, ⟨h, by rw [ht]; exact hP, hD⟩, hS.F ht⟩) hS.2.2 hk hn
theorem v_outYr {x : vC} {l : Launch} {D : va_G} {own : String} {cc : ByteArray} {rm : Room} {nL : Nat} {rt : Option FieldType} {k n : Nat} {lv : List (Nat × Value)} {st : List Value} {S : Type} {w1 : S → va_W} {ad : S → Nat} {Qi : S → Prop} {X : String → S → Prop} {Y : String → Int32 → S → Prop} {mc ms : Nat} {u : S} {E : String} {q pc ci : Nat} {r : Int32} (hF : vF x l D own cc rm nL rt) (hR : vXr x w1 ad Qi X Y mc ms) (hN : vN x) (hk : k ≤ mc) (hn : n ≤ ms) (hy : vPay E ci) (h : Y E r u) : vT x k n ((q, .inr (ci, rfF r)) :: w1 u) lv pc st E q := by
  obtain ⟨p, l, e, R, s, m, args, below, meth, c, Q, D, A, nL⟩ := x
  obtain ⟨rfl, rfl, rfl, rfl, hx, hb, hml, hown, hts, hA, hlocks, hret, hE, hZ⟩ := hF
  intro H locs ls ce hP hD hS hl h1 h2 h3
  have hR : Q = _ := hR
  subst hR
  exact vx_out (fun z hz => (hN z hz).elim) hlocks h1 h2 h3 (fun t ht hv => ⟨(u, some (ci, r)), trivial, ⟨h, hy, by rw [ht]; exact hP, hD⟩, hS.F ht⟩) hS.2.2 hk hn
/-- new E; dup; invokespecial E.<init>(); athrow -/
theorem v_throw0r {x : vC} {l : Launch} {D : va_G} {own : String} {cc : ByteArray} {rm : Room} {nL : Nat} {rt : Option FieldType} {k n : Nat} {lv : List (Nat × Value)} {st : List Value} {S : Type} {w1 : S → va_W} {ad : S → Nat} {Qi : S → Prop} {X : String → S → Prop} {Y : String → Int32 → S → Prop} {mc ms : Nat} {u : S} {cls : String} {names : List String} {ik ic : Nat} {ps : List Nat} (pc : Nat) (hF : vF x l D own cc rm nL rt) (hR : vXr x w1 ad Qi X Y mc ms) (hN : vN x) (hl : l.stackTraces = false) (hcls : Bundle.fit cls = true) (hnames : ∀ n ∈ names, Bundle.fit n = true) (hq1 : Cond.classLink own ik cls ∈ lw_all) (hq2 : Cond.initialized cls ∈ lw_all) (hat : vx_at0 own ic cls names = ps.filterMap (fun i => lw_tbl[i]?)) (hat2 : (vx_at0 own ic cls names).all (fun w => goodWord w || nwOk w) = true) (hat3 : (Cond.classLink own ik cls :: Cond.initialized cls :: vx_at0 own ic cls names).all vx_ot = true)
    (d0 : decode cc pc = .ok (.new ik, 3)) (d3 : decode cc (pc + 3) = .ok (.dup, 1)) (d4 : decode cc (pc + 4) = .ok (.invokespecial ic, 3)) (d7 : decode cc (pc + 7) = .ok (.athrow, 1)) (hrm : names.length + 3 < rm.frames ∧ (st.map fun v => v.category).sum + (13 * (names.length + 1) + 42) ≤ rm.locals) (hcs : k + 1 ≤ rm.cells ∧ n + 6 ≤ rm.slots) (hk : k + 1 ≤ mc) (hn : n + 6 ≤ ms) (h : X cls u) : vV x k n (w1 u) lv pc st := by
  obtain ⟨p, l, e, R, s, m, args, below, meth, c, Q, D, A, nL⟩ := x
  obtain ⟨rfl, rfl, rfl, rfl, hx, hb, hml, hown, hts, hA, hlocks, hret, hE, hZ⟩ := hF
  intro H locs ls hP hD hS hl9
  have hR : Q = _ := hR
  subst hR
  refine vx_throw0 hx hb hl hown hcls hnames (hts _ hq1) (hts _ hq2) (v_at hts hE.2.1 hat hat2) (fun w hw => List.all_eq_true.mp hat3 w hw) hZ.1.1 hZ.1.2 hS (hl9.1.trans hml.symm) d0 d3 d4 d7 (fun z hz => (hN z hz).elim) hrm.1 hrm.2 hcs.1 hcs.2 hlocks (fun q9 t hv hz hk9 => ⟨(u, none), trivial, ⟨h, hP.kept (fun j q hq => hk9 q.1 (hP j q hq).lt), hD⟩, ?_⟩) hS.2.2 hk hn
  exact ⟨Nat.le_trans hS.1 hz, fun q h1 h2 => by rw [hk9 q (Nat.lt_of_lt_of_le h1 hS.1)]; exact hS.2.1 q h1 h2⟩
def vXd {S : Type} (x : vC) (w1 : S → va_W) (Qi : UInt64 → S → Prop) (X : String → S → Prop) (Y : String → Int32 → S → Prop) (mc ms : Nat) : Prop :=
  match x with
  | (_, _, _, _, s, _, args, below, _, _, Q, D, A, _) => Q = vx_MQ below (va_Qd Qi (fun u t => va_P D cl0 (w1 u) t.heap ∧ va_D A (w1 u)) A) (vXC D w1 X Y A) args s mc ms A
def Cxd (l : Launch) (D : va_G) (y : MethodName) (cc : ByteArray) (maxL : Nat) (rm : Room) (av : List Value) {S : Type} (w0 : va_W) (w1 : S → va_W) (Qi : UInt64 → S → Prop) (X : String → S → Prop) (Y : String → Int32 → S → Prop) (mc ms : Nat) : Prop :=
  ∀ sz, vx_Met l y (ws_ y cc maxL (some .double)) rm (vPc D av w0 sz) (va_Qd Qi (fun u t => va_P D cl0 (w1 u) t.heap ∧ va_D (va_A w0 sz) (w1 u)) (va_A w0 sz)) (vXC D w1 X Y (va_A w0 sz)) mc ms (va_A w0 sz)
theorem Cxd.of {l : Launch} {D : va_G} {y : MethodName} {cc : ByteArray} {maxL : Nat} {rm : Room} {av : List Value} {S : Type} {w0 : va_W} {w1 : S → va_W} {Qi : UInt64 → S → Prop} {X : String → S → Prop} {Y : String → Int32 → S → Prop} {mc ms : Nat} (hy : plainName y.cls = true) (hn : (lg_sl av).length ≤ maxL)
    (h : ∀ x : vC, vF x l D y.cls cc rm maxL (some .double) → vXd x w1 Qi X Y mc ms → vN x → vV x 0 0 w0 (lv_args 0 av) 0 []) : Cxd l D y cc maxL rm av w0 w1 Qi X Y mc ms := by
  intro sz
  refine vx_ofW (cc := cc) (maxL := maxL) (ret := (some .double)) hy rfl ?_
  intro p e s m args below meth c s₁ B hml hnt hv
  obtain ⟨rfl, hsz, hP, hE, hD0, hZ⟩ := hv
  have hts := atoms_spec (ws := ws_ y cc maxL (some .double)) B.pre
  have hts : ∀ w ∈ lw_all, w.before _ s = true := fun w h => hts w (List.mem_cons_of_mem _ h)
  have hown : s.vm.findClass y.cls = some m.cls := findClass_of_methodNamed B.named
  subst hsz
  have hD := hD0.self (sz := s.heap.size)
  have hA : ∀ q : Nat, s.heap.size ≤ q → va_A w0 s.heap.size q := fun q h => Or.inr h
  have hl := lv_entry av (n := maxL) hn
  rw [lg_entry_eq]
  exact h (p, l, e, (headSpec (ws_ y cc maxL (some .double)) rm).room, s, m, av.toArray, below, meth, c, _, D, va_A w0 s.heap.size, maxL)
    ⟨rfl, rfl, rfl, rfl, B.exec, B.bytes, hml, hown, hts, hA, B.notSynchronized, B.returns, hE, hZ⟩ rfl hnt s.heap [] _ hP hD va_S.rf hl
theorem v_outd {x : vC} {l : Launch} {D : va_G} {own : String} {cc : ByteArray} {rm : Room} {nL : Nat} {rt : Option FieldType} {k n : Nat} {lv : List (Nat × Value)} {st : List Value} {S : Type} {w1 : S → va_W} {Qi : UInt64 → S → Prop} {X : String → S → Prop} {Y : String → Int32 → S → Prop} {mc ms : Nat} {u : S} {E : String} {q pc : Nat} (hF : vF x l D own cc rm nL rt) (hR : vXd x w1 Qi X Y mc ms) (hN : vN x) (hk : k ≤ mc) (hn : n ≤ ms) (h : X E u) : vT x k n (w1 u) lv pc st E q := by
  obtain ⟨p, l, e, R, s, m, args, below, meth, c, Q, D, A, nL⟩ := x
  obtain ⟨rfl, rfl, rfl, rfl, hx, hb, hml, hown, hts, hA, hlocks, hret, hE, hZ⟩ := hF
  intro H locs ls ce hP hD hS hl h1 h2 h3
  have hR : Q = _ := hR
  subst hR
  exact vx_out (fun z hz => (hN z hz).elim) hlocks h1 h2 h3 (fun t ht hv => ⟨(u, none), trivial, ⟨h, by rw [ht]; exact hP, hD⟩, hS.F ht⟩) hS.2.2 hk hn
theorem v_outYd {x : vC} {l : Launch} {D : va_G} {own : String} {cc : ByteArray} {rm : Room} {nL : Nat} {rt : Option FieldType} {k n : Nat} {lv : List (Nat × Value)} {st : List Value} {S : Type} {w1 : S → va_W} {Qi : UInt64 → S → Prop} {X : String → S → Prop} {Y : String → Int32 → S → Prop} {mc ms : Nat} {u : S} {E : String} {q pc ci : Nat} {r : Int32} (hF : vF x l D own cc rm nL rt) (hR : vXd x w1 Qi X Y mc ms) (hN : vN x) (hk : k ≤ mc) (hn : n ≤ ms) (hy : vPay E ci) (h : Y E r u) : vT x k n ((q, .inr (ci, rfF r)) :: w1 u) lv pc st E q := by
  obtain ⟨p, l, e, R, s, m, args, below, meth, c, Q, D, A, nL⟩ := x
  obtain ⟨rfl, rfl, rfl, rfl, hx, hb, hml, hown, hts, hA, hlocks, hret, hE, hZ⟩ := hF
  intro H locs ls ce hP hD hS hl h1 h2 h3
  have hR : Q = _ := hR
  subst hR
  exact vx_out (fun z hz => (hN z hz).elim) hlocks h1 h2 h3 (fun t ht hv => ⟨(u, some (ci, r)), trivial, ⟨h, hy, by rw [ht]; exact hP, hD⟩, hS.F ht⟩) hS.2.2 hk hn
/-- new E; dup; invokespecial E.<init>(); athrow -/
theorem v_throw0d {x : vC} {l : Launch} {D : va_G} {own : String} {cc : ByteArray} {rm : Room} {nL : Nat} {rt : Option FieldType} {k n : Nat} {lv : List (Nat × Value)} {st : List Value} {S : Type} {w1 : S → va_W} {Qi : UInt64 → S → Prop} {X : String → S → Prop} {Y : String → Int32 → S → Prop} {mc ms : Nat} {u : S} {cls : String} {names : List String} {ik ic : Nat} {ps : List Nat} (pc : Nat) (hF : vF x l D own cc rm nL rt) (hR : vXd x w1 Qi X Y mc ms) (hN : vN x) (hl : l.stackTraces = false) (hcls : Bundle.fit cls = true) (hnames : ∀ n ∈ names, Bundle.fit n = true) (hq1 : Cond.classLink own ik cls ∈ lw_all) (hq2 : Cond.initialized cls ∈ lw_all) (hat : vx_at0 own ic cls names = ps.filterMap (fun i => lw_tbl[i]?)) (hat2 : (vx_at0 own ic cls names).all (fun w => goodWord w || nwOk w) = true) (hat3 : (Cond.classLink own ik cls :: Cond.initialized cls :: vx_at0 own ic cls names).all vx_ot = true)
    (d0 : decode cc pc = .ok (.new ik, 3)) (d3 : decode cc (pc + 3) = .ok (.dup, 1)) (d4 : decode cc (pc + 4) = .ok (.invokespecial ic, 3)) (d7 : decode cc (pc + 7) = .ok (.athrow, 1)) (hrm : names.length + 3 < rm.frames ∧ (st.map fun v => v.category).sum + (13 * (names.length + 1) + 42) ≤ rm.locals) (hcs : k + 1 ≤ rm.cells ∧ n + 6 ≤ rm.slots) (hk : k + 1 ≤ mc) (hn : n + 6 ≤ ms) (h : X cls u) : vV x k n (w1 u) lv pc st := by
  obtain ⟨p, l, e, R, s, m, args, below, meth, c, Q, D, A, nL⟩ := x
  obtain ⟨rfl, rfl, rfl, rfl, hx, hb, hml, hown, hts, hA, hlocks, hret, hE, hZ⟩ := hF
  intro H locs ls hP hD hS hl9
  have hR : Q = _ := hR
  subst hR
  refine vx_throw0 hx hb hl hown hcls hnames (hts _ hq1) (hts _ hq2) (v_at hts hE.2.1 hat hat2) (fun w hw => List.all_eq_true.mp hat3 w hw) hZ.1.1 hZ.1.2 hS (hl9.1.trans hml.symm) d0 d3 d4 d7 (fun z hz => (hN z hz).elim) hrm.1 hrm.2 hcs.1 hcs.2 hlocks (fun q9 t hv hz hk9 => ⟨(u, none), trivial, ⟨h, hP.kept (fun j q hq => hk9 q.1 (hP j q hq).lt), hD⟩, ?_⟩) hS.2.2 hk hn
  exact ⟨Nat.le_trans hS.1 hz, fun q h1 h2 => by rw [hk9 q (Nat.lt_of_lt_of_le h1 hS.1)]; exact hS.2.1 q h1 h2⟩
def vXf {S : Type} (x : vC) (w1 : S → va_W) (Qi : UInt32 → S → Prop) (X : String → S → Prop) (Y : String → Int32 → S → Prop) (mc ms : Nat) : Prop :=
  match x with
  | (_, _, _, _, s, _, args, below, _, _, Q, D, A, _) => Q = vx_MQ below (va_Qf Qi (fun u t => va_P D cl0 (w1 u) t.heap ∧ va_D A (w1 u)) A) (vXC D w1 X Y A) args s mc ms A
def Cxf (l : Launch) (D : va_G) (y : MethodName) (cc : ByteArray) (maxL : Nat) (rm : Room) (av : List Value) {S : Type} (w0 : va_W) (w1 : S → va_W) (Qi : UInt32 → S → Prop) (X : String → S → Prop) (Y : String → Int32 → S → Prop) (mc ms : Nat) : Prop :=
  ∀ sz, vx_Met l y (ws_ y cc maxL (some .float)) rm (vPc D av w0 sz) (va_Qf Qi (fun u t => va_P D cl0 (w1 u) t.heap ∧ va_D (va_A w0 sz) (w1 u)) (va_A w0 sz)) (vXC D w1 X Y (va_A w0 sz)) mc ms (va_A w0 sz)
theorem Cxf.of {l : Launch} {D : va_G} {y : MethodName} {cc : ByteArray} {maxL : Nat} {rm : Room} {av : List Value} {S : Type} {w0 : va_W} {w1 : S → va_W} {Qi : UInt32 → S → Prop} {X : String → S → Prop} {Y : String → Int32 → S → Prop} {mc ms : Nat} (hy : plainName y.cls = true) (hn : (lg_sl av).length ≤ maxL)
    (h : ∀ x : vC, vF x l D y.cls cc rm maxL (some .float) → vXf x w1 Qi X Y mc ms → vN x → vV x 0 0 w0 (lv_args 0 av) 0 []) : Cxf l D y cc maxL rm av w0 w1 Qi X Y mc ms := by
  intro sz
  refine vx_ofW (cc := cc) (maxL := maxL) (ret := (some .float)) hy rfl ?_
  intro p e s m args below meth c s₁ B hml hnt hv
  obtain ⟨rfl, hsz, hP, hE, hD0, hZ⟩ := hv
  have hts := atoms_spec (ws := ws_ y cc maxL (some .float)) B.pre
  have hts : ∀ w ∈ lw_all, w.before _ s = true := fun w h => hts w (List.mem_cons_of_mem _ h)
  have hown : s.vm.findClass y.cls = some m.cls := findClass_of_methodNamed B.named
  subst hsz
  have hD := hD0.self (sz := s.heap.size)
  have hA : ∀ q : Nat, s.heap.size ≤ q → va_A w0 s.heap.size q := fun q h => Or.inr h
  have hl := lv_entry av (n := maxL) hn
  rw [lg_entry_eq]
  exact h (p, l, e, (headSpec (ws_ y cc maxL (some .float)) rm).room, s, m, av.toArray, below, meth, c, _, D, va_A w0 s.heap.size, maxL)
    ⟨rfl, rfl, rfl, rfl, B.exec, B.bytes, hml, hown, hts, hA, B.notSynchronized, B.returns, hE, hZ⟩ rfl hnt s.heap [] _ hP hD va_S.rf hl
theorem v_outf {x : vC} {l : Launch} {D : va_G} {own : String} {cc : ByteArray} {rm : Room} {nL : Nat} {rt : Option FieldType} {k n : Nat} {lv : List (Nat × Value)} {st : List Value} {S : Type} {w1 : S → va_W} {Qi : UInt32 → S → Prop} {X : String → S → Prop} {Y : String → Int32 → S → Prop} {mc ms : Nat} {u : S} {E : String} {q pc : Nat} (hF : vF x l D own cc rm nL rt) (hR : vXf x w1 Qi X Y mc ms) (hN : vN x) (hk : k ≤ mc) (hn : n ≤ ms) (h : X E u) : vT x k n (w1 u) lv pc st E q := by
  obtain ⟨p, l, e, R, s, m, args, below, meth, c, Q, D, A, nL⟩ := x
  obtain ⟨rfl, rfl, rfl, rfl, hx, hb, hml, hown, hts, hA, hlocks, hret, hE, hZ⟩ := hF
  intro H locs ls ce hP hD hS hl h1 h2 h3
  have hR : Q = _ := hR
  subst hR
  exact vx_out (fun z hz => (hN z hz).elim) hlocks h1 h2 h3 (fun t ht hv => ⟨(u, none), trivial, ⟨h, by rw [ht]; exact hP, hD⟩, hS.F ht⟩) hS.2.2 hk hn
theorem v_outYf {x : vC} {l : Launch} {D : va_G} {own : String} {cc : ByteArray} {rm : Room} {nL : Nat} {rt : Option FieldType} {k n : Nat} {lv : List (Nat × Value)} {st : List Value} {S : Type} {w1 : S → va_W} {Qi : UInt32 → S → Prop} {X : String → S → Prop} {Y : String → Int32 → S → Prop} {mc ms : Nat} {u : S} {E : String} {q pc ci : Nat} {r : Int32} (hF : vF x l D own cc rm nL rt) (hR : vXf x w1 Qi X Y mc ms) (hN : vN x) (hk : k ≤ mc) (hn : n ≤ ms) (hy : vPay E ci) (h : Y E r u) : vT x k n ((q, .inr (ci, rfF r)) :: w1 u) lv pc st E q := by
  obtain ⟨p, l, e, R, s, m, args, below, meth, c, Q, D, A, nL⟩ := x
  obtain ⟨rfl, rfl, rfl, rfl, hx, hb, hml, hown, hts, hA, hlocks, hret, hE, hZ⟩ := hF
  intro H locs ls ce hP hD hS hl h1 h2 h3
  have hR : Q = _ := hR
  subst hR
  exact vx_out (fun z hz => (hN z hz).elim) hlocks h1 h2 h3 (fun t ht hv => ⟨(u, some (ci, r)), trivial, ⟨h, hy, by rw [ht]; exact hP, hD⟩, hS.F ht⟩) hS.2.2 hk hn
/-- new E; dup; invokespecial E.<init>(); athrow -/
theorem v_throw0f {x : vC} {l : Launch} {D : va_G} {own : String} {cc : ByteArray} {rm : Room} {nL : Nat} {rt : Option FieldType} {k n : Nat} {lv : List (Nat × Value)} {st : List Value} {S : Type} {w1 : S → va_W} {Qi : UInt32 → S → Prop} {X : String → S → Prop} {Y : String → Int32 → S → Prop} {mc ms : Nat} {u : S} {cls : String} {names : List String} {ik ic : Nat} {ps : List Nat} (pc : Nat) (hF : vF x l D own cc rm nL rt) (hR : vXf x w1 Qi X Y mc ms) (hN : vN x) (hl : l.stackTraces = false) (hcls : Bundle.fit cls = true) (hnames : ∀ n ∈ names, Bundle.fit n = true) (hq1 : Cond.classLink own ik cls ∈ lw_all) (hq2 : Cond.initialized cls ∈ lw_all) (hat : vx_at0 own ic cls names = ps.filterMap (fun i => lw_tbl[i]?)) (hat2 : (vx_at0 own ic cls names).all (fun w => goodWord w || nwOk w) = true) (hat3 : (Cond.classLink own ik cls :: Cond.initialized cls :: vx_at0 own ic cls names).all vx_ot = true)
    (d0 : decode cc pc = .ok (.new ik, 3)) (d3 : decode cc (pc + 3) = .ok (.dup, 1)) (d4 : decode cc (pc + 4) = .ok (.invokespecial ic, 3)) (d7 : decode cc (pc + 7) = .ok (.athrow, 1)) (hrm : names.length + 3 < rm.frames ∧ (st.map fun v => v.category).sum + (13 * (names.length + 1) + 42) ≤ rm.locals) (hcs : k + 1 ≤ rm.cells ∧ n + 6 ≤ rm.slots) (hk : k + 1 ≤ mc) (hn : n + 6 ≤ ms) (h : X cls u) : vV x k n (w1 u) lv pc st := by
  obtain ⟨p, l, e, R, s, m, args, below, meth, c, Q, D, A, nL⟩ := x
  obtain ⟨rfl, rfl, rfl, rfl, hx, hb, hml, hown, hts, hA, hlocks, hret, hE, hZ⟩ := hF
  intro H locs ls hP hD hS hl9
  have hR : Q = _ := hR
  subst hR
  refine vx_throw0 hx hb hl hown hcls hnames (hts _ hq1) (hts _ hq2) (v_at hts hE.2.1 hat hat2) (fun w hw => List.all_eq_true.mp hat3 w hw) hZ.1.1 hZ.1.2 hS (hl9.1.trans hml.symm) d0 d3 d4 d7 (fun z hz => (hN z hz).elim) hrm.1 hrm.2 hcs.1 hcs.2 hlocks (fun q9 t hv hz hk9 => ⟨(u, none), trivial, ⟨h, hP.kept (fun j q hq => hk9 q.1 (hP j q hq).lt), hD⟩, ?_⟩) hS.2.2 hk hn
  exact ⟨Nat.le_trans hS.1 hz, fun q h1 h2 => by rw [hk9 q (Nat.lt_of_lt_of_le h1 hS.1)]; exact hS.2.1 q h1 h2⟩
theorem v_athrow {x : vC} {l : Launch} {D : va_G} {own : String} {cc : ByteArray} {rm : Room} {nL : Nat} {rt : Option FieldType} {k n : Nat} {ws : va_W} {lv : List (Nat × Value)} {st : List Value} {b q0 ci N : Nat} {fs : List Value} {C : String} {T : u_T} (pc : Nat) (hF : vF x l D own cc rm nL rt) (he : ws[q0]? = some (b, .inr (ci, fs))) (hc : cl0[ci]? = some (C, T, N)) (hd : decode cc pc = .ok (.athrow, 1))
    (kk : vT x k n ws lv pc st C b) : vV x k n ws lv pc (.ref b :: st) := by
  obtain ⟨p, l, e, R, s, m, args, below, meth, c, Q, D, A, nL⟩ := x
  obtain ⟨rfl, rfl, rfl, rfl, hx, hb, hml, hown, hts, hA, hlocks, hret, hE, hZ⟩ := hF
  intro H locs ls hP hD hS hl
  obtain ⟨r, hr, cell, h1, h2, h3, -⟩ := hP q0 _ he
  have hK := hE.1.1 ci _ hc
  exact vx_athrow hx hb hd (kk H locs ls cell hP hD hS hl h1 h3 (by rw [h2]; exact hK.2.1))
theorem v_retX {p : Program} {l : Launch} {e : Env} {R : Room} {s : State} {m : MethodId} {args : Array Value} {below : List Frame} {meth : Method} {c : Code} {H : Heap} {locs : List Loc} {k n mc ms : Nat} {free : Addr → Prop} {Qc : Array Value → State → Outcome → State → Prop} {XC : String → Addr → State → State → Prop} {g : JFrame} (hk : k ≤ mc) (hn : n ≤ ms) (kk : W p l e R s m args below meth c H locs mc ms (MQ below Qc args s mc ms free) g) : W p l e R s m args below meth c H locs k n (vx_MQ below Qc XC args s mc ms free) g := W.widen hk hn (vx_ret kk)
theorem v_iretX {x : vC} {l : Launch} {D : va_G} {own : String} {cc : ByteArray} {rm : Room} {nL : Nat} {k n : Nat} {lv : List (Nat × Value)} {S : Type} {w1 : S → va_W} {Qi : Int32 → S → Prop} {X : String → S → Prop} {Y : String → Int32 → S → Prop} {mc ms : Nat} {r : Int32} {u : S} (pc : Nat) (hF : vF x l D own cc rm nL (some .int)) (hR : vXi x w1 Qi X Y mc ms) (hk : k ≤ mc) (hn : n ≤ ms) (hd : decode cc pc = .ok (.ireturn, 1)) (h : Qi r u) : vV x k n (w1 u) lv pc [.int r] := by
  obtain ⟨p, l, e, R, s, m, args, below, meth, c, Q, D, A, nL⟩ := x
  obtain ⟨rfl, rfl, rfl, rfl, hx, hb, hml, hown, hts, hA, hlocks, hret, hE, hZ⟩ := hF
  intro H locs ls hP hD hS hl
  have hR : Q = _ := hR
  subst hR
  exact v_retX hk hn (W.iret (v := r) hx hb hret (fun t ht hW => ⟨⟨r, u, rfl, h, by rw [ht]; exact hP, hD⟩, hS.F ht⟩) hS.2.2 hd hlocks)
theorem v_zretX {x : vC} {l : Launch} {D : va_G} {own : String} {cc : ByteArray} {rm : Room} {nL : Nat} {ty : FieldType} {k n : Nat} {lv : List (Nat × Value)} {S : Type} {w1 : S → va_W} {Qi : Int32 → S → Prop} {X : String → S → Prop} {Y : String → Int32 → S → Prop} {mc ms : Nat} {r : Int32} {u : S} (pc : Nat) (hF : vF x l D own cc rm nL (some ty)) (hR : vXi x w1 Qi X Y mc ms) (hk : k ≤ mc) (hn : n ≤ ms) (hr : narrow ty (.int r) = .int r) (hd : decode cc pc = .ok (.ireturn, 1)) (h : Qi r u) : vV x k n (w1 u) lv pc [.int r] := by
  obtain ⟨p, l, e, R, s, m, args, below, meth, c, Q, D, A, nL⟩ := x
  obtain ⟨rfl, rfl, rfl, rfl, hx, hb, hml, hown, hts, hA, hlocks, hret, hE, hZ⟩ := hF
  intro H locs ls hP hD hS hl
  have hR : Q = _ := hR
  subst hR
  exact v_retX hk hn (W.zret (v := r) hx hb hret hr (fun t ht hW => ⟨⟨r, u, rfl, h, by rw [ht]; exact hP, hD⟩, hS.F ht⟩) hS.2.2 hd hlocks)
theorem v_dretX {x : vC} {l : Launch} {D : va_G} {own : String} {cc : ByteArray} {rm : Room} {nL : Nat} {k n : Nat} {lv : List (Nat × Value)} {S : Type} {w1 : S → va_W} {Qi : UInt64 → S → Prop} {X : String → S → Prop} {Y : String → Int32 → S → Prop} {mc ms : Nat} {r : UInt64} {u : S} (pc : Nat) (hF : vF x l D own cc rm nL (some .double)) (hR : vXd x w1 Qi X Y mc ms) (hk : k ≤ mc) (hn : n ≤ ms) (hd : decode cc pc = .ok (.dreturn, 1)) (h : Qi r u) : vV x k n (w1 u) lv pc [.double r] := by
  obtain ⟨p, l, e, R, s, m, args, below, meth, c, Q, D, A, nL⟩ := x
  obtain ⟨rfl, rfl, rfl, rfl, hx, hb, hml, hown, hts, hA, hlocks, hret, hE, hZ⟩ := hF
  intro H locs ls hP hD hS hl
  have hR : Q = _ := hR
  subst hR
  exact v_retX hk hn (W.dret (v := r) hx hb hret (fun t ht hW => ⟨⟨r, u, rfl, h, by rw [ht]; exact hP, hD⟩, hS.F ht⟩) hS.2.2 hd hlocks)
theorem v_fretX {x : vC} {l : Launch} {D : va_G} {own : String} {cc : ByteArray} {rm : Room} {nL : Nat} {k n : Nat} {lv : List (Nat × Value)} {S : Type} {w1 : S → va_W} {Qi : UInt32 → S → Prop} {X : String → S → Prop} {Y : String → Int32 → S → Prop} {mc ms : Nat} {r : UInt32} {u : S} (pc : Nat) (hF : vF x l D own cc rm nL (some .float)) (hR : vXf x w1 Qi X Y mc ms) (hk : k ≤ mc) (hn : n ≤ ms) (hd : decode cc pc = .ok (.freturn, 1)) (h : Qi r u) : vV x k n (w1 u) lv pc [.float r] := by
  obtain ⟨p, l, e, R, s, m, args, below, meth, c, Q, D, A, nL⟩ := x
  obtain ⟨rfl, rfl, rfl, rfl, hx, hb, hml, hown, hts, hA, hlocks, hret, hE, hZ⟩ := hF
  intro H locs ls hP hD hS hl
  have hR : Q = _ := hR
  subst hR
  exact v_retX hk hn (W.fret (v := r) hx hb hret (fun t ht hW => ⟨⟨r, u, rfl, h, by rw [ht]; exact hP, hD⟩, hS.F ht⟩) hS.2.2 hd hlocks)
theorem v_vretX {x : vC} {l : Launch} {D : va_G} {own : String} {cc : ByteArray} {rm : Room} {nL : Nat} {k n : Nat} {lv : List (Nat × Value)} {S : Type} {w1 : S → va_W} {Qi : S → Prop} {X : String → S → Prop} {Y : String → Int32 → S → Prop} {mc ms : Nat} {u : S} (pc : Nat) (hF : vF x l D own cc rm nL none) (hR : vXv x w1 Qi X Y mc ms) (hk : k ≤ mc) (hn : n ≤ ms) (hd : decode cc pc = .ok (.return_, 1)) (h : Qi u) : vV x k n (w1 u) lv pc [] := by
  obtain ⟨p, l, e, R, s, m, args, below, meth, c, Q, D, A, nL⟩ := x
  obtain ⟨rfl, rfl, rfl, rfl, hx, hb, hml, hown, hts, hA, hlocks, hret, hE, hZ⟩ := hF
  intro H locs ls hP hD hS hl
  have hR : Q = _ := hR
  subst hR
  exact v_retX hk hn (W.vret hx hb hret (fun t ht hW => ⟨⟨u, rfl, h, by rw [ht]; exact hP, hD⟩, hS.F ht⟩) hS.2.2 hd hlocks)
theorem v_aretX {x : vC} {l : Launch} {D : va_G} {own : String} {cc : ByteArray} {rm : Room} {nL : Nat} {ty : FieldType} {k n : Nat} {lv : List (Nat × Value)} {S : Type} {w1 : S → va_W} {ad : S → Nat} {Qi : S → Prop} {X : String → S → Prop} {Y : String → Int32 → S → Prop} {mc ms : Nat} {u : S} {b : Nat} (pc : Nat) (hF : vF x l D own cc rm nL (some ty)) (hty : (∃ n, ty = .object n) ∨ ∃ t, ty = .array t) (hR : vXr x w1 ad Qi X Y mc ms) (hk : k ≤ mc) (hn : n ≤ ms) (hd : decode cc pc = .ok (.areturn, 1)) (hb1 : b = ad u) (h : Qi u) : vV x k n (w1 u) lv pc [.ref b] := by
  subst hb1
  obtain ⟨p, l, e, R, s, m, args, below, meth, c, Q, D, A, nL⟩ := x
  obtain ⟨rfl, rfl, rfl, rfl, hx, hb, hml, hown, hts, hA, hlocks, hret, hE, hZ⟩ := hF
  intro H locs ls hP hD hS hl
  have hR : Q = _ := hR
  subst hR
  exact v_retX hk hn (W.aret hx hb hret hty (Or.inr ⟨_, rfl⟩) (fun t ht hW => ⟨⟨u, ad u, rfl, h, rfl, by rw [ht]; exact hP, hD⟩, hS.F ht⟩) hS.2.2 hd hlocks)
theorem vx_callr {p : Program} {l : Launch} {e : Env} {R : Room} {s : State} {m : MethodId} {args : Array Value} {below : List Frame} {meth : Method} {c : Code} {H : Heap} {locs : List Loc} {cells slots : Nat} {Q : State → Prop} {mc ms : Nat} {free : Addr → Prop} {A0 A1 : Nat → Prop} {H0 : Heap} {a : Array Value} {pc : Nat} {ls : Array Slot} {st0 rest : List Value} {S SX : Type} {post : S → Prop} {px : SX → Prop} {B : S → Nat → State → Prop} {BX : String → SX → Addr → State → Prop} {AX : Nat → Prop} (hr : vx_Run p l e R s m args below meth c H locs cells slots mc ms (F0 m pc ls st0) rest (va_Qr post B A1 a) (vx_X px BX AX) free) (hS : va_S A0 H0 H locs) (hA : ∀ q, q < H.size → A1 q → A0 q) (hf : ∀ q, free q → A0 q) (hAX : ∀ q, q < H.size → AX q → A0 q)
    (kx : ∀ (E : String) (ce : Cell) (q9 : Addr) (u : SX) (t : State) (H1 : Heap) (locs1 : List Loc), t.heap = H1 → s.vm.Alike t.vm → px u → BX E u q9 t → H.size ≤ H1.size → (∀ q : Nat, q < H.size → ¬ AX q → H1[q]? = H[q]?) → va_S A0 H0 H1 locs1 → H1[q9]? = some ce → ce.vm = .none → s.vm.findClass E = some ce.cls → vx_W p l e R s m args below meth c H1 locs1 (cells + mc) (slots + ms) Q (F0 m pc ls rest) q9)
    (kk : ∀ (u : S) (ra : Nat) (t : State) (H1 : Heap) (locs1 : List Loc), t.heap = H1 → s.vm.Alike t.vm → post u → B u ra t → H.size ≤ H1.size → (∀ q : Nat, q < H.size → ¬ A1 q → H1[q]? = H[q]?) → va_S A0 H0 H1 locs1 → W p l e R s m args below meth c H1 locs1 (cells + mc) (slots + ms) Q (F0 m (pc + 3) ls (.ref ra :: rest))) : W p l e R s m args below meth c H locs cells slots Q (F0 m pc ls st0) := by
  intro T hT X
  rcases hr T hT X with ⟨v, st₀, t, T', L, h0, X', hL, e1, e2, ⟨⟨u, ra, hv, hp, hb⟩, hF⟩, st⟩ | ⟨q, st₀, t, T', L, E, ce, h0, X', hL, e1, e2, ⟨u, hp, hb, hF⟩, hce, hcv, hcl, st⟩
  · cases hv
    obtain ⟨k1, k2, k3⟩ := vx_keep h0 e1 hS hA hf hL hF
    obtain ⟨t2, a1, b1⟩ := kk u ra t T'.heap (locs ++ L) e1.symm (by rw [← e2]; exact X'.warmed.alike) hp hb k1 k2 k3 T' rfl X'
    exact ⟨t2, st t2 a1, b1⟩
  · obtain ⟨k1, k2, k3⟩ := vx_keep h0 e1 hS hAX hf hL hF
    obtain ⟨t2, a1, b1⟩ := kx E ce q u t T'.heap (locs ++ L) e1.symm (by rw [← e2]; exact X'.warmed.alike) hp hb k1 k2 k3 (by rw [e1]; exact hce) hcv hcl T' rfl X'
    exact ⟨t2, st.trans a1, b1⟩
theorem v_callXVi {x : vC} {l : Launch} {D : va_G} {own : String} {cc : ByteArray} {rm : Room} {nL : Nat} {rt : Option FieldType} {k n : Nat} {ws : va_W} {lv : List (Nat × Value)} {st : List Value} {S : Type} {idx maxL mc ms : Nat} {y : MethodName} {bytes : ByteArray} {rt2 : FieldType} {rm2 : Room} {As : List Value} {b : Nat} {w0 wr : va_W} {w1 : S → va_W} {Q2 : Int32 → S → Prop} {X2 : String → S → Prop} {Y2 : String → Int32 → S → Prop} (pc : Nat) (hF : vF x l D own cc rm nL rt) (hM : Cxi l D y bytes maxL rt2 rm2 (.ref b :: As) w0 w1 Q2 X2 Y2 mc ms) (hp : ws.Perm (w0 ++ wr)) (hrv : ∃ (q0 ci : Nat) (fs : List Value) (T : u_T) (N : Nat), w0[q0]? = some (b, .inr (ci, fs)) ∧ cl0[ci]? = some (y.cls, T, N)) (hq1 : Cond.methodLink own idx y ∈ lw_all) (hq2 : Cond.instanceMethod y ∈ lw_all) (hq3 : Cond.selects y.cls y y ∈ lw_all) (hq4 : Cond.initialized y.cls ∈ lw_all) (hq5 : Cond.code y bytes maxL (some rt2) ∈ lw_all) (hds : y.cls = y.cls ∧ y.cls ≠ "java/lang/invoke/MethodHandle" ∧ y.cls ≠ "java/lang/invoke/VarHandle" ∧ (parseMethodDescriptor y.desc).map (fun d => d.parameters.length) = some As.length)
    (hrm : rm2.cells = mc ∧ rm2.slots = ms ∧ rm2.frames + 1 ≤ rm.frames ∧ 8 + (maxL + 11) + rm2.locals ≤ rm.locals) (hst : (st.map fun v => v.category).sum ≤ 8) (hcs : k + mc ≤ rm.cells ∧ n + ms ≤ rm.slots) (hd : decode cc pc = .ok (.invokevirtual idx, 3))
    (kx : ∀ (E : String) (q : Nat) (u : S), X2 E u → vT x (k + mc) (n + ms) (w1 u ++ wr) lv pc st E q)
    (ky : ∀ (E : String) (q ci : Nat) (r : Int32) (u : S), Y2 E r u → vPay E ci → vT x (k + mc) (n + ms) ((q, .inr (ci, rfF r)) :: (w1 u ++ wr)) lv pc st E q)
    (kk : ∀ (r : Int32) (u : S), Q2 r u → vV x (k + mc) (n + ms) (w1 u ++ wr) lv (pc + 3) (.int r :: st)) : vV x k n ws lv pc (As.reverse ++ .ref b :: st) := by
  obtain ⟨q9, ci9, fs9, T9, N9, he9, hc9⟩ := hrv
  obtain ⟨p, l, e, R, s, m, args, below, meth, c, Q, D, A, nL⟩ := x
  obtain ⟨rfl, rfl, rfl, rfl, hx, hb, hml, hown, hts, hA, hlocks, hret, hE, hZ⟩ := hF
  intro H locs ls hP hD hS hl
  have hP := vP_perm hp hP
  have hD := vD_perm hp hD
  have hPc : va_P D cl0 w0 H := vP_left hP
  have hDc : va_D A w0 := vD_left hD
  have hFc : ∀ q, va_A w0 H.size q → A q := vfree hDc hS hA
  refine vx_calli (vx_runV (As := As) (rest := st) (b := b) ⟨hx, hb, hml, hown, hts⟩ (hM H.size) (cwV As.length hts (lw_V hq1 hq2 hq3 hq4 hq5) rfl hrm.1 hrm.2.1 hds hrm.2.2) ⟨fun a U g mk q => by obtain ⟨q0, q1, qP, qK, qD, qZ⟩ := q; exact ⟨q0, q1, qP, qK.blind, qD, vZA.moved (u := U) (U := U.calling g mk a) (Vm.Alike.refl U.vm) qZ⟩, va_recv hE.1 hPc (ci := ci9) (q0 := q9) hc9 he9, fun U hU hW => ⟨rfl, by rw [hU], by rw [hU]; exact hPc, hE.warm hW, hDc.weaken (fun _ _ _ _ => trivial), by rw [hU]; exact vZA.moved hW.alike ((hZ.kept hS.2.1).narrow hFc)⟩⟩ rfl rfl hl.1 rfl (lv_room hst) hd hcs) hS (fun q _ h => hFc q h) hFc (fun q _ h => hFc q h) (fun E ce q9 u t H1 locs ht hvm _ hB hz1 hk1 hS hce hcv hcl => ?_) (fun r u t H1 locs ht hvm hw1 hB hz1 hk1 hS => ?_)
  · obtain ⟨u, o⟩ := u
    cases o with
    | none =>
      obtain ⟨hX9, hP1, hD1⟩ := hB
      rw [ht] at hP1
      obtain ⟨hP, hD⟩ := vjoin hP hD hk1 hFc hP1 hD1
      exact kx E q9 u hX9 H1 locs ls ce hP hD hS hl hce hcv hcl
    | some cr =>
      obtain ⟨ci1, r1⟩ := cr
      obtain ⟨hX9, hy9, hP1, hD1⟩ := hB
      rw [ht] at hP1
      obtain ⟨hP, hD⟩ := vjoin hP hD hk1 hFc hP1 hD1
      exact ky E q9 ci1 r1 u hX9 hy9 H1 locs ls ce hP hD hS hl hce hcv hcl
  · obtain ⟨hP1, hD1⟩ := hB
    rw [ht] at hP1
    obtain ⟨hP, hD⟩ := vjoin hP hD hk1 hFc hP1 hD1
    exact kk r u hw1 H1 locs ls hP hD hS hl
theorem v_callXSi {x : vC} {l : Launch} {D : va_G} {own : String} {cc : ByteArray} {rm : Room} {nL : Nat} {rt : Option FieldType} {k n : Nat} {ws : va_W} {lv : List (Nat × Value)} {st : List Value} {S : Type} {idx maxL mc ms : Nat} {y : MethodName} {bytes : ByteArray} {rt2 : FieldType} {rm2 : Room} {As : List Value} {w0 wr : va_W} {w1 : S → va_W} {Q2 : Int32 → S → Prop} {X2 : String → S → Prop} {Y2 : String → Int32 → S → Prop} (pc : Nat) (hF : vF x l D own cc rm nL rt) (hM : Cxi l D y bytes maxL rt2 rm2 As w0 w1 Q2 X2 Y2 mc ms) (hp : ws.Perm (w0 ++ wr)) (hq1 : Cond.methodLink own idx y ∈ lw_all) (hq2 : Cond.static y ∈ lw_all) (hq3 : Cond.initialized y.cls ∈ lw_all) (hq5 : Cond.code y bytes maxL (some rt2) ∈ lw_all) (hds : y.cls = y.cls ∧ y.cls ≠ "java/lang/invoke/MethodHandle" ∧ y.cls ≠ "java/lang/invoke/VarHandle" ∧ (parseMethodDescriptor y.desc).map (fun d => d.parameters.length) = some As.length)
    (hrm : rm2.cells = mc ∧ rm2.slots = ms ∧ rm2.frames + 1 ≤ rm.frames ∧ 8 + (maxL + 11) + rm2.locals ≤ rm.locals) (hst : (st.map fun v => v.category).sum ≤ 8) (hcs : k + mc ≤ rm.cells ∧ n + ms ≤ rm.slots) (hd : decode cc pc = .ok (.invokestatic idx, 3))
    (kx : ∀ (E : String) (q : Nat) (u : S), X2 E u → vT x (k + mc) (n + ms) (w1 u ++ wr) lv pc st E q)
    (ky : ∀ (E : String) (q ci : Nat) (r : Int32) (u : S), Y2 E r u → vPay E ci → vT x (k + mc) (n + ms) ((q, .inr (ci, rfF r)) :: (w1 u ++ wr)) lv pc st E q)
    (kk : ∀ (r : Int32) (u : S), Q2 r u → vV x (k + mc) (n + ms) (w1 u ++ wr) lv (pc + 3) (.int r :: st)) : vV x k n ws lv pc (As.reverse ++ st) := by
  obtain ⟨p, l, e, R, s, m, args, below, meth, c, Q, D, A, nL⟩ := x
  obtain ⟨rfl, rfl, rfl, rfl, hx, hb, hml, hown, hts, hA, hlocks, hret, hE, hZ⟩ := hF
  intro H locs ls hP hD hS hl
  have hP := vP_perm hp hP
  have hD := vD_perm hp hD
  have hPc : va_P D cl0 w0 H := vP_left hP
  have hDc : va_D A w0 := vD_left hD
  have hFc : ∀ q, va_A w0 H.size q → A q := vfree hDc hS hA
  refine vx_calli (vx_runS (As := As) (rest := st) ⟨hx, hb, hml, hown, hts⟩ (hM H.size) (va_cwS As.length hts (lw_S hq1 hq2 hq3 hq5) rfl hrm.1 hrm.2.1 hds.2 hrm.2.2) ⟨fun a U g mk q => by obtain ⟨q0, q1, qP, qK, qD, qZ⟩ := q; exact ⟨q0, q1, qP, qK.blind, qD, vZA.moved (u := U) (U := U.calling g mk a) (Vm.Alike.refl U.vm) qZ⟩, fun U hU hW => ⟨rfl, by rw [hU], by rw [hU]; exact hPc, hE.warm hW, hDc.weaken (fun _ _ _ _ => trivial), by rw [hU]; exact vZA.moved hW.alike ((hZ.kept hS.2.1).narrow hFc)⟩⟩ rfl rfl hl.1 rfl (lv_room hst) hd hcs) hS (fun q _ h => hFc q h) hFc (fun q _ h => hFc q h) (fun E ce q9 u t H1 locs ht hvm _ hB hz1 hk1 hS hce hcv hcl => ?_) (fun r u t H1 locs ht hvm hw1 hB hz1 hk1 hS => ?_)
  · obtain ⟨u, o⟩ := u
    cases o with
    | none =>
      obtain ⟨hX9, hP1, hD1⟩ := hB
      rw [ht] at hP1
      obtain ⟨hP, hD⟩ := vjoin hP hD hk1 hFc hP1 hD1
      exact kx E q9 u hX9 H1 locs ls ce hP hD hS hl hce hcv hcl
    | some cr =>
      obtain ⟨ci1, r1⟩ := cr
      obtain ⟨hX9, hy9, hP1, hD1⟩ := hB
      rw [ht] at hP1
      obtain ⟨hP, hD⟩ := vjoin hP hD hk1 hFc hP1 hD1
      exact ky E q9 ci1 r1 u hX9 hy9 H1 locs ls ce hP hD hS hl hce hcv hcl
  · obtain ⟨hP1, hD1⟩ := hB
    rw [ht] at hP1
    obtain ⟨hP, hD⟩ := vjoin hP hD hk1 hFc hP1 hD1
    exact kk r u hw1 H1 locs ls hP hD hS hl
theorem v_callXSNi {x : vC} {l : Launch} {D : va_G} {own : String} {cc : ByteArray} {rm : Room} {nL : Nat} {rt : Option FieldType} {k n : Nat} {ws : va_W} {lv : List (Nat × Value)} {st : List Value} {S : Type} {idx maxL mc ms : Nat} {y : MethodName} {bytes : ByteArray} {rt2 : FieldType} {rm2 : Room} {As : List Value} {w0 wr : va_W} {w1 : S → va_W} {Q2 : Int32 → S → Prop} {X2 : String → S → Prop} {Y2 : String → Int32 → S → Prop} (pc : Nat) (hF : vF x l D own cc rm nL rt) (hM : Cxi l D y bytes maxL rt2 rm2 As w0 w1 Q2 X2 Y2 mc ms) (hp : ws.Perm (w0 ++ wr)) {host : String} (hq1 : Cond.methodLinkNest own idx y host ∈ lw_tbl) (hq2 : Cond.static y ∈ lw_all) (hq3 : Cond.initialized y.cls ∈ lw_all) (hq5 : Cond.code y bytes maxL (some rt2) ∈ lw_all) (hds : y.cls = y.cls ∧ y.cls ≠ "java/lang/invoke/MethodHandle" ∧ y.cls ≠ "java/lang/invoke/VarHandle" ∧ (parseMethodDescriptor y.desc).map (fun d => d.parameters.length) = some As.length)
    (hrm : rm2.cells = mc ∧ rm2.slots = ms ∧ rm2.frames + 1 ≤ rm.frames ∧ 8 + (maxL + 11) + rm2.locals ≤ rm.locals) (hst : (st.map fun v => v.category).sum ≤ 8) (hcs : k + mc ≤ rm.cells ∧ n + ms ≤ rm.slots) (hd : decode cc pc = .ok (.invokestatic idx, 3))
    (kx : ∀ (E : String) (q : Nat) (u : S), X2 E u → vT x (k + mc) (n + ms) (w1 u ++ wr) lv pc st E q)
    (ky : ∀ (E : String) (q ci : Nat) (r : Int32) (u : S), Y2 E r u → vPay E ci → vT x (k + mc) (n + ms) ((q, .inr (ci, rfF r)) :: (w1 u ++ wr)) lv pc st E q)
    (kk : ∀ (r : Int32) (u : S), Q2 r u → vV x (k + mc) (n + ms) (w1 u ++ wr) lv (pc + 3) (.int r :: st)) : vV x k n ws lv pc (As.reverse ++ st) := by
  obtain ⟨p, l, e, R, s, m, args, below, meth, c, Q, D, A, nL⟩ := x
  obtain ⟨rfl, rfl, rfl, rfl, hx, hb, hml, hown, hts, hA, hlocks, hret, hE, hZ⟩ := hF
  intro H locs ls hP hD hS hl
  have hP := vP_perm hp hP
  have hD := vD_perm hp hD
  have hPc : va_P D cl0 w0 H := vP_left hP
  have hDc : va_D A w0 := vD_left hD
  have hFc : ∀ q, va_A w0 H.size q → A q := vfree hDc hS hA
  refine vx_calli (vx_runSN (As := As) (rest := st) ⟨hx, hb, hml, hown, hts⟩ (hM H.size) ⟨va_cnB As.length hts (lw_meth hq5) rfl hrm.1 hrm.2.1 (hE.2.1 _ hq1 rfl) (hts _ hq3) hds.2 hrm.2.2, hts _ hq2, trivial⟩ ⟨fun a U g mk q => by obtain ⟨q0, q1, qP, qK, qD, qZ⟩ := q; exact ⟨q0, q1, qP, qK.blind, qD, vZA.moved (u := U) (U := U.calling g mk a) (Vm.Alike.refl U.vm) qZ⟩, fun U hU hW => ⟨rfl, by rw [hU], by rw [hU]; exact hPc, hE.warm hW, hDc.weaken (fun _ _ _ _ => trivial), by rw [hU]; exact vZA.moved hW.alike ((hZ.kept hS.2.1).narrow hFc)⟩⟩ rfl rfl hl.1 rfl (lv_room hst) hd hcs) hS (fun q _ h => hFc q h) hFc (fun q _ h => hFc q h) (fun E ce q9 u t H1 locs ht hvm _ hB hz1 hk1 hS hce hcv hcl => ?_) (fun r u t H1 locs ht hvm hw1 hB hz1 hk1 hS => ?_)
  · obtain ⟨u, o⟩ := u
    cases o with
    | none =>
      obtain ⟨hX9, hP1, hD1⟩ := hB
      rw [ht] at hP1
      obtain ⟨hP, hD⟩ := vjoin hP hD hk1 hFc hP1 hD1
      exact kx E q9 u hX9 H1 locs ls ce hP hD hS hl hce hcv hcl
    | some cr =>
      obtain ⟨ci1, r1⟩ := cr
      obtain ⟨hX9, hy9, hP1, hD1⟩ := hB
      rw [ht] at hP1
      obtain ⟨hP, hD⟩ := vjoin hP hD hk1 hFc hP1 hD1
      exact ky E q9 ci1 r1 u hX9 hy9 H1 locs ls ce hP hD hS hl hce hcv hcl
  · obtain ⟨hP1, hD1⟩ := hB
    rw [ht] at hP1
    obtain ⟨hP, hD⟩ := vjoin hP hD hk1 hFc hP1 hD1
    exact kk r u hw1 H1 locs ls hP hD hS hl
theorem v_callXVv {x : vC} {l : Launch} {D : va_G} {own : String} {cc : ByteArray} {rm : Room} {nL : Nat} {rt : Option FieldType} {k n : Nat} {ws : va_W} {lv : List (Nat × Value)} {st : List Value} {S : Type} {idx maxL mc ms : Nat} {y : MethodName} {bytes : ByteArray} {rm2 : Room} {As : List Value} {b : Nat} {w0 wr : va_W} {w1 : S → va_W} {Q2 : S → Prop} {X2 : String → S → Prop} {Y2 : String → Int32 → S → Prop} (pc : Nat) (hF : vF x l D own cc rm nL rt) (hM : Cxv l D y bytes maxL rm2 (.ref b :: As) w0 w1 Q2 X2 Y2 mc ms) (hp : ws.Perm (w0 ++ wr)) (hrv : ∃ (q0 ci : Nat) (fs : List Value) (T : u_T) (N : Nat), w0[q0]? = some (b, .inr (ci, fs)) ∧ cl0[ci]? = some (y.cls, T, N)) (hq1 : Cond.methodLink own idx y ∈ lw_all) (hq2 : Cond.instanceMethod y ∈ lw_all) (hq3 : Cond.selects y.cls y y ∈ lw_all) (hq4 : Cond.initialized y.cls ∈ lw_all) (hq5 : Cond.code y bytes maxL none ∈ lw_all) (hds : y.cls = y.cls ∧ y.cls ≠ "java/lang/invoke/MethodHandle" ∧ y.cls ≠ "java/lang/invoke/VarHandle" ∧ (parseMethodDescriptor y.desc).map (fun d => d.parameters.length) = some As.length)
    (hrm : rm2.cells = mc ∧ rm2.slots = ms ∧ rm2.frames + 1 ≤ rm.frames ∧ 8 + (maxL + 11) + rm2.locals ≤ rm.locals) (hst : (st.map fun v => v.category).sum ≤ 8) (hcs : k + mc ≤ rm.cells ∧ n + ms ≤ rm.slots) (hd : decode cc pc = .ok (.invokevirtual idx, 3))
    (kx : ∀ (E : String) (q : Nat) (u : S), X2 E u → vT x (k + mc) (n + ms) (w1 u ++ wr) lv pc st E q)
    (ky : ∀ (E : String) (q ci : Nat) (r : Int32) (u : S), Y2 E r u → vPay E ci → vT x (k + mc) (n + ms) ((q, .inr (ci, rfF r)) :: (w1 u ++ wr)) lv pc st E q)
    (kk : ∀ (u : S), Q2 u → vV x (k + mc) (n + ms) (w1 u ++ wr) lv (pc + 3) st) : vV x k n ws lv pc (As.reverse ++ .ref b :: st) := by
  obtain ⟨q9, ci9, fs9, T9, N9, he9, hc9⟩ := hrv
  obtain ⟨p, l, e, R, s, m, args, below, meth, c, Q, D, A, nL⟩ := x
  obtain ⟨rfl, rfl, rfl, rfl, hx, hb, hml, hown, hts, hA, hlocks, hret, hE, hZ⟩ := hF
  intro H locs ls hP hD hS hl
  have hP := vP_perm hp hP
  have hD := vD_perm hp hD
  have hPc : va_P D cl0 w0 H := vP_left hP
  have hDc : va_D A w0 := vD_left hD
  have hFc : ∀ q, va_A w0 H.size q → A q := vfree hDc hS hA
  refine vx_callv (vx_runV (As := As) (rest := st) (b := b) ⟨hx, hb, hml, hown, hts⟩ (hM H.size) (cwV As.length hts (lw_V hq1 hq2 hq3 hq4 hq5) rfl hrm.1 hrm.2.1 hds hrm.2.2) ⟨fun a U g mk q => by obtain ⟨q0, q1, qP, qK, qD, qZ⟩ := q; exact ⟨q0, q1, qP, qK.blind, qD, vZA.moved (u := U) (U := U.calling g mk a) (Vm.Alike.refl U.vm) qZ⟩, va_recv hE.1 hPc (ci := ci9) (q0 := q9) hc9 he9, fun U hU hW => ⟨rfl, by rw [hU], by rw [hU]; exact hPc, hE.warm hW, hDc.weaken (fun _ _ _ _ => trivial), by rw [hU]; exact vZA.moved hW.alike ((hZ.kept hS.2.1).narrow hFc)⟩⟩ rfl rfl hl.1 rfl (lv_room hst) hd hcs) hS (fun q _ h => hFc q h) hFc (fun q _ h => hFc q h) (fun E ce q9 u t H1 locs ht hvm _ hB hz1 hk1 hS hce hcv hcl => ?_) (fun u t H1 locs ht hvm hw1 hB hz1 hk1 hS => ?_)
  · obtain ⟨u, o⟩ := u
    cases o with
    | none =>
      obtain ⟨hX9, hP1, hD1⟩ := hB
      rw [ht] at hP1
      obtain ⟨hP, hD⟩ := vjoin hP hD hk1 hFc hP1 hD1
      exact kx E q9 u hX9 H1 locs ls ce hP hD hS hl hce hcv hcl
    | some cr =>
      obtain ⟨ci1, r1⟩ := cr
      obtain ⟨hX9, hy9, hP1, hD1⟩ := hB
      rw [ht] at hP1
      obtain ⟨hP, hD⟩ := vjoin hP hD hk1 hFc hP1 hD1
      exact ky E q9 ci1 r1 u hX9 hy9 H1 locs ls ce hP hD hS hl hce hcv hcl
  · obtain ⟨hP1, hD1⟩ := hB
    rw [ht] at hP1
    obtain ⟨hP, hD⟩ := vjoin hP hD hk1 hFc hP1 hD1
    exact kk u hw1 H1 locs ls hP hD hS hl
theorem v_callXSv {x : vC} {l : Launch} {D : va_G} {own : String} {cc : ByteArray} {rm : Room} {nL : Nat} {rt : Option FieldType} {k n : Nat} {ws : va_W} {lv : List (Nat × Value)} {st : List Value} {S : Type} {idx maxL mc ms : Nat} {y : MethodName} {bytes : ByteArray} {rm2 : Room} {As : List Value} {w0 wr : va_W} {w1 : S → va_W} {Q2 : S → Prop} {X2 : String → S → Prop} {Y2 : String → Int32 → S → Prop} (pc : Nat) (hF : vF x l D own cc rm nL rt) (hM : Cxv l D y bytes maxL rm2 As w0 w1 Q2 X2 Y2 mc ms) (hp : ws.Perm (w0 ++ wr)) (hq1 : Cond.methodLink own idx y ∈ lw_all) (hq2 : Cond.static y ∈ lw_all) (hq3 : Cond.initialized y.cls ∈ lw_all) (hq5 : Cond.code y bytes maxL none ∈ lw_all) (hds : y.cls = y.cls ∧ y.cls ≠ "java/lang/invoke/MethodHandle" ∧ y.cls ≠ "java/lang/invoke/VarHandle" ∧ (parseMethodDescriptor y.desc).map (fun d => d.parameters.length) = some As.length)
    (hrm : rm2.cells = mc ∧ rm2.slots = ms ∧ rm2.frames + 1 ≤ rm.frames ∧ 8 + (maxL + 11) + rm2.locals ≤ rm.locals) (hst : (st.map fun v => v.category).sum ≤ 8) (hcs : k + mc ≤ rm.cells ∧ n + ms ≤ rm.slots) (hd : decode cc pc = .ok (.invokestatic idx, 3))
    (kx : ∀ (E : String) (q : Nat) (u : S), X2 E u → vT x (k + mc) (n + ms) (w1 u ++ wr) lv pc st E q)
    (ky : ∀ (E : String) (q ci : Nat) (r : Int32) (u : S), Y2 E r u → vPay E ci → vT x (k + mc) (n + ms) ((q, .inr (ci, rfF r)) :: (w1 u ++ wr)) lv pc st E q)
    (kk : ∀ (u : S), Q2 u → vV x (k + mc) (n + ms) (w1 u ++ wr) lv (pc + 3) st) : vV x k n ws lv pc (As.reverse ++ st) := by
  obtain ⟨p, l, e, R, s, m, args, below, meth, c, Q, D, A, nL⟩ := x
  obtain ⟨rfl, rfl, rfl, rfl, hx, hb, hml, hown, hts, hA, hlocks, hret, hE, hZ⟩ := hF
  intro H locs ls hP hD hS hl
  have hP := vP_perm hp hP
  have hD := vD_perm hp hD
  have hPc : va_P D cl0 w0 H := vP_left hP
  have hDc : va_D A w0 := vD_left hD
  have hFc : ∀ q, va_A w0 H.size q → A q := vfree hDc hS hA
  refine vx_callv (vx_runS (As := As) (rest := st) ⟨hx, hb, hml, hown, hts⟩ (hM H.size) (va_cwS As.length hts (lw_S hq1 hq2 hq3 hq5) rfl hrm.1 hrm.2.1 hds.2 hrm.2.2) ⟨fun a U g mk q => by obtain ⟨q0, q1, qP, qK, qD, qZ⟩ := q; exact ⟨q0, q1, qP, qK.blind, qD, vZA.moved (u := U) (U := U.calling g mk a) (Vm.Alike.refl U.vm) qZ⟩, fun U hU hW => ⟨rfl, by rw [hU], by rw [hU]; exact hPc, hE.warm hW, hDc.weaken (fun _ _ _ _ => trivial), by rw [hU]; exact vZA.moved hW.alike ((hZ.kept hS.2.1).narrow hFc)⟩⟩ rfl rfl hl.1 rfl (lv_room hst) hd hcs) hS (fun q _ h => hFc q h) hFc (fun q _ h => hFc q h) (fun E ce q9 u t H1 locs ht hvm _ hB hz1 hk1 hS hce hcv hcl => ?_) (fun u t H1 locs ht hvm hw1 hB hz1 hk1 hS => ?_)
  · obtain ⟨u, o⟩ := u
    cases o with
    | none =>
      obtain ⟨hX9, hP1, hD1⟩ := hB
      rw [ht] at hP1
      obtain ⟨hP, hD⟩ := vjoin hP hD hk1 hFc hP1 hD1
      exact kx E q9 u hX9 H1 locs ls ce hP hD hS hl hce hcv hcl
    | some cr =>
      obtain ⟨ci1, r1⟩ := cr
      obtain ⟨hX9, hy9, hP1, hD1⟩ := hB
      rw [ht] at hP1
      obtain ⟨hP, hD⟩ := vjoin hP hD hk1 hFc hP1 hD1
      exact ky E q9 ci1 r1 u hX9 hy9 H1 locs ls ce hP hD hS hl hce hcv hcl
  · obtain ⟨hP1, hD1⟩ := hB
    rw [ht] at hP1
    obtain ⟨hP, hD⟩ := vjoin hP hD hk1 hFc hP1 hD1
    exact kk u hw1 H1 locs ls hP hD hS hl
theorem v_callXSNv {x : vC} {l : Launch} {D : va_G} {own : String} {cc : ByteArray} {rm : Room} {nL : Nat} {rt : Option FieldType} {k n : Nat} {ws : va_W} {lv : List (Nat × Value)} {st : List Value} {S : Type} {idx maxL mc ms : Nat} {y : MethodName} {bytes : ByteArray} {rm2 : Room} {As : List Value} {w0 wr : va_W} {w1 : S → va_W} {Q2 : S → Prop} {X2 : String → S → Prop} {Y2 : String → Int32 → S → Prop} (pc : Nat) (hF : vF x l D own cc rm nL rt) (hM : Cxv l D y bytes maxL rm2 As w0 w1 Q2 X2 Y2 mc ms) (hp : ws.Perm (w0 ++ wr)) {host : String} (hq1 : Cond.methodLinkNest own idx y host ∈ lw_tbl) (hq2 : Cond.static y ∈ lw_all) (hq3 : Cond.initialized y.cls ∈ lw_all) (hq5 : Cond.code y bytes maxL none ∈ lw_all) (hds : y.cls = y.cls ∧ y.cls ≠ "java/lang/invoke/MethodHandle" ∧ y.cls ≠ "java/lang/invoke/VarHandle" ∧ (parseMethodDescriptor y.desc).map (fun d => d.parameters.length) = some As.length)
    (hrm : rm2.cells = mc ∧ rm2.slots = ms ∧ rm2.frames + 1 ≤ rm.frames ∧ 8 + (maxL + 11) + rm2.locals ≤ rm.locals) (hst : (st.map fun v => v.category).sum ≤ 8) (hcs : k + mc ≤ rm.cells ∧ n + ms ≤ rm.slots) (hd : decode cc pc = .ok (.invokestatic idx, 3))
    (kx : ∀ (E : String) (q : Nat) (u : S), X2 E u → vT x (k + mc) (n + ms) (w1 u ++ wr) lv pc st E q)
    (ky : ∀ (E : String) (q ci : Nat) (r : Int32) (u : S), Y2 E r u → vPay E ci → vT x (k + mc) (n + ms) ((q, .inr (ci, rfF r)) :: (w1 u ++ wr)) lv pc st E q)
    (kk : ∀ (u : S), Q2 u → vV x (k + mc) (n + ms) (w1 u ++ wr) lv (pc + 3) st) : vV x k n ws lv pc (As.reverse ++ st) := by
  obtain ⟨p, l, e, R, s, m, args, below, meth, c, Q, D, A, nL⟩ := x
  obtain ⟨rfl, rfl, rfl, rfl, hx, hb, hml, hown, hts, hA, hlocks, hret, hE, hZ⟩ := hF
  intro H locs ls hP hD hS hl
  have hP := vP_perm hp hP
  have hD := vD_perm hp hD
  have hPc : va_P D cl0 w0 H := vP_left hP
  have hDc : va_D A w0 := vD_left hD
  have hFc : ∀ q, va_A w0 H.size q → A q := vfree hDc hS hA
  refine vx_callv (vx_runSN (As := As) (rest := st) ⟨hx, hb, hml, hown, hts⟩ (hM H.size) ⟨va_cnB As.length hts (lw_meth hq5) rfl hrm.1 hrm.2.1 (hE.2.1 _ hq1 rfl) (hts _ hq3) hds.2 hrm.2.2, hts _ hq2, trivial⟩ ⟨fun a U g mk q => by obtain ⟨q0, q1, qP, qK, qD, qZ⟩ := q; exact ⟨q0, q1, qP, qK.blind, qD, vZA.moved (u := U) (U := U.calling g mk a) (Vm.Alike.refl U.vm) qZ⟩, fun U hU hW => ⟨rfl, by rw [hU], by rw [hU]; exact hPc, hE.warm hW, hDc.weaken (fun _ _ _ _ => trivial), by rw [hU]; exact vZA.moved hW.alike ((hZ.kept hS.2.1).narrow hFc)⟩⟩ rfl rfl hl.1 rfl (lv_room hst) hd hcs) hS (fun q _ h => hFc q h) hFc (fun q _ h => hFc q h) (fun E ce q9 u t H1 locs ht hvm _ hB hz1 hk1 hS hce hcv hcl => ?_) (fun u t H1 locs ht hvm hw1 hB hz1 hk1 hS => ?_)
  · obtain ⟨u, o⟩ := u
    cases o with
    | none =>
      obtain ⟨hX9, hP1, hD1⟩ := hB
      rw [ht] at hP1
      obtain ⟨hP, hD⟩ := vjoin hP hD hk1 hFc hP1 hD1
      exact kx E q9 u hX9 H1 locs ls ce hP hD hS hl hce hcv hcl
    | some cr =>
      obtain ⟨ci1, r1⟩ := cr
      obtain ⟨hX9, hy9, hP1, hD1⟩ := hB
      rw [ht] at hP1
      obtain ⟨hP, hD⟩ := vjoin hP hD hk1 hFc hP1 hD1
      exact ky E q9 ci1 r1 u hX9 hy9 H1 locs ls ce hP hD hS hl hce hcv hcl
  · obtain ⟨hP1, hD1⟩ := hB
    rw [ht] at hP1
    obtain ⟨hP, hD⟩ := vjoin hP hD hk1 hFc hP1 hD1
    exact kk u hw1 H1 locs ls hP hD hS hl
theorem v_callXVr {x : vC} {l : Launch} {D : va_G} {own : String} {cc : ByteArray} {rm : Room} {nL : Nat} {rt : Option FieldType} {k n : Nat} {ws : va_W} {lv : List (Nat × Value)} {st : List Value} {S : Type} {idx maxL mc ms : Nat} {y : MethodName} {bytes : ByteArray} {rt2 : FieldType} {rm2 : Room} {As : List Value} {b : Nat} {w0 wr : va_W} {w1 : S → va_W} {ad : S → Nat} {Q2 : S → Prop} {X2 : String → S → Prop} {Y2 : String → Int32 → S → Prop} (pc : Nat) (hF : vF x l D own cc rm nL rt) (hM : Cxr l D y bytes maxL rt2 rm2 (.ref b :: As) w0 w1 ad Q2 X2 Y2 mc ms) (hp : ws.Perm (w0 ++ wr)) (hrv : ∃ (q0 ci : Nat) (fs : List Value) (T : u_T) (N : Nat), w0[q0]? = some (b, .inr (ci, fs)) ∧ cl0[ci]? = some (y.cls, T, N)) (hq1 : Cond.methodLink own idx y ∈ lw_all) (hq2 : Cond.instanceMethod y ∈ lw_all) (hq3 : Cond.selects y.cls y y ∈ lw_all) (hq4 : Cond.initialized y.cls ∈ lw_all) (hq5 : Cond.code y bytes maxL (some rt2) ∈ lw_all) (hds : y.cls = y.cls ∧ y.cls ≠ "java/lang/invoke/MethodHandle" ∧ y.cls ≠ "java/lang/invoke/VarHandle" ∧ (parseMethodDescriptor y.desc).map (fun d => d.parameters.length) = some As.length)
    (hrm : rm2.cells = mc ∧ rm2.slots = ms ∧ rm2.frames + 1 ≤ rm.frames ∧ 8 + (maxL + 11) + rm2.locals ≤ rm.locals) (hst : (st.map fun v => v.category).sum ≤ 8) (hcs : k + mc ≤ rm.cells ∧ n + ms ≤ rm.slots) (hd : decode cc pc = .ok (.invokevirtual idx, 3))
    (kx : ∀ (E : String) (q : Nat) (u : S), X2 E u → vT x (k + mc) (n + ms) (w1 u ++ wr) lv pc st E q)
    (ky : ∀ (E : String) (q ci : Nat) (r : Int32) (u : S), Y2 E r u → vPay E ci → vT x (k + mc) (n + ms) ((q, .inr (ci, rfF r)) :: (w1 u ++ wr)) lv pc st E q)
    (kk : ∀ (u : S), Q2 u → vV x (k + mc) (n + ms) (w1 u ++ wr) lv (pc + 3) (.ref (ad u) :: st)) : vV x k n ws lv pc (As.reverse ++ .ref b :: st) := by
  obtain ⟨q9, ci9, fs9, T9, N9, he9, hc9⟩ := hrv
  obtain ⟨p, l, e, R, s, m, args, below, meth, c, Q, D, A, nL⟩ := x
  obtain ⟨rfl, rfl, rfl, rfl, hx, hb, hml, hown, hts, hA, hlocks, hret, hE, hZ⟩ := hF
  intro H locs ls hP hD hS hl
  have hP := vP_perm hp hP
  have hD := vD_perm hp hD
  have hPc : va_P D cl0 w0 H := vP_left hP
  have hDc : va_D A w0 := vD_left hD
  have hFc : ∀ q, va_A w0 H.size q → A q := vfree hDc hS hA
  refine vx_callr (vx_runV (As := As) (rest := st) (b := b) ⟨hx, hb, hml, hown, hts⟩ (hM H.size) (cwV As.length hts (lw_V hq1 hq2 hq3 hq4 hq5) rfl hrm.1 hrm.2.1 hds hrm.2.2) ⟨fun a U g mk q => by obtain ⟨q0, q1, qP, qK, qD, qZ⟩ := q; exact ⟨q0, q1, qP, qK.blind, qD, vZA.moved (u := U) (U := U.calling g mk a) (Vm.Alike.refl U.vm) qZ⟩, va_recv hE.1 hPc (ci := ci9) (q0 := q9) hc9 he9, fun U hU hW => ⟨rfl, by rw [hU], by rw [hU]; exact hPc, hE.warm hW, hDc.weaken (fun _ _ _ _ => trivial), by rw [hU]; exact vZA.moved hW.alike ((hZ.kept hS.2.1).narrow hFc)⟩⟩ rfl rfl hl.1 rfl (lv_room hst) hd hcs) hS (fun q _ h => hFc q h) hFc (fun q _ h => hFc q h) (fun E ce q9 u t H1 locs ht hvm _ hB hz1 hk1 hS hce hcv hcl => ?_) (fun u a9 t H1 locs ht hvm hw1 hB hz1 hk1 hS => ?_)
  · obtain ⟨u, o⟩ := u
    cases o with
    | none =>
      obtain ⟨hX9, hP1, hD1⟩ := hB
      rw [ht] at hP1
      obtain ⟨hP, hD⟩ := vjoin hP hD hk1 hFc hP1 hD1
      exact kx E q9 u hX9 H1 locs ls ce hP hD hS hl hce hcv hcl
    | some cr =>
      obtain ⟨ci1, r1⟩ := cr
      obtain ⟨hX9, hy9, hP1, hD1⟩ := hB
      rw [ht] at hP1
      obtain ⟨hP, hD⟩ := vjoin hP hD hk1 hFc hP1 hD1
      exact ky E q9 ci1 r1 u hX9 hy9 H1 locs ls ce hP hD hS hl hce hcv hcl
  · obtain ⟨rfl, hP1, hD1⟩ := hB
    rw [ht] at hP1
    obtain ⟨hP, hD⟩ := vjoin hP hD hk1 hFc hP1 hD1
    exact kk u hw1 H1 locs ls hP hD hS hl
theorem v_callXSr {x : vC} {l : Launch} {D : va_G} {own : String} {cc : ByteArray} {rm : Room} {nL : Nat} {rt : Option FieldType} {k n : Nat} {ws : va_W} {lv : List (Nat × Value)} {st : List Value} {S : Type} {idx maxL mc ms : Nat} {y : MethodName} {bytes : ByteArray} {rt2 : FieldType} {rm2 : Room} {As : List Value} {w0 wr : va_W} {w1 : S → va_W} {ad : S → Nat} {Q2 : S → Prop} {X2 : String → S → Prop} {Y2 : String → Int32 → S → Prop} (pc : Nat) (hF : vF x l D own cc rm nL rt) (hM : Cxr l D y bytes maxL rt2 rm2 As w0 w1 ad Q2 X2 Y2 mc ms) (hp : ws.Perm (w0 ++ wr)) (hq1 : Cond.methodLink own idx y ∈ lw_all) (hq2 : Cond.static y ∈ lw_all) (hq3 : Cond.initialized y.cls ∈ lw_all) (hq5 : Cond.code y bytes maxL (some rt2) ∈ lw_all) (hds : y.cls = y.cls ∧ y.cls ≠ "java/lang/invoke/MethodHandle" ∧ y.cls ≠ "java/lang/invoke/VarHandle" ∧ (parseMethodDescriptor y.desc).map (fun d => d.parameters.length) = some As.length)
    (hrm : rm2.cells = mc ∧ rm2.slots = ms ∧ rm2.frames + 1 ≤ rm.frames ∧ 8 + (maxL + 11) + rm2.locals ≤ rm.locals) (hst : (st.map fun v => v.category).sum ≤ 8) (hcs : k + mc ≤ rm.cells ∧ n + ms ≤ rm.slots) (hd : decode cc pc = .ok (.invokestatic idx, 3))
    (kx : ∀ (E : String) (q : Nat) (u : S), X2 E u → vT x (k + mc) (n + ms) (w1 u ++ wr) lv pc st E q)
    (ky : ∀ (E : String) (q ci : Nat) (r : Int32) (u : S), Y2 E r u → vPay E ci → vT x (k + mc) (n + ms) ((q, .inr (ci, rfF r)) :: (w1 u ++ wr)) lv pc st E q)
    (kk : ∀ (u : S), Q2 u → vV x (k + mc) (n + ms) (w1 u ++ wr) lv (pc + 3) (.ref (ad u) :: st)) : vV x k n ws lv pc (As.reverse ++ st) := by
  obtain ⟨p, l, e, R, s, m, args, below, meth, c, Q, D, A, nL⟩ := x
  obtain ⟨rfl, rfl, rfl, rfl, hx, hb, hml, hown, hts, hA, hlocks, hret, hE, hZ⟩ := hF
  intro H locs ls hP hD hS hl
  have hP := vP_perm hp hP
  have hD := vD_perm hp hD
  have hPc : va_P D cl0 w0 H := vP_left hP
  have hDc : va_D A w0 := vD_left hD
  have hFc : ∀ q, va_A w0 H.size q → A q := vfree hDc hS hA
  refine vx_callr (vx_runS (As := As) (rest := st) ⟨hx, hb, hml, hown, hts⟩ (hM H.size) (va_cwS As.length hts (lw_S hq1 hq2 hq3 hq5) rfl hrm.1 hrm.2.1 hds.2 hrm.2.2) ⟨fun a U g mk q => by obtain ⟨q0, q1, qP, qK, qD, qZ⟩ := q; exact ⟨q0, q1, qP, qK.blind, qD, vZA.moved (u := U) (U := U.calling g mk a) (Vm.Alike.refl U.vm) qZ⟩, fun U hU hW => ⟨rfl, by rw [hU], by rw [hU]; exact hPc, hE.warm hW, hDc.weaken (fun _ _ _ _ => trivial), by rw [hU]; exact vZA.moved hW.alike ((hZ.kept hS.2.1).narrow hFc)⟩⟩ rfl rfl hl.1 rfl (lv_room hst) hd hcs) hS (fun q _ h => hFc q h) hFc (fun q _ h => hFc q h) (fun E ce q9 u t H1 locs ht hvm _ hB hz1 hk1 hS hce hcv hcl => ?_) (fun u a9 t H1 locs ht hvm hw1 hB hz1 hk1 hS => ?_)
  · obtain ⟨u, o⟩ := u
    cases o with
    | none =>
      obtain ⟨hX9, hP1, hD1⟩ := hB
      rw [ht] at hP1
      obtain ⟨hP, hD⟩ := vjoin hP hD hk1 hFc hP1 hD1
      exact kx E q9 u hX9 H1 locs ls ce hP hD hS hl hce hcv hcl
    | some cr =>
      obtain ⟨ci1, r1⟩ := cr
      obtain ⟨hX9, hy9, hP1, hD1⟩ := hB
      rw [ht] at hP1
      obtain ⟨hP, hD⟩ := vjoin hP hD hk1 hFc hP1 hD1
      exact ky E q9 ci1 r1 u hX9 hy9 H1 locs ls ce hP hD hS hl hce hcv hcl
  · obtain ⟨rfl, hP1, hD1⟩ := hB
    rw [ht] at hP1
    obtain ⟨hP, hD⟩ := vjoin hP hD hk1 hFc hP1 hD1
    exact kk u hw1 H1 locs ls hP hD hS hl
theorem v_callXSNr {x : vC} {l : Launch} {D : va_G} {own : String} {cc : ByteArray} {rm : Room} {nL : Nat} {rt : Option FieldType} {k n : Nat} {ws : va_W} {lv : List (Nat × Value)} {st : List Value} {S : Type} {idx maxL mc ms : Nat} {y : MethodName} {bytes : ByteArray} {rt2 : FieldType} {rm2 : Room} {As : List Value} {w0 wr : va_W} {w1 : S → va_W} {ad : S → Nat} {Q2 : S → Prop} {X2 : String → S → Prop} {Y2 : String → Int32 → S → Prop} (pc : Nat) (hF : vF x l D own cc rm nL rt) (hM : Cxr l D y bytes maxL rt2 rm2 As w0 w1 ad Q2 X2 Y2 mc ms) (hp : ws.Perm (w0 ++ wr)) {host : String} (hq1 : Cond.methodLinkNest own idx y host ∈ lw_tbl) (hq2 : Cond.static y ∈ lw_all) (hq3 : Cond.initialized y.cls ∈ lw_all) (hq5 : Cond.code y bytes maxL (some rt2) ∈ lw_all) (hds : y.cls = y.cls ∧ y.cls ≠ "java/lang/invoke/MethodHandle" ∧ y.cls ≠ "java/lang/invoke/VarHandle" ∧ (parseMethodDescriptor y.desc).map (fun d => d.parameters.length) = some As.length)
    (hrm : rm2.cells = mc ∧ rm2.slots = ms ∧ rm2.frames + 1 ≤ rm.frames ∧ 8 + (maxL + 11) + rm2.locals ≤ rm.locals) (hst : (st.map fun v => v.category).sum ≤ 8) (hcs : k + mc ≤ rm.cells ∧ n + ms ≤ rm.slots) (hd : decode cc pc = .ok (.invokestatic idx, 3))
    (kx : ∀ (E : String) (q : Nat) (u : S), X2 E u → vT x (k + mc) (n + ms) (w1 u ++ wr) lv pc st E q)
    (ky : ∀ (E : String) (q ci : Nat) (r : Int32) (u : S), Y2 E r u → vPay E ci → vT x (k + mc) (n + ms) ((q, .inr (ci, rfF r)) :: (w1 u ++ wr)) lv pc st E q)
    (kk : ∀ (u : S), Q2 u → vV x (k + mc) (n + ms) (w1 u ++ wr) lv (pc + 3) (.ref (ad u) :: st)) : vV x k n ws lv pc (As.reverse ++ st) := by
  obtain ⟨p, l, e, R, s, m, args, below, meth, c, Q, D, A, nL⟩ := x
  obtain ⟨rfl, rfl, rfl, rfl, hx, hb, hml, hown, hts, hA, hlocks, hret, hE, hZ⟩ := hF
  intro H locs ls hP hD hS hl
  have hP := vP_perm hp hP
  have hD := vD_perm hp hD
  have hPc : va_P D cl0 w0 H := vP_left hP
  have hDc : va_D A w0 := vD_left hD
  have hFc : ∀ q, va_A w0 H.size q → A q := vfree hDc hS hA
  refine vx_callr (vx_runSN (As := As) (rest := st) ⟨hx, hb, hml, hown, hts⟩ (hM H.size) ⟨va_cnB As.length hts (lw_meth hq5) rfl hrm.1 hrm.2.1 (hE.2.1 _ hq1 rfl) (hts _ hq3) hds.2 hrm.2.2, hts _ hq2, trivial⟩ ⟨fun a U g mk q => by obtain ⟨q0, q1, qP, qK, qD, qZ⟩ := q; exact ⟨q0, q1, qP, qK.blind, qD, vZA.moved (u := U) (U := U.calling g mk a) (Vm.Alike.refl U.vm) qZ⟩, fun U hU hW => ⟨rfl, by rw [hU], by rw [hU]; exact hPc, hE.warm hW, hDc.weaken (fun _ _ _ _ => trivial), by rw [hU]; exact vZA.moved hW.alike ((hZ.kept hS.2.1).narrow hFc)⟩⟩ rfl rfl hl.1 rfl (lv_room hst) hd hcs) hS (fun q _ h => hFc q h) hFc (fun q _ h => hFc q h) (fun E ce q9 u t H1 locs ht hvm _ hB hz1 hk1 hS hce hcv hcl => ?_) (fun u a9 t H1 locs ht hvm hw1 hB hz1 hk1 hS => ?_)
  · obtain ⟨u, o⟩ := u
    cases o with
    | none =>
      obtain ⟨hX9, hP1, hD1⟩ := hB
      rw [ht] at hP1
      obtain ⟨hP, hD⟩ := vjoin hP hD hk1 hFc hP1 hD1
      exact kx E q9 u hX9 H1 locs ls ce hP hD hS hl hce hcv hcl
    | some cr =>
      obtain ⟨ci1, r1⟩ := cr
      obtain ⟨hX9, hy9, hP1, hD1⟩ := hB
      rw [ht] at hP1
      obtain ⟨hP, hD⟩ := vjoin hP hD hk1 hFc hP1 hD1
      exact ky E q9 ci1 r1 u hX9 hy9 H1 locs ls ce hP hD hS hl hce hcv hcl
  · obtain ⟨rfl, hP1, hD1⟩ := hB
    rw [ht] at hP1
    obtain ⟨hP, hD⟩ := vjoin hP hD hk1 hFc hP1 hD1
    exact kk u hw1 H1 locs ls hP hD hS hl
theorem v_callXVd {x : vC} {l : Launch} {D : va_G} {own : String} {cc : ByteArray} {rm : Room} {nL : Nat} {rt : Option FieldType} {k n : Nat} {ws : va_W} {lv : List (Nat × Value)} {st : List Value} {S : Type} {idx maxL mc ms : Nat} {y : MethodName} {bytes : ByteArray} {rm2 : Room} {As : List Value} {b : Nat} {w0 wr : va_W} {w1 : S → va_W} {Q2 : UInt64 → S → Prop} {X2 : String → S → Prop} {Y2 : String → Int32 → S → Prop} (pc : Nat) (hF : vF x l D own cc rm nL rt) (hM : Cxd l D y bytes maxL rm2 (.ref b :: As) w0 w1 Q2 X2 Y2 mc ms) (hp : ws.Perm (w0 ++ wr)) (hrv : ∃ (q0 ci : Nat) (fs : List Value) (T : u_T) (N : Nat), w0[q0]? = some (b, .inr (ci, fs)) ∧ cl0[ci]? = some (y.cls, T, N)) (hq1 : Cond.methodLink own idx y ∈ lw_all) (hq2 : Cond.instanceMethod y ∈ lw_all) (hq3 : Cond.selects y.cls y y ∈ lw_all) (hq4 : Cond.initialized y.cls ∈ lw_all) (hq5 : Cond.code y bytes maxL (some .double) ∈ lw_all) (hds : y.cls = y.cls ∧ y.cls ≠ "java/lang/invoke/MethodHandle" ∧ y.cls ≠ "java/lang/invoke/VarHandle" ∧ (parseMethodDescriptor y.desc).map (fun d => d.parameters.length) = some As.length)
    (hrm : rm2.cells = mc ∧ rm2.slots = ms ∧ rm2.frames + 1 ≤ rm.frames ∧ 8 + (maxL + 11) + rm2.locals ≤ rm.locals) (hst : (st.map fun v => v.category).sum ≤ 8) (hcs : k + mc ≤ rm.cells ∧ n + ms ≤ rm.slots) (hd : decode cc pc = .ok (.invokevirtual idx, 3))
    (kx : ∀ (E : String) (q : Nat) (u : S), X2 E u → vT x (k + mc) (n + ms) (w1 u ++ wr) lv pc st E q)
    (ky : ∀ (E : String) (q ci : Nat) (r : Int32) (u : S), Y2 E r u → vPay E ci → vT x (k + mc) (n + ms) ((q, .inr (ci, rfF r)) :: (w1 u ++ wr)) lv pc st E q)
    (kk : ∀ (r : UInt64) (u : S), Q2 r u → vV x (k + mc) (n + ms) (w1 u ++ wr) lv (pc + 3) (.double r :: st)) : vV x k n ws lv pc (As.reverse ++ .ref b :: st) := by
  obtain ⟨q9, ci9, fs9, T9, N9, he9, hc9⟩ := hrv
  obtain ⟨p, l, e, R, s, m, args, below, meth, c, Q, D, A, nL⟩ := x
  obtain ⟨rfl, rfl, rfl, rfl, hx, hb, hml, hown, hts, hA, hlocks, hret, hE, hZ⟩ := hF
  intro H locs ls hP hD hS hl
  have hP := vP_perm hp hP
  have hD := vD_perm hp hD
  have hPc : va_P D cl0 w0 H := vP_left hP
  have hDc : va_D A w0 := vD_left hD
  have hFc : ∀ q, va_A w0 H.size q → A q := vfree hDc hS hA
  refine vx_calld (vx_runV (As := As) (rest := st) (b := b) ⟨hx, hb, hml, hown, hts⟩ (hM H.size) (cwV As.length hts (lw_V hq1 hq2 hq3 hq4 hq5) rfl hrm.1 hrm.2.1 hds hrm.2.2) ⟨fun a U g mk q => by obtain ⟨q0, q1, qP, qK, qD, qZ⟩ := q; exact ⟨q0, q1, qP, qK.blind, qD, vZA.moved (u := U) (U := U.calling g mk a) (Vm.Alike.refl U.vm) qZ⟩, va_recv hE.1 hPc (ci := ci9) (q0 := q9) hc9 he9, fun U hU hW => ⟨rfl, by rw [hU], by rw [hU]; exact hPc, hE.warm hW, hDc.weaken (fun _ _ _ _ => trivial), by rw [hU]; exact vZA.moved hW.alike ((hZ.kept hS.2.1).narrow hFc)⟩⟩ rfl rfl hl.1 rfl (lv_room hst) hd hcs) hS (fun q _ h => hFc q h) hFc (fun q _ h => hFc q h) (fun E ce q9 u t H1 locs ht hvm _ hB hz1 hk1 hS hce hcv hcl => ?_) (fun r u t H1 locs ht hvm hw1 hB hz1 hk1 hS => ?_)
  · obtain ⟨u, o⟩ := u
    cases o with
    | none =>
      obtain ⟨hX9, hP1, hD1⟩ := hB
      rw [ht] at hP1
      obtain ⟨hP, hD⟩ := vjoin hP hD hk1 hFc hP1 hD1
      exact kx E q9 u hX9 H1 locs ls ce hP hD hS hl hce hcv hcl
    | some cr =>
      obtain ⟨ci1, r1⟩ := cr
      obtain ⟨hX9, hy9, hP1, hD1⟩ := hB
      rw [ht] at hP1
      obtain ⟨hP, hD⟩ := vjoin hP hD hk1 hFc hP1 hD1
      exact ky E q9 ci1 r1 u hX9 hy9 H1 locs ls ce hP hD hS hl hce hcv hcl
  · obtain ⟨hP1, hD1⟩ := hB
    rw [ht] at hP1
    obtain ⟨hP, hD⟩ := vjoin hP hD hk1 hFc hP1 hD1
    exact kk r u hw1 H1 locs ls hP hD hS hl
theorem v_callXSd {x : vC} {l : Launch} {D : va_G} {own : String} {cc : ByteArray} {rm : Room} {nL : Nat} {rt : Option FieldType} {k n : Nat} {ws : va_W} {lv : List (Nat × Value)} {st : List Value} {S : Type} {idx maxL mc ms : Nat} {y : MethodName} {bytes : ByteArray} {rm2 : Room} {As : List Value} {w0 wr : va_W} {w1 : S → va_W} {Q2 : UInt64 → S → Prop} {X2 : String → S → Prop} {Y2 : String → Int32 → S → Prop} (pc : Nat) (hF : vF x l D own cc rm nL rt) (hM : Cxd l D y bytes maxL rm2 As w0 w1 Q2 X2 Y2 mc ms) (hp : ws.Perm (w0 ++ wr)) (hq1 : Cond.methodLink own idx y ∈ lw_all) (hq2 : Cond.static y ∈ lw_all) (hq3 : Cond.initialized y.cls ∈ lw_all) (hq5 : Cond.code y bytes maxL (some .double) ∈ lw_all) (hds : y.cls = y.cls ∧ y.cls ≠ "java/lang/invoke/MethodHandle" ∧ y.cls ≠ "java/lang/invoke/VarHandle" ∧ (parseMethodDescriptor y.desc).map (fun d => d.parameters.length) = some As.length)
    (hrm : rm2.cells = mc ∧ rm2.slots = ms ∧ rm2.frames + 1 ≤ rm.frames ∧ 8 + (maxL + 11) + rm2.locals ≤ rm.locals) (hst : (st.map fun v => v.category).sum ≤ 8) (hcs : k + mc ≤ rm.cells ∧ n + ms ≤ rm.slots) (hd : decode cc pc = .ok (.invokestatic idx, 3))
    (kx : ∀ (E : String) (q : Nat) (u : S), X2 E u → vT x (k + mc) (n + ms) (w1 u ++ wr) lv pc st E q)
    (ky : ∀ (E : String) (q ci : Nat) (r : Int32) (u : S), Y2 E r u → vPay E ci → vT x (k + mc) (n + ms) ((q, .inr (ci, rfF r)) :: (w1 u ++ wr)) lv pc st E q)
    (kk : ∀ (r : UInt64) (u : S), Q2 r u → vV x (k + mc) (n + ms) (w1 u ++ wr) lv (pc + 3) (.double r :: st)) : vV x k n ws lv pc (As.reverse ++ st) := by
  obtain ⟨p, l, e, R, s, m, args, below, meth, c, Q, D, A, nL⟩ := x
  obtain ⟨rfl, rfl, rfl, rfl, hx, hb, hml, hown, hts, hA, hlocks, hret, hE, hZ⟩ := hF
  intro H locs ls hP hD hS hl
  have hP := vP_perm hp hP
  have hD := vD_perm hp hD
  have hPc : va_P D cl0 w0 H := vP_left hP
  have hDc : va_D A w0 := vD_left hD
  have hFc : ∀ q, va_A w0 H.size q → A q := vfree hDc hS hA
  refine vx_calld (vx_runS (As := As) (rest := st) ⟨hx, hb, hml, hown, hts⟩ (hM H.size) (va_cwS As.length hts (lw_S hq1 hq2 hq3 hq5) rfl hrm.1 hrm.2.1 hds.2 hrm.2.2) ⟨fun a U g mk q => by obtain ⟨q0, q1, qP, qK, qD, qZ⟩ := q; exact ⟨q0, q1, qP, qK.blind, qD, vZA.moved (u := U) (U := U.calling g mk a) (Vm.Alike.refl U.vm) qZ⟩, fun U hU hW => ⟨rfl, by rw [hU], by rw [hU]; exact hPc, hE.warm hW, hDc.weaken (fun _ _ _ _ => trivial), by rw [hU]; exact vZA.moved hW.alike ((hZ.kept hS.2.1).narrow hFc)⟩⟩ rfl rfl hl.1 rfl (lv_room hst) hd hcs) hS (fun q _ h => hFc q h) hFc (fun q _ h => hFc q h) (fun E ce q9 u t H1 locs ht hvm _ hB hz1 hk1 hS hce hcv hcl => ?_) (fun r u t H1 locs ht hvm hw1 hB hz1 hk1 hS => ?_)
  · obtain ⟨u, o⟩ := u
    cases o with
    | none =>
      obtain ⟨hX9, hP1, hD1⟩ := hB
      rw [ht] at hP1
      obtain ⟨hP, hD⟩ := vjoin hP hD hk1 hFc hP1 hD1
      exact kx E q9 u hX9 H1 locs ls ce hP hD hS hl hce hcv hcl
    | some cr =>
      obtain ⟨ci1, r1⟩ := cr
      obtain ⟨hX9, hy9, hP1, hD1⟩ := hB
      rw [ht] at hP1
      obtain ⟨hP, hD⟩ := vjoin hP hD hk1 hFc hP1 hD1
      exact ky E q9 ci1 r1 u hX9 hy9 H1 locs ls ce hP hD hS hl hce hcv hcl
  · obtain ⟨hP1, hD1⟩ := hB
    rw [ht] at hP1
    obtain ⟨hP, hD⟩ := vjoin hP hD hk1 hFc hP1 hD1
    exact kk r u hw1 H1 locs ls hP hD hS hl
theorem v_callXSNd {x : vC} {l : Launch} {D : va_G} {own : String} {cc : ByteArray} {rm : Room} {nL : Nat} {rt : Option FieldType} {k n : Nat} {ws : va_W} {lv : List (Nat × Value)} {st : List Value} {S : Type} {idx maxL mc ms : Nat} {y : MethodName} {bytes : ByteArray} {rm2 : Room} {As : List Value} {w0 wr : va_W} {w1 : S → va_W} {Q2 : UInt64 → S → Prop} {X2 : String → S → Prop} {Y2 : String → Int32 → S → Prop} (pc : Nat) (hF : vF x l D own cc rm nL rt) (hM : Cxd l D y bytes maxL rm2 As w0 w1 Q2 X2 Y2 mc ms) (hp : ws.Perm (w0 ++ wr)) {host : String} (hq1 : Cond.methodLinkNest own idx y host ∈ lw_tbl) (hq2 : Cond.static y ∈ lw_all) (hq3 : Cond.initialized y.cls ∈ lw_all) (hq5 : Cond.code y bytes maxL (some .double) ∈ lw_all) (hds : y.cls = y.cls ∧ y.cls ≠ "java/lang/invoke/MethodHandle" ∧ y.cls ≠ "java/lang/invoke/VarHandle" ∧ (parseMethodDescriptor y.desc).map (fun d => d.parameters.length) = some As.length)
    (hrm : rm2.cells = mc ∧ rm2.slots = ms ∧ rm2.frames + 1 ≤ rm.frames ∧ 8 + (maxL + 11) + rm2.locals ≤ rm.locals) (hst : (st.map fun v => v.category).sum ≤ 8) (hcs : k + mc ≤ rm.cells ∧ n + ms ≤ rm.slots) (hd : decode cc pc = .ok (.invokestatic idx, 3))
    (kx : ∀ (E : String) (q : Nat) (u : S), X2 E u → vT x (k + mc) (n + ms) (w1 u ++ wr) lv pc st E q)
    (ky : ∀ (E : String) (q ci : Nat) (r : Int32) (u : S), Y2 E r u → vPay E ci → vT x (k + mc) (n + ms) ((q, .inr (ci, rfF r)) :: (w1 u ++ wr)) lv pc st E q)
    (kk : ∀ (r : UInt64) (u : S), Q2 r u → vV x (k + mc) (n + ms) (w1 u ++ wr) lv (pc + 3) (.double r :: st)) : vV x k n ws lv pc (As.reverse ++ st) := by
  obtain ⟨p, l, e, R, s, m, args, below, meth, c, Q, D, A, nL⟩ := x
  obtain ⟨rfl, rfl, rfl, rfl, hx, hb, hml, hown, hts, hA, hlocks, hret, hE, hZ⟩ := hF
  intro H locs ls hP hD hS hl
  have hP := vP_perm hp hP
  have hD := vD_perm hp hD
  have hPc : va_P D cl0 w0 H := vP_left hP
  have hDc : va_D A w0 := vD_left hD
  have hFc : ∀ q, va_A w0 H.size q → A q := vfree hDc hS hA
  refine vx_calld (vx_runSN (As := As) (rest := st) ⟨hx, hb, hml, hown, hts⟩ (hM H.size) ⟨va_cnB As.length hts (lw_meth hq5) rfl hrm.1 hrm.2.1 (hE.2.1 _ hq1 rfl) (hts _ hq3) hds.2 hrm.2.2, hts _ hq2, trivial⟩ ⟨fun a U g mk q => by obtain ⟨q0, q1, qP, qK, qD, qZ⟩ := q; exact ⟨q0, q1, qP, qK.blind, qD, vZA.moved (u := U) (U := U.calling g mk a) (Vm.Alike.refl U.vm) qZ⟩, fun U hU hW => ⟨rfl, by rw [hU], by rw [hU]; exact hPc, hE.warm hW, hDc.weaken (fun _ _ _ _ => trivial), by rw [hU]; exact vZA.moved hW.alike ((hZ.kept hS.2.1).narrow hFc)⟩⟩ rfl rfl hl.1 rfl (lv_room hst) hd hcs) hS (fun q _ h => hFc q h) hFc (fun q _ h => hFc q h) (fun E ce q9 u t H1 locs ht hvm _ hB hz1 hk1 hS hce hcv hcl => ?_) (fun r u t H1 locs ht hvm hw1 hB hz1 hk1 hS => ?_)
  · obtain ⟨u, o⟩ := u
    cases o with
    | none =>
      obtain ⟨hX9, hP1, hD1⟩ := hB
      rw [ht] at hP1
      obtain ⟨hP, hD⟩ := vjoin hP hD hk1 hFc hP1 hD1
      exact kx E q9 u hX9 H1 locs ls ce hP hD hS hl hce hcv hcl
    | some cr =>
      obtain ⟨ci1, r1⟩ := cr
      obtain ⟨hX9, hy9, hP1, hD1⟩ := hB
      rw [ht] at hP1
      obtain ⟨hP, hD⟩ := vjoin hP hD hk1 hFc hP1 hD1
      exact ky E q9 ci1 r1 u hX9 hy9 H1 locs ls ce hP hD hS hl hce hcv hcl
  · obtain ⟨hP1, hD1⟩ := hB
    rw [ht] at hP1
    obtain ⟨hP, hD⟩ := vjoin hP hD hk1 hFc hP1 hD1
    exact kk r u hw1 H1 locs ls hP hD hS hl
theorem v_callXVf {x : vC} {l : Launch} {D : va_G} {own : String} {cc : ByteArray} {rm : Room} {nL : Nat} {rt : Option FieldType} {k n : Nat} {ws : va_W} {lv : List (Nat × Value)} {st : List Value} {S : Type} {idx maxL mc ms : Nat} {y : MethodName} {bytes : ByteArray} {rm2 : Room} {As : List Value} {b : Nat} {w0 wr : va_W} {w1 : S → va_W} {Q2 : UInt32 → S → Prop} {X2 : String → S → Prop} {Y2 : String → Int32 → S → Prop} (pc : Nat) (hF : vF x l D own cc rm nL rt) (hM : Cxf l D y bytes maxL rm2 (.ref b :: As) w0 w1 Q2 X2 Y2 mc ms) (hp : ws.Perm (w0 ++ wr)) (hrv : ∃ (q0 ci : Nat) (fs : List Value) (T : u_T) (N : Nat), w0[q0]? = some (b, .inr (ci, fs)) ∧ cl0[ci]? = some (y.cls, T, N)) (hq1 : Cond.methodLink own idx y ∈ lw_all) (hq2 : Cond.instanceMethod y ∈ lw_all) (hq3 : Cond.selects y.cls y y ∈ lw_all) (hq4 : Cond.initialized y.cls ∈ lw_all) (hq5 : Cond.code y bytes maxL (some .float) ∈ lw_all) (hds : y.cls = y.cls ∧ y.cls ≠ "java/lang/invoke/MethodHandle" ∧ y.cls ≠ "java/lang/invoke/VarHandle" ∧ (parseMethodDescriptor y.desc).map (fun d => d.parameters.length) = some As.length)
    (hrm : rm2.cells = mc ∧ rm2.slots = ms ∧ rm2.frames + 1 ≤ rm.frames ∧ 8 + (maxL + 11) + rm2.locals ≤ rm.locals) (hst : (st.map fun v => v.category).sum ≤ 8) (hcs : k + mc ≤ rm.cells ∧ n + ms ≤ rm.slots) (hd : decode cc pc = .ok (.invokevirtual idx, 3))
    (kx : ∀ (E : String) (q : Nat) (u : S), X2 E u → vT x (k + mc) (n + ms) (w1 u ++ wr) lv pc st E q)
    (ky : ∀ (E : String) (q ci : Nat) (r : Int32) (u : S), Y2 E r u → vPay E ci → vT x (k + mc) (n + ms) ((q, .inr (ci, rfF r)) :: (w1 u ++ wr)) lv pc st E q)
    (kk : ∀ (r : UInt32) (u : S), Q2 r u → vV x (k + mc) (n + ms) (w1 u ++ wr) lv (pc + 3) (.float r :: st)) : vV x k n ws lv pc (As.reverse ++ .ref b :: st) := by
  obtain ⟨q9, ci9, fs9, T9, N9, he9, hc9⟩ := hrv
  obtain ⟨p, l, e, R, s, m, args, below, meth, c, Q, D, A, nL⟩ := x
  obtain ⟨rfl, rfl, rfl, rfl, hx, hb, hml, hown, hts, hA, hlocks, hret, hE, hZ⟩ := hF
  intro H locs ls hP hD hS hl
  have hP := vP_perm hp hP
  have hD := vD_perm hp hD
  have hPc : va_P D cl0 w0 H := vP_left hP
  have hDc : va_D A w0 := vD_left hD
  have hFc : ∀ q, va_A w0 H.size q → A q := vfree hDc hS hA
  refine vx_callf (vx_runV (As := As) (rest := st) (b := b) ⟨hx, hb, hml, hown, hts⟩ (hM H.size) (cwV As.length hts (lw_V hq1 hq2 hq3 hq4 hq5) rfl hrm.1 hrm.2.1 hds hrm.2.2) ⟨fun a U g mk q => by obtain ⟨q0, q1, qP, qK, qD, qZ⟩ := q; exact ⟨q0, q1, qP, qK.blind, qD, vZA.moved (u := U) (U := U.calling g mk a) (Vm.Alike.refl U.vm) qZ⟩, va_recv hE.1 hPc (ci := ci9) (q0 := q9) hc9 he9, fun U hU hW => ⟨rfl, by rw [hU], by rw [hU]; exact hPc, hE.warm hW, hDc.weaken (fun _ _ _ _ => trivial), by rw [hU]; exact vZA.moved hW.alike ((hZ.kept hS.2.1).narrow hFc)⟩⟩ rfl rfl hl.1 rfl (lv_room hst) hd hcs) hS (fun q _ h => hFc q h) hFc (fun q _ h => hFc q h) (fun E ce q9 u t H1 locs ht hvm _ hB hz1 hk1 hS hce hcv hcl => ?_) (fun r u t H1 locs ht hvm hw1 hB hz1 hk1 hS => ?_)
  · obtain ⟨u, o⟩ := u
    cases o with
    | none =>
      obtain ⟨hX9, hP1, hD1⟩ := hB
      rw [ht] at hP1
      obtain ⟨hP, hD⟩ := vjoin hP hD hk1 hFc hP1 hD1
      exact kx E q9 u hX9 H1 locs ls ce hP hD hS hl hce hcv hcl
    | some cr =>
      obtain ⟨ci1, r1⟩ := cr
      obtain ⟨hX9, hy9, hP1, hD1⟩ := hB
      rw [ht] at hP1
      obtain ⟨hP, hD⟩ := vjoin hP hD hk1 hFc hP1 hD1
      exact ky E q9 ci1 r1 u hX9 hy9 H1 locs ls ce hP hD hS hl hce hcv hcl
  · obtain ⟨hP1, hD1⟩ := hB
    rw [ht] at hP1
    obtain ⟨hP, hD⟩ := vjoin hP hD hk1 hFc hP1 hD1
    exact kk r u hw1 H1 locs ls hP hD hS hl
theorem v_callXSf {x : vC} {l : Launch} {D : va_G} {own : String} {cc : ByteArray} {rm : Room} {nL : Nat} {rt : Option FieldType} {k n : Nat} {ws : va_W} {lv : List (Nat × Value)} {st : List Value} {S : Type} {idx maxL mc ms : Nat} {y : MethodName} {bytes : ByteArray} {rm2 : Room} {As : List Value} {w0 wr : va_W} {w1 : S → va_W} {Q2 : UInt32 → S → Prop} {X2 : String → S → Prop} {Y2 : String → Int32 → S → Prop} (pc : Nat) (hF : vF x l D own cc rm nL rt) (hM : Cxf l D y bytes maxL rm2 As w0 w1 Q2 X2 Y2 mc ms) (hp : ws.Perm (w0 ++ wr)) (hq1 : Cond.methodLink own idx y ∈ lw_all) (hq2 : Cond.static y ∈ lw_all) (hq3 : Cond.initialized y.cls ∈ lw_all) (hq5 : Cond.code y bytes maxL (some .float) ∈ lw_all) (hds : y.cls = y.cls ∧ y.cls ≠ "java/lang/invoke/MethodHandle" ∧ y.cls ≠ "java/lang/invoke/VarHandle" ∧ (parseMethodDescriptor y.desc).map (fun d => d.parameters.length) = some As.length)
    (hrm : rm2.cells = mc ∧ rm2.slots = ms ∧ rm2.frames + 1 ≤ rm.frames ∧ 8 + (maxL + 11) + rm2.locals ≤ rm.locals) (hst : (st.map fun v => v.category).sum ≤ 8) (hcs : k + mc ≤ rm.cells ∧ n + ms ≤ rm.slots) (hd : decode cc pc = .ok (.invokestatic idx, 3))
    (kx : ∀ (E : String) (q : Nat) (u : S), X2 E u → vT x (k + mc) (n + ms) (w1 u ++ wr) lv pc st E q)
    (ky : ∀ (E : String) (q ci : Nat) (r : Int32) (u : S), Y2 E r u → vPay E ci → vT x (k + mc) (n + ms) ((q, .inr (ci, rfF r)) :: (w1 u ++ wr)) lv pc st E q)
    (kk : ∀ (r : UInt32) (u : S), Q2 r u → vV x (k + mc) (n + ms) (w1 u ++ wr) lv (pc + 3) (.float r :: st)) : vV x k n ws lv pc (As.reverse ++ st) := by
  obtain ⟨p, l, e, R, s, m, args, below, meth, c, Q, D, A, nL⟩ := x
  obtain ⟨rfl, rfl, rfl, rfl, hx, hb, hml, hown, hts, hA, hlocks, hret, hE, hZ⟩ := hF
  intro H locs ls hP hD hS hl
  have hP := vP_perm hp hP
  have hD := vD_perm hp hD
  have hPc : va_P D cl0 w0 H := vP_left hP
  have hDc : va_D A w0 := vD_left hD
  have hFc : ∀ q, va_A w0 H.size q → A q := vfree hDc hS hA
  refine vx_callf (vx_runS (As := As) (rest := st) ⟨hx, hb, hml, hown, hts⟩ (hM H.size) (va_cwS As.length hts (lw_S hq1 hq2 hq3 hq5) rfl hrm.1 hrm.2.1 hds.2 hrm.2.2) ⟨fun a U g mk q => by obtain ⟨q0, q1, qP, qK, qD, qZ⟩ := q; exact ⟨q0, q1, qP, qK.blind, qD, vZA.moved (u := U) (U := U.calling g mk a) (Vm.Alike.refl U.vm) qZ⟩, fun U hU hW => ⟨rfl, by rw [hU], by rw [hU]; exact hPc, hE.warm hW, hDc.weaken (fun _ _ _ _ => trivial), by rw [hU]; exact vZA.moved hW.alike ((hZ.kept hS.2.1).narrow hFc)⟩⟩ rfl rfl hl.1 rfl (lv_room hst) hd hcs) hS (fun q _ h => hFc q h) hFc (fun q _ h => hFc q h) (fun E ce q9 u t H1 locs ht hvm _ hB hz1 hk1 hS hce hcv hcl => ?_) (fun r u t H1 locs ht hvm hw1 hB hz1 hk1 hS => ?_)
  · obtain ⟨u, o⟩ := u
    cases o with
    | none =>
      obtain ⟨hX9, hP1, hD1⟩ := hB
      rw [ht] at hP1
      obtain ⟨hP, hD⟩ := vjoin hP hD hk1 hFc hP1 hD1
      exact kx E q9 u hX9 H1 locs ls ce hP hD hS hl hce hcv hcl
    | some cr =>
      obtain ⟨ci1, r1⟩ := cr
      obtain ⟨hX9, hy9, hP1, hD1⟩ := hB
      rw [ht] at hP1
      obtain ⟨hP, hD⟩ := vjoin hP hD hk1 hFc hP1 hD1
      exact ky E q9 ci1 r1 u hX9 hy9 H1 locs ls ce hP hD hS hl hce hcv hcl
  · obtain ⟨hP1, hD1⟩ := hB
    rw [ht] at hP1
    obtain ⟨hP, hD⟩ := vjoin hP hD hk1 hFc hP1 hD1
    exact kk r u hw1 H1 locs ls hP hD hS hl
theorem v_callXSNf {x : vC} {l : Launch} {D : va_G} {own : String} {cc : ByteArray} {rm : Room} {nL : Nat} {rt : Option FieldType} {k n : Nat} {ws : va_W} {lv : List (Nat × Value)} {st : List Value} {S : Type} {idx maxL mc ms : Nat} {y : MethodName} {bytes : ByteArray} {rm2 : Room} {As : List Value} {w0 wr : va_W} {w1 : S → va_W} {Q2 : UInt32 → S → Prop} {X2 : String → S → Prop} {Y2 : String → Int32 → S → Prop} (pc : Nat) (hF : vF x l D own cc rm nL rt) (hM : Cxf l D y bytes maxL rm2 As w0 w1 Q2 X2 Y2 mc ms) (hp : ws.Perm (w0 ++ wr)) {host : String} (hq1 : Cond.methodLinkNest own idx y host ∈ lw_tbl) (hq2 : Cond.static y ∈ lw_all) (hq3 : Cond.initialized y.cls ∈ lw_all) (hq5 : Cond.code y bytes maxL (some .float) ∈ lw_all) (hds : y.cls = y.cls ∧ y.cls ≠ "java/lang/invoke/MethodHandle" ∧ y.cls ≠ "java/lang/invoke/VarHandle" ∧ (parseMethodDescriptor y.desc).map (fun d => d.parameters.length) = some As.length)
    (hrm : rm2.cells = mc ∧ rm2.slots = ms ∧ rm2.frames + 1 ≤ rm.frames ∧ 8 + (maxL + 11) + rm2.locals ≤ rm.locals) (hst : (st.map fun v => v.category).sum ≤ 8) (hcs : k + mc ≤ rm.cells ∧ n + ms ≤ rm.slots) (hd : decode cc pc = .ok (.invokestatic idx, 3))
    (kx : ∀ (E : String) (q : Nat) (u : S), X2 E u → vT x (k + mc) (n + ms) (w1 u ++ wr) lv pc st E q)
    (ky : ∀ (E : String) (q ci : Nat) (r : Int32) (u : S), Y2 E r u → vPay E ci → vT x (k + mc) (n + ms) ((q, .inr (ci, rfF r)) :: (w1 u ++ wr)) lv pc st E q)
    (kk : ∀ (r : UInt32) (u : S), Q2 r u → vV x (k + mc) (n + ms) (w1 u ++ wr) lv (pc + 3) (.float r :: st)) : vV x k n ws lv pc (As.reverse ++ st) := by
  obtain ⟨p, l, e, R, s, m, args, below, meth, c, Q, D, A, nL⟩ := x
  obtain ⟨rfl, rfl, rfl, rfl, hx, hb, hml, hown, hts, hA, hlocks, hret, hE, hZ⟩ := hF
  intro H locs ls hP hD hS hl
  have hP := vP_perm hp hP
  have hD := vD_perm hp hD
  have hPc : va_P D cl0 w0 H := vP_left hP
  have hDc : va_D A w0 := vD_left hD
  have hFc : ∀ q, va_A w0 H.size q → A q := vfree hDc hS hA
  refine vx_callf (vx_runSN (As := As) (rest := st) ⟨hx, hb, hml, hown, hts⟩ (hM H.size) ⟨va_cnB As.length hts (lw_meth hq5) rfl hrm.1 hrm.2.1 (hE.2.1 _ hq1 rfl) (hts _ hq3) hds.2 hrm.2.2, hts _ hq2, trivial⟩ ⟨fun a U g mk q => by obtain ⟨q0, q1, qP, qK, qD, qZ⟩ := q; exact ⟨q0, q1, qP, qK.blind, qD, vZA.moved (u := U) (U := U.calling g mk a) (Vm.Alike.refl U.vm) qZ⟩, fun U hU hW => ⟨rfl, by rw [hU], by rw [hU]; exact hPc, hE.warm hW, hDc.weaken (fun _ _ _ _ => trivial), by rw [hU]; exact vZA.moved hW.alike ((hZ.kept hS.2.1).narrow hFc)⟩⟩ rfl rfl hl.1 rfl (lv_room hst) hd hcs) hS (fun q _ h => hFc q h) hFc (fun q _ h => hFc q h) (fun E ce q9 u t H1 locs ht hvm _ hB hz1 hk1 hS hce hcv hcl => ?_) (fun r u t H1 locs ht hvm hw1 hB hz1 hk1 hS => ?_)
  · obtain ⟨u, o⟩ := u
    cases o with
    | none =>
      obtain ⟨hX9, hP1, hD1⟩ := hB
      rw [ht] at hP1
      obtain ⟨hP, hD⟩ := vjoin hP hD hk1 hFc hP1 hD1
      exact kx E q9 u hX9 H1 locs ls ce hP hD hS hl hce hcv hcl
    | some cr =>
      obtain ⟨ci1, r1⟩ := cr
      obtain ⟨hX9, hy9, hP1, hD1⟩ := hB
      rw [ht] at hP1
      obtain ⟨hP, hD⟩ := vjoin hP hD hk1 hFc hP1 hD1
      exact ky E q9 ci1 r1 u hX9 hy9 H1 locs ls ce hP hD hS hl hce hcv hcl
  · obtain ⟨hP1, hD1⟩ := hB
    rw [ht] at hP1
    obtain ⟨hP, hD⟩ := vjoin hP hD hk1 hFc hP1 hD1
    exact kk r u hw1 H1 locs ls hP hD hS hl
theorem v_callXS0i {x : vC} {l : Launch} {D : va_G} {own : String} {cc : ByteArray} {rm : Room} {nL : Nat} {rt : Option FieldType} {k n : Nat} {ws : va_W} {lv : List (Nat × Value)} {st : List Value} {idx maxL mc ms : Nat} {y : MethodName} {bytes : ByteArray} {rt2 : FieldType} {rm2 : Room} {As : List Value} {Q2 : Int32 → Prop} {X2 : String → Prop} {Y2 : String → Int32 → Prop} (pc : Nat) (hF : vF x l D own cc rm nL rt) (hM : Cxi l D y bytes maxL rt2 rm2 As [] (fun _ : Unit => []) (fun r _ => Q2 r) (fun E _ => X2 E) (fun E r _ => Y2 E r) mc ms) (hq1 : Cond.methodLink own idx y ∈ lw_all) (hq2 : Cond.static y ∈ lw_all) (hq3 : Cond.initialized y.cls ∈ lw_all) (hq5 : Cond.code y bytes maxL (some rt2) ∈ lw_all) (hds : y.cls = y.cls ∧ y.cls ≠ "java/lang/invoke/MethodHandle" ∧ y.cls ≠ "java/lang/invoke/VarHandle" ∧ (parseMethodDescriptor y.desc).map (fun d => d.parameters.length) = some As.length)
    (hrm : rm2.cells = mc ∧ rm2.slots = ms ∧ rm2.frames + 1 ≤ rm.frames ∧ 8 + (maxL + 11) + rm2.locals ≤ rm.locals) (hst : (st.map fun v => v.category).sum ≤ 8) (hcs : k + mc ≤ rm.cells ∧ n + ms ≤ rm.slots) (hd : decode cc pc = .ok (.invokestatic idx, 3))
    (kx : ∀ (E : String) (q : Nat), X2 E → vT x (k + mc) (n + ms) ws lv pc st E q)
    (ky : ∀ (E : String) (q ci : Nat) (r : Int32), Y2 E r → vPay E ci → vT x (k + mc) (n + ms) ((q, .inr (ci, rfF r)) :: ws) lv pc st E q)
    (kk : ∀ r : Int32, Q2 r → vV x (k + mc) (n + ms) ws lv (pc + 3) (.int r :: st)) : vV x k n ws lv pc (As.reverse ++ st) :=
  v_callXSi (wr := ws) pc hF hM (List.Perm.refl _) hq1 hq2 hq3 hq5 hds hrm hst hcs hd (fun E q u h => kx E q h) (fun E q ci r u h hy => ky E q ci r h hy) (fun r u h => kk r h)
theorem v_callXS0v {x : vC} {l : Launch} {D : va_G} {own : String} {cc : ByteArray} {rm : Room} {nL : Nat} {rt : Option FieldType} {k n : Nat} {ws : va_W} {lv : List (Nat × Value)} {st : List Value} {idx maxL mc ms : Nat} {y : MethodName} {bytes : ByteArray} {rm2 : Room} {As : List Value} {Q2 : Prop} {X2 : String → Prop} {Y2 : String → Int32 → Prop} (pc : Nat) (hF : vF x l D own cc rm nL rt) (hM : Cxv l D y bytes maxL rm2 As [] (fun _ : Unit => []) (fun _ => Q2) (fun E _ => X2 E) (fun E r _ => Y2 E r) mc ms) (hq1 : Cond.methodLink own idx y ∈ lw_all) (hq2 : Cond.static y ∈ lw_all) (hq3 : Cond.initialized y.cls ∈ lw_all) (hq5 : Cond.code y bytes maxL none ∈ lw_all) (hds : y.cls = y.cls ∧ y.cls ≠ "java/lang/invoke/MethodHandle" ∧ y.cls ≠ "java/lang/invoke/VarHandle" ∧ (parseMethodDescriptor y.desc).map (fun d => d.parameters.length) = some As.length)
    (hrm : rm2.cells = mc ∧ rm2.slots = ms ∧ rm2.frames + 1 ≤ rm.frames ∧ 8 + (maxL + 11) + rm2.locals ≤ rm.locals) (hst : (st.map fun v => v.category).sum ≤ 8) (hcs : k + mc ≤ rm.cells ∧ n + ms ≤ rm.slots) (hd : decode cc pc = .ok (.invokestatic idx, 3))
    (kx : ∀ (E : String) (q : Nat), X2 E → vT x (k + mc) (n + ms) ws lv pc st E q)
    (ky : ∀ (E : String) (q ci : Nat) (r : Int32), Y2 E r → vPay E ci → vT x (k + mc) (n + ms) ((q, .inr (ci, rfF r)) :: ws) lv pc st E q)
    (kk : Q2 → vV x (k + mc) (n + ms) ws lv (pc + 3) st) : vV x k n ws lv pc (As.reverse ++ st) :=
  v_callXSv (wr := ws) pc hF hM (List.Perm.refl _) hq1 hq2 hq3 hq5 hds hrm hst hcs hd (fun E q u h => kx E q h) (fun E q ci r u h hy => ky E q ci r h hy) (fun u h => kk h)
theorem v_callXS0Ni {x : vC} {l : Launch} {D : va_G} {own : String} {cc : ByteArray} {rm : Room} {nL : Nat} {rt : Option FieldType} {k n : Nat} {ws : va_W} {lv : List (Nat × Value)} {st : List Value} {idx maxL mc ms : Nat} {y : MethodName} {bytes : ByteArray} {rt2 : FieldType} {rm2 : Room} {As : List Value} {host : String} {Q2 : Int32 → Prop} {X2 : String → Prop} {Y2 : String → Int32 → Prop} (pc : Nat) (hF : vF x l D own cc rm nL rt) (hM : Cxi l D y bytes maxL rt2 rm2 As [] (fun _ : Unit => []) (fun r _ => Q2 r) (fun E _ => X2 E) (fun E r _ => Y2 E r) mc ms) (hq1 : Cond.methodLinkNest own idx y host ∈ lw_tbl) (hq2 : Cond.static y ∈ lw_all) (hq3 : Cond.initialized y.cls ∈ lw_all) (hq5 : Cond.code y bytes maxL (some rt2) ∈ lw_all) (hds : y.cls = y.cls ∧ y.cls ≠ "java/lang/invoke/MethodHandle" ∧ y.cls ≠ "java/lang/invoke/VarHandle" ∧ (parseMethodDescriptor y.desc).map (fun d => d.parameters.length) = some As.length)
    (hrm : rm2.cells = mc ∧ rm2.slots = ms ∧ rm2.frames + 1 ≤ rm.frames ∧ 8 + (maxL + 11) + rm2.locals ≤ rm.locals) (hst : (st.map fun v => v.category).sum ≤ 8) (hcs : k + mc ≤ rm.cells ∧ n + ms ≤ rm.slots) (hd : decode cc pc = .ok (.invokestatic idx, 3))
    (kx : ∀ (E : String) (q : Nat), X2 E → vT x (k + mc) (n + ms) ws lv pc st E q)
    (ky : ∀ (E : String) (q ci : Nat) (r : Int32), Y2 E r → vPay E ci → vT x (k + mc) (n + ms) ((q, .inr (ci, rfF r)) :: ws) lv pc st E q)
    (kk : ∀ r : Int32, Q2 r → vV x (k + mc) (n + ms) ws lv (pc + 3) (.int r :: st)) : vV x k n ws lv pc (As.reverse ++ st) :=
  v_callXSNi (wr := ws) pc hF hM (List.Perm.refl _) hq1 hq2 hq3 hq5 hds hrm hst hcs hd (fun E q u h => kx E q h) (fun E q ci r u h hy => ky E q ci r h hy) (fun r u h => kk r h)
theorem v_callXS0Nv {x : vC} {l : Launch} {D : va_G} {own : String} {cc : ByteArray} {rm : Room} {nL : Nat} {rt : Option FieldType} {k n : Nat} {ws : va_W} {lv : List (Nat × Value)} {st : List Value} {idx maxL mc ms : Nat} {y : MethodName} {bytes : ByteArray} {rm2 : Room} {As : List Value} {host : String} {Q2 : Prop} {X2 : String → Prop} {Y2 : String → Int32 → Prop} (pc : Nat) (hF : vF x l D own cc rm nL rt) (hM : Cxv l D y bytes maxL rm2 As [] (fun _ : Unit => []) (fun _ => Q2) (fun E _ => X2 E) (fun E r _ => Y2 E r) mc ms) (hq1 : Cond.methodLinkNest own idx y host ∈ lw_tbl) (hq2 : Cond.static y ∈ lw_all) (hq3 : Cond.initialized y.cls ∈ lw_all) (hq5 : Cond.code y bytes maxL none ∈ lw_all) (hds : y.cls = y.cls ∧ y.cls ≠ "java/lang/invoke/MethodHandle" ∧ y.cls ≠ "java/lang/invoke/VarHandle" ∧ (parseMethodDescriptor y.desc).map (fun d => d.parameters.length) = some As.length)
    (hrm : rm2.cells = mc ∧ rm2.slots = ms ∧ rm2.frames + 1 ≤ rm.frames ∧ 8 + (maxL + 11) + rm2.locals ≤ rm.locals) (hst : (st.map fun v => v.category).sum ≤ 8) (hcs : k + mc ≤ rm.cells ∧ n + ms ≤ rm.slots) (hd : decode cc pc = .ok (.invokestatic idx, 3))
    (kx : ∀ (E : String) (q : Nat), X2 E → vT x (k + mc) (n + ms) ws lv pc st E q)
    (ky : ∀ (E : String) (q ci : Nat) (r : Int32), Y2 E r → vPay E ci → vT x (k + mc) (n + ms) ((q, .inr (ci, rfF r)) :: ws) lv pc st E q)
    (kk : Q2 → vV x (k + mc) (n + ms) ws lv (pc + 3) st) : vV x k n ws lv pc (As.reverse ++ st) :=
  v_callXSNv (wr := ws) pc hF hM (List.Perm.refl _) hq1 hq2 hq3 hq5 hds hrm hst hcs hd (fun E q u h => kx E q h) (fun E q ci r u h hy => ky E q ci r h hy) (fun u h => kk h)
theorem v_new {x : vC} {l : Launch} {D : va_G} {own : String} {cc : ByteArray} {rm : Room} {nL : Nat} {rt : Option FieldType} {k n : Nat} {ws : va_W} {lv : List (Nat × Value)} {st : List Value} {C : String} {T : u_T} {N ci idx : Nat} {ty : Nat → FieldType} (fs : List Value) (pc : Nat) (hF : vF x l D own cc rm nL rt) (hin : ∀ w ∈ u_ws C T N, w ∈ lw_all) (hty : ∀ k, k < N → parseFieldDescriptor (T k).2.2.1 = some (ty k)) (hq1 : Cond.classLink own idx C ∈ lw_all) (hq2 : Cond.instantiable C N ∈ lw_all) (hq3 : Cond.initialized C ∈ lw_all) (hc : cl0[ci]? = some (C, T, N)) (hfs : ∀ j, j < N → defaultValue (ty j) = vp_V fs j) (hcs : k + 1 ≤ rm.cells ∧ n + N ≤ rm.slots) (hd : decode cc pc = .ok (.new idx, 3))
    (kk : ∀ q : Nat, vV x (k + 1) (n + N) (ws ++ [(q, .inr (ci, fs))]) lv (pc + 3) (.ref q :: st)) : vV x k n ws lv pc st := by
  obtain ⟨p, l, e, R, s, m, args, below, meth, c, Q, D, A, nL⟩ := x
  obtain ⟨rfl, rfl, rfl, rfl, hx, hb, hml, hown, hts, hA, hlocks, hret, hE, hZ⟩ := hF
  intro H locs ls hP hD hS hl
  exact va_new (ci := ci) (fs := fs) (C := C) (T := T) (N := N) hx hb hts hin ty hty hown (hts _ hq1) (hts _ hq2) (hts _ hq3) hE.1 hP hD hS hA hc hfs hcs.1 hcs.2 hd (fun q H hP hD hS => kk q H locs ls hP hD hS hl)
theorem v_objInit {x : vC} {l : Launch} {D : va_G} {own : String} {cc : ByteArray} {rm : Room} {nL : Nat} {rt : Option FieldType} {k n : Nat} {ws : va_W} {lv : List (Nat × Value)} {st : List Value} {idx b : Nat} (pc : Nat) (hF : vF x l D own cc rm nL rt) (hq1 : Cond.methodLink own idx objectInit ∈ lw_all) (hq2 : Cond.instanceMethod objectInit ∈ lw_all) (hq3 : Cond.code objectInit ⟨#[0xb1]⟩ 1 none ∈ lw_all) (hd : decode cc pc = .ok (.invokespecial idx, 3)) (hfr : 1 ≤ rm.frames) (hlo : (st.map fun v => v.category).sum + 12 ≤ rm.locals)
    (kk : vV x k n ws lv (pc + 3) st) : vV x k n ws lv pc (.ref b :: st) := by
  obtain ⟨p, l, e, R, s, m, args, below, meth, c, Q, D, A, nL⟩ := x
  obtain ⟨rfl, rfl, rfl, rfl, hx, hb, hml, hown, hts, hA, hlocks, hret, hE, hZ⟩ := hF
  intro H locs ls hP hD hS hl
  exact W.objInit hx hb hown (hts _ hq1) (hts _ hq2) (hts _ hq3) rfl (by rw [hml]; exact hl.1) rfl hd hfr (by have h9 : (F0 m pc ls (Value.ref b :: st)).monitorRoom = 0 := rfl; rw [h9]; omega) (kk H locs ls hP hD hS hl)
theorem v_newai {x : vC} {l : Launch} {D : va_G} {own : String} {cc : ByteArray} {rm : Room} {nL : Nat} {rt : Option FieldType} {k n : Nat} {ws : va_W} {lv : List (Nat × Value)} {st : List Value} {N : Nat} {sz : Int32} (pc : Nat) (hF : vF x l D own cc rm nL rt) (hq : Cond.arrayClass (newarray.typeOf .int) ∈ lw_all) (hn0 : ¬ sz < 0) (hN : sz.toNatClampNeg = N) (hby : N * componentBytes .int ≤ 536870912) (hcs : k + 1 ≤ rm.cells ∧ n + N ≤ rm.slots) (hd : decode cc pc = .ok (.newarray .int, 2))
    (kk : ∀ q : Nat, vV x (k + 1) (n + N) (ws ++ [(q, .inl (dI_ D, N, .inl (fun _ => 0)))]) lv (pc + 2) (.ref q :: st)) : vV x k n ws lv pc (.int sz :: st) := by
  obtain ⟨p, l, e, R, s, m, args, below, meth, c, Q, D, A, nL⟩ := x
  obtain ⟨rfl, rfl, rfl, rfl, hx, hb, hml, hown, hts, hA, hlocks, hret, hE, hZ⟩ := hF
  intro H locs ls hP hD hS hl
  refine va_newa (atype := .int) (ty := .int) (a0 := (N, .inl (fun _ => 0))) hx hb (hts _ hq) rfl hE.1 hP hD hS hA (fun cA => rfl) hn0 hN hby hcs.1 hcs.2 hd (fun q cA H hK hP hD hS => ?_)
  have h1 : s.vm.findClass ("[" ++ FieldType.toString .int) = some cA := (hK.2 6 (cA, .int) rfl).2
  have h2 : s.vm.findClass ("[" ++ FieldType.toString .int) = some (dI_ D) := (hE.1.2 0 (dI_ D, .int) rfl).2
  have e : cA = dI_ D := Option.some.inj (h1.symm.trans h2)
  subst e
  exact kk q H locs ls hP hD hS hl
theorem v_newac {x : vC} {l : Launch} {D : va_G} {own : String} {cc : ByteArray} {rm : Room} {nL : Nat} {rt : Option FieldType} {k n : Nat} {ws : va_W} {lv : List (Nat × Value)} {st : List Value} {N : Nat} {sz : Int32} (pc : Nat) (hF : vF x l D own cc rm nL rt) (hq : Cond.arrayClass (newarray.typeOf .char) ∈ lw_all) (hn0 : ¬ sz < 0) (hN : sz.toNatClampNeg = N) (hby : N * componentBytes .char ≤ 536870912) (hcs : k + 1 ≤ rm.cells ∧ n + N ≤ rm.slots) (hd : decode cc pc = .ok (.newarray .char, 2))
    (kk : ∀ q : Nat, vV x (k + 1) (n + N) (ws ++ [(q, .inl (dC_ D, N, .inl (fun _ => 0)))]) lv (pc + 2) (.ref q :: st)) : vV x k n ws lv pc (.int sz :: st) := by
  obtain ⟨p, l, e, R, s, m, args, below, meth, c, Q, D, A, nL⟩ := x
  obtain ⟨rfl, rfl, rfl, rfl, hx, hb, hml, hown, hts, hA, hlocks, hret, hE, hZ⟩ := hF
  intro H locs ls hP hD hS hl
  refine va_newa (atype := .char) (ty := .char) (a0 := (N, .inl (fun _ => 0))) hx hb (hts _ hq) rfl hE.1 hP hD hS hA (fun cA => rfl) hn0 hN hby hcs.1 hcs.2 hd (fun q cA H hK hP hD hS => ?_)
  have h1 : s.vm.findClass ("[" ++ FieldType.toString .char) = some cA := (hK.2 6 (cA, .char) rfl).2
  have h2 : s.vm.findClass ("[" ++ FieldType.toString .char) = some (dC_ D) := (hE.1.2 3 (dC_ D, .char) rfl).2
  have e : cA = dC_ D := Option.some.inj (h1.symm.trans h2)
  subst e
  exact kk q H locs ls hP hD hS hl
theorem v_newal {x : vC} {l : Launch} {D : va_G} {own : String} {cc : ByteArray} {rm : Room} {nL : Nat} {rt : Option FieldType} {k n : Nat} {ws : va_W} {lv : List (Nat × Value)} {st : List Value} {N : Nat} {sz : Int32} (pc : Nat) (hF : vF x l D own cc rm nL rt) (hq : Cond.arrayClass (newarray.typeOf .long) ∈ lw_all) (hn0 : ¬ sz < 0) (hN : sz.toNatClampNeg = N) (hby : N * componentBytes .long ≤ 536870912) (hcs : k + 1 ≤ rm.cells ∧ n + N ≤ rm.slots) (hd : decode cc pc = .ok (.newarray .long, 2))
    (kk : ∀ q : Nat, vV x (k + 1) (n + N) (ws ++ [(q, .inl (dJ_ D, N, .inr (.inl (fun _ => 0))))]) lv (pc + 2) (.ref q :: st)) : vV x k n ws lv pc (.int sz :: st) := by
  obtain ⟨p, l, e, R, s, m, args, below, meth, c, Q, D, A, nL⟩ := x
  obtain ⟨rfl, rfl, rfl, rfl, hx, hb, hml, hown, hts, hA, hlocks, hret, hE, hZ⟩ := hF
  intro H locs ls hP hD hS hl
  refine va_newa (atype := .long) (ty := .long) (a0 := (N, .inr (.inl (fun _ => 0)))) hx hb (hts _ hq) rfl hE.1 hP hD hS hA (fun cA => rfl) hn0 hN hby hcs.1 hcs.2 hd (fun q cA H hK hP hD hS => ?_)
  have h1 : s.vm.findClass ("[" ++ FieldType.toString .long) = some cA := (hK.2 6 (cA, .long) rfl).2
  have h2 : s.vm.findClass ("[" ++ FieldType.toString .long) = some (dJ_ D) := (hE.1.2 1 (dJ_ D, .long) rfl).2
  have e : cA = dJ_ D := Option.some.inj (h1.symm.trans h2)
  subst e
  exact kk q H locs ls hP hD hS hl
theorem v_newad {x : vC} {l : Launch} {D : va_G} {own : String} {cc : ByteArray} {rm : Room} {nL : Nat} {rt : Option FieldType} {k n : Nat} {ws : va_W} {lv : List (Nat × Value)} {st : List Value} {N : Nat} {sz : Int32} (pc : Nat) (hF : vF x l D own cc rm nL rt) (hq : Cond.arrayClass (newarray.typeOf .double) ∈ lw_all) (hn0 : ¬ sz < 0) (hN : sz.toNatClampNeg = N) (hby : N * componentBytes .double ≤ 536870912) (hcs : k + 1 ≤ rm.cells ∧ n + N ≤ rm.slots) (hd : decode cc pc = .ok (.newarray .double, 2))
    (kk : ∀ q : Nat, vV x (k + 1) (n + N) (ws ++ [(q, .inl (dD_ D, N, .inr (.inr (.inr (.inl (fun _ => 0))))))]) lv (pc + 2) (.ref q :: st)) : vV x k n ws lv pc (.int sz :: st) := by
  obtain ⟨p, l, e, R, s, m, args, below, meth, c, Q, D, A, nL⟩ := x
  obtain ⟨rfl, rfl, rfl, rfl, hx, hb, hml, hown, hts, hA, hlocks, hret, hE, hZ⟩ := hF
  intro H locs ls hP hD hS hl
  refine va_newa (atype := .double) (ty := .double) (a0 := (N, .inr (.inr (.inr (.inl (fun _ => 0)))))) hx hb (hts _ hq) rfl hE.1 hP hD hS hA (fun cA => rfl) hn0 hN hby hcs.1 hcs.2 hd (fun q cA H hK hP hD hS => ?_)
  have h1 : s.vm.findClass ("[" ++ FieldType.toString .double) = some cA := (hK.2 6 (cA, .double) rfl).2
  have h2 : s.vm.findClass ("[" ++ FieldType.toString .double) = some (dD_ D) := (hE.1.2 2 (dD_ D, .double) rfl).2
  have e : cA = dD_ D := Option.some.inj (h1.symm.trans h2)
  subst e
  exact kk q H locs ls hP hD hS hl
theorem v_newab {x : vC} {l : Launch} {D : va_G} {own : String} {cc : ByteArray} {rm : Room} {nL : Nat} {rt : Option FieldType} {k n : Nat} {ws : va_W} {lv : List (Nat × Value)} {st : List Value} {N : Nat} {sz : Int32} (pc : Nat) (hF : vF x l D own cc rm nL rt) (hq : Cond.arrayClass (newarray.typeOf .byte) ∈ lw_all) (hn0 : ¬ sz < 0) (hN : sz.toNatClampNeg = N) (hby : N * componentBytes .byte ≤ 536870912) (hcs : k + 1 ≤ rm.cells ∧ n + N ≤ rm.slots) (hd : decode cc pc = .ok (.newarray .byte, 2))
    (kk : ∀ q : Nat, vV x (k + 1) (n + N) (ws ++ [(q, .inl (dB_ D, N, .inl (fun _ => 0)))]) lv (pc + 2) (.ref q :: st)) : vV x k n ws lv pc (.int sz :: st) := by
  obtain ⟨p, l, e, R, s, m, args, below, meth, c, Q, D, A, nL⟩ := x
  obtain ⟨rfl, rfl, rfl, rfl, hx, hb, hml, hown, hts, hA, hlocks, hret, hE, hZ⟩ := hF
  intro H locs ls hP hD hS hl
  refine va_newa (atype := .byte) (ty := .byte) (a0 := (N, .inl (fun _ => 0))) hx hb (hts _ hq) rfl hE.1 hP hD hS hA (fun cA => rfl) hn0 hN hby hcs.1 hcs.2 hd (fun q cA H hK hP hD hS => ?_)
  have h1 : s.vm.findClass ("[" ++ FieldType.toString .byte) = some cA := (hK.2 6 (cA, .byte) rfl).2
  have h2 : s.vm.findClass ("[" ++ FieldType.toString .byte) = some (dB_ D) := (hE.1.2 4 (dB_ D, .byte) rfl).2
  have e : cA = dB_ D := Option.some.inj (h1.symm.trans h2)
  subst e
  exact kk q H locs ls hP hD hS hl
theorem v_gets {x : vC} {l : Launch} {D : va_G} {own : String} {cc : ByteArray} {rm : Room} {nL : Nat} {rt : Option FieldType} {k n : Nat} {ws : va_W} {lv : List (Nat × Value)} {st : List Value} {C nm ds : String} {v : Value} {idx : Nat} (pc : Nat) (hF : vF x l D own cc rm nL rt) (hz : ∀ (A : Nat → Prop) (U : State) (H : Heap), vZA D A U H → va_Z C nm ds v A U H) (hq : Cond.fieldLink own idx C nm ds ∈ lw_all) (hd : decode cc pc = .ok (.getstatic idx, 3))
    (kk : vV x k n ws lv (pc + 3) (v :: st)) : vV x k n ws lv pc st := by
  obtain ⟨p, l, e, R, s, m, args, below, meth, c, Q, D, A, nL⟩ := x
  obtain ⟨rfl, rfl, rfl, rfl, hx, hb, hml, hown, hts, hA, hlocks, hret, hE, hZ⟩ := hF
  intro H locs ls hP hD hS hl
  exact va_gets hx hb (hz _ _ _ hZ) hS hown (hts _ hq) (fun _ h => h) hd (kk H locs ls hP hD hS hl)
theorem v_callS0i {x : vC} {l : Launch} {D : va_G} {own : String} {cc : ByteArray} {rm : Room} {nL : Nat} {rt : Option FieldType} {k n : Nat} {ws : va_W} {lv : List (Nat × Value)} {st : List Value} {idx maxL : Nat} {y : MethodName} {bytes : ByteArray} {rt2 : FieldType} {rm2 : Room} {As : List Value} {Q2 : Int32 → Prop} (pc : Nat) (hF : vF x l D own cc rm nL rt) (hM : Cti l D y bytes maxL rt2 rm2 As [] (fun _ : Unit => []) (fun r _ => Q2 r) 0 0) (hq1 : Cond.methodLink own idx y ∈ lw_all) (hq2 : Cond.static y ∈ lw_all) (hq3 : Cond.initialized y.cls ∈ lw_all) (hq5 : Cond.code y bytes maxL (some rt2) ∈ lw_all) (hds : y.cls = y.cls ∧ y.cls ≠ "java/lang/invoke/MethodHandle" ∧ y.cls ≠ "java/lang/invoke/VarHandle" ∧ (parseMethodDescriptor y.desc).map (fun d => d.parameters.length) = some As.length)
    (hrm : rm2.cells = 0 ∧ rm2.slots = 0 ∧ rm2.frames + 1 ≤ rm.frames ∧ 8 + (maxL + 11) + rm2.locals ≤ rm.locals) (hst : (st.map fun v => v.category).sum ≤ 8) (hcs : k ≤ rm.cells ∧ n ≤ rm.slots) (hd : decode cc pc = .ok (.invokestatic idx, 3))
    (kk : ∀ r : Int32, Q2 r → vV x k n ws lv (pc + 3) (.int r :: st)) : vV x k n ws lv pc (As.reverse ++ st) :=
  v_callSi (wr := ws) pc hF hM (List.Perm.refl _) hq1 hq2 hq3 hq5 hds hrm hst hcs hd (fun r u h => kk r h)
theorem v_callS0Ni {x : vC} {l : Launch} {D : va_G} {own : String} {cc : ByteArray} {rm : Room} {nL : Nat} {rt : Option FieldType} {k n : Nat} {ws : va_W} {lv : List (Nat × Value)} {st : List Value} {idx maxL : Nat} {y : MethodName} {bytes : ByteArray} {rt2 : FieldType} {rm2 : Room} {As : List Value} {host : String} {Q2 : Int32 → Prop} (pc : Nat) (hF : vF x l D own cc rm nL rt) (hM : Cti l D y bytes maxL rt2 rm2 As [] (fun _ : Unit => []) (fun r _ => Q2 r) 0 0) (hq1 : Cond.methodLinkNest own idx y host ∈ lw_tbl) (hq2 : Cond.static y ∈ lw_all) (hq3 : Cond.initialized y.cls ∈ lw_all) (hq5 : Cond.code y bytes maxL (some rt2) ∈ lw_all) (hds : y.cls = y.cls ∧ y.cls ≠ "java/lang/invoke/MethodHandle" ∧ y.cls ≠ "java/lang/invoke/VarHandle" ∧ (parseMethodDescriptor y.desc).map (fun d => d.parameters.length) = some As.length)
    (hrm : rm2.cells = 0 ∧ rm2.slots = 0 ∧ rm2.frames + 1 ≤ rm.frames ∧ 8 + (maxL + 11) + rm2.locals ≤ rm.locals) (hst : (st.map fun v => v.category).sum ≤ 8) (hcs : k ≤ rm.cells ∧ n ≤ rm.slots) (hd : decode cc pc = .ok (.invokestatic idx, 3))
    (kk : ∀ r : Int32, Q2 r → vV x k n ws lv (pc + 3) (.int r :: st)) : vV x k n ws lv pc (As.reverse ++ st) :=
  v_callSNi (wr := ws) pc hF hM (List.Perm.refl _) hq1 hq2 hq3 hq5 hds hrm hst hcs hd (fun r u h => kk r h)
/-- loops: a body F with the jump back to the head as K; so many rounds are left -/
def wFuel {α : Type} (F : (α → Prop) → α → Prop) : Nat → α → Prop
  | 0 => fun _ => False
  | n + 1 => F (wFuel F n)
def wLoop {α : Type} (F : (α → Prop) → α → Prop) (a : α) : Prop := ∃ n, wFuel F n a
theorem vLoop {α : Type} {F : (α → Prop) → α → Prop} {V : α → Prop} (hs : ∀ K : α → Prop, (∀ a, K a → V a) → ∀ a, F K a → V a) (a : α) (h : wLoop F a) : V a := by
  obtain ⟨n, h⟩ := h
  induction n generalizing a with
  | zero => exact h.elim
  | succ n ih => exact hs (wFuel F n) ih a h
/-- a loop ends: an invariant with a measure that falls -/
theorem wLoop_of {α : Type} {F : (α → Prop) → α → Prop} (I : Nat → α → Prop) (hF : ∀ (n : Nat) (a : α) (K : α → Prop), I n a → (∀ (m : Nat) (a' : α), m < n → I m a' → K a') → F K a) (n : Nat) (a : α) (h : I n a) : wLoop F a := by
  have key : ∀ n a, I n a → ∀ N, n < N → wFuel F N a := by
    intro n
    induction n using Nat.strongRecOn with
    | _ n ih =>
      intro a ha N hN
      cases N with
      | zero => exact absurd hN (Nat.not_lt_zero _)
      | succ N => exact hF n a (wFuel F N) ha (fun m a' hm hI => ih m hm a' hI N (by omega))
  exact ⟨n + 1, key n a h (n + 1) (Nat.lt_succ_self n)⟩
