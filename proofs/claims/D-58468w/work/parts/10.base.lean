/-! BASE: the world of this claim, contracts over an explicit heap, rows of the kind used below -/
set_option maxRecDepth 100000
abbrev vwCl : List vw_C := [(RX0, TX0, 6), (RX1, TX1, 5), (RX2, TX2, 1), (RX3, TX3, 9), (RX5, TX5, 4), (RX6, TX6, 5), (RJ2, TJ2, 3), (RJ4, TJ4, 4), (RJ5, TJ5, 4), (RJ14, TJ14, 1)]
def b2i (b : Bool) : Int32 := if b then 1 else 0
theorem b2i_nar (b : Bool) : narrow .boolean (.int (b2i b)) = .int (b2i b) := by cases b <;> rfl
theorem b2i_fit (b : Bool) : fits .boolean (.int (b2i b)) = true := by cases b <;> rfl
theorem b2i_t {b : Bool} (h : ¬ b2i b = 0) : b = true := by cases b; exact absurd rfl h; rfl
theorem b2i_f {b : Bool} (h : b2i b = 0) : b = false := by cases b; rfl; exact absurd h (by decide)
theorem nI_addx {x y : Int32} {a b : Nat} (h : x = nI a) (h2 : y = nI b) : x + y = nI (a + b) := by rw [h, h2, nI_add]
theorem nI_add0x {x : Int32} {a : Nat} (h : x = nI a) : x + 0 = nI a := by rw [h]; exact nI_add a 0
theorem nI_mulx {x y : Int32} {a b : Nat} (h : x = nI a) (h2 : y = nI b) : x * y = nI (a * b) := by rw [h, h2, pk_mul]
theorem nI_subx {x y : Int32} {a b : Nat} (h : x = nI a) (h2 : y = nI b) (hb : b ≤ a) : x - y = nI (a - b) := by rw [h, h2, pk_sub hb]
theorem vin_eq {x : Int32} {n N : Nat} (h : x = nI n) (h1 : n < N) (h2 : N < 2 ^ 31) : vp_in x N := by rw [h]; exact vp_in_nI h1 h2
theorem cl_eq {x : Int32} {n : Nat} (h : x = nI n) (h1 : n < 2 ^ 31) : x.toNatClampNeg = n := by rw [h]; exact nI_clamp h1
/-- a loop's value: a after n rounds -/
def foldN {α : Type} (step : Nat → α → α) (a : α) : Nat → α
  | 0 => a
  | r + 1 => step r (foldN step a r)
/-- a rule: layer, kind, craft, deed, seal -/
abbrev RV : Type := Int32 × Int32 × Int32 × Int32 × Int32
abbrev rvF (v : RV) : List Value := [.int v.1, .int v.2.1, .int v.2.2.1, .int v.2.2.2.1, .int v.2.2.2.2]
/-- D, the array classes, the base (all cells below it are old), the constants' addresses -/
abbrev EV : Type := va_G × (Nat → ClassId) × Nat × (Nat → Nat)
abbrev tysL (a : Nat → ClassId) : List (ClassId × FieldType) := [(a 0, .int), (a 1, .byte), (a 2, .boolean), (a 3, .object "java/lang/Object"), (a 4, .object "LayeredCharters$Guild")]
def xwAO : List String := ["java/lang/Object", "LayeredCharters$Guild"]
def xwCast : List (String × String) := [("LayeredCharters$Guild", "java/lang/Object"), ("LayeredCharters$Member", "java/lang/Object"), ("LayeredCharters$Rule", "java/lang/Object"), ("java/util/ArrayList", "java/util/List"), ("java/util/ArrayList", "java/util/Collection"), ("java/util/ArrayList", "java/lang/Object"), ("java/util/Optional", "java/lang/Object"), ("[Ljava/lang/Object;", "java/lang/Object")]
def xwNest : List (String × Nat × MethodName × String) := [("LayeredCharters", 9, ⟨"LayeredCharters$Guild", "<init>", "()V"⟩, "LayeredCharters"), ("LayeredCharters$Guild", 11, ⟨"LayeredCharters$Charter", "<init>", "()V"⟩, "LayeredCharters")]
def xwFace : List (String × MethodName × MethodName) := [
  ("java/util/ArrayList", ⟨"java/util/List", "size", "()I"⟩, ⟨"java/util/ArrayList", "size", "()I"⟩),
  ("java/util/ArrayList", ⟨"java/util/List", "addAll", "(Ljava/util/Collection;)Z"⟩, ⟨"java/util/ArrayList", "addAll", "(Ljava/util/Collection;)Z"⟩),
  ("java/util/ArrayList", ⟨"java/util/List", "get", "(I)Ljava/lang/Object;"⟩, ⟨"java/util/ArrayList", "get", "(I)Ljava/lang/Object;"⟩),
  ("java/util/ArrayList", ⟨"java/util/List", "add", "(Ljava/lang/Object;)Z"⟩, ⟨"java/util/ArrayList", "add", "(Ljava/lang/Object;)Z"⟩),
  ("java/util/ArrayList", ⟨"java/util/List", "remove", "(I)Ljava/lang/Object;"⟩, ⟨"java/util/ArrayList", "remove", "(I)Ljava/lang/Object;"⟩),
  ("java/util/ArrayList", ⟨"java/util/List", "set", "(ILjava/lang/Object;)Ljava/lang/Object;"⟩, ⟨"java/util/ArrayList", "set", "(ILjava/lang/Object;)Ljava/lang/Object;"⟩),
  ("java/util/ArrayList", ⟨"java/util/List", "isEmpty", "()Z"⟩, ⟨"java/util/ArrayList", "isEmpty", "()Z"⟩),
  ("java/util/ArrayList", ⟨"java/util/Collection", "toArray", "()[Ljava/lang/Object;"⟩, ⟨"java/util/ArrayList", "toArray", "()[Ljava/lang/Object;"⟩)]
/-! the sites of the lambdas -/
def ltSh0 : Jvm.Lambda.Shape := { iface := "LayeredCharters$Test", name := "of", sam := ⟨[.int], some .boolean⟩, captured := [.object "LayeredCharters$Charter", .int], kind := 5, implClass := "LayeredCharters$Charter", implName := "lambda$odds$0", implDesc := ⟨[.int, .int], some .boolean⟩, implItf := false, inst := ⟨[.int], some .boolean⟩ }
def ltSh1 : Jvm.Lambda.Shape := { iface := "LayeredCharters$Test", name := "of", sam := ⟨[.int], some .boolean⟩, captured := [.object "LayeredCharters$Charter", .int], kind := 6, implClass := "LayeredCharters", implName := "lambda$count$0", implDesc := ⟨[.object "LayeredCharters$Charter", .int, .int], some .boolean⟩, implItf := false, inst := ⟨[.int], some .boolean⟩ }
def ltSh2 : Jvm.Lambda.Shape := { iface := "LayeredCharters$Test", name := "of", sam := ⟨[.int], some .boolean⟩, captured := [.object "LayeredCharters$Charter"], kind := 6, implClass := "LayeredCharters", implName := "lambda$count$1", implDesc := ⟨[.object "LayeredCharters$Charter", .int], some .boolean⟩, implItf := false, inst := ⟨[.int], some .boolean⟩ }
def LamV (x : MethodName) (pc index : Nat) (σ : Jvm.Lambda.Shape) (cK : Nat) (U : State) : Prop :=
  ∃ (m : MethodId) (k : Class) (cf : ClassFile) (i0 p0 : Nat), U.methodNamed? x = some m ∧ U.vm.classes[m.cls]? = some k ∧ k.cf = some cf ∧ Jvm.Lambda.shapeOf? cf index = some σ ∧ (k.callSites.find? fun y => y.1 == m.idx && y.2.1 == pc) = some (i0, p0, .makes cK) ∧ Jvm.Lambda.isMade { classPath := fun _ => none } U.vm m.cls σ cK = true ∧ U.lambdaCallable σ cK = true
theorem LamV.of {x : MethodName} {pc index : Nat} {σ : Jvm.Lambda.Shape} {c : ClassId} {one : Option Addr} {s : State} (h : s.lambdaAt? x pc index σ = some (c, one)) (hcap : σ.captured ≠ []) : LamV x pc index σ c s := by
  obtain ⟨m, k, cf, i0, p0, l, hm, hk, hcf, hsh, -, hfind, hmade, hcall, hl⟩ := State.lambdaAt?_spec h
  rcases hl with ⟨a, cell, -, -, h0, -⟩ | ⟨h1, -, -⟩
  · exact absurd h0 hcap
  · subst h1; exact ⟨m, k, cf, i0, p0, hm, hk, hcf, hsh, hfind, hmade, hcall⟩
theorem LamV.warm {x : MethodName} {pc index cK : Nat} {σ : Jvm.Lambda.Shape} {s U : State} (hW : s.WarmedH U.vm) (h : LamV x pc index σ cK s) : LamV x pc index σ cK U := by
  obtain ⟨m, k, cf, i0, p0, hm, hk, hcf, hsh, hfind, hmade, hcall⟩ := h
  have hcall' : U.lambdaCallable σ cK = true := by
    have hA := hW.alike
    simp only [State.lambdaCallable, hA.findClass, hA.assignable, hA.superclasses, hA.declaredIn] at hcall ⊢
    exact hcall
  obtain ⟨k', hk', he⟩ := hW.alike.2.2 _ _ hk
  have hm' : U.methodNamed? x = some m := by
    have := State.methodNamed?_setVm (s := s) hW.alike x
    rw [hm] at this
    exact this
  exact ⟨m, k', cf, i0, p0, hm', hk', by rw [he]; exact hcf, hsh, by rw [he]; exact hfind, Jvm.Lambda.isMade_warmer hW hmade, hcall'⟩
theorem LamV.same {x : MethodName} {pc index cK : Nat} {σ : Jvm.Lambda.Shape} {s U : State} (hv : s.vm = U.vm) (h : LamV x pc index σ cK s) : LamV x pc index σ cK U := h.warm (by rw [← hv]; exact State.WarmedH.refl s)
def LamF (U : State) : Prop := ∃ (r0 : MethodId) (r : Method) (kL : Class), U.methodNamed? ⟨"LayeredCharters$Test", "of", "(I)Z"⟩ = some r0 ∧ U.vm.method? r0 = some r ∧ r.isStatic = false ∧ parseMethodDescriptor "(I)Z" = some r.sig ∧ U.vm.classes[r0.cls]? = some kL ∧ kL.isInterface = true ∧ U.methodFound? "LayeredCharters$Test" "of" "(I)Z" = some r0
theorem LamF.warm {s U : State} (hA : s.vm.Alike U.vm) (h : LamF s) : LamF U := by
  obtain ⟨r0, r, kL, h1, h2, h3, h4, h5, h6, h7⟩ := h
  obtain ⟨k', hk', he⟩ := hA.2.2 _ _ h5
  have g1 : U.methodNamed? ⟨"LayeredCharters$Test", "of", "(I)Z"⟩ = some r0 := (State.methodNamed?_setVm (s := s) hA ⟨"LayeredCharters$Test", "of", "(I)Z"⟩).trans h1
  have g7 : (s.setVm U.vm).methodFound? "LayeredCharters$Test" "of" "(I)Z" = some r0 := by rw [State.methodFound?_setVm hA]; exact h7
  exact ⟨r0, r, k', g1, by rw [hA.method?]; exact h2, h3, h4, hk', by rw [he]; exact h6, g7⟩
theorem LamF.of {A : Array Value} {s : State} (h1 : (Cond.declares ⟨"LayeredCharters$Test", "of", "(I)Z"⟩).before A s = true) (h2 : (Cond.interfaceMethod "LayeredCharters$Test" "LayeredCharters$Test" "of" "(I)Z").before A s = true) : LamF s := by
  obtain ⟨r0, r, hn, hrm, hst, hsig⟩ := Cond.declares_spec h1
  obtain ⟨cL, kL, r1, hcL, hkL, hiL, hfoundL, hn1⟩ := Cond.interfaceMethod_spec h2
  cases hn.symm.trans hn1
  have hr0cls : r0.cls = cL := Option.some.inj ((findClass_of_methodNamed hn).symm.trans hcL)
  exact ⟨r0, r, kL, hn, hrm, hst, hsig, by rw [hr0cls]; exact hkL, hiL, hfoundL⟩
def LamP (U : State) : Prop := ∃ (mk : MethodId) (methM : Method), U.methodNamed? ⟨"LayeredCharters$Charter", "lambda$odds$0", "(II)Z"⟩ = some mk ∧ U.vm.method? mk = some methM ∧ methM.isPrivate = true
theorem LamP.warm {s U : State} (hA : s.vm.Alike U.vm) (h : LamP s) : LamP U := by
  obtain ⟨mk, methM, h1, h2, h3⟩ := h
  exact ⟨mk, methM, (State.methodNamed?_setVm (s := s) hA _).trans h1, by rw [hA.method?]; exact h2, h3⟩
theorem LamP.of {A : Array Value} {s : State} (h1 : (Cond.privateMethod ⟨"LayeredCharters$Charter", "lambda$odds$0", "(II)Z"⟩).before A s = true) (h2 : (Cond.instanceMethod ⟨"LayeredCharters$Charter", "lambda$odds$0", "(II)Z"⟩).before A s = true) : LamP s := by
  obtain ⟨mk, methM, hnamed, hmethM, -, -⟩ := Cond.instanceMethod_spec h2
  exact ⟨mk, methM, hnamed, hmethM, Cond.privateMethod_at h1 mk methM hnamed hmethM⟩
def LamK (E : EV) (U : State) : Prop := LamV ⟨"LayeredCharters$Charter", "odds", "(I)I"⟩ 3 109 ltSh0 (E.2.2.2 20) U ∧ LamV ⟨"LayeredCharters", "count", "(I)I"⟩ 20 197 ltSh1 (E.2.2.2 21) U ∧ LamV ⟨"LayeredCharters", "count", "(I)I"⟩ 148 209 ltSh2 (E.2.2.2 22) U ∧ LamF U ∧ LamP U
theorem LamK.warm {E : EV} {s U : State} (hW : s.WarmedH U.vm) (h : LamK E s) : LamK E U := ⟨h.1.warm hW, h.2.1.warm hW, h.2.2.1.warm hW, h.2.2.2.1.warm hW.alike, h.2.2.2.2.warm hW.alike⟩
theorem LamK.same {E : EV} {s U : State} (hv : s.vm = U.vm) (h : LamK E s) : LamK E U := h.warm (by rw [← hv]; exact State.WarmedH.refl s)
/-- what the tables say all through the run -/
def KK (E : EV) (U : State) : Prop := va_K E.1 vwCl (tysL E.2.1) U ∧ (∀ q ∈ xwFace, va_Fw q.1 q.2.1 q.2.2 U) ∧ (∀ C ∈ xwAO, va_AO C U) ∧ (∀ q ∈ xwCast, va_Nw (.castable q.1 q.2) U) ∧ (∀ q ∈ xwNest, va_Nw (.methodLinkNest q.1 q.2.1 q.2.2.1 q.2.2.2) U) ∧
  va_Mi "[Ljava/lang/Object;" (E.2.2.2 2) U ∧ va_Dc U ∧ vk_R "LayeredCharters" 259 "pbw" (E.2.2.2 3) U ∧ vk_R "LayeredCharters" 279 "" (E.2.2.2 4) U ∧ LamK E U
theorem xwFace_ok : ∀ q ∈ xwFace, q.2.1.cls ≠ "java/lang/invoke/MethodHandle" ∧ q.2.1.cls ≠ "java/lang/invoke/VarHandle" := by decide +kernel
theorem KK.warm {E : EV} {s U : State} (hW : s.WarmedH U.vm) (h : KK E s) : KK E U :=
  ⟨va_K.moved hW.alike h.1, fun q hq => (h.2.1 q hq).moved (xwFace_ok q hq) hW.alike, fun C hC => (h.2.2.1 C hC).moved hW.alike, fun q hq => (h.2.2.2.1 q hq).warmC hW, fun q hq => (h.2.2.2.2.1 q hq).warmM hW, h.2.2.2.2.2.1.moved hW.alike, h.2.2.2.2.2.2.1.moved hW.alike, h.2.2.2.2.2.2.2.1.warm hW, h.2.2.2.2.2.2.2.2.1.warm hW, h.2.2.2.2.2.2.2.2.2.warm hW⟩
theorem KK.same {E : EV} {s U : State} (hv : s.vm = U.vm) (h : KK E s) : KK E U := by
  have ha : s.vm.Alike U.vm := by rw [hv]; exact Vm.Alike.refl _
  exact ⟨va_K.moved ha h.1, fun q hq => (h.2.1 q hq).moved (xwFace_ok q hq) ha, fun C hC => (h.2.2.1 C hC).moved ha, fun q hq => (h.2.2.2.1 q hq).same rfl hv, fun q hq => (h.2.2.2.2.1 q hq).same rfl hv, h.2.2.2.2.2.1.moved ha, h.2.2.2.2.2.2.1.moved ha, h.2.2.2.2.2.2.2.1.same hv.symm, h.2.2.2.2.2.2.2.2.1.same hv.symm, h.2.2.2.2.2.2.2.2.2.same hv⟩
/-- the old cells -/
def Old (E : EV) : Nat → Prop := fun q => E.2.2.1 ≤ q
/-- the statics and constants: they lie below the base -/
def ST (E : EV) (U : State) (H : Heap) : Prop :=
  va_Z "java/util/ArrayList" "DEFAULTCAPACITY_EMPTY_ELEMENTDATA" "[Ljava/lang/Object;" (.ref (E.2.2.2 0)) (Old E) U H ∧
  va_T (.object "java/lang/Object") (E.2.2.2 0) 0 (fun _ => .null) (Old E) U H ∧
  va_O "[Ljava/lang/Object;" (E.2.2.2 0) (Old E) U H ∧
  va_Z "java/lang/String" "COMPACT_STRINGS" "Z" (.int 1) (Old E) U H ∧
  va_Z "java/util/Optional" "EMPTY" "Ljava/util/Optional;" (.ref (E.2.2.2 1)) (Old E) U H ∧
  va_O "java/util/Optional" (E.2.2.2 1) (Old E) U H ∧
  va_OF "java/util/Optional" "value" "Ljava/lang/Object;" .null (E.2.2.2 1) (Old E) U H ∧
  va_Zq "jdk/internal/util/Preconditions" "SIOOBE_FORMATTER" "Ljava/util/function/BiFunction;" (Old E) U H ∧
  vk_S 2 [3, 0] [[112, 98, 119], []] (fun i => E.2.2.2 (3 + i)) (fun i => E.2.2.2 (5 + i)) (Old E) U H
theorem ST.moved {E : EV} {s U : State} {H : Heap} (hv : s.vm.Alike U.vm) (h : ST E s H) : ST E U H := by
  obtain ⟨h1, h2, h3, h4, h5, h6, h7, h8, h9⟩ := h
  exact ⟨h1.moved hv, h2.moved hv, h3.moved hv, h4.moved hv, h5.moved hv, h6.moved hv, h7.moved hv, h8.moved hv, h9.moved hv⟩
/-- H1 is H but for new cells and cells in A -/
def Chg (A : Nat → Prop) (H H1 : Heap) : Prop := H.size ≤ H1.size ∧ ∀ q : Nat, q < H.size → ¬ A q → H1[q]? = H[q]?
theorem ST.kept {E : EV} {s : State} {H H1 : Heap} {A : Nat → Prop} (h : ST E s H) (hc : Chg A H H1) (hA : ∀ q, q < H.size → A q → Old E q) : ST E s H1 := by
  have k : ∀ a : Nat, a < H.size → ¬ Old E a → H1[a]? = H[a]? := fun a h1 h2 => hc.2 a h1 (fun z => h2 (hA a h1 z))
  obtain ⟨h1, h2, h3, h4, h5, h6, h7, h8, h9⟩ := h
  exact ⟨h1.kept k, h2.kept k, h3.kept k, h4.kept k, h5.kept k, h6.kept k, h7.kept k, h8.kept k, h9.kept k⟩
def WK (E : EV) (U : State) (H : Heap) : Prop := KK E U ∧ ST E U H ∧ E.2.2.1 ≤ H.size
theorem WK.kept {E : EV} {s : State} {H H1 : Heap} {A : Nat → Prop} (h : WK E s H) (hc : Chg A H H1) (hA : ∀ q, q < H.size → A q → Old E q) : WK E s H1 := ⟨h.1, h.2.1.kept hc hA, Nat.le_trans h.2.2 hc.1⟩
theorem WK.warm {E : EV} {s U : State} {H : Heap} (hW : s.WarmedH U.vm) (h : WK E s H) : WK E U H := ⟨h.1.warm hW, h.2.1.moved hW.alike, h.2.2⟩
theorem WK.same {E : EV} {s U : State} {H : Heap} (hv : s.vm = U.vm) (h : WK E s H) : WK E U H := ⟨h.1.same hv, h.2.1.moved (by rw [hv]; exact Vm.Alike.refl _), h.2.2⟩
theorem WK.K {E : EV} {s : State} {H : Heap} (h : WK E s H) : va_K E.1 vwCl (tysL E.2.1) s := h.1.1
theorem Chg.rf {A : Nat → Prop} {H : Heap} : Chg A H H := ⟨Nat.le_refl _, fun _ _ _ => rfl⟩
theorem Chg.weak {A A' : Nat → Prop} {H H1 : Heap} (h : Chg A H H1) (hA : ∀ q, q < H.size → A q → A' q) : Chg A' H H1 := ⟨h.1, fun q h1 h2 => h.2 q h1 (fun z => h2 (hA q h1 z))⟩
theorem Chg.trans {A : Nat → Prop} {H H1 H2 : Heap} (h : Chg A H H1) (h2 : Chg A H1 H2) : Chg A H H2 :=
  ⟨Nat.le_trans h.1 h2.1, fun q a b => (h2.2 q (Nat.lt_of_lt_of_le a h.1) b).trans (h.2 q a b)⟩
theorem Chg.trans2 {A A2 : Nat → Prop} {H H1 H2 : Heap} (h : Chg A H H1) (h2 : Chg A2 H1 H2) (hA : ∀ q, q < H.size → A2 q → A q) : Chg A H H2 :=
  ⟨Nat.le_trans h.1 h2.1, fun q a b => (h2.2 q (Nat.lt_of_lt_of_le a h.1) (fun z => b (hA q a z))).trans (h.2 q a b)⟩
theorem va_S.chg {A : Nat → Prop} {H H1 : Heap} {locs : List Loc} (h : va_S A H H1 locs) : Chg A H H1 := ⟨h.1, h.2.1⟩
/-- cells -/
def oat (E : EV) (q ci : Nat) (fs : List Value) (H : Heap) : Prop := va_at E.1 vwCl (q, .inr (ci, fs)) H
def iat (E : EV) (q t n : Nat) (f : Nat → Int32) (H : Heap) : Prop := va_at E.1 vwCl (q, .inl (E.2.1 t, n, .inl f)) H
def qat (E : EV) (q t n : Nat) (f : Nat → Option Nat) (H : Heap) : Prop := va_at E.1 vwCl (q, .inl (E.2.1 t, n, .inr (.inr (.inr (.inr f))))) H
theorem oat.p {E : EV} {q ci : Nat} {fs : List Value} {H : Heap} (h : oat E q ci fs H) : va_P E.1 vwCl [(q, .inr (ci, fs))] H := fun k x hk => by
  match k, hk with
  | 0, hk => cases hk; exact h
theorem iat.p {E : EV} {q t n : Nat} {f : Nat → Int32} {H : Heap} (h : iat E q t n f H) : va_P E.1 vwCl [(q, .inl (E.2.1 t, n, .inl f))] H := fun k x hk => by
  match k, hk with
  | 0, hk => cases hk; exact h
theorem qat.p {E : EV} {q t n : Nat} {f : Nat → Option Nat} {H : Heap} (h : qat E q t n f H) : va_P E.1 vwCl [(q, .inl (E.2.1 t, n, .inr (.inr (.inr (.inr f)))))] H := fun k x hk => by
  match k, hk with
  | 0, hk => cases hk; exact h
theorem oat.lt {E : EV} {q ci : Nat} {fs : List Value} {H : Heap} (h : oat E q ci fs H) : q < H.size := va_at.lt h
theorem iat.lt {E : EV} {q t n : Nat} {f : Nat → Int32} {H : Heap} (h : iat E q t n f H) : q < H.size := va_at.lt h
theorem qat.lt {E : EV} {q t n : Nat} {f : Nat → Option Nat} {H : Heap} (h : qat E q t n f H) : q < H.size := va_at.lt h
theorem oat.kept {E : EV} {q ci : Nat} {fs : List Value} {H H1 : Heap} {A : Nat → Prop} (h : oat E q ci fs H) (hc : Chg A H H1) (hA : ¬ A q) : oat E q ci fs H1 := va_at.kept h (hc.2 q h.lt hA)
theorem iat.kept {E : EV} {q t n : Nat} {f : Nat → Int32} {H H1 : Heap} {A : Nat → Prop} (h : iat E q t n f H) (hc : Chg A H H1) (hA : ¬ A q) : iat E q t n f H1 := va_at.kept h (hc.2 q h.lt hA)
theorem qat.kept {E : EV} {q t n : Nat} {f : Nat → Option Nat} {H H1 : Heap} {A : Nat → Prop} (h : qat E q t n f H) (hc : Chg A H H1) (hA : ¬ A q) : qat E q t n f H1 := va_at.kept h (hc.2 q h.lt hA)
/-- the contract of a method: at the heap H, with the arguments av -/
def Qg (post : Option Value → Heap → Prop) (A : Nat → Prop) : Array Value → State → Outcome → State → Prop := fun _ st oc t => (∃ v, oc = .returned v ∧ post v t.heap) ∧ va_F A st t
def Ct (l : Launch) (y : MethodName) (cc : ByteArray) (L : Nat) (ret : Option FieldType) (fr lo mc ms : Nat) (av : List Value) (E : EV) (H : Heap) (A : Nat → Prop) (post : Option Value → Heap → Prop) : Prop :=
  Met l y (ws_ y cc L ret) { frames := fr, cells := mc, slots := ms, locals := lo } (va_Pc av (fun U => U.heap = H ∧ WK E U H)) (Qg post A) mc ms A
/-- a method that only reads: its answer is v -/
abbrev Ro (l : Launch) (y : MethodName) (cc : ByteArray) (L : Nat) (ret : Option FieldType) (fr lo : Nat) (av : List Value) (E : EV) (H : Heap) (v : Option Value) : Prop :=
  Ct l y cc L ret fr lo 0 0 av E H (fun _ => False) (fun v' H1 => v' = v ∧ H1 = H)
section BASE
variable {p : Program} {l : Launch} {e : Env} {R : Room} {s : State} {m : MethodId} {args : Array Value} {below : List Frame} {meth : Method} {c : Code} {H : Heap} {locs : List Loc} {cells slots : Nat} {Q : State → Prop}
variable {cc : ByteArray} {pc : Nat} {ls : Array Slot} {rest : List Value} {E : EV} {A : Nat → Prop} {a : Nat} {H0 : Heap}
theorem lv_val {x y : Int32} (h : x = y) (k : W p l e R s m args below meth c H locs cells slots Q (F0 m pc ls (.int y :: rest))) : W p l e R s m args below meth c H locs cells slots Q (F0 m pc ls (.int x :: rest)) := h ▸ k
/-- the ways a body ends -/
def EndZ (p : Program) (l : Launch) (e : Env) (R : Room) (s : State) (m : MethodId) (args : Array Value) (below : List Frame) (meth : Method) (c : Code) (cc : ByteArray) (H0 : Heap) (rt : FieldType) (post : Option Value → Heap → Prop) (A : Nat → Prop) (Q : State → Prop) : Prop :=
  ∀ (H : Heap) (locs : List Loc) (cells slots pc : Nat) (ls : Array Slot) (v : Int32), narrow rt (.int v) = .int v → decode cc pc = .ok (.ireturn, 1) → post (some (.int v)) H → va_S A H0 H locs → cells ≤ R.cells → slots ≤ R.slots → W p l e R s m args below meth c H locs cells slots Q (F0 m pc ls [.int v])
def EndV (p : Program) (l : Launch) (e : Env) (R : Room) (s : State) (m : MethodId) (args : Array Value) (below : List Frame) (meth : Method) (c : Code) (cc : ByteArray) (H0 : Heap) (post : Option Value → Heap → Prop) (A : Nat → Prop) (Q : State → Prop) : Prop :=
  ∀ (H : Heap) (locs : List Loc) (cells slots pc : Nat) (ls : Array Slot), decode cc pc = .ok (.return_, 1) → post none H → va_S A H0 H locs → cells ≤ R.cells → slots ≤ R.slots → W p l e R s m args below meth c H locs cells slots Q (F0 m pc ls [])
def EndA (p : Program) (l : Launch) (e : Env) (R : Room) (s : State) (m : MethodId) (args : Array Value) (below : List Frame) (meth : Method) (c : Code) (cc : ByteArray) (H0 : Heap) (post : Option Value → Heap → Prop) (A : Nat → Prop) (Q : State → Prop) : Prop :=
  ∀ (H : Heap) (locs : List Loc) (cells slots pc : Nat) (ls : Array Slot) (v : Value), (v = .null ∨ ∃ a, v = .ref a) → decode cc pc = .ok (.areturn, 1) → post (some v) H → va_S A H0 H locs → cells ≤ R.cells → slots ≤ R.slots → W p l e R s m args below meth c H locs cells slots Q (F0 m pc ls [v])
/-- what is fixed all through a body -/
def Fx (p : Program) (s : State) (m : MethodId) (meth : Method) (c : Code) (cc : ByteArray) (L : Nat) (av : List Value) (y : MethodName) : Prop :=
  CallFix p m c cc L s av.toArray lw_all y.cls ∧ meth.name = y.name
theorem Ct.ofZ {y : MethodName} {L : Nat} {rt : FieldType} {fr lo mc ms : Nat} {av : List Value} {post : Option Value → Heap → Prop} (hy : plainName y.cls = true) (hlen : (lg_sl av).length ≤ L)
    (body : ∀ (p : Program) (e : Env) (s : State) (m : MethodId) (below : List Frame) (meth : Method) (c : Code) (ls : Array Slot) (Q : State → Prop), Fx p s m meth c cc L av y → WK E s H → s.heap = H → lv_has ls L (lv_args 0 av) →
      EndZ p l e { frames := fr, cells := mc, slots := ms, locals := lo } s m av.toArray below meth c cc H rt post A Q → W p l e { frames := fr, cells := mc, slots := ms, locals := lo } s m av.toArray below meth c H [] 0 0 Q (F0 m 0 ls [])) : Ct l y cc L (some rt) fr lo mc ms av E H A post := by
  refine Met.ofW (cc := cc) (maxL := L) (ret := some rt) hy rfl ?_
  intro p e s m args below meth c s₁ B hml hv
  obtain ⟨rfl, hH, hW⟩ := hv
  have hts := atoms_spec (ws := ws_ y cc L (some rt)) B.pre
  have hts : ∀ w ∈ lw_all, w.before av.toArray s = true := fun w h => hts w (List.mem_cons_of_mem _ h)
  have hown : s.vm.findClass y.cls = some m.cls := findClass_of_methodNamed B.named
  have hin : meth.name = y.name := (name_of_methodNamed B.named B.method).1
  have hl := lv_entry av (n := L) hlen
  rw [lg_entry_eq, hH]
  refine body p e s m below meth c _ _ ⟨⟨B.exec, B.bytes, hml, hown, hts⟩, hin⟩ hW hH hl ?_
  intro H1 locs cells slots pc ls v hn hd hp hS h1 h2
  refine W.widen (k := mc) (n := ms) h1 h2 ?_
  exact W.zret B.exec B.bytes B.returns hn (fun t ht _ => ⟨⟨_, rfl, by rw [ht]; exact hp⟩, va_S.F (by rw [hH]; exact hS) ht⟩) hS.2.2 hd B.notSynchronized
theorem Ct.ofV {y : MethodName} {L : Nat} {fr lo mc ms : Nat} {av : List Value} {post : Option Value → Heap → Prop} (hy : plainName y.cls = true) (hlen : (lg_sl av).length ≤ L)
    (body : ∀ (p : Program) (e : Env) (s : State) (m : MethodId) (below : List Frame) (meth : Method) (c : Code) (ls : Array Slot) (Q : State → Prop), Fx p s m meth c cc L av y → WK E s H → s.heap = H → lv_has ls L (lv_args 0 av) →
      EndV p l e { frames := fr, cells := mc, slots := ms, locals := lo } s m av.toArray below meth c cc H post A Q → W p l e { frames := fr, cells := mc, slots := ms, locals := lo } s m av.toArray below meth c H [] 0 0 Q (F0 m 0 ls [])) : Ct l y cc L none fr lo mc ms av E H A post := by
  refine Met.ofW (cc := cc) (maxL := L) (ret := none) hy rfl ?_
  intro p e s m args below meth c s₁ B hml hv
  obtain ⟨rfl, hH, hW⟩ := hv
  have hts := atoms_spec (ws := ws_ y cc L none) B.pre
  have hts : ∀ w ∈ lw_all, w.before av.toArray s = true := fun w h => hts w (List.mem_cons_of_mem _ h)
  have hown : s.vm.findClass y.cls = some m.cls := findClass_of_methodNamed B.named
  have hin : meth.name = y.name := (name_of_methodNamed B.named B.method).1
  have hl := lv_entry av (n := L) hlen
  rw [lg_entry_eq, hH]
  refine body p e s m below meth c _ _ ⟨⟨B.exec, B.bytes, hml, hown, hts⟩, hin⟩ hW hH hl ?_
  intro H1 locs cells slots pc ls hd hp hS h1 h2
  refine W.widen (k := mc) (n := ms) h1 h2 ?_
  exact W.vret B.exec B.bytes B.returns (fun t ht _ => ⟨⟨_, rfl, by rw [ht]; exact hp⟩, va_S.F (by rw [hH]; exact hS) ht⟩) hS.2.2 hd B.notSynchronized
theorem Ct.ofA {y : MethodName} {L : Nat} {rt : FieldType} (hrt : (∃ n, rt = .object n) ∨ ∃ t, rt = .array t) {fr lo mc ms : Nat} {av : List Value} {post : Option Value → Heap → Prop} (hy : plainName y.cls = true) (hlen : (lg_sl av).length ≤ L)
    (body : ∀ (p : Program) (e : Env) (s : State) (m : MethodId) (below : List Frame) (meth : Method) (c : Code) (ls : Array Slot) (Q : State → Prop), Fx p s m meth c cc L av y → WK E s H → s.heap = H → lv_has ls L (lv_args 0 av) →
      EndA p l e { frames := fr, cells := mc, slots := ms, locals := lo } s m av.toArray below meth c cc H post A Q → W p l e { frames := fr, cells := mc, slots := ms, locals := lo } s m av.toArray below meth c H [] 0 0 Q (F0 m 0 ls [])) : Ct l y cc L (some rt) fr lo mc ms av E H A post := by
  refine Met.ofW (cc := cc) (maxL := L) (ret := some rt) hy rfl ?_
  intro p e s m args below meth c s₁ B hml hv
  obtain ⟨rfl, hH, hW⟩ := hv
  have hts := atoms_spec (ws := ws_ y cc L (some rt)) B.pre
  have hts : ∀ w ∈ lw_all, w.before av.toArray s = true := fun w h => hts w (List.mem_cons_of_mem _ h)
  have hown : s.vm.findClass y.cls = some m.cls := findClass_of_methodNamed B.named
  have hin : meth.name = y.name := (name_of_methodNamed B.named B.method).1
  have hl := lv_entry av (n := L) hlen
  rw [lg_entry_eq, hH]
  refine body p e s m below meth c _ _ ⟨⟨B.exec, B.bytes, hml, hown, hts⟩, hin⟩ hW hH hl ?_
  intro H1 locs cells slots pc ls v hv hd hp hS h1 h2
  refine W.widen (k := mc) (n := ms) h1 h2 ?_
  exact W.aret B.exec B.bytes B.returns hrt hv (fun t ht _ => ⟨⟨_, rfl, by rw [ht]; exact hp⟩, va_S.F (by rw [hH]; exact hS) ht⟩) hS.2.2 hd B.notSynchronized
/-- behind a call -/
theorem run_ch {mc ms : Nat} {post : Option Value → Heap → Prop} {A1 : Nat → Prop} {a' : Array Value} {st0 : List Value} (hr : va_Run p l e R s m args below meth c H locs cells slots mc ms (F0 m pc ls st0) rest (Qg post A1 a') A1) (hS : va_S A H0 H locs) (hA : ∀ q, A1 q → A q)
    (kk : ∀ (v : Option Value) (H1 : Heap) (locs1 : List Loc), post v H1 → Chg A1 H H1 → va_S A H0 H1 locs1 → W p l e R s m args below meth c H1 locs1 (cells + mc) (slots + ms) Q (F0 m (pc + 3) ls (v.toList ++ rest))) : W p l e R s m args below meth c H locs cells slots Q (F0 m pc ls st0) := by
  intro T hT X
  obtain ⟨v, st₀, t, T', L, h0, X', hL, e1, e2, ⟨⟨v', hv, hp⟩, hz, hk⟩, st⟩ := hr T hT X
  cases hv
  rw [h0] at hz hk
  rw [← e1] at hz hk hp
  obtain ⟨t2, a1, b1⟩ := kk v T'.heap (locs ++ L) hp ⟨hz, hk⟩
    ⟨Nat.le_trans hS.1 hz, fun q h1 h2 => by rw [hk q (Nat.lt_of_lt_of_le h1 hS.1) (fun z => h2 (hA q z))]; exact hS.2.1 q h1 h2, fun q hq => by
      rcases List.mem_append.mp hq with h | h
      · exact hS.2.2 q h
      · exact hA _ (hL q h)⟩ T' rfl X'
  exact ⟨t2, st t2 a1, b1⟩
theorem run_ch5 {mc ms : Nat} {post : Option Value → Heap → Prop} {A1 : Nat → Prop} {a' : Array Value} {st0 : List Value} (hr : va_Run5 p l e R s m args below meth c H locs cells slots mc ms (F0 m pc ls st0) rest (Qg post A1 a') A1) (hS : va_S A H0 H locs) (hA : ∀ q, A1 q → A q)
    (kk : ∀ (v : Option Value) (H1 : Heap) (locs1 : List Loc), post v H1 → Chg A1 H H1 → va_S A H0 H1 locs1 → W p l e R s m args below meth c H1 locs1 (cells + mc) (slots + ms) Q (F0 m (pc + 5) ls (v.toList ++ rest))) : W p l e R s m args below meth c H locs cells slots Q (F0 m pc ls st0) := by
  intro T hT X
  obtain ⟨v, st₀, t, T', L, h0, X', hL, e1, e2, ⟨⟨v', hv, hp⟩, hz, hk⟩, st⟩ := hr T hT X
  cases hv
  rw [h0] at hz hk
  rw [← e1] at hz hk hp
  obtain ⟨t2, a1, b1⟩ := kk v T'.heap (locs ++ L) hp ⟨hz, hk⟩
    ⟨Nat.le_trans hS.1 hz, fun q h1 h2 => by rw [hk q (Nat.lt_of_lt_of_le h1 hS.1) (fun z => h2 (hA q z))]; exact hS.2.1 q h1 h2, fun q hq => by
      rcases List.mem_append.mp hq with h | h
      · exact hS.2.2 q h
      · exact hA _ (hL q h)⟩ T' rfl X'
  exact ⟨t2, st t2 a1, b1⟩
/-- ends of contracts by kind: an int-like answer, a reference, nothing -/
def pI (post : Int32 → Heap → Prop) : Option Value → Heap → Prop := fun v H1 => ∃ r : Int32, v = some (.int r) ∧ post r H1
def pA (post : Nat → Heap → Prop) : Option Value → Heap → Prop := fun v H1 => ∃ r : Nat, v = some (.ref r) ∧ post r H1
def pN (post : Heap → Prop) : Option Value → Heap → Prop := fun v H1 => v = none ∧ post H1
theorem run_chI {mc ms : Nat} {post : Int32 → Heap → Prop} {A1 : Nat → Prop} {a' : Array Value} {st0 : List Value} (hr : va_Run p l e R s m args below meth c H locs cells slots mc ms (F0 m pc ls st0) rest (Qg (pI post) A1 a') A1) (hS : va_S A H0 H locs) (hA : ∀ q, A1 q → A q)
    (kk : ∀ (r : Int32) (H1 : Heap) (locs1 : List Loc), post r H1 → Chg A1 H H1 → va_S A H0 H1 locs1 → W p l e R s m args below meth c H1 locs1 (cells + mc) (slots + ms) Q (F0 m (pc + 3) ls (.int r :: rest))) : W p l e R s m args below meth c H locs cells slots Q (F0 m pc ls st0) :=
  run_ch hr hS hA (fun v H1 locs1 hp hc h => by obtain ⟨r, rfl, hp⟩ := hp; exact kk r H1 locs1 hp hc h)
theorem run_chA {mc ms : Nat} {post : Nat → Heap → Prop} {A1 : Nat → Prop} {a' : Array Value} {st0 : List Value} (hr : va_Run p l e R s m args below meth c H locs cells slots mc ms (F0 m pc ls st0) rest (Qg (pA post) A1 a') A1) (hS : va_S A H0 H locs) (hA : ∀ q, A1 q → A q)
    (kk : ∀ (r : Nat) (H1 : Heap) (locs1 : List Loc), post r H1 → Chg A1 H H1 → va_S A H0 H1 locs1 → W p l e R s m args below meth c H1 locs1 (cells + mc) (slots + ms) Q (F0 m (pc + 3) ls (.ref r :: rest))) : W p l e R s m args below meth c H locs cells slots Q (F0 m pc ls st0) :=
  run_ch hr hS hA (fun v H1 locs1 hp hc h => by obtain ⟨r, rfl, hp⟩ := hp; exact kk r H1 locs1 hp hc h)
theorem run_chN {mc ms : Nat} {post : Heap → Prop} {A1 : Nat → Prop} {a' : Array Value} {st0 : List Value} (hr : va_Run p l e R s m args below meth c H locs cells slots mc ms (F0 m pc ls st0) rest (Qg (pN post) A1 a') A1) (hS : va_S A H0 H locs) (hA : ∀ q, A1 q → A q)
    (kk : ∀ (H1 : Heap) (locs1 : List Loc), post H1 → Chg A1 H H1 → va_S A H0 H1 locs1 → W p l e R s m args below meth c H1 locs1 (cells + mc) (slots + ms) Q (F0 m (pc + 3) ls rest)) : W p l e R s m args below meth c H locs cells slots Q (F0 m pc ls st0) :=
  run_ch hr hS hA (fun v H1 locs1 hp hc h => by obtain ⟨rfl, hp⟩ := hp; exact kk H1 locs1 hp hc h)
theorem run_ch5I {mc ms : Nat} {post : Int32 → Heap → Prop} {A1 : Nat → Prop} {a' : Array Value} {st0 : List Value} (hr : va_Run5 p l e R s m args below meth c H locs cells slots mc ms (F0 m pc ls st0) rest (Qg (pI post) A1 a') A1) (hS : va_S A H0 H locs) (hA : ∀ q, A1 q → A q)
    (kk : ∀ (r : Int32) (H1 : Heap) (locs1 : List Loc), post r H1 → Chg A1 H H1 → va_S A H0 H1 locs1 → W p l e R s m args below meth c H1 locs1 (cells + mc) (slots + ms) Q (F0 m (pc + 5) ls (.int r :: rest))) : W p l e R s m args below meth c H locs cells slots Q (F0 m pc ls st0) :=
  run_ch5 hr hS hA (fun v H1 locs1 hp hc h => by obtain ⟨r, rfl, hp⟩ := hp; exact kk r H1 locs1 hp hc h)
theorem run_ch5A {mc ms : Nat} {post : Nat → Heap → Prop} {A1 : Nat → Prop} {a' : Array Value} {st0 : List Value} (hr : va_Run5 p l e R s m args below meth c H locs cells slots mc ms (F0 m pc ls st0) rest (Qg (pA post) A1 a') A1) (hS : va_S A H0 H locs) (hA : ∀ q, A1 q → A q)
    (kk : ∀ (r : Nat) (H1 : Heap) (locs1 : List Loc), post r H1 → Chg A1 H H1 → va_S A H0 H1 locs1 → W p l e R s m args below meth c H1 locs1 (cells + mc) (slots + ms) Q (F0 m (pc + 5) ls (.ref r :: rest))) : W p l e R s m args below meth c H locs cells slots Q (F0 m pc ls st0) :=
  run_ch5 hr hS hA (fun v H1 locs1 hp hc h => by obtain ⟨r, rfl, hp⟩ := hp; exact kk r H1 locs1 hp hc h)
/-- behind a call that only reads -/
theorem run_ro {w : Value} {a' : Array Value} {st0 : List Value} (hr : va_Run p l e R s m args below meth c H locs cells slots 0 0 (F0 m pc ls st0) rest (Qg (fun v' H1 => v' = some w ∧ H1 = H) (fun _ => False) a') (fun _ => False))
    (kk : W p l e R s m args below meth c H locs cells slots Q (F0 m (pc + 3) ls (w :: rest))) : W p l e R s m args below meth c H locs cells slots Q (F0 m pc ls st0) := by
  intro T hT X
  obtain ⟨v, st₀, t, T', L, h0, X', hL, e1, e2, ⟨⟨v', hv, hp1, hp2⟩, hz, hk⟩, st⟩ := hr T hT X
  cases hv
  subst hp1
  have hL0 : L = [] := List.eq_nil_iff_forall_not_mem.mpr fun q hq => hL q hq
  subst hL0
  rw [List.append_nil] at X'
  obtain ⟨t2, a1, b1⟩ := kk T' (e1.trans hp2) X'
  exact ⟨t2, st t2 a1, b1⟩
theorem run_ro5 {w : Value} {a' : Array Value} {st0 : List Value} (hr : va_Run5 p l e R s m args below meth c H locs cells slots 0 0 (F0 m pc ls st0) rest (Qg (fun v' H1 => v' = some w ∧ H1 = H) (fun _ => False) a') (fun _ => False))
    (kk : W p l e R s m args below meth c H locs cells slots Q (F0 m (pc + 5) ls (w :: rest))) : W p l e R s m args below meth c H locs cells slots Q (F0 m pc ls st0) := by
  intro T hT X
  obtain ⟨v, st₀, t, T', L, h0, X', hL, e1, e2, ⟨⟨v', hv, hp1, hp2⟩, hz, hk⟩, st⟩ := hr T hT X
  cases hv
  subst hp1
  have hL0 : L = [] := List.eq_nil_iff_forall_not_mem.mpr fun q hq => hL q hq
  subst hL0
  rw [List.append_nil] at X'
  obtain ⟨t2, a1, b1⟩ := kk T' (e1.trans hp2) X'
  exact ⟨t2, st t2 a1, b1⟩
theorem run_roN {a' : Array Value} {st0 : List Value} (hr : va_Run p l e R s m args below meth c H locs cells slots 0 0 (F0 m pc ls st0) rest (Qg (fun v' H1 => v' = none ∧ H1 = H) (fun _ => False) a') (fun _ => False))
    (kk : W p l e R s m args below meth c H locs cells slots Q (F0 m (pc + 3) ls rest)) : W p l e R s m args below meth c H locs cells slots Q (F0 m pc ls st0) := by
  intro T hT X
  obtain ⟨v, st₀, t, T', L, h0, X', hL, e1, e2, ⟨⟨v', hv, hp1, hp2⟩, hz, hk⟩, st⟩ := hr T hT X
  cases hv
  subst hp1
  have hL0 : L = [] := List.eq_nil_iff_forall_not_mem.mpr fun q hq => hL q hq
  subst hL0
  rw [List.append_nil] at X'
  obtain ⟨t2, a1, b1⟩ := kk T' (e1.trans hp2) X'
  exact ⟨t2, st t2 a1, b1⟩
theorem blind {av : List Value} : FrameBlind (va_Pc av (fun U => U.heap = H ∧ WK E U H)) := fun a U g mk h => ⟨h.1, h.2.1, h.2.2.same rfl⟩
theorem preU {av : List Value} (hW : WK E s H) : ∀ U : State, U.heap = H → s.WarmedH U.vm → va_Pc av (fun U => U.heap = H ∧ WK E U H) av.toArray U := fun U h1 h2 => ⟨rfl, h1, hW.warm h2⟩
abbrev Recv (s : State) (H : Heap) (C : String) (b : Nat) : Prop := ∃ cell : Cell, H[b]? = some cell ∧ cell.vm.isStatics = false ∧ s.vm.findClass C = some cell.cls
theorem recv {q ci : Nat} {fs : List Value} {r : vw_C} (hW : WK E s H) (h : oat E q ci fs H) (hc : vwCl[ci]? = some r) : Recv s H r.1 q := va_recv hW.K h.p hc (q0 := 0) rfl
variable {y : MethodName} {bytes : ByteArray} {maxL nL index fr lo mc ms : Nat} {ret : Option FieldType} {own C : String} {b : Nat} {As st0 : List Value} {post : Option Value → Heap → Prop} {A1 : Nat → Prop}
abbrev Hd (y : MethodName) (n : Nat) : Prop := y.cls ≠ "java/lang/invoke/MethodHandle" ∧ y.cls ≠ "java/lang/invoke/VarHandle" ∧ (parseMethodDescriptor y.desc).map (fun d => d.parameters.length) = some n
abbrev Rm (R : Room) (fr lo maxL : Nat) : Prop := fr + 1 ≤ R.frames ∧ 8 + (maxL + 11) + lo ≤ R.locals
theorem kV (F : CallFix p m c cc nL s args lw_all own) (hW : WK E s H) (hM : Ct l y bytes maxL ret fr lo mc ms (.ref b :: As) E H A1 post) (hG : GoodIn lw_all (wsV own index y.cls y (ws_ y bytes maxL ret))) (hd : Hd y As.length) (hR : Rm R fr lo maxL) (hb : Recv s H y.cls b)
    (hsz : ls.size = nL) (hst : st0 = As.reverse ++ .ref b :: rest) (hcat : (rest.map fun v => v.category).sum ≤ 8) (hdg : decode cc pc = .ok (.invokevirtual index, 3)) (hf : cells + mc ≤ R.cells ∧ slots + ms ≤ R.slots) :
    va_Run p l e R s m args below meth c H locs cells slots mc ms (F0 m pc ls st0) rest (Qg post A1 (Value.ref b :: As).toArray) A1 :=
  va_runV F hM (cwV As.length F.2.2.2.2 hG rfl rfl rfl ⟨rfl, hd⟩ hR) ⟨blind, hb, preU hW⟩ rfl rfl hsz hst (lv_room hcat) hdg hf
theorem kS (F : CallFix p m c cc nL s args lw_all own) (hW : WK E s H) (hM : Ct l y bytes maxL ret fr lo mc ms As E H A1 post) (hG : GoodIn lw_all (va_wsS own index y (ws_ y bytes maxL ret))) (hd : Hd y As.length) (hR : Rm R fr lo maxL)
    (hsz : ls.size = nL) (hst : st0 = As.reverse ++ rest) (hcat : (rest.map fun v => v.category).sum ≤ 8) (hdg : decode cc pc = .ok (.invokestatic index, 3)) (hf : cells + mc ≤ R.cells ∧ slots + ms ≤ R.slots) :
    va_Run p l e R s m args below meth c H locs cells slots mc ms (F0 m pc ls st0) rest (Qg post A1 As.toArray) A1 :=
  va_runS F hM (va_cwS As.length F.2.2.2.2 hG rfl rfl rfl hd hR) ⟨blind, preU hW⟩ rfl rfl hsz hst (lv_room hcat) hdg hf
theorem kI (F : CallFix p m c cc nL s args lw_all own) (hW : WK E s H) (hM : Ct l y bytes maxL none fr lo mc ms (.ref b :: As) E H A1 post) (hcode : Cond.code y bytes maxL none ∈ lw_all) (hini : Cond.initialized y.cls ∈ lw_all) (hlink : Cond.methodLink own index y ∈ lw_all) (hinst : Cond.instanceMethod y ∈ lw_all) (hn : y.name = "<init>") (hd : Hd y As.length) (hR : Rm R fr lo maxL)
    (hsz : ls.size = nL) (hst : st0 = As.reverse ++ .ref b :: rest) (hcat : (rest.map fun v => v.category).sum ≤ 8) (hdg : decode cc pc = .ok (.invokespecial index, 3)) (hf : cells + mc ≤ R.cells ∧ slots + ms ≤ R.slots) :
    va_Run p l e R s m args below meth c H locs cells slots mc ms (F0 m pc ls st0) rest (Qg post A1 (Value.ref b :: As).toArray) A1 :=
  va_runI F hM (cwI As.length F.2.2.2.2 (lw_meth hcode) rfl rfl rfl (F.2.2.2.2 _ hini) (F.2.2.2.2 _ hlink) (F.2.2.2.2 _ hinst) hn hd hR) ⟨blind, preU hW⟩ rfl rfl hsz hst (lv_room hcat) hdg hf
theorem kF {x : MethodName} {count : Nat} (F : CallFix p m c cc nL s args lw_all own) (hW : WK E s H) (hM : Ct l y bytes maxL ret fr lo mc ms (.ref b :: As) E H A1 post) (hq : (y.cls, x, y) ∈ xwFace) {cC : ClassId} (hat : ClassAt s y.cls cC) (hlink : Cond.methodLink own index x ∈ lw_all) (hsel : Cond.selects y.cls x y ∈ lw_all) (hinst : Cond.instanceMethod y ∈ lw_all) (hini : Cond.initialized y.cls ∈ lw_all) (hcode : Cond.code y bytes maxL ret ∈ lw_all) (hd : Hd x As.length) (hR : Rm R fr lo maxL) (hb : Recv s H y.cls b)
    (hsz : ls.size = nL) (hst : st0 = As.reverse ++ .ref b :: rest) (hcat : (rest.map fun v => v.category).sum ≤ 8) (hdg : decode cc pc = .ok (.invokeinterface index count, 5)) (hf : cells + mc ≤ R.cells ∧ slots + ms ≤ R.slots) :
    va_Run5 p l e R s m args below meth c H locs cells slots mc ms (F0 m pc ls st0) rest (Qg post A1 (Value.ref b :: As).toArray) A1 := by
  refine va_runF hat F hM (va_cwF (x := x) As.length F.2.2.2.2 ?_ rfl rfl rfl (hW.1.2.1 _ hq) hd hR) ⟨blind, hb, preU hW⟩ rfl rfl hsz hst (lv_room hcat) hdg hf
  refine lw_app ?_ (lw_meth hcode)
  intro w hw
  simp only [List.mem_cons, List.not_mem_nil, or_false] at hw
  rcases hw with e | e | e | e
  · rw [e]; exact hlink
  · rw [e]; exact hsel
  · rw [e]; exact hinst
  · rw [e]; exact hini
theorem kIN {host : String} (F : CallFix p m c cc nL s args lw_all own) (hW : WK E s H) (hM : Ct l y bytes maxL none fr lo mc ms (.ref b :: As) E H A1 post) (hq : (own, index, y, host) ∈ xwNest) (hcode : Cond.code y bytes maxL none ∈ lw_all) (hini : Cond.initialized y.cls ∈ lw_all) (hinst : Cond.instanceMethod y ∈ lw_all) (hn : y.name = "<init>") (hd : Hd y As.length) (hR : Rm R fr lo maxL)
    (hsz : ls.size = nL) (hst : st0 = As.reverse ++ .ref b :: rest) (hcat : (rest.map fun v => v.category).sum ≤ 8) (hdg : decode cc pc = .ok (.invokespecial index, 3)) (hf : cells + mc ≤ R.cells ∧ slots + ms ≤ R.slots) :
    va_Run p l e R s m args below meth c H locs cells slots mc ms (F0 m pc ls st0) rest (Qg post A1 (Value.ref b :: As).toArray) A1 :=
  va_runIN F hM ⟨va_cnB (host := host) As.length F.2.2.2.2 (lw_meth hcode) rfl rfl rfl (hW.1.2.2.2.2.1 _ hq) (F.2.2.2.2 _ hini) hd hR, hn, F.2.2.2.2 _ hinst⟩ ⟨blind, preU hW⟩ rfl rfl hsz hst (lv_room hcat) hdg hf
theorem kSU {cC : ClassId} (hat : ClassAt s C cC) (F : CallFix p m c cc nL s args lw_all own) (hW : WK E s H) (hM : Ct l y bytes maxL ret fr lo mc ms (.ref b :: As) E H A1 post) (hlink : Cond.methodLink own index y ∈ lw_all) (hsame : Cond.sameMethod y.cls y.cls y.name y.desc ∈ lw_all) (hsup : Cond.superclass own y.cls ∈ lw_all) (hinst : Cond.instanceMethod y ∈ lw_all) (hini : Cond.initialized y.cls ∈ lw_all) (hcode : Cond.code y bytes maxL ret ∈ lw_all) (hno : y.name ≠ "<init>") (hd : Hd y As.length) (hR : Rm R fr lo maxL) (hb : Recv s H C b)
    (hsz : ls.size = nL) (hst : st0 = As.reverse ++ .ref b :: rest) (hcat : (rest.map fun v => v.category).sum ≤ 8) (hdg : decode cc pc = .ok (.invokespecial index, 3)) (hf : cells + mc ≤ R.cells ∧ slots + ms ≤ R.slots) :
    va_Run p l e R s m args below meth c H locs cells slots mc ms (F0 m pc ls st0) rest (Qg post A1 (Value.ref b :: As).toArray) A1 := by
  refine va_runSU hat F hM (va_cwSU As.length F.2.2.2.2 ?_ rfl rfl rfl ⟨hno, hd.2.2⟩ hR) ⟨blind, hb, preU hW⟩ rfl rfl hsz hst (lv_room hcat) hdg hf
  refine lw_app ?_ (lw_meth hcode)
  intro w hw
  simp only [List.mem_cons, List.not_mem_nil, or_false] at hw
  rcases hw with e | e | e | e | e
  · rw [e]; exact hlink
  · rw [e]; exact hsame
  · rw [e]; exact hsup
  · rw [e]; exact hinst
  · rw [e]; exact hini
/-- a method of a superclass through an object of C, which does not override it -/
theorem kU (F : CallFix p m c cc nL s args lw_all own) (hW : WK E s H) {x : MethodName} (hM : Ct l y bytes maxL ret fr lo mc ms (.ref b :: As) E H A1 post) (hlink : Cond.methodLink own index x ∈ lw_all) (hsame : Cond.sameMethod x.cls y.cls x.name x.desc ∈ lw_all) (hsel : Cond.selects C x y ∈ lw_all) (hinst : Cond.instanceMethod y ∈ lw_all) (hini : Cond.initialized y.cls ∈ lw_all) (hcode : Cond.code y bytes maxL ret ∈ lw_all) (hyx : y = ⟨y.cls, x.name, x.desc⟩) (hd : Hd y As.length) (hR : Rm R fr lo maxL) (hb : Recv s H C b)
    (hsz : ls.size = nL) (hst : st0 = As.reverse ++ .ref b :: rest) (hcat : (rest.map fun v => v.category).sum ≤ 8) (hdg : decode cc pc = .ok (.invokevirtual index, 3)) (hf : cells + mc ≤ R.cells ∧ slots + ms ≤ R.slots) :
    va_Run p l e R s m args below meth c H locs cells slots mc ms (F0 m pc ls st0) rest (Qg post A1 (Value.ref b :: As).toArray) A1 := by
  have hdx : (parseMethodDescriptor x.desc).map (fun d => d.parameters.length) = some As.length := by
    have h := hd.2.2
    rw [hyx] at h
    exact h
  refine va_runU F hM (va_cwU (x := x) (owner := y.cls) As.length F.2.2.2.2 ?_ rfl rfl rfl hyx ⟨hd.1, hd.2.1, hdx⟩ hR) ⟨blind, hb, preU hW⟩ rfl rfl hsz hst (lv_room hcat) hdg hf
  refine lw_app ?_ (lw_meth hcode)
  intro w hw
  simp only [List.mem_cons, List.not_mem_nil, or_false] at hw
  rcases hw with e | e | e | e | e
  · rw [e]; exact hlink
  · rw [e]; exact hsame
  · rw [e]; exact hsel
  · rw [e]; exact hinst
  · rw [e]; exact hini
/-! fields -/
variable {ref : String} {T : u_T} {N ci t n : Nat} {fs : List Value} {f : Nat → Int32} {g : Nat → Option Nat}
theorem xget (F : CallFix p m c cc nL s args lw_all own) (hin : ∀ w ∈ u_ws C T N, w ∈ lw_all) (hW : WK E s H) (ho : oat E a ci fs H) (hc : vwCl[ci]? = some (C, T, N)) (k : Nat) (hk : k < N) (hlink : Cond.fieldLink own index ref (T k).2.1 (T k).2.2.1 ∈ lw_all) (hsame : ∀ x, s.fieldFound? (T k).1 (T k).2.1 (T k).2.2.1 = some x → s.fieldFound? ref (T k).2.1 (T k).2.2.1 = some x) {v : Value} (hv : fs[k]? = some v) (hdg : decode cc pc = .ok (.getfield index, 3))
    (kk : W p l e R s m args below meth c H locs cells slots Q (F0 m (pc + 3) ls (v :: rest))) : W p l e R s m args below meth c H locs cells slots Q (F0 m pc ls (.ref a :: rest)) :=
  va_get F.1 F.2.1 F.2.2.2.2 hin F.2.2.2.1 hW.K ho.p 0 rfl hc k hk (F.2.2.2.2 _ hlink) hsame hv hdg kk
/-- what a write to the cell a does to the heap -/
def Upd (a : Nat) (H H1 : Heap) : Prop := H1.size = H.size ∧ ∀ q : Nat, q ≠ a → H1[q]? = H[q]?
theorem Upd.chg {H1 : Heap} (h : Upd a H H1) : Chg (fun q => q = a) H H1 := ⟨Nat.le_of_eq h.1.symm, fun q _ hq => h.2 q hq⟩
theorem xput (F : CallFix p m c cc nL s args lw_all own) (hin : ∀ w ∈ u_ws C T N, w ∈ lw_all) (ty0 : Nat → FieldType) (hty : ∀ k, k < N → parseFieldDescriptor (T k).2.2.1 = some (ty0 k)) (hnm : ∀ a, a < N → ∀ b, b < N → a ≠ b → (T a).2.1 ≠ (T b).2.1) (hW : WK E s H) (ho : oat E a ci fs H) (hS : va_S A H0 H locs) (hA : A a) (hc : vwCl[ci]? = some (C, T, N)) (k : Nat) (hk : k < N) (hlink : Cond.fieldLink own index ref (T k).2.1 (T k).2.2.1 ∈ lw_all) (hsame : ∀ x, s.fieldFound? (T k).1 (T k).2.1 (T k).2.2.1 = some x → s.fieldFound? ref (T k).2.1 (T k).2.2.1 = some x) (hfin : (T k).2.2.2 = false) {v : Value} (hn : narrow (ty0 k) v = v) (hfit : fits (ty0 k) v = true) (hl : k < fs.length)
    (hdg : decode cc pc = .ok (.putfield index, 3)) (kk : ∀ (H1 : Heap) (locs1 : List Loc), oat E a ci (fs.set k v) H1 → Upd a H H1 → va_S A H0 H1 locs1 → W p l e R s m args below meth c H1 locs1 cells slots Q (F0 m (pc + 3) ls rest)) : W p l e R s m args below meth c H locs cells slots Q (F0 m pc ls (v :: .ref a :: rest)) := by
  have hts := F.2.2.2.2
  have hK := hW.K
  have hap := va_apart (own := own) hts hin ty0 hty hnm hK hc
  obtain ⟨r, h1, cell, q1, q2, q3, q4⟩ := ho
  have hr : r = (C, T, N) := Option.some.inj (h1.symm.trans hc)
  subst hr
  obtain ⟨hSl, hfc, kC, hkC, hkind⟩ := hK.1 ci _ hc
  obtain ⟨cf, kf, fi, fd, hi, hsl⟩ := hSl k hk
  have hlay := hts _ (hin _ (u_in_lay hk))
  unfold u_lay at hlay
  rw [if_neg (by rw [hfin]; decide)] at hlay
  have hst := (u_facts hfc hkC (u_lays hts hin hk) hi).1
  have h6 := u_store hfc hkC hkind hlay hi (hty k hk) hn hfit
  refine W.putK F.1 F.2.1 (f := fd) ⟨F.2.2.2.1, hts _ hlink, ⟨_, _, _, hsame _ hi⟩, hst⟩ (by rw [q2]; exact h6) q1 q3 (by rw [hsl]; exact k2_hasslot (q4 k hk)) rfl rfl hdg fun H' e1 e2 e3 => ?_
  rw [hsl] at e1 ⊢
  exact kk H' _ ⟨_, hc, t_OB.to (V := updV (vp_V fs) k v) ⟨_, e1, q2, q3, t_set q4 hap hk v⟩ (fun j _ => vp_updV_set hl v j)⟩ ⟨e2, e3⟩ (hS.put e2 e3 hA)
theorem xputF (F : CallFix p m c cc nL s args lw_all own) (hin : ∀ w ∈ u_ws C T N, w ∈ lw_all) (ty0 : Nat → FieldType) (hty : ∀ k, k < N → parseFieldDescriptor (T k).2.2.1 = some (ty0 k)) (hnm : ∀ a, a < N → ∀ b, b < N → a ≠ b → (T a).2.1 ≠ (T b).2.1) (hW : WK E s H) (ho : oat E a ci fs H) (hS : va_S A H0 H locs) (hA : A a) (hc : vwCl[ci]? = some (C, T, N)) (k : Nat) (hk : k < N) (hlink : Cond.fieldLink own index ref (T k).2.1 (T k).2.2.1 ∈ lw_all) (hsame : ∀ x, s.fieldFound? (T k).1 (T k).2.1 (T k).2.2.1 = some x → s.fieldFound? ref (T k).2.1 (T k).2.2.1 = some x) (hfin : (T k).2.2.2 = true) (hin2 : meth.name = "<init>") (hdecl : (T k).1 = own) {v : Value} (hn : narrow (ty0 k) v = v) (hfit : fits (ty0 k) v = true) (hl : k < fs.length)
    (hdg : decode cc pc = .ok (.putfield index, 3)) (kk : ∀ (H1 : Heap) (locs1 : List Loc), oat E a ci (fs.set k v) H1 → Upd a H H1 → va_S A H0 H1 locs1 → W p l e R s m args below meth c H1 locs1 cells slots Q (F0 m (pc + 3) ls rest)) : W p l e R s m args below meth c H locs cells slots Q (F0 m pc ls (v :: .ref a :: rest)) := by
  have hts := F.2.2.2.2
  have hown := F.2.2.2.1
  have hK := hW.K
  have hap := va_apart (own := own) hts hin ty0 hty hnm hK hc
  obtain ⟨r, h1, cell, q1, q2, q3, q4⟩ := ho
  have hr : r = (C, T, N) := Option.some.inj (h1.symm.trans hc)
  subst hr
  obtain ⟨hSl, hfc, kC, hkC, hkind⟩ := hK.1 ci _ hc
  obtain ⟨cf, kf, fi, fd, hi, hsl⟩ := hSl k hk
  have hlay := hts _ (hin _ (u_in_lay hk))
  unfold u_lay at hlay
  rw [if_pos hfin] at hlay
  have hst := (u_facts hfc hkC (u_lays hts hin hk) hi).1
  have hcf : m.cls = cf := by
    obtain ⟨_, _, c', _, _, _, -, -, hf', -, -, -, hown2, -⟩ := Cond.laysFinal_spec hlay
    have e1 : c' = cf := by have := hi.symm.trans hf'; simp at this; exact this.1.symm
    rw [hdecl] at hown2
    rw [← e1]; exact Option.some.inj (hown.symm.trans hown2)
  have h6 := u_fits hfc hkC hkind (Or.inr hlay) hi (hty k hk) hn hfit
  refine W.putFinK F.1 F.2.1 hown (hts _ hlink) (hsame _ hi) hst hcf hin2 (by rw [q2]; exact h6) q1 q3 (by rw [hsl]; exact k2_hasslot (q4 k hk)) rfl rfl hdg fun H' e1 e2 e3 => ?_
  rw [hsl] at e1 ⊢
  exact kk H' _ ⟨_, hc, t_OB.to (V := updV (vp_V fs) k v) ⟨_, e1, q2, q3, t_set q4 hap hk v⟩ (fun j _ => vp_updV_set hl v j)⟩ ⟨e2, e3⟩ (hS.put e2 e3 hA)
/-! new cells -/
/-- a new cell: nothing old has changed -/
def Psh (H H1 : Heap) : Prop := H1.size = H.size + 1 ∧ ∀ q : Nat, q < H.size → H1[q]? = H[q]?
theorem Psh.chg {A : Nat → Prop} {H1 : Heap} (h : Psh H H1) : Chg A H H1 := ⟨by rw [h.1]; exact Nat.le_succ _, fun q h1 _ => h.2 q h1⟩
theorem va_S.psh {A : Nat → Prop} {H0 H H1 : Heap} {locs : List Loc} (h : va_S A H0 H locs) (hp : Psh H H1) : va_S A H0 H1 locs := ⟨Nat.le_trans h.1 (by rw [hp.1]; exact Nat.le_succ _), fun q h1 h2 => (hp.2 q (Nat.lt_of_lt_of_le h1 h.1)).trans (h.2.1 q h1 h2), h.2.2⟩
theorem xnew (F : CallFix p m c cc nL s args lw_all own) (hin : ∀ w ∈ u_ws C T N, w ∈ lw_all) (ty : Nat → FieldType) (hty : ∀ k, k < N → parseFieldDescriptor (T k).2.2.1 = some (ty k)) (hcl : Cond.classLink own index C ∈ lw_all) (hinst : Cond.instantiable C N ∈ lw_all) (hini : Cond.initialized C ∈ lw_all)
    (hW : WK E s H) (hS : va_S A H0 H locs) (hc : vwCl[ci]? = some (C, T, N)) {fs : List Value} (hfs : ∀ j, j < N → defaultValue (ty j) = vp_V fs j) (hcells : cells + 1 ≤ R.cells) (hslots : slots + N ≤ R.slots) (hdg : decode cc pc = .ok (.new index, 3))
    (kk : ∀ (H1 : Heap), oat E H.size ci fs H1 → Psh H H1 → va_S A H0 H1 locs → W p l e R s m args below meth c H1 locs (cells + 1) (slots + N) Q (F0 m (pc + 3) ls (.ref H.size :: rest))) : W p l e R s m args below meth c H locs cells slots Q (F0 m pc ls rest) := by
  have hKn := hW.K.1 ci _ hc
  refine W.newcK F.1 F.2.1 F.2.2.2.1 (F.2.2.2.2 _ hcl) (F.2.2.2.2 _ hinst) (F.2.2.2.2 _ hini) rfl hdg hcells hslots hKn.2.1 rfl fun H1 kC hkC e1 z1 o1 => ?_
  exact kk H1 ⟨_, hc, (u_born ty F.2.2.2.2 hin hKn hkC e1 hty).to hfs⟩ ⟨z1, o1⟩ (hS.psh ⟨z1, o1⟩)
theorem xnewa (F : CallFix p m c cc nL s args lw_all own) {atype : ArrayType} (harr : Cond.arrayClass (newarray.typeOf atype) ∈ lw_all) {ty : FieldType} (hty : newarray.typeOf atype = ty) (hW : WK E s H) (hS : va_S A H0 H locs) (t : Nat) (ht : (tysL E.2.1)[t]? = some (E.2.1 t, ty)) (hra : ∀ cA, va_RA s cA ty → s.vm.findClass ("[" ++ ty.toString) = some cA) (h0 : defaultValue ty = .int 0)
    {i : Int32} {N' : Nat} (hn : ¬ i < 0) (hN : i.toNatClampNeg = N') (hbytes : N' * componentBytes ty ≤ 536870912) (hcells : cells + 1 ≤ R.cells) (hslots : slots + N' ≤ R.slots) (hdg : decode cc pc = .ok (.newarray atype, 2))
    (kk : ∀ (H1 : Heap), iat E H.size t N' (fun _ => 0) H1 → Psh H H1 → va_S A H0 H1 locs → W p l e R s m args below meth c H1 locs (cells + 1) (slots + N') Q (F0 m (pc + 2) ls (.ref H.size :: rest))) : W p l e R s m args below meth c H locs cells slots Q (F0 m pc ls (.int i :: rest)) := by
  subst hty
  refine va_newaK F.1 F.2.1 (F.2.2.2.2 _ harr) rfl hdg rfl hn hN hbytes hcells hslots rfl fun H1 cA e1 z1 o1 hAr hNm => ?_
  have hcA : cA = E.2.1 t := Option.some.inj (hNm.symm.trans (hra _ (hW.K.2 t _ ht).2))
  subst hcA
  refine kk H1 ?_ ⟨z1, o1⟩ (hS.psh ⟨z1, o1⟩)
  show H1[H.size]? = some (vp_cell _ _)
  rw [e1, h0]
  rfl
theorem xnewq (F : CallFix p m c cc nL s args lw_all own) {C : String} (hclink : Cond.classLink own index C ∈ lw_all) (hover : C ∈ xwAO) (hW : WK E s H) (hS : va_S A H0 H locs) (t : Nat) (ht : (tysL E.2.1)[t]? = some (E.2.1 t, .object C))
    {i : Int32} {N' : Nat} (hn : ¬ i < 0) (hN : i.toNatClampNeg = N') (hbytes : N' * 4 ≤ 536870912) (hcells : cells + 1 ≤ R.cells) (hslots : slots + N' ≤ R.slots) (hdg : decode cc pc = .ok (.anewarray index, 3))
    (kk : ∀ (H1 : Heap), qat E H.size t N' (fun _ => none) H1 → Psh H H1 → va_S A H0 H1 locs → W p l e R s m args below meth c H1 locs (cells + 1) (slots + N') Q (F0 m (pc + 3) ls (.ref H.size :: rest))) : W p l e R s m args below meth c H locs cells slots Q (F0 m pc ls (.int i :: rest)) := by
  subst hN
  refine W.anew F.1 F.2.1 F.2.2.2.1 (F.2.2.2.2 _ hclink) (va_AO.use (hW.1.2.2.1 _ hover)) rfl hdg rfl hn hbytes hcells hslots fun cA kA comp f1 f2 f3 f4 => ?_
  have hcA : cA = E.2.1 t := by
    obtain ⟨_, _, _, _, _, h4⟩ := (hW.K.2 t _ ht).2
    exact Option.some.inj (f1.symm.trans h4)
  subst hcA
  have hp : Psh H (H.push ({ cls := E.2.1 t, slots := Array.replicate i.toNatClampNeg .null, vm := .none } : Cell)) := ⟨by rw [Array.size_push], fun q hq => by rw [Array.getElem?_push, if_neg (Nat.ne_of_lt hq)]⟩
  refine kk _ ?_ hp (hS.psh hp)
  show (H.push _)[H.size]? = some (vp_cell _ _)
  rw [Array.getElem?_push_size, arrV_new, vp_cell_q]
  rfl
/-! arrays -/
theorem xild (F : CallFix p m c cc nL s args lw_all own) (hW : WK E s H) (ho : iat E a 0 n f H) {i : Int32} (hin : vp_in i n) (hdg : decode cc pc = .ok (.iaload, 1))
    (kk : W p l e R s m args below meth c H locs cells slots Q (F0 m (pc + 1) ls (.int (f i.toNatClampNeg) :: rest))) : W p l e R s m args below meth c H locs cells slots Q (F0 m pc ls (.int i :: .ref a :: rest)) :=
  va_iald F.1 F.2.1 hW.K ho.p 0 0 rfl rfl hin hdg kk
theorem xbld (F : CallFix p m c cc nL s args lw_all own) (hW : WK E s H) (ho : iat E a 1 n f H) {i : Int32} (hin : vp_in i n) (hdg : decode cc pc = .ok (.baload, 1))
    (kk : W p l e R s m args below meth c H locs cells slots Q (F0 m (pc + 1) ls (.int (f i.toNatClampNeg) :: rest))) : W p l e R s m args below meth c H locs cells slots Q (F0 m pc ls (.int i :: .ref a :: rest)) :=
  va_bald F.1 F.2.1 hW.K ho.p 0 1 rfl rfl hin hdg kk
theorem xzld (F : CallFix p m c cc nL s args lw_all own) (hW : WK E s H) (ho : iat E a 2 n f H) {i : Int32} (hin : vp_in i n) (hdg : decode cc pc = .ok (.baload, 1))
    (kk : W p l e R s m args below meth c H locs cells slots Q (F0 m (pc + 1) ls (.int (f i.toNatClampNeg) :: rest))) : W p l e R s m args below meth c H locs cells slots Q (F0 m pc ls (.int i :: .ref a :: rest)) :=
  va_zald F.1 F.2.1 hW.K ho.p 0 2 rfl rfl hin hdg kk
theorem xqld (F : CallFix p m c cc nL s args lw_all own) (hW : WK E s H) (t : Nat) {C : String} (ho : qat E a t n g H) (ht : (tysL E.2.1)[t]? = some (E.2.1 t, .object C)) {i : Int32} (hin : vp_in i n) (hdg : decode cc pc = .ok (.aaload, 1))
    (kk : W p l e R s m args below meth c H locs cells slots Q (F0 m (pc + 1) ls (va_rf (g i.toNatClampNeg) :: rest))) : W p l e R s m args below meth c H locs cells slots Q (F0 m pc ls (.int i :: .ref a :: rest)) :=
  va_aldq F.1 F.2.1 hW.K ho.p 0 t rfl ht hin hdg kk
theorem xilen (F : CallFix p m c cc nL s args lw_all own) (hW : WK E s H) (t : Nat) {ty : FieldType} (ho : iat E a t n f H) (ht : (tysL E.2.1)[t]? = some (E.2.1 t, ty)) (hdg : decode cc pc = .ok (.arraylength, 1))
    (kk : W p l e R s m args below meth c H locs cells slots Q (F0 m (pc + 1) ls (.int (nI n) :: rest))) : W p l e R s m args below meth c H locs cells slots Q (F0 m pc ls (.ref a :: rest)) :=
  va_alen F.1 F.2.1 hW.K ho.p 0 t rfl ht rfl hdg kk
theorem xqlen (F : CallFix p m c cc nL s args lw_all own) (hW : WK E s H) (t : Nat) {ty : FieldType} (ho : qat E a t n g H) (ht : (tysL E.2.1)[t]? = some (E.2.1 t, ty)) (hdg : decode cc pc = .ok (.arraylength, 1))
    (kk : W p l e R s m args below meth c H locs cells slots Q (F0 m (pc + 1) ls (.int (nI n) :: rest))) : W p l e R s m args below meth c H locs cells slots Q (F0 m pc ls (.ref a :: rest)) :=
  va_alen F.1 F.2.1 hW.K ho.p 0 t rfl ht rfl hdg kk
theorem xist (F : CallFix p m c cc nL s args lw_all own) (hW : WK E s H) (ho : iat E a 0 n f H) (hS : va_S A H0 H locs) (hA : A a) {i x : Int32} (hin : vp_in i n) (hdg : decode cc pc = .ok (.iastore, 1))
    (kk : ∀ (H1 : Heap) (locs1 : List Loc), iat E a 0 n (upd f i.toNatClampNeg x) H1 → Upd a H H1 → va_S A H0 H1 locs1 → W p l e R s m args below meth c H1 locs1 cells slots Q (F0 m (pc + 1) ls rest)) : W p l e R s m args below meth c H locs cells slots Q (F0 m pc ls (.int x :: .int i :: .ref a :: rest)) := by
  refine W.iast F.1 F.2.1 (show H[a]? = some (vp_cell _ _) from ho) ((hW.K.2 0 _ rfl).1 n (fun j => .int (f j))) (fun q => by cases q) (by show ¬ (i < 0 ∨ (arrV _ _ _).slots.size ≤ _); rw [arrV_size]; exact hin) rfl rfl hdg fun H1 e z oq => ?_
  refine kk H1 _ ?_ ⟨z, oq⟩ (hS.put z oq hA)
  show H1[a]? = some (vp_cell _ _)
  rw [e]
  rw [vp_cell_i, vp_cell_i, arrV_store]
  congr 2
  funext q
  by_cases hq : q = i.toNatClampNeg
  · subst hq
    simp [updV, upd]
  · simp [updV, upd, hq]
theorem xzst (F : CallFix p m c cc nL s args lw_all own) (hW : WK E s H) (ho : iat E a 2 n f H) (hS : va_S A H0 H locs) (hA : A a) {i x : Int32} (hin : vp_in i n) (hx : vp_nar .boolean x = x) (hdg : decode cc pc = .ok (.bastore, 1))
    (kk : ∀ (H1 : Heap) (locs1 : List Loc), iat E a 2 n (upd f i.toNatClampNeg x) H1 → Upd a H H1 → va_S A H0 H1 locs1 → W p l e R s m args below meth c H1 locs1 cells slots Q (F0 m (pc + 1) ls rest)) : W p l e R s m args below meth c H locs cells slots Q (F0 m pc ls (.int x :: .int i :: .ref a :: rest)) := by
  refine W.zast F.1 F.2.1 (show H[a]? = some (vp_cell _ _) from ho) ((hW.K.2 2 _ rfl).1 n (fun j => .int (f j))) (fun q => by cases q) (by show ¬ (i < 0 ∨ (arrV _ _ _).slots.size ≤ _); rw [arrV_size]; exact hin) rfl rfl hdg fun H1 e z oq => ?_
  have e : H1[a]? = some (vp_cell (E.2.1 2) (n, .inl (upd f i.toNatClampNeg (vp_nar .boolean x)))) := by
    rw [e]
    rw [vp_cell_i, vp_cell_i, arrV_store]
    congr 2
    funext q
    by_cases hq : q = i.toNatClampNeg
    · subst hq
      simp [updV, upd, vp_nar]
      try rfl
    · simp [updV, upd, hq]
  rw [hx] at e
  exact kk H1 _ e ⟨z, oq⟩ (hS.put z oq hA)
theorem xqst (F : CallFix p m c cc nL s args lw_all own) (hW : WK E s H) (t : Nat) {C : String} (ho : qat E a t n g H) (ht : (tysL E.2.1)[t]? = some (E.2.1 t, .object C)) (hS : va_S A H0 H locs) (hA : A a) {v : Nat} (hr : va_Any C s H v) {i : Int32} (hin : vp_in i n) (hdg : decode cc pc = .ok (.aastore, 1))
    (kk : ∀ (H1 : Heap) (locs1 : List Loc), qat E a t n (va_up g i.toNatClampNeg (some v)) H1 → Upd a H H1 → va_S A H0 H1 locs1 → W p l e R s m args below meth c H1 locs1 cells slots Q (F0 m (pc + 1) ls rest)) : W p l e R s m args below meth c H locs cells slots Q (F0 m pc ls (.ref v :: .int i :: .ref a :: rest)) := by
  have hlt : i.toNatClampNeg < n := Nat.not_le.mp fun q => hin (Or.inr q)
  have h0 : ¬ i < 0 := fun q => hin (Or.inl q)
  obtain ⟨cellV, g1, g3, ⟨kC, hkC⟩, hasg⟩ := hr
  obtain ⟨kA, comp, k1, k2, k3, -⟩ := (hW.K.2 t _ ht).2
  obtain ⟨kE, hkE, -⟩ := Vm.findClass_spec k3
  refine W.aast F.1 F.2.1 (show H[a]? = some (vp_cell _ _) from ho) (fun q h => by cases h) (fun h => by cases h) k1 k2 rfl hkE ⟨h0, by show _ < (arrV _ _ _).slots.size; rw [arrV_size]; exact hlt⟩ g1 (fun q h => by rw [h] at g3; cases g3) hkC (hasg _ k3) rfl rfl hdg fun H1 e z oq => ?_
  refine kk H1 _ ?_ ⟨z, oq⟩ (hS.put z oq hA)
  show H1[a]? = some (vp_cell _ _)
  rw [e]
  rw [vp_cell_q, vp_cell_q, arrV_store]
  congr 2
  funext q
  by_cases hq : q = i.toNatClampNeg
  · subst hq
    simp [updV, va_up, va_rf]
  · simp [updV, va_up, hq]
theorem xqstN (F : CallFix p m c cc nL s args lw_all own) (hW : WK E s H) (t : Nat) {C : String} (ho : qat E a t n g H) (ht : (tysL E.2.1)[t]? = some (E.2.1 t, .object C)) (hS : va_S A H0 H locs) (hA : A a) {i : Int32} (hin : vp_in i n) (hdg : decode cc pc = .ok (.aastore, 1))
    (kk : ∀ (H1 : Heap) (locs1 : List Loc), qat E a t n (va_up g i.toNatClampNeg none) H1 → Upd a H H1 → va_S A H0 H1 locs1 → W p l e R s m args below meth c H1 locs1 cells slots Q (F0 m (pc + 1) ls rest)) : W p l e R s m args below meth c H locs cells slots Q (F0 m pc ls (.null :: .int i :: .ref a :: rest)) := by
  refine va_WaastN (C := C) F.1 F.2.1 (show H[a]? = some (vp_cell _ _) from ho) ((hW.K.2 t _ ht).1 n (fun j => va_rf (g j))) (fun h => by cases h) (by show ¬ (i < 0 ∨ (arrV _ _ _).slots.size ≤ _); rw [arrV_size]; exact hin) rfl rfl hdg fun H1 e z oq => ?_
  refine kk H1 _ ?_ ⟨z, oq⟩ (hS.put z oq hA)
  show H1[a]? = some (vp_cell _ _)
  rw [e]
  rw [vp_cell_q, vp_cell_q, arrV_store]
  congr 2
  funext q
  by_cases hq : q = i.toNatClampNeg
  · subst hq
    simp [updV, va_up, va_rf]
  · simp [updV, va_up, hq]
theorem any (hW : WK E s H) (ho : oat E a ci fs H) {r : vw_C} (hc : vwCl[ci]? = some r) (hq : (r.1, "java/lang/Object") ∈ xwCast) : va_Any "java/lang/Object" s H a := by
  refine va_rAny hW.K ho.p (q0 := 0) rfl hc (fun comp c0 h1 h2 => ?_)
  obtain ⟨c1, t1, f1, f2, f3⟩ := Cond.castable_spec (va_Nw.use (A := #[]) rfl (hW.1.2.2.2.1 _ hq))
  cases h2.symm.trans f1
  cases h1.symm.trans f2
  exact f3
end BASE
