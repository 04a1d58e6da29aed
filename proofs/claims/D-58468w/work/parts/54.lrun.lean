/-! LAMBDAS 3: a call of a lambda's object -/
set_option maxRecDepth 100000
theorem lt_obj {args : Array Value} {s : State} (h : (Cond.instantiable "java/lang/Object" (0 : Nat)).before args s = true) : ltObj s.vm := by
  obtain ⟨o, ok, h1, h2, -, -, -, h6⟩ := Cond.instantiable_spec h
  intro o' ok' h3 h4
  cases h1.symm.trans h3
  cases h2.symm.trans h4
  exact h6
theorem lt_objW {s : State} {vm : Vm} (hA : s.vm.Alike vm) {args : Array Value} (h : (Cond.instantiable "java/lang/Object" (0 : Nat)).before args s = true) : ltObj vm := by
  obtain ⟨o, ok, h1, h2, -, -, -, h6⟩ := Cond.instantiable_spec h
  intro o' ok' h3 h4
  rw [hA.findClass] at h3
  cases h1.symm.trans h3
  obtain ⟨k', hk', he⟩ := hA.2.2 _ _ h2
  cases hk'.symm.trans h4
  rw [he]; exact h6
theorem ltRun0 {p : Program} {l : Launch} {e : Env} {R : Room} {s : State} {m : MethodId} {args : Array Value} {below : List Frame} {meth : Method} {c : Code} {H : Heap} {locs : List Loc} {cells slots : Nat} {cc : ByteArray} {pc nL : Nat} {ls : Array Slot} {rest : List Value} {E : EV} {a b fr lo mc ms : Nat} {k0 xk : Int32} {cell : Cell} {A1 : Nat → Prop} {post : Option Value → Heap → Prop}
    (F : CallFix p m c cc nL s args lw_all "LayeredCharters$Charter") (hW : WK E s H) (hcell : H[a]? = some cell) (hcls : cell.cls = E.2.2.2 20) (hvm : cell.vm = .none) (hsl : cell.slots = #[.ref b, .int k0])
    (hM : Ct l yX2_lambda_odds_0 cX2_lambda_odds_0 3 (some .boolean) fr lo mc ms [.ref b, .int k0, .int xk] E H A1 post) (hpo : ∀ v H1, post v H1 → ∃ bb : Bool, v = some (.int (b2i bb))) (hbr : Recv s H "LayeredCharters$Charter" b)
    (hfr : fr + 2 ≤ R.frames) (hlo : 8 + (2 + 11) + (8 + (3 + 11) + lo) ≤ R.locals) (hsz : ls.size = nL) (hcat : (rest.map fun v => v.category).sum ≤ 8) (hdg : decode cc pc = .ok (.invokeinterface 104 2, 5)) (hf : cells + mc ≤ R.cells ∧ slots + ms ≤ R.slots) :
    va_Run5 p l e R s m args below meth c H locs cells slots mc ms (F0 m pc ls (.int xk :: .ref a :: rest)) rest (Qg post A1 #[.ref b, .int k0, .int xk]) A1 := by
  intro T hT X
  obtain ⟨hexec, hbc, hml, hown, hts⟩ := F
  obtain ⟨mD, kD, cfD, i0, p0, hmD, hkD, -, -, -, hmade, hcan⟩ := hW.1.2.2.2.2.2.2.2.2.2.1
  obtain ⟨r0, r, kL, hn, hrm, hstR, hsigR, hkL, hiL, hfoundL⟩ := hW.1.2.2.2.2.2.2.2.2.2.2.2.2.1
  rw [← hcls] at hmade hcan
  obtain ⟨kD', hkD', hnameD⟩ := className_of_methodNamed hmD
  cases hkD.symm.trans hkD'
  obtain ⟨-, -, -, -, -, -, -, iface', -, -, -, -, found, -, -, -, -, -, hi', -, -, -, -, -, -, hfound', -, -, -, -, -, -, -, -, -, -, hsel⟩ := Jvm.Lambda.isMade_spec hmade
  have hcL : s.vm.findClass "LayeredCharters$Test" = some r0.cls := findClass_of_methodNamed hn
  cases hcL.symm.trans hi'
  have hfr9 : found = r0 := by
    have h1 := hfoundL
    simp only [State.methodFound?, hcL, hkL, hiL, Option.bind_eq_bind, Option.bind_some] at h1
    have h2 : ((methodIn r0.cls "of" "(I)Z" true none).ask { classPath := fun _ => none } s.vm).1 = .ok found := hfound'
    rw [h2] at h1
    exact Option.some.inj h1
  subst hfr9
  obtain ⟨i2, hi2, hasg, hway⟩ := State.lambdaCallable_spec hcan
  cases hcL.symm.trans hi2
  have e1 : ltSh0.sam.toString = "(I)Z" := by decide +kernel
  have hsigI : r.sig = ⟨[.int], some .boolean⟩ := (Option.some.inj ((by decide +kernel : parseMethodDescriptor "(I)Z" = some ⟨[.int], some .boolean⟩).symm.trans hsigR)).symm
  obtain ⟨hnameR, hdescR⟩ := name_of_methodNamed hn hrm
  obtain ⟨kK, -, -, methk, -, -, -, g0, g1, hkK, -, -, -, hmk, -, -, -, -, hfl, -, -, -, -, -, -, -, -, -, -, -, -, -⟩ := lt_made0 hkD hnameD hmade (lt_obj (hts _ q1293))
  obtain ⟨mT, methT, hmT, hmethT, hstT, habT⟩ := Cond.instanceMethod_spec (hts _ q767)
  obtain ⟨methT', cT, hmethT', -, -, -, -, -, -, hsigT⟩ := Cond.code_spec hmT (hts _ q768)
  cases hmethT.symm.trans hmethT'
  obtain ⟨mk9, methP, hmP, hmethP, hpriv⟩ := hW.1.2.2.2.2.2.2.2.2.2.2.2.2.2
  cases hmT.symm.trans hmP
  cases hmethT.symm.trans hmethP
  obtain ⟨cellB, hcB, hoB, hclB⟩ := hbr
  obtain ⟨kT, hkT, hnameT⟩ := className_of_methodNamed hmT
  have hfT : s.vm.findClass "LayeredCharters$Charter" = some mT.cls := findClass_of_methodNamed hmT
  have hsigTI : methT.sig = ⟨[.int, .int], some .boolean⟩ := (Option.some.inj ((by decide +kernel : parseMethodDescriptor "(II)Z" = some ⟨[.int, .int], some .boolean⟩).symm.trans hsigT)).symm
  have hcell₁ : T.heap[a]? = some cell := by rw [hT]; exact hcell
  obtain ⟨vm₁, X₁, hstep₁⟩ := X.invokeinterface hexec hown (hts _ q782) hn hrm hstR hkL hiL (by decide) (a := a) (cell := cell) (kcell := kK) hcell₁ (fun z h => by rw [hvm] at h; cases h) hkK hasg
    (m' := ⟨cell.cls, 1⟩) (meth' := methk) (by rw [Launch.admits_selectMethod X.admits]; exact hsel) hmk (by rw [hnameR, hdescR]; rw [e1] at hway; exact hway) (by rw [hfl]; decide) (by simp [Method.isAbstract, hfl, hasFlag, Acc.abstract])
    (g := F0 m pc ls (.int xk :: .ref a :: rest)) rfl (argsL := [.int xk]) (rest := rest) (by rw [hsigI]; rfl) rfl (by rw [hbc]; exact hdg)
  have hW₁ : s.WarmedH vm₁ := X₁.warmed
  obtain ⟨kD₁, hkD₁, heD₁⟩ := hW₁.alike.2.2 _ _ hkD
  have hnameD₁ : kD₁.name = "LayeredCharters$Charter" := by rw [heD₁]; exact hnameD
  obtain ⟨kK₁, tk₁, file₁, methk₁, ckK₁, toy₁, t₁, g0, g1, hkK₁, hkn₁, hfile₁, hpool₁, hmk₁, hckK₁, hbytes₁, hml₁, hlk₁, hfl₁, hretk₁, htoy₁, htk₁, hitf₁, hlook₁, hready₁, hclsR₁, hg0, hg0s, hg0l, hg1, hg1s, hg1l⟩ := lt_made0 hkD₁ hnameD₁ (Jvm.Lambda.isMade_warmer hW₁ hmade) (lt_objW hW₁.alike (hts _ q1293))
  have hfT₁ : vm₁.findClass "LayeredCharters$Charter" = some mT.cls := by rw [hW₁.alike.findClass]; exact hfT
  cases htoy₁.symm.trans hfT₁
  have ht₁ : t₁ = mT := by
    have h1 : (s.setVm vm₁).methodFound? "LayeredCharters$Charter" "lambda$odds$0" "(II)Z" = some mT := by rw [State.methodFound?_setVm hW₁.alike]; exact State.methodFound?_of_named hmT (by decide)
    simp only [State.methodFound?, State.vm_setVm, hfT₁, htk₁, Option.bind_eq_bind, Option.bind_some] at h1
    rw [hlook₁] at h1
    exact Option.some.inj h1
  subst ht₁
  have hmethT₁ : vm₁.method? t₁ = some methT := by rw [hW₁.alike.method?]; exact hmethT
  obtain ⟨kT₁, hkT₁, heT₁⟩ := hW₁.alike.2.2 _ _ hkT
  cases htk₁.symm.trans hkT₁
  have hnm : tk₁.name ≠ "java/lang/invoke/MethodHandle" ∧ tk₁.name ≠ "java/lang/invoke/VarHandle" := by
    have : tk₁.name = "LayeredCharters$Charter" := by rw [heT₁]; exact hnameT
    rw [this]; decide
  have hsp : ∀ y : Method, signaturePolymorphic tk₁ y = false := fun y => by simp [signaturePolymorphic, hnm.1, hnm.2]
  have hpk : (T.setVm vm₁).plainMethod ⟨cell.cls, 1⟩ := State.plainMethod.of_name (fun k' hk' => by cases hkK₁.symm.trans hk'; rw [hkn₁]; decide)
  have hsz' : (F0 m pc ls rest).locals.size = c.maxLocals := hsz.trans hml.symm
  have hdg2 : decode c.code (F0 m pc ls rest).pc = .ok (.invokeinterface 104 2, 5) := by rw [hbc]; exact hdg
  have hroom : 2 * (F0 m pc ls rest).monitorRoom + (rest.map fun v => v.category).sum ≤ 8 := lv_room hcat
  obtain ⟨Y₀, hin⟩ := X₁.into (g := F0 m pc ls rest) rfl hsz' hdg2 #[.ref a, .int xk] (R' := { frames := fr + 1, cells := mc, slots := ms, locals := 8 + (3 + 11) + lo }) hmk₁ hckK₁ hlk₁ hpk
    (by show fr + 1 + 1 ≤ R.frames; omega) (by rw [hml₁]; show 2 * (F0 m pc ls rest).monitorRoom + (rest.map fun v => v.category).sum + (2 + 11) + (8 + (3 + 11) + lo) ≤ R.locals; omega) hf.1 hf.2
  generalize hU : ((T.setVm vm₁).setTop (F0 m pc ls rest)).pushFrame (.java (entryFrame ⟨cell.cls, 1⟩ #[.ref a, .int xk] ckK₁.maxLocals)) = U at Y₀ hin
  have hvmU : U.vm = vm₁ := by rw [← hU]; rfl
  have hheapU : U.heap = H := by rw [← hU]; exact hT
  have hs' : s.WarmedH ((T.setVm vm₁).calling (F0 m pc ls rest) ⟨cell.cls, 1⟩ #[.ref a, .int xk]).vm := hW₁
  have hnamedU : U.methodNamed? yX2_lambda_odds_0 = some t₁ := by
    have h1 : (s.setVm vm₁).methodNamed? yX2_lambda_odds_0 = some t₁ := (State.methodNamed?_setVm (s := s) hW₁.alike yX2_lambda_odds_0).trans hmT
    have h2 : U.methodNamed? yX2_lambda_odds_0 = (s.setVm vm₁).methodNamed? yX2_lambda_odds_0 := by unfold State.methodNamed?; rw [hvmU]; rfl
    exact h2.trans h1
  have hK := back_of (R := { frames := fr + 1, cells := mc, slots := ms, locals := 8 + (3 + 11) + lo }) (p := p) (e := e) (below := .java (F0 m pc ls rest) :: below) (s := (T.setVm vm₁).calling (F0 m pc ls rest) ⟨cell.cls, 1⟩ #[.ref a, .int xk]) (sargs := #[.ref a, .int xk]) (len := 3) (W := 8) (bytes := cX2_lambda_odds_0) (maxL := 3) (ret := some .boolean) hM blind rfl rfl (Nat.le_refl _) (Nat.le_refl _)
    (fun w hw a' U' hWU => pay_in hts (lw_meth q768) w hw a' U' (hs'.trans hWU)) List.mem_cons_self (fun a' U' hWU => word_at (hs'.trans hWU) (Or.inl (by first | rfl | simp [Cond.onTables, Cond.keeps, Cond.steady])) (hts _ q44))
  obtain ⟨v, ⟨U', L2, c2, s2⟩, Y', ⟨g2, mk2, t, L, e1', e2', hq, h1, hL, h2, h3⟩, hsteps⟩ := hK ⟨cell.cls, 1⟩ methk₁ ckK₁ ⟨U, [], 0, 0⟩ { method := ⟨cell.cls, 1⟩, pc := 9, locals := #[.val (.ref a), .val (.int xk)], stack := [], locked := none } (.invokevirtual 27) t₁ #[.ref b, .int k0, .int xk] Y₀ rfl (by rw [hml₁]; rfl) (by rw [hbytes₁]; exact ltd0_9) (by show 2 * 0 + 0 ≤ 8; decide) hnamedU
    ⟨by show 0 + mc ≤ mc; omega, by show 0 + ms ≤ ms; omega, preU hW U hheapU (by rw [hvmU]; exact hW₁)⟩
  dsimp only [Pt.U, Pt.locs, Pt.cells, Pt.slots] at Y' e1' e2' h1 h2 h3 hsteps
  subst h1; subst h2; subst h3
  obtain ⟨⟨v', hv, hp⟩, hfr2⟩ := hq
  cases hv
  obtain ⟨bb, hbb⟩ := hpo _ _ hp
  subst hbb
  obtain ⟨fs, hleave, -, hended, hWe, hsame⟩ := Y'.leave (v := some (.int (b2i bb))) (fun h => by rw [hretk₁] at h; cases h) hlk₁
  obtain ⟨T', X', hW', -, ht⟩ := X₁.outOf (g := F0 m pc ls rest) rfl hdg2 hended hWe hsame
  have hheap' : T'.heap = U'.heap := (congrArg State.heap ht).symm
  have hvm' : T'.vm = U'.vm := (congrArg State.vm ht).symm
  rw [Nat.zero_add, Nat.zero_add] at X'
  refine ⟨some (.int (b2i bb)), U.calling g2 mk2 #[.ref b, .int k0, .int xk], t, T', L2, hheapU, X', hL, hheap'.trans e1', hvm'.trans e2', ⟨⟨_, rfl, hp⟩, hfr2⟩, fun target h => hstep₁ _ fun acts => ?_⟩
  refine Steps.trans ?_ h
  show Steps p.tables e below (doInvoke e ((T.setVm vm₁).setTop (F0 m pc ls rest)) acts ⟨cell.cls, 1⟩ #[.ref a, .int xk]).1 (T'.setTop { (F0 m pc ls rest) with pc := (F0 m pc ls rest).pc + 5, stack := (some (Value.int (b2i bb))).toList ++ (F0 m pc ls rest).stack })
  rw [hin acts, ← ht]
  refine Steps.weaken (mid := [.java (F0 m pc ls rest)]) ?_
  have hloc : entryFrame ⟨cell.cls, 1⟩ #[.ref a, .int xk] ckK₁.maxLocals = { method := ⟨cell.cls, 1⟩, pc := 0, locals := #[.val (.ref a), .val (.int xk)], stack := [], locked := none } := by rw [hml₁]; rfl
  rw [hloc]
  have hnamed : namesAClass (T.setVm vm₁) cell.cls 27 := ⟨kK₁, file₁, 23, 26, t₁.cls, tk₁, hkK₁, hfile₁, by rw [hpool₁]; exact lt_eM0.1, hclsR₁, htk₁, hitf₁⟩
  have hs : U.topJava?.isSome := Y₀.here.top
  have hcellU : U.heap[a]? = some cell := by rw [hheapU]; exact hcell
  jvm_step Y₀.here [hexec, hbytes₁, ltd0_0, Value.isRef]
  jvm_step Y₀.here [hexec, hbytes₁, ltd0_1, getfield.wp_ready (e := e) (s := U) (c := cell.cls) (field := g0) (a := a) (rest := []) (cell := cell) (v := .ref b)
    (f := { method := ⟨cell.cls, 1⟩, pc := 1, locals := #[.val (.ref a), .val (.int xk)], stack := [.ref a], locked := none }) hs (by rw [hvmU]; exact hg0) hg0s rfl hcellU (by rw [hvm]; decide) (by rw [hg0l, hsl]; rfl)]
  jvm_step Y₀.here [hexec, hbytes₁, ltd0_4, Value.isRef]
  jvm_step Y₀.here [hexec, hbytes₁, ltd0_5, getfield.wp_ready (e := e) (s := U) (c := cell.cls) (field := g1) (a := a) (rest := [.ref b]) (cell := cell) (v := .int k0)
    (f := { method := ⟨cell.cls, 1⟩, pc := 5, locals := #[.val (.ref a), .val (.int xk)], stack := [.ref a, .ref b], locked := none }) hs (by rw [hvmU]; exact hg1) hg1s rfl hcellU (by rw [hvm]; decide) (by rw [hg1l, hsl]; rfl)]
  jvm_step Y₀.here [hexec, hbytes₁, ltd0_8]
  jvm_step Y₀.here [hexec, hbytes₁, ltd0_9, invokevirtual.wp_ready (e := e) (s := U) (r := t₁) (m := t₁) (k := tk₁) (mk := tk₁) (rmeth := methT) (meth := methT) (a := b) (args := [.int k0, .int xk]) (rest := []) (cell := cellB)
    (f := { method := ⟨cell.cls, 1⟩, pc := 9, locals := #[.val (.ref a), .val (.int xk)], stack := [.int xk, .int k0, .ref b], locked := none }) hs (by rw [← hU]; exact hnamed) (by rw [hvmU]; exact hready₁) (by rw [hvmU]; exact htk₁) (by rw [hvmU]; exact hmethT₁) (hsp _) hstT (by rw [hsigTI]; rfl) rfl
    (by rw [hheapU]; exact hcB) (fun z h => by rw [h] at hoB; cases hoB) (by rw [hvmU]; exact selectMethod_private hmethT₁ hpriv) (by rw [hvmU]; exact hmethT₁) habT (by rw [hvmU]; exact htk₁) hitf₁]
  intro acts'
  rw [doInvoke_state]
  refine hsteps.trans ?_
  show Steps p.tables e (.java (F0 m pc ls rest) :: below) (U'.setTop { method := ⟨cell.cls, 1⟩, pc := 12, locals := #[.val (.ref a), .val (.int xk)], stack := [.int (b2i bb)], locked := none }) _
  jvm_step Y'.here [Y'.here.top, hexec, hbytes₁, ltd0_12, (show U'.vm.method? ⟨cell.cls, 1⟩ = some methk₁ from Y'.method'), hretk₁, b2i_nar bb]
  intro acts''
  rw [hleave { method := ⟨cell.cls, 1⟩, pc := 12, locals := #[.val (.ref a), .val (.int xk)], stack := [], locked := none } acts'' rfl rfl rfl]
  exact Steps.refl _
theorem ltRun1 {p : Program} {l : Launch} {e : Env} {R : Room} {s : State} {m : MethodId} {args : Array Value} {below : List Frame} {meth : Method} {c : Code} {H : Heap} {locs : List Loc} {cells slots : Nat} {cc : ByteArray} {pc nL : Nat} {ls : Array Slot} {rest : List Value} {E : EV} {a b fr lo mc ms : Nat} {k0 xk : Int32} {cell : Cell} {A1 : Nat → Prop} {post : Option Value → Heap → Prop}
    (F : CallFix p m c cc nL s args lw_all "LayeredCharters$Charter") (hW : WK E s H) (hcell : H[a]? = some cell) (hcls : cell.cls = E.2.2.2 21) (hvm : cell.vm = .none) (hsl : cell.slots = #[.ref b, .int k0])
    (hM : Ct l yX0_lambda_count_0 cX0_lambda_count_0 3 (some .boolean) fr lo mc ms [.ref b, .int k0, .int xk] E H A1 post) (hpo : ∀ v H1, post v H1 → ∃ bb : Bool, v = some (.int (b2i bb)))
    (hfr : fr + 2 ≤ R.frames) (hlo : 8 + (2 + 11) + (8 + (3 + 11) + lo) ≤ R.locals) (hsz : ls.size = nL) (hcat : (rest.map fun v => v.category).sum ≤ 8) (hdg : decode cc pc = .ok (.invokeinterface 104 2, 5)) (hf : cells + mc ≤ R.cells ∧ slots + ms ≤ R.slots) :
    va_Run5 p l e R s m args below meth c H locs cells slots mc ms (F0 m pc ls (.int xk :: .ref a :: rest)) rest (Qg post A1 #[.ref b, .int k0, .int xk]) A1 := by
  intro T hT X
  obtain ⟨hexec, hbc, hml, hown, hts⟩ := F
  obtain ⟨mD, kD, cfD, i0, p0, hmD, hkD, -, -, -, hmade, hcan⟩ := hW.1.2.2.2.2.2.2.2.2.2.2.1
  obtain ⟨r0, r, kL, hn, hrm, hstR, hsigR, hkL, hiL, hfoundL⟩ := hW.1.2.2.2.2.2.2.2.2.2.2.2.2.1
  rw [← hcls] at hmade hcan
  obtain ⟨kD', hkD', hnameD⟩ := className_of_methodNamed hmD
  cases hkD.symm.trans hkD'
  obtain ⟨-, -, -, -, -, -, -, iface', -, -, -, -, found, -, -, -, -, -, hi', -, -, -, -, -, -, hfound', -, -, -, -, -, -, -, -, -, -, hsel⟩ := Jvm.Lambda.isMade_spec hmade
  have hcL : s.vm.findClass "LayeredCharters$Test" = some r0.cls := findClass_of_methodNamed hn
  cases hcL.symm.trans hi'
  have hfr9 : found = r0 := by
    have h1 := hfoundL
    simp only [State.methodFound?, hcL, hkL, hiL, Option.bind_eq_bind, Option.bind_some] at h1
    have h2 : ((methodIn r0.cls "of" "(I)Z" true none).ask { classPath := fun _ => none } s.vm).1 = .ok found := hfound'
    rw [h2] at h1
    exact Option.some.inj h1
  subst hfr9
  obtain ⟨i2, hi2, hasg, hway⟩ := State.lambdaCallable_spec hcan
  cases hcL.symm.trans hi2
  have e1 : ltSh1.sam.toString = "(I)Z" := by decide +kernel
  have hsigI : r.sig = ⟨[.int], some .boolean⟩ := (Option.some.inj ((by decide +kernel : parseMethodDescriptor "(I)Z" = some ⟨[.int], some .boolean⟩).symm.trans hsigR)).symm
  obtain ⟨hnameR, hdescR⟩ := name_of_methodNamed hn hrm
  obtain ⟨kK, -, -, methk, -, -, -, g0, g1, hkK, -, -, -, hmk, -, -, -, -, hfl, -, -, -, -, -, -, -, -, -, -, -, -, -⟩ := lt_made1 hkD hnameD hmade (lt_obj (hts _ q1293))
  obtain ⟨mT, hmT⟩ := Cond.code_named (hts _ q816)
  obtain ⟨methT, cT, hmethT, -, -, -, -, -, -, hsigT⟩ := Cond.code_spec hmT (hts _ q816)
  have hstT : methT.isStatic = true := Cond.static_spec hmT hmethT (hts _ q815)
  obtain ⟨kT, hkT, hnameT⟩ := className_of_methodNamed hmT
  have hfT : s.vm.findClass "LayeredCharters" = some mT.cls := findClass_of_methodNamed hmT
  have hinitK : kT.init = .initialized := Cond.initialized_spec hfT hkT (hts _ q42)
  have hsigTI : methT.sig = ⟨[.object "LayeredCharters$Charter", .int, .int], some .boolean⟩ := (Option.some.inj ((by decide +kernel : parseMethodDescriptor "(LLayeredCharters$Charter;II)Z" = some ⟨[.object "LayeredCharters$Charter", .int, .int], some .boolean⟩).symm.trans hsigT)).symm
  have hcell₁ : T.heap[a]? = some cell := by rw [hT]; exact hcell
  obtain ⟨vm₁, X₁, hstep₁⟩ := X.invokeinterface hexec hown (hts _ q782) hn hrm hstR hkL hiL (by decide) (a := a) (cell := cell) (kcell := kK) hcell₁ (fun z h => by rw [hvm] at h; cases h) hkK hasg
    (m' := ⟨cell.cls, 1⟩) (meth' := methk) (by rw [Launch.admits_selectMethod X.admits]; exact hsel) hmk (by rw [hnameR, hdescR]; rw [e1] at hway; exact hway) (by rw [hfl]; decide) (by simp [Method.isAbstract, hfl, hasFlag, Acc.abstract])
    (g := F0 m pc ls (.int xk :: .ref a :: rest)) rfl (argsL := [.int xk]) (rest := rest) (by rw [hsigI]; rfl) rfl (by rw [hbc]; exact hdg)
  have hW₁ : s.WarmedH vm₁ := X₁.warmed
  obtain ⟨kD₁, hkD₁, heD₁⟩ := hW₁.alike.2.2 _ _ hkD
  have hnameD₁ : kD₁.name = "LayeredCharters" := by rw [heD₁]; exact hnameD
  obtain ⟨kK₁, tk₁, file₁, methk₁, ckK₁, toy₁, t₁, g0, g1, hkK₁, hkn₁, hfile₁, hpool₁, hmk₁, hckK₁, hbytes₁, hml₁, hlk₁, hfl₁, hretk₁, htoy₁, htk₁, hitf₁, hlook₁, hready₁, hclsR₁, hg0, hg0s, hg0l, hg1, hg1s, hg1l⟩ := lt_made1 hkD₁ hnameD₁ (Jvm.Lambda.isMade_warmer hW₁ hmade) (lt_objW hW₁.alike (hts _ q1293))
  have hfT₁ : vm₁.findClass "LayeredCharters" = some mT.cls := by rw [hW₁.alike.findClass]; exact hfT
  cases htoy₁.symm.trans hfT₁
  have ht₁ : t₁ = mT := by
    have h1 : (s.setVm vm₁).methodFound? "LayeredCharters" "lambda$count$0" "(LLayeredCharters$Charter;II)Z" = some mT := by rw [State.methodFound?_setVm hW₁.alike]; exact State.methodFound?_of_named hmT (by decide)
    simp only [State.methodFound?, State.vm_setVm, hfT₁, htk₁, Option.bind_eq_bind, Option.bind_some] at h1
    rw [hlook₁] at h1
    exact Option.some.inj h1
  subst ht₁
  have hmethT₁ : vm₁.method? t₁ = some methT := by rw [hW₁.alike.method?]; exact hmethT
  obtain ⟨kT₁, hkT₁, heT₁⟩ := hW₁.alike.2.2 _ _ hkT
  cases htk₁.symm.trans hkT₁
  have hnm : tk₁.name ≠ "java/lang/invoke/MethodHandle" ∧ tk₁.name ≠ "java/lang/invoke/VarHandle" := by
    have : tk₁.name = "LayeredCharters" := by rw [heT₁]; exact hnameT
    rw [this]; decide
  have hsp : ∀ y : Method, signaturePolymorphic tk₁ y = false := fun y => by simp [signaturePolymorphic, hnm.1, hnm.2]
  have hpk : (T.setVm vm₁).plainMethod ⟨cell.cls, 1⟩ := State.plainMethod.of_name (fun k' hk' => by cases hkK₁.symm.trans hk'; rw [hkn₁]; decide)
  have hsz' : (F0 m pc ls rest).locals.size = c.maxLocals := hsz.trans hml.symm
  have hdg2 : decode c.code (F0 m pc ls rest).pc = .ok (.invokeinterface 104 2, 5) := by rw [hbc]; exact hdg
  have hroom : 2 * (F0 m pc ls rest).monitorRoom + (rest.map fun v => v.category).sum ≤ 8 := lv_room hcat
  obtain ⟨Y₀, hin⟩ := X₁.into (g := F0 m pc ls rest) rfl hsz' hdg2 #[.ref a, .int xk] (R' := { frames := fr + 1, cells := mc, slots := ms, locals := 8 + (3 + 11) + lo }) hmk₁ hckK₁ hlk₁ hpk
    (by show fr + 1 + 1 ≤ R.frames; omega) (by rw [hml₁]; show 2 * (F0 m pc ls rest).monitorRoom + (rest.map fun v => v.category).sum + (2 + 11) + (8 + (3 + 11) + lo) ≤ R.locals; omega) hf.1 hf.2
  generalize hU : ((T.setVm vm₁).setTop (F0 m pc ls rest)).pushFrame (.java (entryFrame ⟨cell.cls, 1⟩ #[.ref a, .int xk] ckK₁.maxLocals)) = U at Y₀ hin
  have hvmU : U.vm = vm₁ := by rw [← hU]; rfl
  have hheapU : U.heap = H := by rw [← hU]; exact hT
  have hs' : s.WarmedH ((T.setVm vm₁).calling (F0 m pc ls rest) ⟨cell.cls, 1⟩ #[.ref a, .int xk]).vm := hW₁
  have hnamedU : U.methodNamed? yX0_lambda_count_0 = some t₁ := by
    have h1 : (s.setVm vm₁).methodNamed? yX0_lambda_count_0 = some t₁ := (State.methodNamed?_setVm (s := s) hW₁.alike yX0_lambda_count_0).trans hmT
    have h2 : U.methodNamed? yX0_lambda_count_0 = (s.setVm vm₁).methodNamed? yX0_lambda_count_0 := by unfold State.methodNamed?; rw [hvmU]; rfl
    exact h2.trans h1
  have hK := back_of (R := { frames := fr + 1, cells := mc, slots := ms, locals := 8 + (3 + 11) + lo }) (p := p) (e := e) (below := .java (F0 m pc ls rest) :: below) (s := (T.setVm vm₁).calling (F0 m pc ls rest) ⟨cell.cls, 1⟩ #[.ref a, .int xk]) (sargs := #[.ref a, .int xk]) (len := 3) (W := 8) (bytes := cX0_lambda_count_0) (maxL := 3) (ret := some .boolean) hM blind rfl rfl (Nat.le_refl _) (Nat.le_refl _)
    (fun w hw a' U' hWU => pay_in hts (lw_meth q816) w hw a' U' (hs'.trans hWU)) List.mem_cons_self (fun a' U' hWU => word_at (hs'.trans hWU) (Or.inl (by first | rfl | simp [Cond.onTables, Cond.keeps, Cond.steady])) (hts _ q42))
  obtain ⟨v, ⟨U', L2, c2, s2⟩, Y', ⟨g2, mk2, t, L, e1', e2', hq, h1, hL, h2, h3⟩, hsteps⟩ := hK ⟨cell.cls, 1⟩ methk₁ ckK₁ ⟨U, [], 0, 0⟩ { method := ⟨cell.cls, 1⟩, pc := 9, locals := #[.val (.ref a), .val (.int xk)], stack := [], locked := none } (.invokestatic 27) t₁ #[.ref b, .int k0, .int xk] Y₀ rfl (by rw [hml₁]; rfl) (by rw [hbytes₁]; exact ltd1_9) (by show 2 * 0 + 0 ≤ 8; decide) hnamedU
    ⟨by show 0 + mc ≤ mc; omega, by show 0 + ms ≤ ms; omega, preU hW U hheapU (by rw [hvmU]; exact hW₁)⟩
  dsimp only [Pt.U, Pt.locs, Pt.cells, Pt.slots] at Y' e1' e2' h1 h2 h3 hsteps
  subst h1; subst h2; subst h3
  obtain ⟨⟨v', hv, hp⟩, hfr2⟩ := hq
  cases hv
  obtain ⟨bb, hbb⟩ := hpo _ _ hp
  subst hbb
  obtain ⟨fs, hleave, -, hended, hWe, hsame⟩ := Y'.leave (v := some (.int (b2i bb))) (fun h => by rw [hretk₁] at h; cases h) hlk₁
  obtain ⟨T', X', hW', -, ht⟩ := X₁.outOf (g := F0 m pc ls rest) rfl hdg2 hended hWe hsame
  have hheap' : T'.heap = U'.heap := (congrArg State.heap ht).symm
  have hvm' : T'.vm = U'.vm := (congrArg State.vm ht).symm
  rw [Nat.zero_add, Nat.zero_add] at X'
  refine ⟨some (.int (b2i bb)), U.calling g2 mk2 #[.ref b, .int k0, .int xk], t, T', L2, hheapU, X', hL, hheap'.trans e1', hvm'.trans e2', ⟨⟨_, rfl, hp⟩, hfr2⟩, fun target h => hstep₁ _ fun acts => ?_⟩
  refine Steps.trans ?_ h
  show Steps p.tables e below (doInvoke e ((T.setVm vm₁).setTop (F0 m pc ls rest)) acts ⟨cell.cls, 1⟩ #[.ref a, .int xk]).1 (T'.setTop { (F0 m pc ls rest) with pc := (F0 m pc ls rest).pc + 5, stack := (some (Value.int (b2i bb))).toList ++ (F0 m pc ls rest).stack })
  rw [hin acts, ← ht]
  refine Steps.weaken (mid := [.java (F0 m pc ls rest)]) ?_
  have hloc : entryFrame ⟨cell.cls, 1⟩ #[.ref a, .int xk] ckK₁.maxLocals = { method := ⟨cell.cls, 1⟩, pc := 0, locals := #[.val (.ref a), .val (.int xk)], stack := [], locked := none } := by rw [hml₁]; rfl
  rw [hloc]
  obtain ⟨bq, hmem⟩ := memberRef_ask' (e := e) (vm := vm₁) (d := cell.cls) (index := 27) hkK₁ hfile₁ (Or.inl (by rw [hpool₁]; exact lt_eM1.1)) (by rw [hpool₁]; exact lt_eM1.2.2)
  have href : plainRef (T.setVm vm₁) e cell.cls 27 := ⟨23, _, _, bq, t₁.cls, tk₁, hmem, hclsR₁, htk₁, by simp [hsp]⟩
  have hs : U.topJava?.isSome := Y₀.here.top
  have hcellU : U.heap[a]? = some cell := by rw [hheapU]; exact hcell
  jvm_step Y₀.here [hexec, hbytes₁, ltd1_0, Value.isRef]
  jvm_step Y₀.here [hexec, hbytes₁, ltd1_1, getfield.wp_ready (e := e) (s := U) (c := cell.cls) (field := g0) (a := a) (rest := []) (cell := cell) (v := .ref b)
    (f := { method := ⟨cell.cls, 1⟩, pc := 1, locals := #[.val (.ref a), .val (.int xk)], stack := [.ref a], locked := none }) hs (by rw [hvmU]; exact hg0) hg0s rfl hcellU (by rw [hvm]; decide) (by rw [hg0l, hsl]; rfl)]
  jvm_step Y₀.here [hexec, hbytes₁, ltd1_4, Value.isRef]
  jvm_step Y₀.here [hexec, hbytes₁, ltd1_5, getfield.wp_ready (e := e) (s := U) (c := cell.cls) (field := g1) (a := a) (rest := [.ref b]) (cell := cell) (v := .int k0)
    (f := { method := ⟨cell.cls, 1⟩, pc := 5, locals := #[.val (.ref a), .val (.int xk)], stack := [.ref a, .ref b], locked := none }) hs (by rw [hvmU]; exact hg1) hg1s rfl hcellU (by rw [hvm]; decide) (by rw [hg1l, hsl]; rfl)]
  jvm_step Y₀.here [hexec, hbytes₁, ltd1_8]
  jvm_step Y₀.here [hexec, hbytes₁, ltd1_9, invokestatic.wp_ready (e := e) (s := U) (m := t₁) (k := tk₁) (meth := methT) (args := [.ref b, .int k0, .int xk]) (rest := [])
    (f := { method := ⟨cell.cls, 1⟩, pc := 9, locals := #[.val (.ref a), .val (.int xk)], stack := [.int xk, .int k0, .ref b], locked := none }) hs (by rw [← hU]; exact href) (by rw [hvmU]; exact hready₁) (by rw [hvmU]; exact htk₁) (by rw [hvmU]; exact hmethT₁) (hsp _) hstT (by rw [heT₁]; exact hinitK) (by rw [hsigTI]; rfl) rfl]
  intro acts'
  rw [doInvoke_state]
  refine hsteps.trans ?_
  show Steps p.tables e (.java (F0 m pc ls rest) :: below) (U'.setTop { method := ⟨cell.cls, 1⟩, pc := 12, locals := #[.val (.ref a), .val (.int xk)], stack := [.int (b2i bb)], locked := none }) _
  jvm_step Y'.here [Y'.here.top, hexec, hbytes₁, ltd1_12, (show U'.vm.method? ⟨cell.cls, 1⟩ = some methk₁ from Y'.method'), hretk₁, b2i_nar bb]
  intro acts''
  rw [hleave { method := ⟨cell.cls, 1⟩, pc := 12, locals := #[.val (.ref a), .val (.int xk)], stack := [], locked := none } acts'' rfl rfl rfl]
  exact Steps.refl _
theorem ltRun2 {p : Program} {l : Launch} {e : Env} {R : Room} {s : State} {m : MethodId} {args : Array Value} {below : List Frame} {meth : Method} {c : Code} {H : Heap} {locs : List Loc} {cells slots : Nat} {cc : ByteArray} {pc nL : Nat} {ls : Array Slot} {rest : List Value} {E : EV} {a b fr lo mc ms : Nat} {xk : Int32} {cell : Cell} {A1 : Nat → Prop} {post : Option Value → Heap → Prop}
    (F : CallFix p m c cc nL s args lw_all "LayeredCharters$Charter") (hW : WK E s H) (hcell : H[a]? = some cell) (hcls : cell.cls = E.2.2.2 22) (hvm : cell.vm = .none) (hsl : cell.slots = #[.ref b])
    (hM : Ct l yX0_lambda_count_1 cX0_lambda_count_1 2 (some .boolean) fr lo mc ms [.ref b, .int xk] E H A1 post) (hpo : ∀ v H1, post v H1 → ∃ bb : Bool, v = some (.int (b2i bb)))
    (hfr : fr + 2 ≤ R.frames) (hlo : 8 + (2 + 11) + (8 + (2 + 11) + lo) ≤ R.locals) (hsz : ls.size = nL) (hcat : (rest.map fun v => v.category).sum ≤ 8) (hdg : decode cc pc = .ok (.invokeinterface 104 2, 5)) (hf : cells + mc ≤ R.cells ∧ slots + ms ≤ R.slots) :
    va_Run5 p l e R s m args below meth c H locs cells slots mc ms (F0 m pc ls (.int xk :: .ref a :: rest)) rest (Qg post A1 #[.ref b, .int xk]) A1 := by
  intro T hT X
  obtain ⟨hexec, hbc, hml, hown, hts⟩ := F
  obtain ⟨mD, kD, cfD, i0, p0, hmD, hkD, -, -, -, hmade, hcan⟩ := hW.1.2.2.2.2.2.2.2.2.2.2.2.1
  obtain ⟨r0, r, kL, hn, hrm, hstR, hsigR, hkL, hiL, hfoundL⟩ := hW.1.2.2.2.2.2.2.2.2.2.2.2.2.1
  rw [← hcls] at hmade hcan
  obtain ⟨kD', hkD', hnameD⟩ := className_of_methodNamed hmD
  cases hkD.symm.trans hkD'
  obtain ⟨-, -, -, -, -, -, -, iface', -, -, -, -, found, -, -, -, -, -, hi', -, -, -, -, -, -, hfound', -, -, -, -, -, -, -, -, -, -, hsel⟩ := Jvm.Lambda.isMade_spec hmade
  have hcL : s.vm.findClass "LayeredCharters$Test" = some r0.cls := findClass_of_methodNamed hn
  cases hcL.symm.trans hi'
  have hfr9 : found = r0 := by
    have h1 := hfoundL
    simp only [State.methodFound?, hcL, hkL, hiL, Option.bind_eq_bind, Option.bind_some] at h1
    have h2 : ((methodIn r0.cls "of" "(I)Z" true none).ask { classPath := fun _ => none } s.vm).1 = .ok found := hfound'
    rw [h2] at h1
    exact Option.some.inj h1
  subst hfr9
  obtain ⟨i2, hi2, hasg, hway⟩ := State.lambdaCallable_spec hcan
  cases hcL.symm.trans hi2
  have e1 : ltSh2.sam.toString = "(I)Z" := by decide +kernel
  have hsigI : r.sig = ⟨[.int], some .boolean⟩ := (Option.some.inj ((by decide +kernel : parseMethodDescriptor "(I)Z" = some ⟨[.int], some .boolean⟩).symm.trans hsigR)).symm
  obtain ⟨hnameR, hdescR⟩ := name_of_methodNamed hn hrm
  obtain ⟨kK, -, -, methk, -, -, -, g0, hkK, -, -, -, hmk, -, -, -, -, hfl, -, -, -, -, -, -, -, -, -, -⟩ := lt_made2 hkD hnameD hmade (lt_obj (hts _ q1293))
  obtain ⟨mT, hmT⟩ := Cond.code_named (hts _ q819)
  obtain ⟨methT, cT, hmethT, -, -, -, -, -, -, hsigT⟩ := Cond.code_spec hmT (hts _ q819)
  have hstT : methT.isStatic = true := Cond.static_spec hmT hmethT (hts _ q818)
  obtain ⟨kT, hkT, hnameT⟩ := className_of_methodNamed hmT
  have hfT : s.vm.findClass "LayeredCharters" = some mT.cls := findClass_of_methodNamed hmT
  have hinitK : kT.init = .initialized := Cond.initialized_spec hfT hkT (hts _ q42)
  have hsigTI : methT.sig = ⟨[.object "LayeredCharters$Charter", .int], some .boolean⟩ := (Option.some.inj ((by decide +kernel : parseMethodDescriptor "(LLayeredCharters$Charter;I)Z" = some ⟨[.object "LayeredCharters$Charter", .int], some .boolean⟩).symm.trans hsigT)).symm
  have hcell₁ : T.heap[a]? = some cell := by rw [hT]; exact hcell
  obtain ⟨vm₁, X₁, hstep₁⟩ := X.invokeinterface hexec hown (hts _ q782) hn hrm hstR hkL hiL (by decide) (a := a) (cell := cell) (kcell := kK) hcell₁ (fun z h => by rw [hvm] at h; cases h) hkK hasg
    (m' := ⟨cell.cls, 1⟩) (meth' := methk) (by rw [Launch.admits_selectMethod X.admits]; exact hsel) hmk (by rw [hnameR, hdescR]; rw [e1] at hway; exact hway) (by rw [hfl]; decide) (by simp [Method.isAbstract, hfl, hasFlag, Acc.abstract])
    (g := F0 m pc ls (.int xk :: .ref a :: rest)) rfl (argsL := [.int xk]) (rest := rest) (by rw [hsigI]; rfl) rfl (by rw [hbc]; exact hdg)
  have hW₁ : s.WarmedH vm₁ := X₁.warmed
  obtain ⟨kD₁, hkD₁, heD₁⟩ := hW₁.alike.2.2 _ _ hkD
  have hnameD₁ : kD₁.name = "LayeredCharters" := by rw [heD₁]; exact hnameD
  obtain ⟨kK₁, tk₁, file₁, methk₁, ckK₁, toy₁, t₁, g0, hkK₁, hkn₁, hfile₁, hpool₁, hmk₁, hckK₁, hbytes₁, hml₁, hlk₁, hfl₁, hretk₁, htoy₁, htk₁, hitf₁, hlook₁, hready₁, hclsR₁, hg0, hg0s, hg0l⟩ := lt_made2 hkD₁ hnameD₁ (Jvm.Lambda.isMade_warmer hW₁ hmade) (lt_objW hW₁.alike (hts _ q1293))
  have hfT₁ : vm₁.findClass "LayeredCharters" = some mT.cls := by rw [hW₁.alike.findClass]; exact hfT
  cases htoy₁.symm.trans hfT₁
  have ht₁ : t₁ = mT := by
    have h1 : (s.setVm vm₁).methodFound? "LayeredCharters" "lambda$count$1" "(LLayeredCharters$Charter;I)Z" = some mT := by rw [State.methodFound?_setVm hW₁.alike]; exact State.methodFound?_of_named hmT (by decide)
    simp only [State.methodFound?, State.vm_setVm, hfT₁, htk₁, Option.bind_eq_bind, Option.bind_some] at h1
    rw [hlook₁] at h1
    exact Option.some.inj h1
  subst ht₁
  have hmethT₁ : vm₁.method? t₁ = some methT := by rw [hW₁.alike.method?]; exact hmethT
  obtain ⟨kT₁, hkT₁, heT₁⟩ := hW₁.alike.2.2 _ _ hkT
  cases htk₁.symm.trans hkT₁
  have hnm : tk₁.name ≠ "java/lang/invoke/MethodHandle" ∧ tk₁.name ≠ "java/lang/invoke/VarHandle" := by
    have : tk₁.name = "LayeredCharters" := by rw [heT₁]; exact hnameT
    rw [this]; decide
  have hsp : ∀ y : Method, signaturePolymorphic tk₁ y = false := fun y => by simp [signaturePolymorphic, hnm.1, hnm.2]
  have hpk : (T.setVm vm₁).plainMethod ⟨cell.cls, 1⟩ := State.plainMethod.of_name (fun k' hk' => by cases hkK₁.symm.trans hk'; rw [hkn₁]; decide)
  have hsz' : (F0 m pc ls rest).locals.size = c.maxLocals := hsz.trans hml.symm
  have hdg2 : decode c.code (F0 m pc ls rest).pc = .ok (.invokeinterface 104 2, 5) := by rw [hbc]; exact hdg
  have hroom : 2 * (F0 m pc ls rest).monitorRoom + (rest.map fun v => v.category).sum ≤ 8 := lv_room hcat
  obtain ⟨Y₀, hin⟩ := X₁.into (g := F0 m pc ls rest) rfl hsz' hdg2 #[.ref a, .int xk] (R' := { frames := fr + 1, cells := mc, slots := ms, locals := 8 + (2 + 11) + lo }) hmk₁ hckK₁ hlk₁ hpk
    (by show fr + 1 + 1 ≤ R.frames; omega) (by rw [hml₁]; show 2 * (F0 m pc ls rest).monitorRoom + (rest.map fun v => v.category).sum + (2 + 11) + (8 + (2 + 11) + lo) ≤ R.locals; omega) hf.1 hf.2
  generalize hU : ((T.setVm vm₁).setTop (F0 m pc ls rest)).pushFrame (.java (entryFrame ⟨cell.cls, 1⟩ #[.ref a, .int xk] ckK₁.maxLocals)) = U at Y₀ hin
  have hvmU : U.vm = vm₁ := by rw [← hU]; rfl
  have hheapU : U.heap = H := by rw [← hU]; exact hT
  have hs' : s.WarmedH ((T.setVm vm₁).calling (F0 m pc ls rest) ⟨cell.cls, 1⟩ #[.ref a, .int xk]).vm := hW₁
  have hnamedU : U.methodNamed? yX0_lambda_count_1 = some t₁ := by
    have h1 : (s.setVm vm₁).methodNamed? yX0_lambda_count_1 = some t₁ := (State.methodNamed?_setVm (s := s) hW₁.alike yX0_lambda_count_1).trans hmT
    have h2 : U.methodNamed? yX0_lambda_count_1 = (s.setVm vm₁).methodNamed? yX0_lambda_count_1 := by unfold State.methodNamed?; rw [hvmU]; rfl
    exact h2.trans h1
  have hK := back_of (R := { frames := fr + 1, cells := mc, slots := ms, locals := 8 + (2 + 11) + lo }) (p := p) (e := e) (below := .java (F0 m pc ls rest) :: below) (s := (T.setVm vm₁).calling (F0 m pc ls rest) ⟨cell.cls, 1⟩ #[.ref a, .int xk]) (sargs := #[.ref a, .int xk]) (len := 3) (W := 8) (bytes := cX0_lambda_count_1) (maxL := 2) (ret := some .boolean) hM blind rfl rfl (Nat.le_refl _) (Nat.le_refl _)
    (fun w hw a' U' hWU => pay_in hts (lw_meth q819) w hw a' U' (hs'.trans hWU)) List.mem_cons_self (fun a' U' hWU => word_at (hs'.trans hWU) (Or.inl (by first | rfl | simp [Cond.onTables, Cond.keeps, Cond.steady])) (hts _ q42))
  obtain ⟨v, ⟨U', L2, c2, s2⟩, Y', ⟨g2, mk2, t, L, e1', e2', hq, h1, hL, h2, h3⟩, hsteps⟩ := hK ⟨cell.cls, 1⟩ methk₁ ckK₁ ⟨U, [], 0, 0⟩ { method := ⟨cell.cls, 1⟩, pc := 5, locals := #[.val (.ref a), .val (.int xk)], stack := [], locked := none } (.invokestatic 23) t₁ #[.ref b, .int xk] Y₀ rfl (by rw [hml₁]; rfl) (by rw [hbytes₁]; exact ltd2_5) (by show 2 * 0 + 0 ≤ 8; decide) hnamedU
    ⟨by show 0 + mc ≤ mc; omega, by show 0 + ms ≤ ms; omega, preU hW U hheapU (by rw [hvmU]; exact hW₁)⟩
  dsimp only [Pt.U, Pt.locs, Pt.cells, Pt.slots] at Y' e1' e2' h1 h2 h3 hsteps
  subst h1; subst h2; subst h3
  obtain ⟨⟨v', hv, hp⟩, hfr2⟩ := hq
  cases hv
  obtain ⟨bb, hbb⟩ := hpo _ _ hp
  subst hbb
  obtain ⟨fs, hleave, -, hended, hWe, hsame⟩ := Y'.leave (v := some (.int (b2i bb))) (fun h => by rw [hretk₁] at h; cases h) hlk₁
  obtain ⟨T', X', hW', -, ht⟩ := X₁.outOf (g := F0 m pc ls rest) rfl hdg2 hended hWe hsame
  have hheap' : T'.heap = U'.heap := (congrArg State.heap ht).symm
  have hvm' : T'.vm = U'.vm := (congrArg State.vm ht).symm
  rw [Nat.zero_add, Nat.zero_add] at X'
  refine ⟨some (.int (b2i bb)), U.calling g2 mk2 #[.ref b, .int xk], t, T', L2, hheapU, X', hL, hheap'.trans e1', hvm'.trans e2', ⟨⟨_, rfl, hp⟩, hfr2⟩, fun target h => hstep₁ _ fun acts => ?_⟩
  refine Steps.trans ?_ h
  show Steps p.tables e below (doInvoke e ((T.setVm vm₁).setTop (F0 m pc ls rest)) acts ⟨cell.cls, 1⟩ #[.ref a, .int xk]).1 (T'.setTop { (F0 m pc ls rest) with pc := (F0 m pc ls rest).pc + 5, stack := (some (Value.int (b2i bb))).toList ++ (F0 m pc ls rest).stack })
  rw [hin acts, ← ht]
  refine Steps.weaken (mid := [.java (F0 m pc ls rest)]) ?_
  have hloc : entryFrame ⟨cell.cls, 1⟩ #[.ref a, .int xk] ckK₁.maxLocals = { method := ⟨cell.cls, 1⟩, pc := 0, locals := #[.val (.ref a), .val (.int xk)], stack := [], locked := none } := by rw [hml₁]; rfl
  rw [hloc]
  obtain ⟨bq, hmem⟩ := memberRef_ask' (e := e) (vm := vm₁) (d := cell.cls) (index := 23) hkK₁ hfile₁ (Or.inl (by rw [hpool₁]; exact lt_eM2.1)) (by rw [hpool₁]; exact lt_eM2.2.2)
  have href : plainRef (T.setVm vm₁) e cell.cls 23 := ⟨19, _, _, bq, t₁.cls, tk₁, hmem, hclsR₁, htk₁, by simp [hsp]⟩
  have hs : U.topJava?.isSome := Y₀.here.top
  have hcellU : U.heap[a]? = some cell := by rw [hheapU]; exact hcell
  jvm_step Y₀.here [hexec, hbytes₁, ltd2_0, Value.isRef]
  jvm_step Y₀.here [hexec, hbytes₁, ltd2_1, getfield.wp_ready (e := e) (s := U) (c := cell.cls) (field := g0) (a := a) (rest := []) (cell := cell) (v := .ref b)
    (f := { method := ⟨cell.cls, 1⟩, pc := 1, locals := #[.val (.ref a), .val (.int xk)], stack := [.ref a], locked := none }) hs (by rw [hvmU]; exact hg0) hg0s rfl hcellU (by rw [hvm]; decide) (by rw [hg0l, hsl]; rfl)]
  jvm_step Y₀.here [hexec, hbytes₁, ltd2_4]
  jvm_step Y₀.here [hexec, hbytes₁, ltd2_5, invokestatic.wp_ready (e := e) (s := U) (m := t₁) (k := tk₁) (meth := methT) (args := [.ref b, .int xk]) (rest := [])
    (f := { method := ⟨cell.cls, 1⟩, pc := 5, locals := #[.val (.ref a), .val (.int xk)], stack := [.int xk, .ref b], locked := none }) hs (by rw [← hU]; exact href) (by rw [hvmU]; exact hready₁) (by rw [hvmU]; exact htk₁) (by rw [hvmU]; exact hmethT₁) (hsp _) hstT (by rw [heT₁]; exact hinitK) (by rw [hsigTI]; rfl) rfl]
  intro acts'
  rw [doInvoke_state]
  refine hsteps.trans ?_
  show Steps p.tables e (.java (F0 m pc ls rest) :: below) (U'.setTop { method := ⟨cell.cls, 1⟩, pc := 8, locals := #[.val (.ref a), .val (.int xk)], stack := [.int (b2i bb)], locked := none }) _
  jvm_step Y'.here [Y'.here.top, hexec, hbytes₁, ltd2_8, (show U'.vm.method? ⟨cell.cls, 1⟩ = some methk₁ from Y'.method'), hretk₁, b2i_nar bb]
  intro acts''
  rw [hleave { method := ⟨cell.cls, 1⟩, pc := 8, locals := #[.val (.ref a), .val (.int xk)], stack := [], locked := none } acts'' rfl rfl rfl]
  exact Steps.refl _
