/-! LAMBDAS 4: making a lambda's object -/
set_option maxRecDepth 100000
/-- three arguments, and nothing else -/
theorem lt_three {α : Type} {ba : Array Nat} {f : Nat → Nat → Nat → Option α} {r : α} (h : Jvm.Lambda.shapeOf?.match_15 (fun _ => Option α) ba f (fun _ => none) = some r) : ∃ i j k, f i j k = some r := by
  obtain ⟨xs⟩ := ba
  rcases xs with _ | ⟨i, _ | ⟨j, _ | ⟨k, _ | ⟨q, xs⟩⟩⟩⟩
  · cases h
  · cases h
  · cases h
  · exact ⟨i, j, k, h⟩
  · cases h
/-- a site's own entry, read back from its shape -/
theorem lt_site {cf : ClassFile} {index : Nat} {σ : Jvm.Lambda.Shape} (h : Jvm.Lambda.shapeOf? cf index = some σ) : ∃ (b nt : Nat) (name desc : String) (site : MethodDescriptor), cf.constantPool[index]? = some (.invokeDynamic b nt) ∧ cf.constantPool.nameAndType? nt = some (name, desc) ∧ parseMethodDescriptor desc = some site ∧ site.parameters = σ.captured := by
  unfold Jvm.Lambda.shapeOf? at h
  split at h
  · rename_i b nt hc
    obtain ⟨entries, -, h⟩ := Option.bind_eq_some_iff.mp h
    obtain ⟨bm, -, h⟩ := Option.bind_eq_some_iff.mp h
    split at h
    · obtain ⟨_, -, h⟩ := Option.bind_eq_some_iff.mp h
      obtain ⟨a0, a1, a2, h⟩ := lt_three h
      · split at h
        · split at h
          · split at h
            · obtain ⟨⟨name, desc⟩, hnt, h⟩ := Option.bind_eq_some_iff.mp h
              obtain ⟨site, hsite, h⟩ := Option.bind_eq_some_iff.mp h
              split at h
              · obtain ⟨⟨implClass, implName, implDesc, implItf⟩, -, h⟩ := Option.bind_eq_some_iff.mp h
                obtain ⟨x1, -, h⟩ := Option.bind_eq_some_iff.mp h
                obtain ⟨x2, -, h⟩ := Option.bind_eq_some_iff.mp h
                obtain ⟨x3, -, h⟩ := Option.bind_eq_some_iff.mp h
                obtain ⟨x4, -, h⟩ := Option.bind_eq_some_iff.mp h
                obtain ⟨x5, -, h⟩ := Option.bind_eq_some_iff.mp h
                cases h
                exact ⟨b, nt, name, desc, site, hc, hnt, hsite, rfl⟩
              · cases h
            · cases h
          · cases h
        · cases h
    · cases h
  · cases h
/-- Ct.ofZ, the method's own name beside -/
theorem Ct.ofZn {A : Nat → Prop} {l : Launch} {E : EV} {H : Heap} {y : MethodName} {cc : ByteArray} {L : Nat} {rt : FieldType} {fr lo mc ms : Nat} {av : List Value} {post : Option Value → Heap → Prop} (hy : plainName y.cls = true) (hlen : (lg_sl av).length ≤ L)
    (body : ∀ (p : Program) (e : Env) (s : State) (m : MethodId) (below : List Frame) (meth : Method) (c : Code) (ls : Array Slot) (Q : State → Prop), Fx p s m meth c cc L av y → s.methodNamed? y = some m → WK E s H → s.heap = H → lv_has ls L (lv_args 0 av) →
      EndZ p l e { frames := fr, cells := mc, slots := ms, locals := lo } s m av.toArray below meth c cc H rt post A Q → W p l e { frames := fr, cells := mc, slots := ms, locals := lo } s m av.toArray below meth c H [] 0 0 Q (F0 m 0 ls [])) : Ct l y cc L (some rt) fr lo mc ms av E H A post := by
  refine Met.ofW (cc := cc) (maxL := L) (ret := some rt) hy rfl ?_
  intro p e s m args below meth c s₁ B hml hv
  obtain ⟨rfl, hH, hW⟩ := hv
  have hts := atoms_spec (ws := ws_ y cc L (some rt)) B.pre
  have hts : ∀ w ∈ lw_all, w.before av.toArray s = true := fun w h => hts w (List.mem_cons_of_mem _ h)
  have hown : s.vm.findClass y.cls = some m.cls := findClass_of_methodNamed B.named
  have hin : meth.name = y.name := (name_of_methodNamed B.named B.method).1
  have hl := lv_entry av (n := L) hlen
  rw [lg_entry_eq, hH]
  refine body p e s m below meth c _ _ ⟨⟨B.exec, B.bytes, hml, hown, hts⟩, hin⟩ B.named hW hH hl ?_
  intro H1 locs cells slots pc ls v hn hd hp hS h1 h2
  refine W.widen (k := mc) (n := ms) h1 h2 ?_
  exact W.zret B.exec B.bytes B.returns hn (fun t ht _ => ⟨⟨_, rfl, by rw [ht]; exact hp⟩, va_S.F (by rw [hH]; exact hS) ht⟩) hS.2.2 hd B.notSynchronized
theorem lt_tyL0 : ltL0.2.1 = #[FieldType.object "LayeredCharters$Charter", FieldType.int] := by decide +kernel
theorem lt_types0 {e : Setting} {vm : Vm} {d c : ClassId} {dk : Class} (hd : vm.classes[d]? = some dk) (hname : dk.name = "LayeredCharters$Charter") (h : Jvm.Lambda.isMade e vm d ltSh0 c = true) (hO : ltObj vm) : ∃ k, vm.classes[c]? = some k ∧ k.instanceTypes = #[FieldType.object "LayeredCharters$Charter", FieldType.int] ∧ k.kind = .ordinary := by
  obtain ⟨dk', k, ok, tk, file, cf, object, iface, toy, lay, methods, target, found, hd', hk, hfile, hcf, hobj, -, hok, hlay, hms, ht, htk, hg, -, hrec, -, -, -, hitf, hpool, hmeth, hfields, hty, hres, -⟩ := Jvm.Lambda.isMade_spec h
  cases hd.symm.trans hd'
  rw [hname, lt_file0] at hcf
  cases hcf
  have h0 := hO object ok hobj hok
  rw [h0, lt_laid0] at hlay
  cases hlay
  refine ⟨k, hk, ?_, hrec.2.1⟩
  rw [hty.1, Array.eq_empty_of_size_eq_zero h0, Array.empty_append, lt_tyL0]
theorem ltMake0 {p : Program} {l : Launch} {e : Env} {R : Room} {s : State} {m : MethodId} {args : Array Value} {below : List Frame} {meth : Method} {c : Code} {H H0 : Heap} {locs : List Loc} {cells slots : Nat} {Q : State → Prop} {cc : ByteArray} {nL : Nat} {ls : Array Slot} {rest : List Value} {E : EV} {b : Nat} {k0 : Int32} {A : Nat → Prop}
    (F : CallFix p m c cc nL s args lw_all "LayeredCharters$Charter") (hW : WK E s H) (hnm : s.methodNamed? ⟨"LayeredCharters$Charter", "odds", "(I)I"⟩ = some m) (hsz : ls.size = nL) (hcat : (rest.map fun v => v.category).sum ≤ 8) (hlo : 3088 ≤ R.locals) (hc : cells + 1 ≤ R.cells) (hs : slots + 2 ≤ R.slots) (hS : va_S A H0 H locs) (hdg : decode cc 3 = .ok (.invokedynamic 109, 5))
    (kk : ∀ (cell : Cell) (H1 : Heap), cell.cls = E.2.2.2 20 → cell.vm = .none → cell.slots = #[.ref b, .int k0] → H1[H.size]? = some cell → Psh H H1 → va_S A H0 H1 locs → W p l e R s m args below meth c H1 locs (cells + 1) (slots + 2) Q (F0 m (3 + 5) ls (.ref H.size :: rest))) :
    W p l e R s m args below meth c H locs cells slots Q (F0 m 3 ls (.int k0 :: .ref b :: rest)) := by
  intro T hT X
  obtain ⟨hexec, hbc, hml, hown, hts⟩ := F
  obtain ⟨mD, kD, cfD, i0, p0, hmD, hkD, hcfD, hsh, hfind, hmade, -⟩ := hW.1.2.2.2.2.2.2.2.2.2.1
  cases hnm.symm.trans hmD
  obtain ⟨kD', hkD', hnameD⟩ := className_of_methodNamed hmD
  cases hkD.symm.trans hkD'
  obtain ⟨bsm, nt, name, desc, site, hcc, hnt, hds, hpar⟩ := lt_site hsh
  obtain ⟨kK, hkK, htyK, hkind⟩ := lt_types0 hkD hnameD hmade (lt_obj (hts _ q1293))
  have hslotsE : ((kK.instanceTypes.toList.zip [.ref b, .int k0]).map fun (t, x) => narrow t x) = [.ref b, .int k0] := by rw [htyK]; rfl
  obtain ⟨X₁, st1⟩ := X.lambdaMakes hexec (g := F0 m 3 ls (.int k0 :: .ref b :: rest)) rfl (hsz.trans hml.symm) (by rw [hbc]; exact hdg) (vals := [.ref b, .int k0]) (rest := rest) hkD hfind hcfD hcc hnt (parseLong_of_parse hds) (by rw [hpar]; rfl) rfl hkK
    (by rw [X.admits.platform]; show 2 * 0 + (1 + (1 + (rest.map fun v => v.category).sum)) + 3072 ≤ R.locals; omega) hc (by rw [hslotsE]; exact hs)
    (fun i x hx => by
      rw [hslotsE] at hx
      match i, hx with
      | 0, hx => simp at hx; subst hx; simp [State.fitsSlot, State.slotType?, hkK, hkind, htyK, fits]
      | 1, hx => simp at hx; subst hx; simp [State.fitsSlot, State.slotType?, hkK, hkind, htyK, fits]
      | _ + 2, hx => simp at hx)
  rw [hslotsE] at X₁ st1
  obtain ⟨t, h1, h2⟩ := kk { cls := E.2.2.2 20, slots := #[.ref b, .int k0], vm := .none } (H.push { cls := E.2.2.2 20, slots := #[.ref b, .int k0], vm := .none }) rfl rfl rfl (by rw [Array.getElem?_push_size]) ⟨by rw [Array.size_push], fun q hq => by rw [Array.getElem?_push, if_neg (Nat.ne_of_lt hq)]⟩
    (hS.psh ⟨by rw [Array.size_push], fun q hq => by rw [Array.getElem?_push, if_neg (Nat.ne_of_lt hq)]⟩) _ (by rw [← hT]; rfl) X₁
  subst hT
  exact ⟨t, st1 t h1, h2⟩
theorem lt_tyL1 : ltL1.2.1 = #[FieldType.object "LayeredCharters$Charter", FieldType.int] := by decide +kernel
theorem lt_types1 {e : Setting} {vm : Vm} {d c : ClassId} {dk : Class} (hd : vm.classes[d]? = some dk) (hname : dk.name = "LayeredCharters") (h : Jvm.Lambda.isMade e vm d ltSh1 c = true) (hO : ltObj vm) : ∃ k, vm.classes[c]? = some k ∧ k.instanceTypes = #[FieldType.object "LayeredCharters$Charter", FieldType.int] ∧ k.kind = .ordinary := by
  obtain ⟨dk', k, ok, tk, file, cf, object, iface, toy, lay, methods, target, found, hd', hk, hfile, hcf, hobj, -, hok, hlay, hms, ht, htk, hg, -, hrec, -, -, -, hitf, hpool, hmeth, hfields, hty, hres, -⟩ := Jvm.Lambda.isMade_spec h
  cases hd.symm.trans hd'
  rw [hname, lt_file1] at hcf
  cases hcf
  have h0 := hO object ok hobj hok
  rw [h0, lt_laid1] at hlay
  cases hlay
  refine ⟨k, hk, ?_, hrec.2.1⟩
  rw [hty.1, Array.eq_empty_of_size_eq_zero h0, Array.empty_append, lt_tyL1]
theorem ltMake1 {p : Program} {l : Launch} {e : Env} {R : Room} {s : State} {m : MethodId} {args : Array Value} {below : List Frame} {meth : Method} {c : Code} {H H0 : Heap} {locs : List Loc} {cells slots : Nat} {Q : State → Prop} {cc : ByteArray} {nL : Nat} {ls : Array Slot} {rest : List Value} {E : EV} {b : Nat} {k0 : Int32} {A : Nat → Prop}
    (F : CallFix p m c cc nL s args lw_all "LayeredCharters") (hW : WK E s H) (hnm : s.methodNamed? ⟨"LayeredCharters", "count", "(I)I"⟩ = some m) (hsz : ls.size = nL) (hcat : (rest.map fun v => v.category).sum ≤ 8) (hlo : 3088 ≤ R.locals) (hc : cells + 1 ≤ R.cells) (hs : slots + 2 ≤ R.slots) (hS : va_S A H0 H locs) (hdg : decode cc 20 = .ok (.invokedynamic 197, 5))
    (kk : ∀ (cell : Cell) (H1 : Heap), cell.cls = E.2.2.2 21 → cell.vm = .none → cell.slots = #[.ref b, .int k0] → H1[H.size]? = some cell → Psh H H1 → va_S A H0 H1 locs → W p l e R s m args below meth c H1 locs (cells + 1) (slots + 2) Q (F0 m (20 + 5) ls (.ref H.size :: rest))) :
    W p l e R s m args below meth c H locs cells slots Q (F0 m 20 ls (.int k0 :: .ref b :: rest)) := by
  intro T hT X
  obtain ⟨hexec, hbc, hml, hown, hts⟩ := F
  obtain ⟨mD, kD, cfD, i0, p0, hmD, hkD, hcfD, hsh, hfind, hmade, -⟩ := hW.1.2.2.2.2.2.2.2.2.2.2.1
  cases hnm.symm.trans hmD
  obtain ⟨kD', hkD', hnameD⟩ := className_of_methodNamed hmD
  cases hkD.symm.trans hkD'
  obtain ⟨bsm, nt, name, desc, site, hcc, hnt, hds, hpar⟩ := lt_site hsh
  obtain ⟨kK, hkK, htyK, hkind⟩ := lt_types1 hkD hnameD hmade (lt_obj (hts _ q1293))
  have hslotsE : ((kK.instanceTypes.toList.zip [.ref b, .int k0]).map fun (t, x) => narrow t x) = [.ref b, .int k0] := by rw [htyK]; rfl
  obtain ⟨X₁, st1⟩ := X.lambdaMakes hexec (g := F0 m 20 ls (.int k0 :: .ref b :: rest)) rfl (hsz.trans hml.symm) (by rw [hbc]; exact hdg) (vals := [.ref b, .int k0]) (rest := rest) hkD hfind hcfD hcc hnt (parseLong_of_parse hds) (by rw [hpar]; rfl) rfl hkK
    (by rw [X.admits.platform]; show 2 * 0 + (1 + (1 + (rest.map fun v => v.category).sum)) + 3072 ≤ R.locals; omega) hc (by rw [hslotsE]; exact hs)
    (fun i x hx => by
      rw [hslotsE] at hx
      match i, hx with
      | 0, hx => simp at hx; subst hx; simp [State.fitsSlot, State.slotType?, hkK, hkind, htyK, fits]
      | 1, hx => simp at hx; subst hx; simp [State.fitsSlot, State.slotType?, hkK, hkind, htyK, fits]
      | _ + 2, hx => simp at hx)
  rw [hslotsE] at X₁ st1
  obtain ⟨t, h1, h2⟩ := kk { cls := E.2.2.2 21, slots := #[.ref b, .int k0], vm := .none } (H.push { cls := E.2.2.2 21, slots := #[.ref b, .int k0], vm := .none }) rfl rfl rfl (by rw [Array.getElem?_push_size]) ⟨by rw [Array.size_push], fun q hq => by rw [Array.getElem?_push, if_neg (Nat.ne_of_lt hq)]⟩
    (hS.psh ⟨by rw [Array.size_push], fun q hq => by rw [Array.getElem?_push, if_neg (Nat.ne_of_lt hq)]⟩) _ (by rw [← hT]; rfl) X₁
  subst hT
  exact ⟨t, st1 t h1, h2⟩
theorem lt_tyL2 : ltL2.2.1 = #[FieldType.object "LayeredCharters$Charter"] := by decide +kernel
theorem lt_types2 {e : Setting} {vm : Vm} {d c : ClassId} {dk : Class} (hd : vm.classes[d]? = some dk) (hname : dk.name = "LayeredCharters") (h : Jvm.Lambda.isMade e vm d ltSh2 c = true) (hO : ltObj vm) : ∃ k, vm.classes[c]? = some k ∧ k.instanceTypes = #[FieldType.object "LayeredCharters$Charter"] ∧ k.kind = .ordinary := by
  obtain ⟨dk', k, ok, tk, file, cf, object, iface, toy, lay, methods, target, found, hd', hk, hfile, hcf, hobj, -, hok, hlay, hms, ht, htk, hg, -, hrec, -, -, -, hitf, hpool, hmeth, hfields, hty, hres, -⟩ := Jvm.Lambda.isMade_spec h
  cases hd.symm.trans hd'
  rw [hname, lt_file2] at hcf
  cases hcf
  have h0 := hO object ok hobj hok
  rw [h0, lt_laid2] at hlay
  cases hlay
  refine ⟨k, hk, ?_, hrec.2.1⟩
  rw [hty.1, Array.eq_empty_of_size_eq_zero h0, Array.empty_append, lt_tyL2]
theorem ltMake2 {p : Program} {l : Launch} {e : Env} {R : Room} {s : State} {m : MethodId} {args : Array Value} {below : List Frame} {meth : Method} {c : Code} {H H0 : Heap} {locs : List Loc} {cells slots : Nat} {Q : State → Prop} {cc : ByteArray} {nL : Nat} {ls : Array Slot} {rest : List Value} {E : EV} {b : Nat} {A : Nat → Prop}
    (F : CallFix p m c cc nL s args lw_all "LayeredCharters") (hW : WK E s H) (hnm : s.methodNamed? ⟨"LayeredCharters", "count", "(I)I"⟩ = some m) (hsz : ls.size = nL) (hcat : (rest.map fun v => v.category).sum ≤ 8) (hlo : 3088 ≤ R.locals) (hc : cells + 1 ≤ R.cells) (hs : slots + 1 ≤ R.slots) (hS : va_S A H0 H locs) (hdg : decode cc 148 = .ok (.invokedynamic 209, 5))
    (kk : ∀ (cell : Cell) (H1 : Heap), cell.cls = E.2.2.2 22 → cell.vm = .none → cell.slots = #[.ref b] → H1[H.size]? = some cell → Psh H H1 → va_S A H0 H1 locs → W p l e R s m args below meth c H1 locs (cells + 1) (slots + 1) Q (F0 m (148 + 5) ls (.ref H.size :: rest))) :
    W p l e R s m args below meth c H locs cells slots Q (F0 m 148 ls (.ref b :: rest)) := by
  intro T hT X
  obtain ⟨hexec, hbc, hml, hown, hts⟩ := F
  obtain ⟨mD, kD, cfD, i0, p0, hmD, hkD, hcfD, hsh, hfind, hmade, -⟩ := hW.1.2.2.2.2.2.2.2.2.2.2.2.1
  cases hnm.symm.trans hmD
  obtain ⟨kD', hkD', hnameD⟩ := className_of_methodNamed hmD
  cases hkD.symm.trans hkD'
  obtain ⟨bsm, nt, name, desc, site, hcc, hnt, hds, hpar⟩ := lt_site hsh
  obtain ⟨kK, hkK, htyK, hkind⟩ := lt_types2 hkD hnameD hmade (lt_obj (hts _ q1293))
  have hslotsE : ((kK.instanceTypes.toList.zip [.ref b]).map fun (t, x) => narrow t x) = [.ref b] := by rw [htyK]; rfl
  obtain ⟨X₁, st1⟩ := X.lambdaMakes hexec (g := F0 m 148 ls (.ref b :: rest)) rfl (hsz.trans hml.symm) (by rw [hbc]; exact hdg) (vals := [.ref b]) (rest := rest) hkD hfind hcfD hcc hnt (parseLong_of_parse hds) (by rw [hpar]; rfl) rfl hkK
    (by rw [X.admits.platform]; show 2 * 0 + (1 + (rest.map fun v => v.category).sum) + 3072 ≤ R.locals; omega) hc (by rw [hslotsE]; exact hs)
    (fun i x hx => by
      rw [hslotsE] at hx
      match i, hx with
      | 0, hx => simp at hx; subst hx; simp [State.fitsSlot, State.slotType?, hkK, hkind, htyK, fits]
      | _ + 1, hx => simp at hx)
  rw [hslotsE] at X₁ st1
  obtain ⟨t, h1, h2⟩ := kk { cls := E.2.2.2 22, slots := #[.ref b], vm := .none } (H.push { cls := E.2.2.2 22, slots := #[.ref b], vm := .none }) rfl rfl rfl (by rw [Array.getElem?_push_size]) ⟨by rw [Array.size_push], fun q hq => by rw [Array.getElem?_push, if_neg (Nat.ne_of_lt hq)]⟩
    (hS.psh ⟨by rw [Array.size_push], fun q hq => by rw [Array.getElem?_push, if_neg (Nat.ne_of_lt hq)]⟩) _ (by rw [← hT]; rfl) X₁
  subst hT
  exact ⟨t, st1 t h1, h2⟩
