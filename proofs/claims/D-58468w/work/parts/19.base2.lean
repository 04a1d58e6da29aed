/-! BASE 2: statics, casts, copies, lists -/
set_option maxRecDepth 100000
section BASE2
variable {p : Program} {l : Launch} {e : Env} {R : Room} {s : State} {m : MethodId} {args : Array Value} {below : List Frame} {meth : Method} {c : Code} {H : Heap} {locs : List Loc} {cells slots : Nat} {Q : State → Prop}
variable {cc : ByteArray} {pc nL index : Nat} {ls : Array Slot} {rest : List Value} {E : EV} {A : Nat → Prop} {a : Nat} {H0 : Heap} {own C ref : String}
theorem lv_valr {r : Option Nat} (h : r = some a) (k : W p l e R s m args below meth c H locs cells slots Q (F0 m pc ls (.ref a :: rest))) : W p l e R s m args below meth c H locs cells slots Q (F0 m pc ls (va_rf r :: rest)) := by
  subst h; exact k
theorem lv_valn {r : Option Nat} (h : r = none) (k : W p l e R s m args below meth c H locs cells slots Q (F0 m pc ls (.null :: rest))) : W p l e R s m args below meth c H locs cells slots Q (F0 m pc ls (va_rf r :: rest)) := by
  subst h; exact k
/-- a static that nobody writes -/
theorem xgets (F : CallFix p m c cc nL s args lw_all own) {n d : String} {v : Value} (hZ : va_Z C n d v A s H) (hlink : Cond.fieldLink own index C n d ∈ lw_all) (hdg : decode cc pc = .ok (.getstatic index, 3))
    (kk : W p l e R s m args below meth c H locs cells slots Q (F0 m (pc + 3) ls (v :: rest))) : W p l e R s m args below meth c H locs cells slots Q (F0 m pc ls rest) := by
  obtain ⟨cf, kf, fi, f, a, cell, h1, h2, h3, h4, h5, h6, h7, h8⟩ := hZ
  exact W.gets F.1 F.2.1 F.2.2.2.1 (F.2.2.2.2 _ hlink) h1 h2 h3 h4 h5 (fun e => by rw [e] at h6; cases h6) h7 rfl hdg kk
/-- the length of a constant array -/
theorem xtlen (F : CallFix p m c cc nL s args lw_all own) {ty : FieldType} {t N : Nat} {f : Nat → Value} (hT : va_T ty t N f A s H) (hdg : decode cc pc = .ok (.arraylength, 1))
    (kk : W p l e R s m args below meth c H locs cells slots Q (F0 m (pc + 1) ls (.int (nI N) :: rest))) : W p l e R s m args below meth c H locs cells slots Q (F0 m pc ls (.ref t :: rest)) := by
  obtain ⟨cell, h1, h2, h3, h4, h5, h6, h7⟩ := hT
  exact W.alen (n := Int32.ofNat N) F.1 F.2.1 h1 h2 h5 rfl rfl hdg kk
theorem xcast (F : CallFix p m c cc nL s args lw_all own) {ci : Nat} {fs : List Value} {r : vw_C} (hW : WK E s H) (ho : oat E a ci fs H) (hc : vwCl[ci]? = some r) (hlink : Cond.classLink own index r.1 ∈ lw_all) (hdg : decode cc pc = .ok (.checkcast index, 3))
    (k : W p l e R s m args below meth c H locs cells slots Q (F0 m (pc + 3) ls (.ref a :: rest))) : W p l e R s m args below meth c H locs cells slots Q (F0 m pc ls (.ref a :: rest)) :=
  va_castE F.1 F.2.1 F.2.2.2.1 (F.2.2.2.2 _ hlink) (recv hW ho hc) hdg k
theorem nn_ {z : Int32} (hz : ¬ z < 0) : z.toInt = (z.toNatClampNeg : Int) := by
  have hz0 : (0 : Int) ≤ z.toInt := by
    have := Int32.not_lt.mp hz
    simpa using Int32.le_iff_toInt_le.mp this
  show z.toInt = ((z.toInt.toNat : Nat) : Int)
  omega
/-- arraycopy of references -/
theorem xqcopy (F : CallFix p m c cc ls.size s args lw_all own) (hlink : Cond.methodLink own index arraycopyName ∈ lw_all) (hnat : Cond.native arraycopyName ∈ lw_all) (hstat : Cond.static arraycopyName ∈ lw_all) (hini : Cond.initialized "java/lang/System" ∈ lw_all)
    (hW : WK E s H) {a0 n0 n1 : Nat} {f g : Nat → Option Nat} (ha0 : qat E a0 3 n0 f H) (ha1 : qat E a 3 n1 g H) (hS : va_S A H0 H locs) (hA : A a)
    {sp dp n : Int32} (h1 : ¬ sp < 0) (h2 : ¬ dp < 0) (h3 : ¬ n < 0) (h4 : sp.toNatClampNeg + n.toNatClampNeg ≤ n0) (h5 : dp.toNatClampNeg + n.toNatClampNeg ≤ n1) (hel : ∀ i : Nat, i < n.toNatClampNeg → ∀ y : Nat, f (sp.toNatClampNeg + i) = some y → va_Any "java/lang/Object" s H y)
    (hframes : 1 ≤ R.frames) (hlocals : (rest.map fun v => v.category).sum + (nativeFrameWords "java/lang/System" "arraycopy" 5 + 11) ≤ R.locals) (hdg : decode cc pc = .ok (.invokestatic index, 3))
    (kk : ∀ (H1 : Heap) (locs1 : List Loc), qat E a 3 n1 (va_cpy f g sp.toNatClampNeg dp.toNatClampNeg n.toNatClampNeg) H1 → Upd a H H1 → va_S A H0 H1 locs1 → W p l e R s m args below meth c H1 locs1 cells slots Q (F0 m (pc + 3) ls rest)) : W p l e R s m args below meth c H locs cells slots Q (F0 m pc ls (.int n :: .int dp :: .ref a :: .int sp :: .ref a0 :: rest)) := by
  have hK := hW.K
  intro T hT X
  have hc0 : H[a0]? = some (vp_cell (E.2.1 3) (n0, .inr (.inr (.inr (.inr f))))) := ha0
  have hc1 : H[a]? = some (vp_cell (E.2.1 3) (n1, .inr (.inr (.inr (.inr g))))) := ha1
  obtain ⟨-, k0, hk0, cm0, hkk0⟩ := (hK.2 3 _ rfl).1 n0 (fun j => va_rf (f j))
  obtain ⟨-, k1, hk1, cm1, hkk1⟩ := (hK.2 3 _ rfl).1 n1 (fun j => va_rf (g j))
  obtain ⟨vm', X', step⟩ := X.arraycopy F.1 F.2.2.2.1 (F.2.2.2.2 _ hlink) (F.2.2.2.2 _ hnat) (F.2.2.2.2 _ hstat) (F.2.2.2.2 _ hini) (src := a0) (dst := a) (cs := vp_cell (E.2.1 3) (n0, .inr (.inr (.inr (.inr f))))) (cd := vp_cell (E.2.1 3) (n1, .inr (.inr (.inr (.inr g))))) (srcPos := sp) (destPos := dp) (n := n) (by rw [hT]; exact hc0) (by rw [hT]; exact hc1)
    (fun _ h => by cases h) (fun _ h => by cases h) (fun h => by cases h) (fun h => by cases h) hk0 hk1 hkk0 hkk1 rfl h1 h2 h3
    (by rw [nn_ h1, nn_ h3]; show ¬ _ > ((arrV (E.2.1 3) n0 (fun j => va_rf (f j))).slots.size : Int); rw [arrV_size]; omega)
    (by rw [nn_ h2, nn_ h3]; show ¬ _ > ((arrV (E.2.1 3) n1 (fun j => va_rf (g j))).slots.size : Int); rw [arrV_size]; omega)
    (fun vm₁ hal i hi => by
      have e : (vp_cell (E.2.1 3) (n0, .inr (.inr (.inr (.inr f))))).slots.getD (sp.toNatClampNeg + i) .null = va_rf (f (sp.toNatClampNeg + i)) := by
        show (arrV (E.2.1 3) n0 (fun j => va_rf (f j))).slots.getD _ _ = _
        rw [Array.getD_eq_getD_getElem?, arrV_read _ _ (by omega)]
        rfl
      rw [e]
      cases hy : f (sp.toNatClampNeg + i) with
      | none => exact ⟨rfl, trivial⟩
      | some y =>
        obtain ⟨cellV, g1, g2, ⟨kC, hkC⟩, hasg⟩ := hel i hi y hy
        obtain ⟨kA, comp, r1, r2, r3, -⟩ := (hK.2 3 _ rfl).2
        cases hk1.symm.trans r1
        cases hkk1.symm.trans r2
        obtain ⟨kE, hkE, -⟩ := Vm.findClass_spec r3
        obtain ⟨kC', hkC', -⟩ := hal.2.2 _ _ hkC
        obtain ⟨kE', hkE', -⟩ := hal.2.2 _ _ hkE
        refine ⟨rfl, cellV, (show T.heap[y]? = some cellV by rw [hT]; exact g1), (fun q h => by rw [h] at g2; cases g2), ⟨kC', hkC'⟩, ?_, ?_⟩
        · exact ⟨kE', hkE'⟩
        · show vm₁.assignable _ _ = true
          rw [hal.assignable]
          exact hasg _ r3)
    (g := F0 m pc ls (.int n :: .int dp :: .ref a :: .int sp :: .ref a0 :: rest)) rfl (by rw [F.2.2.1]) (rest := rest) rfl (by rw [F.2.1]; exact hdg) hframes (by show 2 * 0 + _ + _ ≤ _; omega)
  have e1 : copied (vp_cell (E.2.1 3) (n0, .inr (.inr (.inr (.inr f))))) (vp_cell (E.2.1 3) (n1, .inr (.inr (.inr (.inr g))))) sp dp n = vp_cell (E.2.1 3) (n1, .inr (.inr (.inr (.inr (va_cpy f g sp.toNatClampNeg dp.toNatClampNeg n.toNatClampNeg))))) := by
    rw [vp_cell_q, vp_cell_q, vp_cell_q]
    exact va_copied (fun z => va_rf z) (E.2.1 3) (E.2.1 3) f g h4
  rw [e1] at X' step
  have hl : a < H.size := (Array.getElem?_eq_some_iff.mp hc1).1
  have hheap : ((T.setVm vm').setCell a (vp_cell (E.2.1 3) (n1, .inr (.inr (.inr (.inr (va_cpy f g sp.toNatClampNeg dp.toNatClampNeg n.toNatClampNeg))))))).heap = H.setIfInBounds a (vp_cell (E.2.1 3) (n1, .inr (.inr (.inr (.inr (va_cpy f g sp.toNatClampNeg dp.toNatClampNeg n.toNatClampNeg)))))) := by rw [← hT]; rfl
  have oq : ∀ q : Nat, q ≠ a → (H.setIfInBounds a (vp_cell (E.2.1 3) (n1, .inr (.inr (.inr (.inr (va_cpy f g sp.toNatClampNeg dp.toNatClampNeg n.toNatClampNeg)))))))[q]? = H[q]? := fun q hq => by simp [Array.getElem?_setIfInBounds, Ne.symm hq]
  obtain ⟨t, a1, b1⟩ := kk _ _ (show (H.setIfInBounds a _)[a]? = some _ by simp [Array.getElem?_setIfInBounds, hl]) ⟨by simp, oq⟩ ⟨by simp; exact hS.1, fun q g1 g2 => by
      rw [oq q (fun e => g2 (by rw [e]; exact hA))]
      exact hS.2.1 q g1 g2, fun q hq => by
      rcases List.mem_append.mp hq with h | h
      · exact hS.2.2 q h
      · obtain ⟨z, -, hz⟩ := List.mem_map.mp h
        rw [← hz]
        exact hA⟩ _ hheap X'
  exact ⟨t, step t a1, b1⟩
/-- arraycopy out of the constant empty array -/
theorem xqcopy0 (F : CallFix p m c cc ls.size s args lw_all own) (hlink : Cond.methodLink own index arraycopyName ∈ lw_all) (hnat : Cond.native arraycopyName ∈ lw_all) (hstat : Cond.static arraycopyName ∈ lw_all) (hini : Cond.initialized "java/lang/System" ∈ lw_all)
    (hW : WK E s H) {a0 n1 : Nat} {fv : Nat → Value} {g : Nat → Option Nat} (hX : va_T (.object "java/lang/Object") a0 0 fv (Old E) s H) (ha1 : qat E a 3 n1 g H) (hS : va_S A H0 H locs) (hA : A a)
    {sp dp n : Int32} (h1 : ¬ sp < 0) (h2 : ¬ dp < 0) (h3 : ¬ n < 0) (h4 : sp.toNatClampNeg + n.toNatClampNeg ≤ 0) (h5 : dp.toNatClampNeg + n.toNatClampNeg ≤ n1)
    (hframes : 1 ≤ R.frames) (hlocals : (rest.map fun v => v.category).sum + (nativeFrameWords "java/lang/System" "arraycopy" 5 + 11) ≤ R.locals) (hdg : decode cc pc = .ok (.invokestatic index, 3))
    (kk : ∀ (H1 : Heap) (locs1 : List Loc), qat E a 3 n1 (va_cpy (fun _ => none) g sp.toNatClampNeg dp.toNatClampNeg n.toNatClampNeg) H1 → Upd a H H1 → va_S A H0 H1 locs1 → W p l e R s m args below meth c H1 locs1 cells slots Q (F0 m (pc + 3) ls rest)) : W p l e R s m args below meth c H locs cells slots Q (F0 m pc ls (.int n :: .int dp :: .ref a :: .int sp :: .ref a0 :: rest)) := by
  have hK := hW.K
  intro T hT X
  obtain ⟨scr, hs1, ⟨hs2, k0, hk0, cm0, hkk0⟩, hs3, -, -, -, hs7⟩ := hX
  have hc1 : H[a]? = some (vp_cell (E.2.1 3) (n1, .inr (.inr (.inr (.inr g))))) := ha1
  obtain ⟨-, k1, hk1, cm1, hkk1⟩ := (hK.2 3 _ rfl).1 n1 (fun j => va_rf (g j))
  obtain ⟨vm', X', step⟩ := X.arraycopy F.1 F.2.2.2.1 (F.2.2.2.2 _ hlink) (F.2.2.2.2 _ hnat) (F.2.2.2.2 _ hstat) (F.2.2.2.2 _ hini) (src := a0) (dst := a) (cs := scr) (cd := vp_cell (E.2.1 3) (n1, .inr (.inr (.inr (.inr g))))) (srcPos := sp) (destPos := dp) (n := n) (by rw [hT]; exact hs1) (by rw [hT]; exact hc1)
    hs2 (fun _ h => by cases h) hs3 (fun h => by cases h) hk0 hk1 hkk0 hkk1 rfl h1 h2 h3
    (by rw [nn_ h1, nn_ h3]; omega)
    (by rw [nn_ h2, nn_ h3]; show ¬ _ > ((arrV (E.2.1 3) n1 (fun j => va_rf (g j))).slots.size : Int); rw [arrV_size]; omega)
    (fun vm₁ hal i hi => absurd hi (by omega))
    (g := F0 m pc ls (.int n :: .int dp :: .ref a :: .int sp :: .ref a0 :: rest)) rfl (by rw [F.2.2.1]) (rest := rest) rfl (by rw [F.2.1]; exact hdg) hframes (by show 2 * 0 + _ + _ ≤ _; omega)
  have e1 : copied scr (vp_cell (E.2.1 3) (n1, .inr (.inr (.inr (.inr g))))) sp dp n = vp_cell (E.2.1 3) (n1, .inr (.inr (.inr (.inr (va_cpy (fun _ => none) g sp.toNatClampNeg dp.toNatClampNeg n.toNatClampNeg))))) := by
    rw [vp_cell_q, vp_cell_q]
    exact va_copiedX (fun z => va_rf z) scr (E.2.1 3) (fun _ => none) g (fun j hj => absurd hj (Nat.not_lt_zero j)) h4
  rw [e1] at X' step
  have hl : a < H.size := (Array.getElem?_eq_some_iff.mp hc1).1
  have hheap : ((T.setVm vm').setCell a (vp_cell (E.2.1 3) (n1, .inr (.inr (.inr (.inr (va_cpy (fun _ => none) g sp.toNatClampNeg dp.toNatClampNeg n.toNatClampNeg))))))).heap = H.setIfInBounds a (vp_cell (E.2.1 3) (n1, .inr (.inr (.inr (.inr (va_cpy (fun _ => none) g sp.toNatClampNeg dp.toNatClampNeg n.toNatClampNeg)))))) := by rw [← hT]; rfl
  have oq : ∀ q : Nat, q ≠ a → (H.setIfInBounds a (vp_cell (E.2.1 3) (n1, .inr (.inr (.inr (.inr (va_cpy (fun _ => none) g sp.toNatClampNeg dp.toNatClampNeg n.toNatClampNeg)))))))[q]? = H[q]? := fun q hq => by simp [Array.getElem?_setIfInBounds, Ne.symm hq]
  obtain ⟨t, a1, b1⟩ := kk _ _ (show (H.setIfInBounds a _)[a]? = some _ by simp [Array.getElem?_setIfInBounds, hl]) ⟨by simp, oq⟩ ⟨by simp; exact hS.1, fun q g1 g2 => by
      rw [oq q (fun e => g2 (by rw [e]; exact hA))]
      exact hS.2.1 q g1 g2, fun q hq => by
      rcases List.mem_append.mp hq with h | h
      · exact hS.2.2 q h
      · obtain ⟨z, -, hz⟩ := List.mem_map.mp h
        rw [← hz]
        exact hA⟩ _ hheap X'
  exact ⟨t, step t a1, b1⟩
/-- the class object of an Object[] -/
theorem xgetC (F : CallFix p m c cc ls.size s args lw_all own) (hlink : Cond.methodLink own index ⟨"java/lang/Object", "getClass", "()Ljava/lang/Class;"⟩ ∈ lw_all) (hsel : Cond.selects "[Ljava/lang/Object;" ⟨"java/lang/Object", "getClass", "()Ljava/lang/Class;"⟩ ⟨"java/lang/Object", "getClass", "()Ljava/lang/Class;"⟩ ∈ lw_all) (hinst : Cond.instanceMethod ⟨"java/lang/Object", "getClass", "()Ljava/lang/Class;"⟩ ∈ lw_all) (hnat : Cond.native ⟨"java/lang/Object", "getClass", "()Ljava/lang/Class;"⟩ ∈ lw_all)
    (hW : WK E s H) (hr : Recv s H "[Ljava/lang/Object;" a) (hframes : 1 ≤ R.frames) (hlocals : (rest.map fun v => v.category).sum + 14 ≤ R.locals) (hdg : decode cc pc = .ok (.invokevirtual index, 3))
    (k : W p l e R s m args below meth c H locs cells slots Q (F0 m (pc + 3) ls (.ref (E.2.2.2 2) :: rest))) : W p l e R s m args below meth c H locs cells slots Q (F0 m pc ls (.ref a :: rest)) :=
  va_getC F.1 F.2.1 F.2.2.1 F.2.2.2.1 (F.2.2.2.2 _ hlink) (va_Dc.use hW.1.2.2.2.2.2.2.1) (F.2.2.2.2 _ hsel) (F.2.2.2.2 _ hinst) (F.2.2.2.2 _ hnat) hW.1.2.2.2.2.2.1 hr hframes hlocals hdg k
theorem xldcM (F : CallFix p m c cc nL s args lw_all own) (hW : WK E s H) (hlink : Cond.classLink own index "[Ljava/lang/Object;" ∈ lw_all) (hdg : decode cc pc = .ok (.ldc index, 2))
    (k : W p l e R s m args below meth c H locs cells slots Q (F0 m (pc + 2) ls (.ref (E.2.2.2 2) :: rest))) : W p l e R s m args below meth c H locs cells slots Q (F0 m pc ls rest) :=
  va_ldcM F.1 F.2.1 F.2.2.2.1 (F.2.2.2.2 _ hlink) hW.1.2.2.2.2.2.1 hdg k
theorem qrecv {n t : Nat} {g : Nat → Option Nat} {Cn : String} (hW : WK E s H) (h : qat E a t n g H) (ht : (tysL E.2.1)[t]? = some (E.2.1 t, .object Cn)) : Recv s H ("[" ++ (FieldType.object Cn).toString) a := by
  obtain ⟨_, _, _, _, _, h4⟩ := (hW.K.2 t _ ht).2
  exact ⟨_, h, rfl, h4⟩
theorem orecv {A : Nat → Prop} {nm : String} (h : va_O nm a A s H) : Recv s H nm a := by
  obtain ⟨cell, h1, h2, h3, -⟩ := h
  exact ⟨cell, h1, h2, h3⟩
def mxI (x y : Int32) : Int32 := if x < y then y else x
def mnI (x y : Int32) : Int32 := if y < x then y else x
theorem xmax (F : CallFix p m c cc ls.size s args lw_all own) (hlink : Cond.methodLink own index ⟨"java/lang/Math", "max", "(II)I"⟩ ∈ lw_all) (hframes : 1 ≤ R.frames) (hlocals : (rest.map fun v => v.category).sum + 13 ≤ R.locals) (hc : cells ≤ R.cells) (hs : slots ≤ R.slots) {x y : Int32} (hdg : decode cc pc = .ok (.invokestatic index, 3))
    (kk : W p l e R s m args below meth c H locs cells slots Q (F0 m (pc + 3) ls (.int (mxI x y) :: rest))) : W p l e R s m args below meth c H locs cells slots Q (F0 m pc ls (.int y :: .int x :: rest)) :=
  va_mmax F.1 F.2.1 F.2.2.1 F.2.2.2.1 (F.2.2.2.2 _ hlink) (F.2.2.2.2 _ q292) (F.2.2.2.2 _ q55) (F.2.2.2.2 _ q293) hframes hlocals hc hs hdg kk
theorem xmin (F : CallFix p m c cc ls.size s args lw_all own) (hlink : Cond.methodLink own index ⟨"java/lang/Math", "min", "(II)I"⟩ ∈ lw_all) (hframes : 1 ≤ R.frames) (hlocals : (rest.map fun v => v.category).sum + 13 ≤ R.locals) (hc : cells ≤ R.cells) (hs : slots ≤ R.slots) {x y : Int32} (hdg : decode cc pc = .ok (.invokestatic index, 3))
    (kk : W p l e R s m args below meth c H locs cells slots Q (F0 m (pc + 3) ls (.int (mnI x y) :: rest))) : W p l e R s m args below meth c H locs cells slots Q (F0 m pc ls (.int y :: .int x :: rest)) :=
  va_mmin F.1 F.2.1 F.2.2.1 F.2.2.2.1 (F.2.2.2.2 _ hlink) (F.2.2.2.2 _ q279) (F.2.2.2.2 _ q55) (F.2.2.2.2 _ q280) hframes hlocals hc hs hdg kk
theorem oat_qat {t n ci : Nat} {fs : List Value} {g : Nat → Option Nat} {ty : FieldType} (hW : WK E s H) (h1 : oat E a ci fs H) (h2 : qat E a t n g H) (ht : (tysL E.2.1)[t]? = some (E.2.1 t, ty)) : False := by
  obtain ⟨r, hc, cell, q1, q2, q3, q4⟩ := h1
  obtain ⟨hSl, hfc, kC, hkC, hkind⟩ := hW.K.1 ci _ hc
  have h2 : H[a]? = some (vp_cell _ _) := h2
  obtain ⟨-, kA, hkA, cm, hkk⟩ := (hW.K.2 t _ ht).1 n (fun j => va_rf (g j))
  have e := Option.some.inj (q1.symm.trans h2)
  subst e
  have hkA : s.vm.classes[(vp_cell (E.2.1 t) (n, .inr (.inr (.inr (.inr g))))).cls]? = some kA := hkA
  rw [q2] at hkA
  cases hkC.symm.trans hkA
  rw [hkk] at hkind
  cases hkind
theorem oat_ci {ci ci' : Nat} {fs fs' : List Value} {r r' : vw_C} (hW : WK E s H) (h1 : oat E a ci fs H) (h2 : oat E a ci' fs' H) (hr : vwCl[ci]? = some r) (hr' : vwCl[ci']? = some r') : r.1 = r'.1 := by
  obtain ⟨r1, hc, cell, q1, q2, q3, q4⟩ := h1
  obtain ⟨r2, hc', cell', q1', q2', q3', q4'⟩ := h2
  cases hc.symm.trans hr
  cases hc'.symm.trans hr'
  cases q1.symm.trans q1'
  obtain ⟨-, hfc, kC, hkC, hkind⟩ := hW.K.1 ci _ hc
  obtain ⟨-, hfc', -⟩ := hW.K.1 ci' _ hc'
  have e := q2.symm.trans q2'
  rw [e] at hfc
  obtain ⟨k1, a1, b1⟩ := Vm.findClass_spec hfc
  obtain ⟨k2, a2, b2⟩ := Vm.findClass_spec hfc'
  cases a1.symm.trans a2
  exact b1.symm.trans b2
theorem cat {ci : Nat} {r : vw_C} (hW : WK E s H) (hc : vwCl[ci]? = some r) : ∃ cC, ClassAt s r.1 cC := by
  obtain ⟨hSl, hfc, kC, hkC, hkind⟩ := hW.K.1 ci _ hc
  exact ⟨_, hfc, kC, hkC, hkind⟩
end BASE2
theorem qat.congr {E : EV} {q t n : Nat} {f g : Nat → Option Nat} {H : Heap} (h : qat E q t n f H) (hf : f = g) : qat E q t n g H := hf ▸ h
/-- something that may lie in a list -/
def Elt (E : EV) (q : Nat) (H : Heap) : Prop := ∃ (ci : Nat) (fs : List Value) (r : vw_C), oat E q ci fs H ∧ vwCl[ci]? = some r ∧ (r.1, "java/lang/Object") ∈ xwCast
theorem Elt.any {E : EV} {q : Nat} {H : Heap} {s : State} (hW : WK E s H) (h : Elt E q H) : va_Any "java/lang/Object" s H q := by
  obtain ⟨ci, fs, r, h1, h2, h3⟩ := h
  exact _root_.Jvm.Pilot.CLayeredChartersLaw_law_r3780_b8b24a.any hW h1 h2 h3
theorem Elt.kept {E : EV} {q : Nat} {H H1 : Heap} {A : Nat → Prop} (h : Elt E q H) (hc : Chg A H H1) (hA : ¬ A q) : Elt E q H1 := by
  obtain ⟨ci, fs, r, h1, h2, h3⟩ := h
  exact ⟨ci, fs, r, h1.kept hc hA, h2, h3⟩
/-- an array of a list's: the constant empty one, or its own -/
def Arr (E : EV) (arr cap : Nat) (xs : List Nat) (H : Heap) : Prop :=
  (arr = E.2.2.2 0 ∧ xs = [] ∧ cap = 0) ∨ (Old E arr ∧ 0 < cap ∧ xs.length ≤ cap ∧ cap ≤ 40 ∧ qat E arr 3 cap (fun i => xs[i]?) H)
theorem xArrLen {p : Program} {l : Launch} {e : Env} {R : Room} {s : State} {m : MethodId} {args : Array Value} {below : List Frame} {meth : Method} {c : Code} {H : Heap} {locs : List Loc} {cells slots : Nat} {Q : State → Prop} {cc : ByteArray} {pc nL : Nat} {ls : Array Slot} {rest : List Value} {E : EV} {own : String} {arr cap : Nat} {xs : List Nat}
    (F : CallFix p m c cc nL s args lw_all own) (hW : WK E s H) (h : Arr E arr cap xs H) (hdg : decode cc pc = .ok (.arraylength, 1))
    (kk : W p l e R s m args below meth c H locs cells slots Q (F0 m (pc + 1) ls (.int (nI cap) :: rest))) : W p l e R s m args below meth c H locs cells slots Q (F0 m pc ls (.ref arr :: rest)) := by
  rcases h with ⟨h1, h2, h3⟩ | ⟨ho, h0, hle, hc, ha⟩
  · subst h1 h3
    exact xtlen F hW.2.1.2.1 hdg kk
  · exact xqlen F hW 3 ha rfl hdg kk
/-- an ArrayList -/
def AL (E : EV) (q : Nat) (md : Int32) (arr cap : Nat) (xs : List Nat) (H : Heap) : Prop := oat E q 6 [.int md, .ref arr, .int (nI xs.length)] H ∧ Arr E arr cap xs H
/-- what a list's methods may change -/
def LA (E : EV) (q arr n : Nat) : Nat → Prop := fun x => x = q ∨ (x = arr ∧ Old E x) ∨ n ≤ x
theorem LA.old {E : EV} {q arr n : Nat} {H : Heap} {s : State} (hW : WK E s H) (hq : Old E q) : ∀ x, x < H.size → LA E q arr H.size x → Old E x := by
  intro x hx h
  rcases h with rfl | ⟨-, h⟩ | h
  · exact hq
  · exact h
  · exact absurd hx (by omega)
