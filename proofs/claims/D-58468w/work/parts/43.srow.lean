/-! STRINGS: rows on bytes; strings of ours, and the constant "" -/
set_option maxRecDepth 100000
section SR
variable {p : Program} {l : Launch} {e : Env} {R : Room} {s : State} {m : MethodId} {args : Array Value} {below : List Frame} {meth : Method} {c : Code} {H : Heap} {locs : List Loc} {cells slots : Nat} {Q : State → Prop}
variable {cc : ByteArray} {pc nL : Nat} {ls : Array Slot} {rest : List Value} {E : EV} {A : Nat → Prop} {a : Nat} {H0 : Heap} {own : String} {index : Nat}
theorem xbst {n : Nat} {f : Nat → Int32} (F : CallFix p m c cc nL s args lw_all own) (hW : WK E s H) (ho : iat E a 1 n f H) (hS : va_S A H0 H locs) (hA : A a) {i x : Int32} (hin : vp_in i n) (hx : vp_nar .byte x = x) (hdg : decode cc pc = .ok (.bastore, 1))
    (kk : ∀ (H1 : Heap) (locs1 : List Loc), iat E a 1 n (upd f i.toNatClampNeg x) H1 → Upd a H H1 → va_S A H0 H1 locs1 → W p l e R s m args below meth c H1 locs1 cells slots Q (F0 m (pc + 1) ls rest)) : W p l e R s m args below meth c H locs cells slots Q (F0 m pc ls (.int x :: .int i :: .ref a :: rest)) := by
  refine W.bast F.1 F.2.1 (show H[a]? = some (vp_cell _ _) from ho) ((hW.K.2 1 _ rfl).1 n (fun j => .int (f j))) (fun q => by cases q) (by show ¬ (i < 0 ∨ (arrV _ _ _).slots.size ≤ _); rw [arrV_size]; exact hin) rfl rfl hdg fun H1 e z oq => ?_
  have e : H1[a]? = some (vp_cell (E.2.1 1) (n, .inl (upd f i.toNatClampNeg (vp_nar .byte x)))) := by
    rw [e]
    rw [vp_cell_i, vp_cell_i, arrV_store]
    congr 2
    funext q
    by_cases hq : q = i.toNatClampNeg
    · subst hq
      simp [updV, upd, vp_nar]
      try rfl
    · simp [updV, upd, hq]
  rw [hx] at e
  exact kk H1 _ e ⟨z, oq⟩ (hS.put z oq hA)
/-- arraycopy of bytes -/
theorem xbcopy (F : CallFix p m c cc ls.size s args lw_all own) (hlink : Cond.methodLink own index arraycopyName ∈ lw_all) (hnat : Cond.native arraycopyName ∈ lw_all) (hstat : Cond.static arraycopyName ∈ lw_all) (hini : Cond.initialized "java/lang/System" ∈ lw_all)
    (hW : WK E s H) {a0 n0 n1 : Nat} {f g : Nat → Int32} (ha0 : iat E a0 1 n0 f H) (ha1 : iat E a 1 n1 g H) (hS : va_S A H0 H locs) (hA : A a)
    {sp dp n : Int32} (h1 : ¬ sp < 0) (h2 : ¬ dp < 0) (h3 : ¬ n < 0) (h4 : sp.toNatClampNeg + n.toNatClampNeg ≤ n0) (h5 : dp.toNatClampNeg + n.toNatClampNeg ≤ n1) (hfit : ∀ i, i < n.toNatClampNeg → fits .byte (.int (f (sp.toNatClampNeg + i))) = true)
    (hframes : 1 ≤ R.frames) (hlocals : (rest.map fun v => v.category).sum + (nativeFrameWords "java/lang/System" "arraycopy" 5 + 11) ≤ R.locals) (hdg : decode cc pc = .ok (.invokestatic index, 3))
    (kk : ∀ (H1 : Heap) (locs1 : List Loc), iat E a 1 n1 (va_cpy f g sp.toNatClampNeg dp.toNatClampNeg n.toNatClampNeg) H1 → Upd a H H1 → va_S A H0 H1 locs1 → W p l e R s m args below meth c H1 locs1 cells slots Q (F0 m (pc + 3) ls rest)) : W p l e R s m args below meth c H locs cells slots Q (F0 m pc ls (.int n :: .int dp :: .ref a :: .int sp :: .ref a0 :: rest)) := by
  have hK := hW.K
  intro T hT X
  have hc0 : H[a0]? = some (vp_cell (E.2.1 1) (n0, .inl f)) := ha0
  have hc1 : H[a]? = some (vp_cell (E.2.1 1) (n1, .inl g)) := ha1
  obtain ⟨-, k0, hk0, cm0, hkk0⟩ := (hK.2 1 _ rfl).1 n0 (fun j => .int (f j))
  obtain ⟨-, k1, hk1, cm1, hkk1⟩ := (hK.2 1 _ rfl).1 n1 (fun j => .int (g j))
  obtain ⟨vm', X', step⟩ := X.arraycopy F.1 F.2.2.2.1 (F.2.2.2.2 _ hlink) (F.2.2.2.2 _ hnat) (F.2.2.2.2 _ hstat) (F.2.2.2.2 _ hini) (src := a0) (dst := a) (cs := vp_cell (E.2.1 1) (n0, .inl f)) (cd := vp_cell (E.2.1 1) (n1, .inl g)) (srcPos := sp) (destPos := dp) (n := n) (by rw [hT]; exact hc0) (by rw [hT]; exact hc1)
    (fun _ h => by cases h) (fun _ h => by cases h) (fun h => by cases h) (fun h => by cases h) hk0 hk1 hkk0 hkk1 (by simp [refKind]) h1 h2 h3
    (by rw [nn_ h1, nn_ h3]; show ¬ _ > ((arrV (E.2.1 1) n0 (fun j => .int (f j))).slots.size : Int); rw [arrV_size]; omega)
    (by rw [nn_ h2, nn_ h3]; show ¬ _ > ((arrV (E.2.1 1) n1 (fun j => .int (g j))).slots.size : Int); rw [arrV_size]; omega)
    (fun vm₁ _ i hi => by
      have e : (vp_cell (E.2.1 1) (n0, .inl f)).slots.getD (sp.toNatClampNeg + i) .null = .int (f (sp.toNatClampNeg + i)) := by
        show (arrV (E.2.1 1) n0 (fun j => .int (f j))).slots.getD _ _ = _
        rw [Array.getD_eq_getD_getElem?, arrV_read _ _ (by omega)]
        rfl
      refine ⟨?_, ?_⟩
      · rw [e]
        exact hfit i hi
      · rw [e]
        exact trivial)
    (g := F0 m pc ls (.int n :: .int dp :: .ref a :: .int sp :: .ref a0 :: rest)) rfl (by rw [F.2.2.1]) (rest := rest) rfl (by rw [F.2.1]; exact hdg) hframes (by show 2 * 0 + _ + _ ≤ _; omega)
  have e1 : copied (vp_cell (E.2.1 1) (n0, .inl f)) (vp_cell (E.2.1 1) (n1, .inl g)) sp dp n = vp_cell (E.2.1 1) (n1, .inl (va_cpy f g sp.toNatClampNeg dp.toNatClampNeg n.toNatClampNeg)) := va_copied (fun z => .int z) (E.2.1 1) (E.2.1 1) f g h4
  rw [e1] at X' step
  have hl : a < H.size := (Array.getElem?_eq_some_iff.mp hc1).1
  have hheap : ((T.setVm vm').setCell a (vp_cell (E.2.1 1) (n1, .inl (va_cpy f g sp.toNatClampNeg dp.toNatClampNeg n.toNatClampNeg)))).heap = H.setIfInBounds a (vp_cell (E.2.1 1) (n1, .inl (va_cpy f g sp.toNatClampNeg dp.toNatClampNeg n.toNatClampNeg))) := by rw [← hT]; rfl
  have oq : ∀ q : Nat, q ≠ a → (H.setIfInBounds a (vp_cell (E.2.1 1) (n1, .inl (va_cpy f g sp.toNatClampNeg dp.toNatClampNeg n.toNatClampNeg))))[q]? = H[q]? := fun q hq => by simp [Array.getElem?_setIfInBounds, Ne.symm hq]
  obtain ⟨t, a1, b1⟩ := kk _ _ (show (H.setIfInBounds a _)[a]? = some _ by simp [Array.getElem?_setIfInBounds, hl]) ⟨by simp, oq⟩ ⟨by simp; exact hS.1, fun q g1 g2 => by
      rw [oq q (fun e => g2 (by rw [e]; exact hA))]
      exact hS.2.1 q g1 g2, fun q hq => by
      rcases List.mem_append.mp hq with h | h
      · exact hS.2.2 q h
      · obtain ⟨z, -, hz⟩ := List.mem_map.mp h
        rw [← hz]
        exact hA⟩ _ hheap X'
  exact ⟨t, step t a1, b1⟩
/-- arraycopy of no byte, out of a constant -/
theorem xbcopy0 (F : CallFix p m c cc ls.size s args lw_all own) (hlink : Cond.methodLink own index arraycopyName ∈ lw_all) (hnat : Cond.native arraycopyName ∈ lw_all) (hstat : Cond.static arraycopyName ∈ lw_all) (hini : Cond.initialized "java/lang/System" ∈ lw_all)
    (hW : WK E s H) {a0 n1 : Nat} {fv : Nat → Value} {g : Nat → Int32} (hX : va_T .byte a0 0 fv (Old E) s H) (ha1 : iat E a 1 n1 g H) (hS : va_S A H0 H locs) (hA : A a)
    {sp dp n : Int32} (h1 : ¬ sp < 0) (h2 : ¬ dp < 0) (h3 : ¬ n < 0) (h4 : sp.toNatClampNeg + n.toNatClampNeg ≤ 0) (h5 : dp.toNatClampNeg + n.toNatClampNeg ≤ n1)
    (hframes : 1 ≤ R.frames) (hlocals : (rest.map fun v => v.category).sum + (nativeFrameWords "java/lang/System" "arraycopy" 5 + 11) ≤ R.locals) (hdg : decode cc pc = .ok (.invokestatic index, 3))
    (kk : ∀ (H1 : Heap) (locs1 : List Loc), iat E a 1 n1 (va_cpy (fun _ => 0) g sp.toNatClampNeg dp.toNatClampNeg n.toNatClampNeg) H1 → Upd a H H1 → va_S A H0 H1 locs1 → W p l e R s m args below meth c H1 locs1 cells slots Q (F0 m (pc + 3) ls rest)) : W p l e R s m args below meth c H locs cells slots Q (F0 m pc ls (.int n :: .int dp :: .ref a :: .int sp :: .ref a0 :: rest)) := by
  have hK := hW.K
  intro T hT X
  obtain ⟨scr, hs1, ⟨hs2, k0, hk0, cm0, hkk0⟩, hs3, -, -, -, hs7⟩ := hX
  have hc1 : H[a]? = some (vp_cell (E.2.1 1) (n1, .inl g)) := ha1
  obtain ⟨-, k1, hk1, cm1, hkk1⟩ := (hK.2 1 _ rfl).1 n1 (fun j => .int (g j))
  obtain ⟨vm', X', step⟩ := X.arraycopy F.1 F.2.2.2.1 (F.2.2.2.2 _ hlink) (F.2.2.2.2 _ hnat) (F.2.2.2.2 _ hstat) (F.2.2.2.2 _ hini) (src := a0) (dst := a) (cs := scr) (cd := vp_cell (E.2.1 1) (n1, .inl g)) (srcPos := sp) (destPos := dp) (n := n) (by rw [hT]; exact hs1) (by rw [hT]; exact hc1)
    hs2 (fun _ h => by cases h) hs3 (fun h => by cases h) hk0 hk1 hkk0 hkk1 (by simp [refKind]) h1 h2 h3
    (by rw [nn_ h1, nn_ h3]; omega)
    (by rw [nn_ h2, nn_ h3]; show ¬ _ > ((arrV (E.2.1 1) n1 (fun j => .int (g j))).slots.size : Int); rw [arrV_size]; omega)
    (fun vm₁ hal i hi => absurd hi (by omega))
    (g := F0 m pc ls (.int n :: .int dp :: .ref a :: .int sp :: .ref a0 :: rest)) rfl (by rw [F.2.2.1]) (rest := rest) rfl (by rw [F.2.1]; exact hdg) hframes (by show 2 * 0 + _ + _ ≤ _; omega)
  have e1 : copied scr (vp_cell (E.2.1 1) (n1, .inl g)) sp dp n = vp_cell (E.2.1 1) (n1, .inl (va_cpy (fun _ => 0) g sp.toNatClampNeg dp.toNatClampNeg n.toNatClampNeg)) := va_copiedX (fun z => .int z) scr (E.2.1 1) (fun _ => 0) g (fun j hj => absurd hj (Nat.not_lt_zero j)) h4
  rw [e1] at X' step
  have hl : a < H.size := (Array.getElem?_eq_some_iff.mp hc1).1
  have hheap : ((T.setVm vm').setCell a (vp_cell (E.2.1 1) (n1, .inl (va_cpy (fun _ => 0) g sp.toNatClampNeg dp.toNatClampNeg n.toNatClampNeg)))).heap = H.setIfInBounds a (vp_cell (E.2.1 1) (n1, .inl (va_cpy (fun _ => 0) g sp.toNatClampNeg dp.toNatClampNeg n.toNatClampNeg))) := by rw [← hT]; rfl
  have oq : ∀ q : Nat, q ≠ a → (H.setIfInBounds a (vp_cell (E.2.1 1) (n1, .inl (va_cpy (fun _ => 0) g sp.toNatClampNeg dp.toNatClampNeg n.toNatClampNeg))))[q]? = H[q]? := fun q hq => by simp [Array.getElem?_setIfInBounds, Ne.symm hq]
  obtain ⟨t, a1, b1⟩ := kk _ _ (show (H.setIfInBounds a _)[a]? = some _ by simp [Array.getElem?_setIfInBounds, hl]) ⟨by simp, oq⟩ ⟨by simp; exact hS.1, fun q g1 g2 => by
      rw [oq q (fun e => g2 (by rw [e]; exact hA))]
      exact hS.2.1 q g1 g2, fun q hq => by
      rcases List.mem_append.mp hq with h | h
      · exact hS.2.2 q h
      · obtain ⟨z, -, hz⟩ := List.mem_map.mp h
        rw [← hz]
        exact hA⟩ _ hheap X'
  exact ⟨t, step t a1, b1⟩
end SR
theorem cpy_0 {f f' g : Nat → Int32} {sp dp : Nat} : va_cpy f g sp dp 0 = va_cpy f' g sp dp 0 := by
  funext j; unfold va_cpy; rw [if_neg (by omega), if_neg (by omega)]
theorem chr_fit {c : Nat} (h : c < 128) : fits .byte (.int (nI c)) = true := by rw [← chr_i2b h]; exact pk_fb _
/-- a string: ours, or the constant "" -/
def Str (E : EV) (q v n : Nat) (f : Nat → Int32) (H : Heap) : Prop := (q = E.2.2.2 4 ∧ v = E.2.2.2 6 ∧ n = 0) ∨ ((∃ h1 h2 : Value, oat E q 8 [.ref v, .int 0, h1, h2] H) ∧ iat E v 1 n f H ∧ n ≤ 100 ∧ ∀ i, i < n → ∃ ch : Nat, f i = nI ch ∧ ch < 128)
theorem Str.kept {E : EV} {q v n : Nat} {f : Nat → Int32} {H H1 : Heap} {A : Nat → Prop} (h : Str E q v n f H) (hc : Chg A H H1) (hA : (∀ ci fs, oat E q ci fs H → ¬ A q) ∧ (∀ t n f, iat E v t n f H → ¬ A v)) : Str E q v n f H1 := by
  rcases h with h | ⟨⟨h1, h2, h3⟩, h4, h5, h6⟩
  · exact Or.inl h
  · exact Or.inr ⟨⟨h1, h2, h3.kept hc (hA.1 _ _ h3)⟩, h4.kept hc (hA.2 _ _ _ h4), h5, h6⟩
theorem Str.ext {E : EV} {q v n : Nat} {f : Nat → Int32} {H H1 : Heap} (h : Str E q v n f H) (hc : Chg (fun q => H.size ≤ q) H H1) : Str E q v n f H1 := h.kept hc ⟨fun _ _ ho => Nat.not_le.mpr ho.lt, fun _ _ _ ho => Nat.not_le.mpr ho.lt⟩
theorem Str.n100 {E : EV} {q v n : Nat} {f : Nat → Int32} {H : Heap} (h : Str E q v n f H) : n ≤ 100 := by
  rcases h with ⟨_, _, h⟩ | ⟨_, _, h, _⟩
  · omega
  · exact h
section SR2
variable {p : Program} {l : Launch} {e : Env} {R : Room} {s : State} {m : MethodId} {args : Array Value} {below : List Frame} {meth : Method} {c : Code} {H : Heap} {locs : List Loc} {cells slots : Nat} {Q : State → Prop}
variable {cc : ByteArray} {pc nL : Nat} {ls : Array Slot} {rest : List Value} {E : EV} {A : Nat → Prop} {a : Nat} {H0 : Heap} {own : String} {index q v n : Nat} {f : Nat → Int32}
theorem Str.rcv (hW : WK E s H) (h : Str E q v n f H) : Recv s H "java/lang/String" q := by
  rcases h with ⟨h, -, -⟩ | ⟨⟨h1, h2, h3⟩, -⟩
  · rw [h]; exact orecv (hW.2.1.2.2.2.2.2.2.2.2.1 1 (by decide)).1
  · exact recv hW h3 rfl
theorem xsval (F : CallFix p m c cc nL s args lw_all own) (hW : WK E s H) (h : Str E q v n f H) (hlink : Cond.fieldLink own index "java/lang/String" "value" "[B" ∈ lw_all) (hdg : decode cc pc = .ok (.getfield index, 3))
    (kk : W p l e R s m args below meth c H locs cells slots Q (F0 m (pc + 3) ls (.ref v :: rest))) : W p l e R s m args below meth c H locs cells slots Q (F0 m pc ls (.ref q :: rest)) := by
  rcases h with ⟨h1, h2, -⟩ | ⟨⟨h1, h2, h3⟩, -⟩
  · rw [h1]; rw [h2] at kk; exact xgetOF F (hW.2.1.2.2.2.2.2.2.2.2.1 1 (by decide)).2.2.1 hlink hdg kk
  · exact xget (ref := "java/lang/String") (ci := 8) (v := .ref v) (C := RJ5) (T := TJ5) (N := 4) F in_J5 hW h3 rfl 0 (by decide) hlink (fun _ h9 => h9) rfl hdg kk
theorem xscod (F : CallFix p m c cc nL s args lw_all own) (hW : WK E s H) (h : Str E q v n f H) (hlink : Cond.fieldLink own index "java/lang/String" "coder" "B" ∈ lw_all) (hdg : decode cc pc = .ok (.getfield index, 3))
    (kk : W p l e R s m args below meth c H locs cells slots Q (F0 m (pc + 3) ls (.int 0 :: rest))) : W p l e R s m args below meth c H locs cells slots Q (F0 m pc ls (.ref q :: rest)) := by
  rcases h with ⟨h1, h2, -⟩ | ⟨⟨h1, h2, h3⟩, -⟩
  · rw [h1]; exact xgetOF F (hW.2.1.2.2.2.2.2.2.2.2.1 1 (by decide)).2.1 hlink hdg kk
  · exact xget (ref := "java/lang/String") (ci := 8) (v := .int 0) (C := RJ5) (T := TJ5) (N := 4) F in_J5 hW h3 rfl 1 (by decide) hlink (fun _ h9 => h9) rfl hdg kk
theorem xslen (F : CallFix p m c cc nL s args lw_all own) (hW : WK E s H) (h : Str E q v n f H) (hdg : decode cc pc = .ok (.arraylength, 1))
    (kk : W p l e R s m args below meth c H locs cells slots Q (F0 m (pc + 1) ls (.int (nI n) :: rest))) : W p l e R s m args below meth c H locs cells slots Q (F0 m pc ls (.ref v :: rest)) := by
  rcases h with ⟨h1, h2, h3⟩ | ⟨-, h4, -⟩
  · rw [h2]; rw [h3] at kk; exact xtlen F (hW.2.1.2.2.2.2.2.2.2.2.1 1 (by decide)).2.2.2 hdg kk
  · exact xilen F hW 1 h4 rfl hdg kk
theorem xscopy (F : CallFix p m c cc ls.size s args lw_all own) (hlink : Cond.methodLink own index arraycopyName ∈ lw_all) (hnat : Cond.native arraycopyName ∈ lw_all) (hstat : Cond.static arraycopyName ∈ lw_all) (hini : Cond.initialized "java/lang/System" ∈ lw_all)
    (hW : WK E s H) {n1 d : Nat} {g : Nat → Int32} (h : Str E q v n f H) (ha1 : iat E a 1 n1 g H) (hS : va_S A H0 H locs) (hA : A a) (h5 : d + n ≤ n1) (hd : d ≤ 400)
    (hframes : 1 ≤ R.frames) (hlocals : (rest.map fun v => v.category).sum + (nativeFrameWords "java/lang/System" "arraycopy" 5 + 11) ≤ R.locals) (hdg : decode cc pc = .ok (.invokestatic index, 3))
    (kk : ∀ (H1 : Heap) (locs1 : List Loc), iat E a 1 n1 (va_cpy f g 0 d n) H1 → Upd a H H1 → va_S A H0 H1 locs1 → W p l e R s m args below meth c H1 locs1 cells slots Q (F0 m (pc + 3) ls rest)) : W p l e R s m args below meth c H locs cells slots Q (F0 m pc ls (.int (nI n) :: .int (nI d) :: .ref a :: .int 0 :: .ref v :: rest)) := by
  have hn := h.n100
  have c0 : (0 : Int32).toNatClampNeg = 0 := rfl
  have cd : (nI d).toNatClampNeg = d := nI_clamp (by omega)
  have cn : (nI n).toNatClampNeg = n := nI_clamp (by omega)
  rcases h with ⟨h1, h2, h3⟩ | ⟨-, h4, h6, h7⟩
  · subst h3
    rw [h2]
    refine xbcopy0 F hlink hnat hstat hini hW (hW.2.1.2.2.2.2.2.2.2.2.1 1 (by decide)).2.2.2 ha1 hS hA (by decide) (nI_pos (by omega)) (nI_pos (by omega)) (by rw [c0, cn]; decide) (by rw [cd, cn]; omega) hframes hlocals hdg (fun H1 locs1 g1 g2 g3 => kk H1 locs1 ?_ g2 g3)
    rw [c0, cd, cn] at g1
    rw [cpy_0 (f' := f)] at g1; exact g1
  · refine xbcopy F hlink hnat hstat hini hW h4 ha1 hS hA (by decide) (nI_pos (by omega)) (nI_pos (by omega)) (by rw [c0, cn]; omega) (by rw [cd, cn]; omega) (fun i hi => by rw [cn] at hi; obtain ⟨ch, h8, h9⟩ := h7 i hi; rw [c0, Nat.zero_add, h8]; exact chr_fit h9) hframes hlocals hdg (fun H1 locs1 g1 g2 g3 => kk H1 locs1 ?_ g2 g3)
    rw [c0, cd, cn] at g1; exact g1
end SR2
