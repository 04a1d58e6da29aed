/-! TEXTS 5: readRules, fault -/
set_option maxRecDepth 100000
/-- the rules at vs: whatever they are -/
def VS (E : EV) (N : Nat) (vs : List Nat) (H : Heap) : Prop := ∀ v ∈ vs, N ≤ v ∧ ∃ rv : RV, oat E v 5 (rvF rv) H
theorem VS.kept {E : EV} {N : Nat} {vs : List Nat} {H H1 : Heap} {A : Nat → Prop} (h : VS E N vs H) (hc : Chg A H H1) (hA : ∀ v ∈ vs, ¬ A v) : VS E N vs H1 := fun v hv => ⟨(h v hv).1, by obtain ⟨rv, h1⟩ := (h v hv).2; exact ⟨rv, h1.kept hc (hA v hv)⟩⟩
theorem VS.lt {E : EV} {N : Nat} {vs : List Nat} {H : Heap} (h : VS E N vs H) {v : Nat} (hv : v ∈ vs) : v < H.size := by
  obtain ⟨rv, h1⟩ := (h v hv).2
  exact h1.lt
theorem VS.elt {E : EV} {N : Nat} {vs : List Nat} {H : Heap} (h : VS E N vs H) : ∀ v ∈ vs, Elt E v H := fun v hv => by
  obtain ⟨rv, h1⟩ := (h v hv).2
  exact ⟨5, _, _, h1, rfl, by decide +kernel⟩
abbrev PSf (x : Nat → Int32) (ln : Nat) : Nat → RV := fun i => (PS x ln).getD i rv0
/-- the rules so far are those of the text -/
def RG0 (E : EV) (x : Nat → Int32) (ln m : Nat) (w : Bool) (vs : List Nat) (H : Heap) : Prop := w = false → Rls E vs m (PSf x ln) H ∧ ∀ i, i < m → RVok (PSf x ln i)
theorem getD_of {L : List RV} {i : Nat} {v : RV} (h : L[i]? = some v) : L.getD i rv0 = v := by simp [List.getD, h]
/-- the list of the rules that are read -/
def LI (E : EV) (N L m : Nat) (w : Bool) (x : Nat → Int32) (ln : Nat) (H : Heap) : Prop := ∃ (md : Int32) (arr cap : Nat) (vs : List Nat), AL E L md arr cap vs H ∧ vs.length = m ∧ VS E N vs H ∧ (Old E arr → N ≤ arr) ∧ RG0 E x ln m w vs H
theorem LI.kept {E : EV} {s : State} {N L m x0 : Nat} {w : Bool} {x : Nat → Int32} {ln : Nat} {H H1 : Heap} (hW : WK E s H) (h : LI E N L m w x ln H) (hL : N ≤ L) (hx : x0 < N) (hc : Chg (fun q => q = x0 ∨ H.size ≤ q) H H1) : LI E N L m w x ln H1 := by
  obtain ⟨md, arr, cap, vs, h1, h2, h3, h4, h5⟩ := h
  have no : ∀ {q : Nat}, q < H.size → N ≤ q → ¬ (q = x0 ∨ H.size ≤ q) := fun h1 h2 h3 => h3.elim (fun h => by omega) (fun h => by omega)
  exact ⟨md, arr, cap, vs, h1.kept hc ⟨no h1.1.lt hL, fun ho => no (h1.2.lt ho hW.b0) (h4 ho)⟩, h2, h3.kept hc (fun v hv => no (h3.lt hv) (h3 v hv).1), h4, fun hw => ⟨(h5 hw).1.kept hc (fun v hv => no (h3.lt hv) (h3 v hv).1), (h5 hw).2⟩⟩
theorem noLA {E : EV} {L arr N q : Nat} {H : Heap} (hq : q < N) (hL : N ≤ L) (ha : Old E arr → N ≤ arr) (hl : q < H.size) : ¬ LA E L arr H.size q := fun h => by
  rcases h with h | ⟨h, ho⟩ | h
  · omega
  · rw [h] at ho; have := ha ho; omega
  · omega
theorem LI.add {E : EV} {s : State} {N L m v arr cap arr' cap' : Nat} {md md' : Int32} {w : Bool} {x : Nat → Int32} {ln : Nat} {vs : List Nat} {r : RV} {H H1 : Heap} (hW : WK E s H) (hAL : AL E L md arr cap vs H) (hlen : vs.length = m) (hVS : VS E N vs H) (ha : Old E arr → N ≤ arr) (hrg : RG0 E x ln m false vs H)
    (hc : Chg (LA E L arr H.size) H H1) (hv : oat E v 5 (rvF r) H) (hvN : N ≤ v) (hvL : v ≠ L) (hel : ∀ y ∈ vs, y ≠ L) (hAL' : AL E L md' arr' cap' (vs ++ [v]) H1) (hor : arr' = arr ∨ H.size ≤ arr') (hN : N ≤ H.size) (hm : m < 25) (hr : w = false → (PS x ln)[m]? = some r ∧ RVok r) : LI E N L (m + 1) w x ln H1 := by
  have no : ∀ {q ci : Nat} {fs : List Value}, oat E q ci fs H → q ≠ L → ¬ LA E L arr H.size q := fun ho hne h9 => h9.elim hne (fun h8 => h8.elim (fun h7 => Arr.ne hW hAL.2 ho (h7.1 ▸ h7.2) h7.1.symm) (fun h7 => absurd ho.lt (Nat.not_lt.mpr h7)))
  have hv1 := hv.kept hc (no hv hvL)
  have hvs : ∀ y ∈ vs, ¬ LA E L arr H.size y := fun y hy => by
    obtain ⟨-, rv, h1⟩ := hVS y hy
    exact no h1 (hel y hy)
  refine ⟨md', arr', cap', vs ++ [v], hAL', by simp [hlen], fun y hy => ?_, fun ho => hor.elim (fun e => e ▸ ha (e ▸ ho)) (fun h => Nat.le_trans hN h), fun hw => ?_⟩
  · rcases List.mem_append.mp hy with h1 | h1
    · exact (hVS.kept hc hvs) y h1
    · rw [List.mem_singleton.mp h1]; exact ⟨hvN, r, hv1⟩
  · obtain ⟨h1, h2⟩ := hr hw
    obtain ⟨g1, g2⟩ := hrg rfl
    refine ⟨(g1.kept hc hvs).snoc hm hv1 (fun _ _ => rfl) (getD_of h1), fun i hi => ?_⟩
    by_cases e : i = m
    · subst e; rw [show PSf x ln i = r from getD_of h1]; exact h2
    · exact g2 i (by omega)
/-- what reading leaves: nothing, or the rules -/
def RRP (E : EV) (x g hL sa pb pv : Nat) (pd : Nat → Int32) (ln N r : Nat) (H1 : Heap) : Prop := ∃ (p' : Nat) (w' : Bool), RD E x g hL sa pb pv p' w' pd ln H1 ∧ p' ≤ 100 ∧ ((w' = true ∧ r = E.2.2.2 1 ∧ WR (nxM pd ln) ln = nI p') ∨ (w' = false ∧ WR (nxM pd ln) ln = -6 ∧ ∃ (L : Nat) (md : Int32) (arr cap : Nat) (vs : List Nat), oat E r 9 [.ref L] H1 ∧ AL E L md arr cap vs H1 ∧ Rls E vs (PS (nxM pd ln) ln).length (PSf (nxM pd ln) ln) H1 ∧ (∀ i, i < (PS (nxM pd ln) ln).length → RVok (PSf (nxM pd ln) ln i)) ∧ N ≤ r ∧ N ≤ L ∧ (Old E arr → N ≤ arr) ∧ ∀ v ∈ vs, N ≤ v))
theorem hdX0_readRules : Hd yX0_readRules 0 := by decide +kernel
set_option maxHeartbeats 1000000 in
set_option maxRecDepth 100000 in
theorem metX0_readRules (l : Launch) (E : EV) (H : Heap) (x g hL sa pb pv pcap : Nat) (pl wr pmb : Int32) (pf pd : Nat → Int32) (ln : Nat) (hxo : oat E x 0 [.ref g, .ref hL, .ref sa, .ref pb, .int pl, .int wr] H) (hsb : SB E pb pv pcap ln pmb pf H) (hln : ln ≤ 60) (hpd : ∀ i, i < ln → pf i = pd i ∧ ∃ ch : Nat, pd i = nI ch ∧ 33 ≤ ch ∧ ch < 127) (hxold : Old E x) (hxpb : x ≠ pb) (hxpv : x ≠ pv) : Ct l yX0_readRules cX0_readRules 2 (some (.object "java/util/Optional")) 10 444 (30) (640) [.ref x] E H (fun q => q = x ∨ H.size ≤ q) (pA (fun r H1 => RRP E x g hL sa pb pv pd ln H.size r H1)) := by
  refine Ct.ofA (Or.inl ⟨_, rfl⟩) (by decide) (Nat.le_of_ble_eq_true rfl) ?_
  intro p e s m bl mt cd ls Q hF hW hH hl hend
  obtain ⟨F, hin⟩ := hF
  have hx := F.1
  have hb := F.2.1
  have hts := F.2.2.2.2
  have hl : lv_has ls 2 [(0, .ref x)] := hl
  have hS : va_S (fun q => q = x ∨ H.size ≤ q) H H [] := va_S.rf
  have lx := hxo.lt; have lpb := hsb.1.lt; have lpv := hsb.2.1.lt
  have hsb1 := hsb.1; have hsb2 := hsb.2.1
  have hpc := fun i hi => (hpd i hi).2
  obtain ⟨cC, hat⟩ := cat (ci := 6) hW rfl
  refine xnew (ci := 6) (fs := [.int 0, .null, .int 0]) (C := RJ2) (T := TJ2) (N := 3) F in_J2 tyJ2 tyJ2_ok q141 q86 q47 hW hS rfl (fun j hj => by rcases (show j = 0 ∨ j = 1 ∨ j = 2 by omega) with rfl | rfl | rfl <;> rfl) (by show 0 + 1 ≤ 30; omega) (by show 0 + 3 ≤ 640; omega) dX0_readRules_0 (fun H_1 ho_1 hp_1 hS_1 => ?_)
  have hz_H_1 : H_1.size = H.size + 1 := hp_1.1
  have hW_H_1 := hW.kept (hp_1.chg (A := fun _ => False)) (fun _ _ h9 => h9.elim)
  have hxo_H_1 := hxo.kept (hp_1.chg (A := fun _ => False)) (fun h9 => h9)
  have hsb1_H_1 := hsb1.kept (hp_1.chg (A := fun _ => False)) (fun h9 => h9)
  have hsb2_H_1 := hsb2.kept (hp_1.chg (A := fun _ => False)) (fun h9 => h9)
  refine lv_dup hx hb dX0_readRules_3 rfl ?_
  refine run_chN (rest := [.ref H.size]) (kI F hW_H_1 (metJ2_init l E H_1 H.size (Nat.le_trans (show E.2.2.1 ≤ H.size from hW.2.2) (by omega)) ho_1) q89 q47 q142 q88 rfl hdJ2_init ⟨Nat.le_of_ble_eq_true rfl, Nat.le_of_ble_eq_true rfl⟩ hl.1 rfl (Nat.le_of_ble_eq_true rfl) dX0_readRules_4 ⟨by show 1 + 0 ≤ 30; omega, by show 3 + 0 ≤ 640; omega⟩) hS_1 (fun q9 h9 => Or.inr (by have h7 : q9 = H.size := h9; omega)) (fun H_2 locs hp_2 hc_2 hS_2 => ?_)
  have hz_H_2 := hc_2.1
  have hW_H_2 := hW_H_1.kept hc_2 (fun q9 _ h9 => h9 ▸ (Nat.le_trans (show E.2.2.1 ≤ H.size from hW.2.2) (by omega)))
  have hxo_H_2 := hxo_H_1.kept hc_2 (fun h9 => by have h8 : x = H.size := h9; omega)
  have hsb1_H_2 := hsb1_H_1.kept hc_2 (fun h9 => by have h8 : pb = H.size := h9; omega)
  have hsb2_H_2 := hsb2_H_1.kept hc_2 (fun h9 => by have h8 : pv = H.size := h9; omega)
  have hALq := hp_2
  have hLl := hALq.1.lt
  refine lv_astore_n (lv' := [(1, .ref H.size), (0, .ref x)]) hx hb dX0_readRules_7 rfl hl (by decide) rfl (fun ls hl => ?_)
  refine lv_aload_n hx hb dX0_readRules_8 rfl (lv_at hl 1 rfl) ?_
  refine lv_iconst (v := 0) hx hb dX0_readRules_9 (by decide) ?_
  refine xput (ref := "LayeredCharters") (ci := 0) (v := .int 0) (C := RX0) (T := TX0) (N := 6) F in_X0 tyX0 tyX0_ok nmX0 hW_H_2 hxo_H_2 hS_2 (Or.inl rfl) rfl 4 (by decide) q181 (fun _ h9 => h9) rfl rfl rfl (Nat.le_of_ble_eq_true rfl) dX0_readRules_10 (fun H_3 locs ho_3 hu_3 hS_3 => ?_)
  have ho_3 : oat E x 0 [.ref g, .ref hL, .ref sa, .ref pb, .int 0, .int wr] H_3 := ho_3
  have hz_H_3 : H_3.size = H_2.size := hu_3.1
  have hW_H_3 := hW_H_2.kept hu_3.chg (fun q _ hq => hq ▸ hxold)
  have hsb1_H_3 := hsb1_H_2.kept hu_3.chg (fun h9 => hxpb (show pb = x from h9).symm)
  have hsb2_H_3 := hsb2_H_2.kept hu_3.chg (fun h9 => hxpv (show pv = x from h9).symm)
  have hALq_H_3 := hALq.kept hu_3.chg ⟨(fun h9 => by have h8 : H.size = x := h9; omega), fun h8 => absurd h8 (Nat.not_le.mpr hW.b0)⟩
  refine lv_aload_n hx hb dX0_readRules_13 rfl (lv_at hl 1 rfl) ?_
  refine lv_iconst (v := 0) hx hb dX0_readRules_14 (by decide) ?_
  refine xput (ref := "LayeredCharters") (ci := 0) (v := .int 0) (C := RX0) (T := TX0) (N := 6) F in_X0 tyX0 tyX0_ok nmX0 hW_H_3 ho_3 hS_3 (Or.inl rfl) rfl 5 (by decide) q182 (fun _ h9 => h9) rfl rfl rfl (Nat.le_of_ble_eq_true rfl) dX0_readRules_15 (fun H_4 locs ho_4 hu_4 hS_4 => ?_)
  have ho_4 : oat E x 0 [.ref g, .ref hL, .ref sa, .ref pb, .int 0, .int 0] H_4 := ho_4
  have hz_H_4 : H_4.size = H_3.size := hu_4.1
  have hW_H_4 := hW_H_3.kept hu_4.chg (fun q _ hq => hq ▸ hxold)
  have hsb1_H_4 := hsb1_H_3.kept hu_4.chg (fun h9 => hxpb (show pb = x from h9).symm)
  have hsb2_H_4 := hsb2_H_3.kept hu_4.chg (fun h9 => hxpv (show pv = x from h9).symm)
  have hALq_H_4 := hALq_H_3.kept hu_4.chg ⟨(fun h9 => by have h8 : H.size = x := h9; omega), fun h8 => absurd h8 (Nat.not_le.mpr hW.b0)⟩
  have hRDp : RD E x g hL sa pb pv 0 false pd ln H_4 := ⟨pcap, pmb, pf, ho_4, ⟨hsb1_H_4, hsb2_H_4, hsb.2.2⟩, hln, hpd, hxold, hxpb, hxpv⟩
  have hLIp : LI E H.size H.size 0 false (nxM pd ln) ln H_4 := ⟨0, E.2.2.2 0, 0, [], hALq_H_4, rfl, (fun v hv => by simp at hv), (fun h8 => absurd h8 (Nat.not_le.mpr hW.b0)), fun _ => ⟨⟨rfl, by decide, fun i v hv => by simp at hv⟩, fun i hi => absurd hi (Nat.not_lt_zero _)⟩⟩
  refine lv_aload_n hx hb dX0_readRules_18 rfl (lv_at hl 0 rfl) ?_
  refine lv_aload_n hx hb dX0_readRules_19 rfl (lv_at hl 1 rfl) ?_
  refine run_chA (rest := [.ref H.size]) (kV F hW_H_4 (metX0_readRule l E H_4 x g hL sa pb pv 0 pd ln hRDp (by omega)) (lw_V q459 q461 qs7 q42 q462) hdX0_readRule ⟨Nat.le_of_ble_eq_true rfl, Nat.le_of_ble_eq_true rfl⟩ (recv hW_H_4 ho_4 rfl) hl.1 rfl (Nat.le_of_ble_eq_true rfl) dX0_readRules_20 ⟨by show 1 + 1 ≤ 30; omega, by show 3 + 5 ≤ 640; omega⟩) hS_4 (fun q9 h => h.elim Or.inl (fun h8 => Or.inr (by have h7 : H_4.size ≤ q9 := h8; omega))) (fun r_5 H_5 locs hp_5 hc_5 hS_5 => ?_)
  obtain ⟨hrA, hvA, hRDA⟩ := hp_5
  have hWrA := hW_H_4.kept hc_5 (fun q9 h1 h2 => h2.elim (fun h => h ▸ hxold) (fun h => absurd h1 (Nat.not_lt.mpr h)))
  have hz_H_5 := hc_5.1
  have hLIA := LI.kept hW_H_4 hLIp (Nat.le_refl _) lx hc_5
  obtain ⟨mdA, arrA, capA, vsA, a1A, a2A, a3A, a4A, a5A⟩ := hLIA
  have lvA := hvA.lt
  have neA : ∀ {q : Nat} {rv : RV}, oat E q 5 (rvF rv) H_5 → q ≠ H.size := fun ho e => by rw [e] at ho; exact absurd (oat_ci hWrA ho a1A.1 rfl rfl) (by decide)
  have nevA : ∀ y ∈ vsA, y ≠ H.size := fun y hy => by obtain ⟨-, rv, h1⟩ := a3A y hy; exact neA h1
  refine run_ch5I (rest := []) (kF (x := ⟨"java/util/List", "add", "(Ljava/lang/Object;)Z"⟩) F hWrA (metJ2_add l E H_5 H.size arrA capA r_5 vsA mdA (show E.2.2.1 ≤ H.size from hW.2.2) a1A (fun y hy => ⟨a3A.elt y hy, nevA y hy⟩) ⟨5, _, _, hvA, rfl, by decide +kernel⟩ (neA hvA) (by omega)) (by decide +kernel) hat q372 q358 q360 q47 q362 hdJ2_addF ⟨Nat.le_of_ble_eq_true rfl, Nat.le_of_ble_eq_true rfl⟩ (recv hWrA a1A.1 rfl) hl.1 rfl (Nat.le_of_ble_eq_true rfl) dX0_readRules_23 ⟨by show 2 + 1 ≤ 30; omega, by show 8 + 40 ≤ 640; omega⟩) hS_5 (fun q9 h9 => Or.inr (h9.elim (fun h => by omega) (fun h => h.elim (fun h => by have h8 := a4A (h.1 ▸ h.2); omega) (fun h => by have h8 : H_5.size ≤ q9 := h; omega)))) (fun r_6 H_6 locs hp_6 hc_6 hS_6 => ?_)
  obtain ⟨arrNA, capNA, hANA, horA⟩ := hp_6
  have hWaA := hWrA.kept hc_6 (LA.old (n := 0) hWrA (show E.2.2.1 ≤ H.size from hW.2.2))
  have hz_H_6 := hc_6.1
  have hLIaA : LI E H.size H.size (0 + 1) (rrX (nxM pd ln) 0).2.1 (nxM pd ln) ln H_6 := LI.add (w := (rrX (nxM pd ln) 0).2.1) hWrA a1A a2A a3A a4A a5A hc_6 hvA (by omega) (neA hvA) nevA hANA horA (by omega) (by omega) (fun hw => ⟨(RI_init hpc).2.1 hw, rr_valid (nx_c hpc) hw⟩)
  have hRDaA := hRDA.kept hc_6 (noLA lx (Nat.le_refl _) a4A (by omega)) (noLA lpb (Nat.le_refl _) a4A (by omega)) (noLA lpv (Nat.le_refl _) a4A (by omega))
  refine lv_pop hx hb dX0_readRules_28 rfl ?_
  have lg29 : ∀ (kk : Nat) (p2 : Nat) (w2 : Bool) (m2 : Nat), (100 - p2) * 2 + (if w2 = true then 0 else 1) < kk → (p2 ≤ 66) → (m2 ≤ 13) → (RI (nxM pd ln) ln p2 w2 m2) → ∀ (kc ks : Nat), kc ≤ 1 + 2 * m2 → ks ≤ 3 + 45 * m2 → ∀ (Hg_29 : Heap) (locs : List Loc), va_S (fun q => q = x ∨ H.size ≤ q) H Hg_29 locs → WK E s Hg_29 → (H.size ≤ Hg_29.size ∧ RD E x g hL sa pb pv p2 w2 pd ln Hg_29 ∧ LI E H.size H.size m2 w2 (nxM pd ln) ln Hg_29) → ∀ ls : Array Slot, lv_has ls 2 [(0, .ref x), (1, .ref H.size)] → W p l e ({ frames := 10, cells := 30, slots := 640, locals := 444 } : Room) s m ([.ref x] : List Value).toArray bl mt cd Hg_29 locs kc ks Q (F0 m 29 ls []) := by
    intro kk
    induction kk with
    | zero => intro p2 w2 m2 hm; exact absurd hm (Nat.not_lt_zero _)
    | succ kk ih29 =>
      intro p2 w2 m2 hm hp2 hm13 hri kc ks hkc hks Hg_29 locs hS_29 hW_29 hl_29 ls hl
      obtain ⟨hzc, hRD, hLI⟩ := hl_29
      have hRD' := hRD
      obtain ⟨pcap2, pmb2, pf2, hxo2, hsb2', hln2, hpd2, -⟩ := hRD'
      refine lv_aload_n hx hb dX0_readRules_29 rfl (lv_at hl 0 rfl) ?_
      refine xget (ref := "LayeredCharters") (ci := 0) (v := .int (b2i w2)) (C := RX0) (T := TX0) (N := 6) F in_X0 hW_29 hxo2 rfl 5 (by decide) q182 (fun _ h9 => h9) rfl dX0_readRules_30 ?_
      refine lv_if_ne (tgt := 89) hx hb dX0_readRules_33 (by decide) (fun c_7 => ?_) (fun c_7 => ?_)
      · skip
        have bc_7 := c_7
        have c_7 := b2i_t c_7
        refine lv_aload_n hx hb dX0_readRules_89 rfl (lv_at hl 0 rfl) ?_
        refine xget (ref := "LayeredCharters") (ci := 0) (v := .int (b2i w2)) (C := RX0) (T := TX0) (N := 6) F in_X0 hW_29 hxo2 rfl 5 (by decide) q182 (fun _ h9 => h9) rfl dX0_readRules_90 ?_
        refine lv_if_eq (tgt := 102) hx hb dX0_readRules_93 (by decide) (fun c9 => absurd c9 bc_7) (fun _ => ?_)
        refine run_ro (w := .ref (E.2.2.2 1)) (rest := []) (kS F hW_29 (metJ14_empty l E Hg_29) (lw_S q577 q578 q64 q579) hdJ14_empty ⟨Nat.le_of_ble_eq_true rfl, Nat.le_of_ble_eq_true rfl⟩ hl.1 rfl (Nat.le_of_ble_eq_true rfl) dX0_readRules_96 ⟨by show kc + 0 ≤ 30; omega, by show ks + 0 ≤ 640; omega⟩) ?_
        refine lv_goto (tgt := 106) hx hb dX0_readRules_99 (by decide) ?_
        exact hend _ _ _ _ _ _ _ (Or.inr ⟨_, rfl⟩) dX0_readRules_106 (⟨_, rfl, p2, w2, hRD, by omega, Or.inl ⟨c_7, rfl, hri.1 c_7⟩⟩) hS_29 (by first | exact Nat.le_refl _ | (show (kc : Nat) ≤ 30; omega)) (by first | exact Nat.le_refl _ | (show (ks : Nat) ≤ 640; omega))
      · skip
        have bc_7 := c_7
        have c_7 := b2i_f c_7
        have hwf := c_7
        have hRDf := hRD; rw [hwf] at hRDf
        have hRIf := hri; rw [hwf] at hRIf
        have hLIf := hLI; rw [hwf] at hLIf
        have h5m := (hRIf.2 rfl).1
        refine lv_aload_n hx hb dX0_readRules_36 rfl (lv_at hl 0 rfl) ?_
        refine xget (ref := "LayeredCharters") (ci := 0) (v := .int (nI p2)) (C := RX0) (T := TX0) (N := 6) F in_X0 hW_29 hxo2 rfl 4 (by decide) q181 (fun _ h9 => h9) rfl dX0_readRules_37 ?_
        refine lv_aload_n hx hb dX0_readRules_40 rfl (lv_at hl 0 rfl) ?_
        refine xget (ref := "LayeredCharters") (ci := 0) (v := .ref pb) (C := RX0) (T := TX0) (N := 6) F in_X0 hW_29 hxo2 rfl 3 (by decide) q180 (fun _ h9 => h9) rfl dX0_readRules_41 ?_
        refine run_ro (w := .int (nI ln)) (rest := [.int (nI p2)]) (kV F hW_29 (metJ4_length l E Hg_29 pb pv pcap2 ln pmb2 pf2 hsb2') (lw_V q467 q468 q469 q49 q470) hdJ4_length ⟨Nat.le_of_ble_eq_true rfl, Nat.le_of_ble_eq_true rfl⟩ (recv hW_29 hsb2'.1 rfl) hl.1 rfl (Nat.le_of_ble_eq_true rfl) dX0_readRules_44 ⟨by show kc + 0 ≤ 30; omega, by show ks + 0 ≤ 640; omega⟩) ?_
        refine lv_icmp_ge (tgt := 89) hx hb dX0_readRules_47 (by decide) (fun c_8 => ?_) (fun c_8 => ?_)
        · skip
          have nc_8 := (nI_leI (a := ln) (b := p2) (by omega) (by omega)).mp c_8
          refine lv_aload_n hx hb dX0_readRules_89 rfl (lv_at hl 0 rfl) ?_
          refine xget (ref := "LayeredCharters") (ci := 0) (v := .int (b2i w2)) (C := RX0) (T := TX0) (N := 6) F in_X0 hW_29 hxo2 rfl 5 (by decide) q182 (fun _ h9 => h9) rfl dX0_readRules_90 ?_
          refine lv_if_eq (tgt := 102) hx hb dX0_readRules_93 (by decide) (fun _ => ?_) (fun c9 => absurd bc_7 c9)
          refine lv_aload_n hx hb dX0_readRules_102 rfl (lv_at hl 1 rfl) ?_
          refine run_chA (rest := []) (kS F hW_29 (metJ14_of l E Hg_29 H.size) (lw_S q582 q583 q64 q584) hdJ14_of ⟨Nat.le_of_ble_eq_true rfl, Nat.le_of_ble_eq_true rfl⟩ hl.1 rfl (Nat.le_of_ble_eq_true rfl) dX0_readRules_103 ⟨by show kc + 1 ≤ 30; omega, by show ks + 1 ≤ 640; omega⟩) hS_29 (fun q9 h9 => Or.inr (by have h8 : Hg_29.size ≤ q9 := h9; omega)) (fun r_9 H_9 locs hp_9 hc_9 hS_9 => ?_)
          obtain ⟨e9, hop⟩ := hp_9
          have hze := hc_9.1
          have hRDe := hRDf.kept hc_9 (fun h => absurd hxo2.lt (Nat.not_lt.mpr h)) (fun h => absurd hsb2'.1.lt (Nat.not_lt.mpr h)) (fun h => absurd hsb2'.2.1.lt (Nat.not_lt.mpr h))
          obtain ⟨mdE, arrE, capE, vsE, a1E, a2E, a3E, a4E, a5E⟩ := hLIf
          have b1E := a1E.ext hW_29 hc_9
          have b2E := (a5E rfl).1.ext hc_9
          subst e9
          obtain ⟨eW, eM⟩ := RI_end hRIf (by omega)
          rw [eM] at b2E
          have hok9 := (a5E rfl).2; rw [eM] at hok9
          exact hend _ _ _ _ _ _ _ (Or.inr ⟨_, rfl⟩) dX0_readRules_106 (⟨_, rfl, p2, false, hRDe, by omega, Or.inr ⟨rfl, eW, H.size, mdE, arrE, capE, vsE, hop, b1E, b2E, hok9, hzc, Nat.le_refl _, a4E, fun v hv => (a3E v hv).1⟩⟩) hS_9 (by first | exact Nat.le_refl _ | (show (kc + 1 : Nat) ≤ 30; omega)) (by first | exact Nat.le_refl _ | (show (ks + 1 : Nat) ≤ 640; omega))
        · skip
          have nc_8 := Nat.not_le.mp (fun h9 => c_8 ((nI_leI (a := ln) (b := p2) (by omega) (by omega)).mpr h9))
          refine lv_aload_n hx hb dX0_readRules_50 rfl (lv_at hl 0 rfl) ?_
          refine lv_aload_n hx hb dX0_readRules_51 rfl (lv_at hl 0 rfl) ?_
          refine run_ro (w := .int (nxM pd ln p2)) (rest := [.ref x]) (kV F hW_29 (metX0_sign l E Hg_29 x g hL sa pb pv p2 false pd ln hRDf (by omega)) (lw_V q463 q465 qs8 q42 q466) hdX0_sign ⟨Nat.le_of_ble_eq_true rfl, Nat.le_of_ble_eq_true rfl⟩ (recv hW_29 hxo2 rfl) hl.1 rfl (Nat.le_of_ble_eq_true rfl) dX0_readRules_52 ⟨by show kc + 0 ≤ 30; omega, by show ks + 0 ≤ 640; omega⟩) ?_
          refine lv_bipush (v := 59) hx hb dX0_readRules_55 (by decide) ?_
          refine lv_icmp_ne (tgt := 64) hx hb dX0_readRules_57 (by decide) (fun c_10 => ?_) (fun c_10 => ?_)
          · skip
            refine lv_iconst (v := 0) hx hb dX0_readRules_64 (by decide) ?_
            refine run_chN (rest := []) (kV F hW_29 (metX0_accept l E Hg_29 x g hL sa pb pv p2 false pd ln hRDf (by omega) false) (lw_V q500 q502 qs9 q42 q503) hdX0_accept ⟨Nat.le_of_ble_eq_true rfl, Nat.le_of_ble_eq_true rfl⟩ (recv hW_29 hxo2 rfl) hl.1 rfl (Nat.le_of_ble_eq_true rfl) dX0_readRules_65 ⟨by show kc + 0 ≤ 30; omega, by show ks + 0 ≤ 640; omega⟩) hS_29 (fun q9 h => Or.inl h) (fun H_11 locs hp_11 hc_11 hS_11 => ?_)
            have hRDc : RD E x g hL sa pb pv p2 true pd ln H_11 := hp_11
            have hWc := hW_29.kept hc_11 (fun q9 h1 h2 => (show q9 = x from h2) ▸ hxold)
            have hz_H_11 := hc_11.1
            have hLIc := LI.kept hW_29 hLIf (Nat.le_refl _) lx (hc_11.weak (fun q _ h => Or.inl h))
            have hRDc' := hRDc
            obtain ⟨pcap3, pmb3, pf3, hxo3, -⟩ := hRDc'
            have hLIb : LI E H.size H.size m2 true (nxM pd ln) ln H_11 := by obtain ⟨b1, b2, b3, b4, b5, b6, b7, b8, b9⟩ := hLIc; exact ⟨b1, b2, b3, b4, b5, b6, b7, b8, fun h => by cases h⟩
            refine lv_aload_n hx hb dX0_readRules_68 rfl (lv_at hl 0 rfl) ?_
            refine xget (ref := "LayeredCharters") (ci := 0) (v := .int (b2i true)) (C := RX0) (T := TX0) (N := 6) F in_X0 hWc hxo3 rfl 5 (by decide) q182 (fun _ h9 => h9) rfl dX0_readRules_69 ?_
            refine lv_if_ne (tgt := 29) hx hb dX0_readRules_72 (by decide) (fun _ => ?_) (fun c9 => absurd c9 (show ¬ b2i true = 0 by decide))
            exact ih29 p2 true m2 (by (have h9 := hm; rw [hwf] at h9; simp only [Bool.false_eq_true, if_false, if_true] at h9 ⊢; omega)) (hp2) (hm13) (RI_no hRIf (by omega) c_10) _ _ (by omega) (by omega) _ _ hS_11 hWc (⟨by omega, hRDc, hLIb⟩) ls (lv_sub hl [0, 1] rfl)
          · skip
            refine lv_iconst (v := 1) hx hb dX0_readRules_60 (by decide) ?_
            refine lv_goto (tgt := 65) hx hb dX0_readRules_61 (by decide) ?_
            refine run_chN (rest := []) (kV F hW_29 (metX0_accept l E Hg_29 x g hL sa pb pv p2 false pd ln hRDf (by omega) true) (lw_V q500 q502 qs9 q42 q503) hdX0_accept ⟨Nat.le_of_ble_eq_true rfl, Nat.le_of_ble_eq_true rfl⟩ (recv hW_29 hxo2 rfl) hl.1 rfl (Nat.le_of_ble_eq_true rfl) dX0_readRules_65 ⟨by show kc + 0 ≤ 30; omega, by show ks + 0 ≤ 640; omega⟩) hS_29 (fun q9 h => Or.inl h) (fun H_12 locs hp_12 hc_12 hS_12 => ?_)
            have hRDc : RD E x g hL sa pb pv (p2 + 1) false pd ln H_12 := hp_12
            have hWc := hW_29.kept hc_12 (fun q9 h1 h2 => (show q9 = x from h2) ▸ hxold)
            have hz_H_12 := hc_12.1
            have hLIc := LI.kept hW_29 hLIf (Nat.le_refl _) lx (hc_12.weak (fun q _ h => Or.inl h))
            have hRDc' := hRDc
            obtain ⟨pcap3, pmb3, pf3, hxo3, -⟩ := hRDc'
            refine lv_aload_n hx hb dX0_readRules_68 rfl (lv_at hl 0 rfl) ?_
            refine xget (ref := "LayeredCharters") (ci := 0) (v := .int (b2i false)) (C := RX0) (T := TX0) (N := 6) F in_X0 hWc hxo3 rfl 5 (by decide) q182 (fun _ h9 => h9) rfl dX0_readRules_69 ?_
            refine lv_if_ne (tgt := 29) hx hb dX0_readRules_72 (by decide) (fun c9 => absurd (show b2i false = 0 by decide) c9) (fun _ => ?_)
            refine lv_aload_n hx hb dX0_readRules_75 rfl (lv_at hl 1 rfl) ?_
            refine lv_aload_n hx hb dX0_readRules_76 rfl (lv_at hl 0 rfl) ?_
            refine run_chA (rest := [.ref H.size]) (kV F hWc (metX0_readRule l E H_12 x g hL sa pb pv (p2 + 1) pd ln hRDc (by omega)) (lw_V q459 q461 qs7 q42 q462) hdX0_readRule ⟨Nat.le_of_ble_eq_true rfl, Nat.le_of_ble_eq_true rfl⟩ (recv hWc hxo3 rfl) hl.1 rfl (Nat.le_of_ble_eq_true rfl) dX0_readRules_77 ⟨by show kc + 0 + 1 ≤ 30; omega, by show ks + 0 + 5 ≤ 640; omega⟩) hS_12 (fun q9 h => h.elim Or.inl (fun h8 => Or.inr (by have h7 : H_12.size ≤ q9 := h8; omega))) (fun r_13 H_13 locs hp_13 hc_13 hS_13 => ?_)
            obtain ⟨hrB, hvB, hRDB⟩ := hp_13
            have hWrB := hWc.kept hc_13 (fun q9 h1 h2 => h2.elim (fun h => h ▸ hxold) (fun h => absurd h1 (Nat.not_lt.mpr h)))
            have hz_H_13 := hc_13.1
            have hLIB := LI.kept hWc hLIc (Nat.le_refl _) lx hc_13
            obtain ⟨mdB, arrB, capB, vsB, a1B, a2B, a3B, a4B, a5B⟩ := hLIB
            have lvB := hvB.lt
            have neB : ∀ {q : Nat} {rv : RV}, oat E q 5 (rvF rv) H_13 → q ≠ H.size := fun ho e => by rw [e] at ho; exact absurd (oat_ci hWrB ho a1B.1 rfl rfl) (by decide)
            have nevB : ∀ y ∈ vsB, y ≠ H.size := fun y hy => by obtain ⟨-, rv, h1⟩ := a3B y hy; exact neB h1
            refine run_ch5I (rest := []) (kF (x := ⟨"java/util/List", "add", "(Ljava/lang/Object;)Z"⟩) F hWrB (metJ2_add l E H_13 H.size arrB capB r_13 vsB mdB (show E.2.2.1 ≤ H.size from hW.2.2) a1B (fun y hy => ⟨a3B.elt y hy, nevB y hy⟩) ⟨5, _, _, hvB, rfl, by decide +kernel⟩ (neB hvB) (by omega)) (by decide +kernel) hat q372 q358 q360 q47 q362 hdJ2_addF ⟨Nat.le_of_ble_eq_true rfl, Nat.le_of_ble_eq_true rfl⟩ (recv hWrB a1B.1 rfl) hl.1 rfl (Nat.le_of_ble_eq_true rfl) dX0_readRules_80 ⟨by show kc + 0 + 1 + 1 ≤ 30; omega, by show ks + 0 + 5 + 40 ≤ 640; omega⟩) hS_13 (fun q9 h9 => Or.inr (h9.elim (fun h => by omega) (fun h => h.elim (fun h => by have h8 := a4B (h.1 ▸ h.2); omega) (fun h => by have h8 : H_13.size ≤ q9 := h; omega)))) (fun r_14 H_14 locs hp_14 hc_14 hS_14 => ?_)
            obtain ⟨arrNB, capNB, hANB, horB⟩ := hp_14
            have hWaB := hWrB.kept hc_14 (LA.old (n := 0) hWrB (show E.2.2.1 ≤ H.size from hW.2.2))
            have hz_H_14 := hc_14.1
            have hLIaB : LI E H.size H.size (m2 + 1) (rrX (nxM pd ln) (p2 + 1)).2.1 (nxM pd ln) ln H_14 := LI.add (w := (rrX (nxM pd ln) (p2 + 1)).2.1) hWrB a1B a2B a3B a4B a5B hc_14 hvB (by omega) (neB hvB) nevB hANB horB (by omega) (by omega) (fun hw => ⟨(RI_step hpc hRIf nc_8 c_10).2.1 hw, rr_valid (nx_c hpc) hw⟩)
            have hRDaB := hRDB.kept hc_14 (noLA lx (Nat.le_refl _) a4B (by omega)) (noLA lpb (Nat.le_refl _) a4B (by omega)) (noLA lpv (Nat.le_refl _) a4B (by omega))
            refine lv_pop hx hb dX0_readRules_85 rfl ?_
            refine lv_goto (tgt := 29) hx hb dX0_readRules_86 (by decide) ?_
            exact ih29 _ _ (m2 + 1) (by (have h9 := hm; have h8 := (RI_step hpc hRIf nc_8 c_10).2.2; rw [hwf] at h9; simp only [Bool.false_eq_true, if_false] at h9; split <;> omega)) (by have h8 := (RI_step hpc hRIf nc_8 c_10).2.2; omega) (by omega) ((RI_step hpc hRIf nc_8 c_10).1) _ _ (by omega) (by omega) _ _ hS_14 hWaB (⟨by omega, hRDaB, hLIaB⟩) ls (lv_sub hl [0, 1] rfl)
  exact lg29 _ _ _ _ (Nat.lt_succ_self _) (by have h9 := (RI_init hpc).2.2; omega) (by decide) ((RI_init hpc).1) _ _ (by omega) (by omega) _ _ hS_6 hWaA (⟨by omega, hRDaA, hLIaA⟩) ls (lv_sub hl [1, 0] rfl)

