/-! GUILD -/
set_option maxRecDepth 100000
/-- the members at ys: mv -/
def Mbs (E : EV) (ys : List Nat) (k : Nat) (mv : Nat → MV) (H : Heap) : Prop := ys.length = k ∧ k ≤ 10 ∧ ys.Nodup ∧ ∀ i y, ys[i]? = some y → oat E y 4 (mvF (mv i)) H
/-- who owns a cell: a guild, and what of it; a rule has 9 -/
abbrev TG : Type := Nat → Nat × Nat
/-- a guild with its cells in sight -/
def GX (E : EV) (g c L arr cap M arr2 cap2 b : Nat) (md md2 : Int32) (xs ys : List Nat) (n : Nat) (ru : Nat → RV) (k : Nat) (mv : Nat → MV) (dn : Int32) (bl : Nat → Int32) (np : Int32) (H : Heap) : Prop :=
  oat E g 1 [.ref c, .ref M, .int dn, .ref b, .int np] H ∧ CX E c L md arr cap xs H ∧ Rls E xs n ru H ∧ AL E M md2 arr2 cap2 ys H ∧ Mbs E ys k mv H ∧ iat E b 0 5 bl H
/-- the cells of a copy -/
def GFr (E : EV) (g c L arr M arr2 b B1 : Nat) (ys : List Nat) : Prop := g < M ∧ M < b ∧ b < c ∧ c < L ∧ L < B1 ∧ (arr = E.2.2.2 0 ∨ (c < arr ∧ arr < B1)) ∧ (arr2 = E.2.2.2 0 ∨ B1 ≤ arr2) ∧ ∀ y ∈ ys, B1 ≤ y
theorem CX.kept {E : EV} {c L arr cap : Nat} {md : Int32} {xs : List Nat} {H H1 : Heap} {A : Nat → Prop} (h : CX E c L md arr cap xs H) (hc : Chg A H H1) (hA : ¬ A c ∧ ¬ A L ∧ (Old E arr → ¬ A arr)) : CX E c L md arr cap xs H1 := ⟨h.1.kept hc hA.1, h.2.kept hc hA.2⟩
theorem iat.congr {E : EV} {q t n : Nat} {f g : Nat → Int32} {H : Heap} (h : iat E q t n f H) (hf : ∀ j, j < n → f j = g j) : iat E q t n g H := by
  show H[q]? = some (vp_cell _ _)
  rw [show H[q]? = some (vp_cell _ _) from h, vp_cell_i, vp_cell_i]
  have e : (Array.ofFn (n := n) fun j => Value.int (f j.val)) = Array.ofFn (n := n) fun j => Value.int (g j.val) := congrArg Array.ofFn (funext fun j => by rw [hf j.val j.isLt])
  show some ({ cls := E.2.1 t, slots := _, vm := .none } : Cell) = some { cls := E.2.1 t, slots := _, vm := .none }
  rw [e]
theorem upd_if {f : Nat → Int32} {i : Nat} (j : Nat) : upd (fun j => if j < i then f j else 0) i (f i) j = if j < i + 1 then f j else 0 := by
  unfold upd
  by_cases e1 : j = i
  · subst e1; simp
  · rw [if_neg e1]
    show (if j < i then f j else 0) = _
    by_cases e2 : j < i
    · rw [if_pos e2, if_pos (by omega)]
    · rw [if_neg e2, if_neg (by omega)]
theorem Mbs.snoc {E : EV} {ys : List Nat} {i y : Nat} {mv : Nat → MV} {H : Heap} (h : Mbs E ys i mv H) (hi : i < 10) (hy : oat E y 4 (mvF (mv i)) H) (hn : y ∉ ys) : Mbs E (ys ++ [y]) (i + 1) mv H := by
  obtain ⟨h1, h2, h3, h4⟩ := h
  refine ⟨by simp [h1], by omega, ?_, fun j z hz => ?_⟩
  · rw [List.nodup_append]
    exact ⟨h3, by simp, fun a ha b hb => by rw [List.mem_singleton] at hb; subst hb; exact fun e => hn (e ▸ ha)⟩
  · by_cases hj : j < ys.length
    · rw [List.getElem?_append_left hj] at hz; exact h4 j z hz
    · rw [List.getElem?_append_right (by omega)] at hz
      have hj2 : j = i := by
        by_cases e : j - ys.length = 0
        · omega
        · rw [List.getElem?_eq_none (by simp; omega)] at hz; cases hz
      subst hj2
      rw [h1, Nat.sub_self] at hz
      cases hz
      exact hy
theorem Mbs.mem {E : EV} {ys : List Nat} {k : Nat} {mv : Nat → MV} {H : Heap} (h : Mbs E ys k mv H) : ∀ y ∈ ys, ∃ i, oat E y 4 (mvF (mv i)) H := by
  intro y hy
  obtain ⟨i, hi⟩ := List.mem_iff_getElem?.mp hy
  exact ⟨i, h.2.2.2 i y hi⟩
theorem Mbs.kept {E : EV} {ys : List Nat} {k : Nat} {mv : Nat → MV} {H H1 : Heap} {A : Nat → Prop} (h : Mbs E ys k mv H) (hc : Chg A H H1) (hA : ∀ y ∈ ys, ¬ A y) : Mbs E ys k mv H1 := ⟨h.1, h.2.1, h.2.2.1, fun i y hy => (h.2.2.2 i y hy).kept hc (hA y (List.mem_of_getElem? hy))⟩
theorem Mbs.elt {E : EV} {ys : List Nat} {k : Nat} {mv : Nat → MV} {H : Heap} (h : Mbs E ys k mv H) : ∀ y ∈ ys, Elt E y H := fun y hy => by
  obtain ⟨i, hi⟩ := h.mem y hy
  exact ⟨4, _, _, hi, rfl, by decide +kernel⟩
def Own (E : EV) (tg : TG) (g j q : Nat) : Prop := Old E q ∧ tg q = (g, j)
theorem hdX1_init : Hd yX1_init 0 := by decide +kernel
set_option maxHeartbeats 1000000 in
set_option maxRecDepth 100000 in
theorem metX1_init (l : Launch) (E : EV) (H : Heap) (g : Nat) (hgo : Old E g) (hg : oat E g 1 [.null, .null, .int 0, .null, .int 0] H) : Ct l yX1_init cX1_init 1 none 5 92 (4) (12) [.ref g] E H (fun q => q = g ∨ H.size ≤ q) (pN (fun H1 => ∃ (c L M b : Nat), oat E g 1 [.ref c, .ref M, .int 0, .ref b, .int 0] H1 ∧ CX E c L 0 (E.2.2.2 0) 0 [] H1 ∧ AL E M 0 (E.2.2.2 0) 0 [] H1 ∧ iat E b 0 5 (fun _ => 0) H1 ∧ H.size ≤ c ∧ c < L ∧ L < M ∧ M < b)) := by
  refine Ct.ofV (by decide) (Nat.le_of_ble_eq_true rfl) ?_
  intro p e s m bl mt cd ls Q hF hW hH hl hend
  obtain ⟨F, hin⟩ := hF
  have hx := F.1
  have hb := F.2.1
  have hts := F.2.2.2.2
  have hl : lv_has ls 1 [(0, .ref g)] := hl
  have hS : va_S (fun q => q = g ∨ H.size ≤ q) H H [] := va_S.rf
  have hgl := hg.lt
  refine lv_aload_n hx hb dX1_init_0 rfl (lv_at hl 0 rfl) ?_
  refine W.objInit hx hb F.2.2.2.1 (hts _ q78) (hts _ q71) (hts _ q72) rfl (by rw [F.2.2.1]; exact hl.1) rfl dX1_init_1 (Nat.le_of_ble_eq_true rfl) (Nat.le_of_ble_eq_true rfl) ?_
  refine W.eq (g2 := F0 m 4 ls []) rfl ?_
  refine lv_aload_n hx hb dX1_init_4 rfl (lv_at hl 0 rfl) ?_
  refine xnew (ci := 2) (fs := [.null]) (C := RX2) (T := TX2) (N := 1) F in_X2 tyX2 tyX2_ok q79 q80 q44 hW hS rfl (fun j hj => by rcases (show j = 0 by omega) with rfl <;> rfl) (by show 0 + 1 ≤ 4; omega) (by show 0 + 1 ≤ 12; omega) dX1_init_5 (fun H_1 ho_1 hp_1 hS_1 => ?_)
  have hz_H_1 : H_1.size = H.size + 1 := hp_1.1
  have hW_H_1 := hW.kept (hp_1.chg (A := fun _ => False)) (fun _ _ h9 => h9.elim)
  have hg_H_1 := hg.kept (hp_1.chg (A := fun _ => False)) (fun h9 => h9)
  refine lv_dup hx hb dX1_init_8 rfl ?_
  refine run_chN (rest := [.ref H.size, .ref g]) (kIN (host := "LayeredCharters") F hW_H_1 (metX2_init l E H_1 H.size (show E.2.2.1 ≤ H.size from hW.2.2) ho_1) (by decide +kernel) q83 q44 q82 rfl hdX2_init ⟨Nat.le_of_ble_eq_true rfl, Nat.le_of_ble_eq_true rfl⟩ hl.1 rfl (Nat.le_of_ble_eq_true rfl) dX1_init_9 ⟨by show 1 + 1 ≤ 4; omega, by show 1 + 3 ≤ 12; omega⟩) hS_1 (fun q9 h9 => Or.inr (h9.elim (fun h => h ▸ Nat.le_refl _) (fun h => by have h7 : H_1.size ≤ q9 := h; omega))) (fun H_2 locs hp_2 hc_2 hS_2 => ?_)
  obtain ⟨hcN, hlN⟩ := hp_2
  have hz_H_2 := hc_2.1
  have hltL := hlN.1.lt
  have hW_H_2 := hW_H_1.kept hc_2 (fun q9 h1 h2 => h2.elim (fun h => h ▸ (show E.2.2.1 ≤ H.size from hW.2.2)) (fun h => absurd h1 (Nat.not_lt.mpr h)))
  have hg_H_2 := hg_H_1.kept hc_2 (fun h9 => h9.elim (fun h8 => by have h7 : g = H.size := h8; omega) (fun h8 => by have h7 : H_1.size ≤ g := h8; omega))
  refine xput (ref := "LayeredCharters$Guild") (ci := 1) (v := .ref H.size) (C := RX1) (T := TX1) (N := 5) F in_X1 tyX1 tyX1_ok nmX1 hW_H_2 hg_H_2 hS_2 (Or.inl rfl) rfl 0 (by decide) q119 (fun _ h9 => h9) rfl rfl rfl (Nat.le_of_ble_eq_true rfl) dX1_init_12 (fun H_3 locs ho_3 hu_3 hS_3 => ?_)
  have ho_3 : oat E g 1 [.ref H.size, .null, .int 0, .null, .int 0] H_3 := ho_3
  have hz_H_3 : H_3.size = H_2.size := hu_3.1
  have hW_H_3 := hW_H_2.kept hu_3.chg (fun q _ hq => hq ▸ hgo)
  have hcN_H_3 := hcN.kept hu_3.chg (fun h9 => by have h8 : H.size = g := h9; omega)
  have hlN_H_3 := hlN.kept hu_3.chg ⟨(fun h9 => by have h8 : H_1.size = g := h9; omega), fun h8 => absurd h8 (Nat.not_le.mpr hW.b0)⟩
  refine lv_aload_n hx hb dX1_init_15 rfl (lv_at hl 0 rfl) ?_
  refine xnew (ci := 6) (fs := [.int 0, .null, .int 0]) (C := RJ2) (T := TJ2) (N := 3) F in_J2 tyJ2 tyJ2_ok q117 q86 q47 hW_H_3 hS_3 rfl (fun j hj => by rcases (show j = 0 ∨ j = 1 ∨ j = 2 by omega) with rfl | rfl | rfl <;> rfl) (by show 2 + 1 ≤ 4; omega) (by show 4 + 3 ≤ 12; omega) dX1_init_16 (fun H_4 ho_4 hp_4 hS_4 => ?_)
  have hz_H_4 : H_4.size = H_3.size + 1 := hp_4.1
  have hW_H_4 := hW_H_3.kept (hp_4.chg (A := fun _ => False)) (fun _ _ h9 => h9.elim)
  have hx3_H_4 := ho_3.kept (hp_4.chg (A := fun _ => False)) (fun h9 => h9)
  have hcN_H_4 := hcN_H_3.kept (hp_4.chg (A := fun _ => False)) (fun h9 => h9)
  have hlN_H_4 := hlN_H_3.kept (hp_4.chg (A := fun _ => False)) ⟨fun h9 => h9, fun _ h9 => h9⟩
  refine lv_dup hx hb dX1_init_19 rfl ?_
  refine run_chN (rest := [.ref H_3.size, .ref g]) (kI F hW_H_4 (metJ2_init l E H_4 H_3.size (Nat.le_trans (show E.2.2.1 ≤ H.size from hW.2.2) (by omega)) ho_4) q89 q47 q118 q88 rfl hdJ2_init ⟨Nat.le_of_ble_eq_true rfl, Nat.le_of_ble_eq_true rfl⟩ hl.1 rfl (Nat.le_of_ble_eq_true rfl) dX1_init_20 ⟨by show 3 + 0 ≤ 4; omega, by show 7 + 0 ≤ 12; omega⟩) hS_4 (fun q9 h9 => Or.inr (by have h8 : q9 = H_3.size := h9; omega)) (fun H_5 locs hp_5 hc_5 hS_5 => ?_)
  have hz_H_5 := hc_5.1
  have hW_H_5 := hW_H_4.kept hc_5 (fun q9 _ h9 => h9 ▸ (Nat.le_trans (show E.2.2.1 ≤ H.size from hW.2.2) (by omega)))
  have hx3_H_5 := hx3_H_4.kept hc_5 (fun h9 => by have h8 : g = H_3.size := h9; omega)
  have hcN_H_5 := hcN_H_4.kept hc_5 (fun h9 => by have h8 : H.size = H_3.size := h9; omega)
  have hlN_H_5 := hlN_H_4.kept hc_5 ⟨(fun h9 => by have h8 : H_1.size = H_3.size := h9; omega), fun h8 => absurd h8 (Nat.not_le.mpr hW.b0)⟩
  have hltM := hp_5.1.lt
  refine xputF (ref := "LayeredCharters$Guild") (ci := 1) (v := .ref H_3.size) (C := RX1) (T := TX1) (N := 5) F in_X1 tyX1 tyX1_ok nmX1 hW_H_5 hx3_H_5 hS_5 (Or.inl rfl) rfl 1 (by decide) q121 (fun _ h9 => h9) rfl hin rfl rfl rfl (Nat.le_of_ble_eq_true rfl) dX1_init_23 (fun H_6 locs ho_6 hu_6 hS_6 => ?_)
  have ho_6 : oat E g 1 [.ref H.size, .ref H_3.size, .int 0, .null, .int 0] H_6 := ho_6
  have hz_H_6 : H_6.size = H_5.size := hu_6.1
  have hW_H_6 := hW_H_5.kept hu_6.chg (fun q _ hq => hq ▸ hgo)
  have hcN_H_6 := hcN_H_5.kept hu_6.chg (fun h9 => by have h8 : H.size = g := h9; omega)
  have hlN_H_6 := hlN_H_5.kept hu_6.chg ⟨(fun h9 => by have h8 : H_1.size = g := h9; omega), fun h8 => absurd h8 (Nat.not_le.mpr hW.b0)⟩
  have hp_H_6 := hp_5.kept hu_6.chg ⟨(fun h9 => by have h8 : H_3.size = g := h9; omega), fun h8 => absurd h8 (Nat.not_le.mpr hW.b0)⟩
  refine lv_aload_n hx hb dX1_init_26 rfl (lv_at hl 0 rfl) ?_
  refine lv_iconst (v := 5) hx hb dX1_init_27 (by decide) ?_
  refine xnewa (atype := .int) F q140 rfl hW_H_6 hS_6 0 rfl (fun _ h => h) rfl (N' := 5) (by rw [show (5 : Int32) = nI (5) from (rfl : (5 : Int32) = nI 5)]; exact nI_pos (by omega)) (cl_eq (n := 5) (rfl : (5 : Int32) = nI 5) (by omega)) (by show 5 * 4 ≤ 536870912; omega) (by show 3 + 1 ≤ 4; omega) (by show 7 + 5 ≤ 12; omega) dX1_init_28 (fun H_7 ho_7 hp_7 hS_7 => ?_)
  have hz_H_7 : H_7.size = H_6.size + 1 := hp_7.1
  have hW_H_7 := hW_H_6.kept (hp_7.chg (A := fun _ => False)) (fun _ _ h9 => h9.elim)
  have hx6_H_7 := ho_6.kept (hp_7.chg (A := fun _ => False)) (fun h9 => h9)
  have hcN_H_7 := hcN_H_6.kept (hp_7.chg (A := fun _ => False)) (fun h9 => h9)
  have hlN_H_7 := hlN_H_6.kept (hp_7.chg (A := fun _ => False)) ⟨fun h9 => h9, fun _ h9 => h9⟩
  have hp_H_7 := hp_H_6.kept (hp_7.chg (A := fun _ => False)) ⟨fun h9 => h9, fun _ h9 => h9⟩
  refine xputF (ref := "LayeredCharters$Guild") (ci := 1) (v := .ref H_6.size) (C := RX1) (T := TX1) (N := 5) F in_X1 tyX1 tyX1_ok nmX1 hW_H_7 hx6_H_7 hS_7 (Or.inl rfl) rfl 3 (by decide) q125 (fun _ h9 => h9) rfl hin rfl rfl rfl (Nat.le_of_ble_eq_true rfl) dX1_init_30 (fun H_8 locs ho_8 hu_8 hS_8 => ?_)
  have ho_8 : oat E g 1 [.ref H.size, .ref H_3.size, .int 0, .ref H_6.size, .int 0] H_8 := ho_8
  have hz_H_8 : H_8.size = H_7.size := hu_8.1
  have hW_H_8 := hW_H_7.kept hu_8.chg (fun q _ hq => hq ▸ hgo)
  have hcN_H_8 := hcN_H_7.kept hu_8.chg (fun h9 => by have h8 : H.size = g := h9; omega)
  have hlN_H_8 := hlN_H_7.kept hu_8.chg ⟨(fun h9 => by have h8 : H_1.size = g := h9; omega), fun h8 => absurd h8 (Nat.not_le.mpr hW.b0)⟩
  have hp_H_8 := hp_H_7.kept hu_8.chg ⟨(fun h9 => by have h8 : H_3.size = g := h9; omega), fun h8 => absurd h8 (Nat.not_le.mpr hW.b0)⟩
  have hx7_H_8 := ho_7.kept hu_8.chg (fun h9 => by have h8 : H_6.size = g := h9; omega)
  exact hend _ _ _ _ _ _ dX1_init_33 (⟨rfl, H.size, H_1.size, H_3.size, H_6.size, ho_8, ⟨hcN_H_8, hlN_H_8⟩, hp_H_8, hx7_H_8, Nat.le_refl _, (show H.size < H_1.size by omega), (show H_1.size < H_3.size by omega), (show H_3.size < H_6.size by omega)⟩) hS_8 (by first | exact Nat.le_refl _ | (show (4 : Nat) ≤ 4; omega)) (by first | exact Nat.le_refl _ | (show (12 : Nat) ≤ 12; omega))

theorem hdX1_hasMember : Hd yX1_hasMember 1 := by decide +kernel
set_option maxHeartbeats 1000000 in
set_option maxRecDepth 100000 in
theorem metX1_hasMember (l : Launch) (E : EV) (H : Heap) (g c L arr cap M arr2 cap2 b : Nat) (md md2 : Int32) (xs ys : List Nat) (n : Nat) (ru : Nat → RV) (k : Nat) (mv : Nat → MV) (dn : Int32) (ly : Nat → Int32) (np : Int32) (hgx : GX E g c L arr cap M arr2 cap2 b md md2 xs ys n ru k mv dn ly np H) (j : Int32) : Ro l yX1_hasMember cX1_hasMember 2 (some .boolean) 1 22 [.ref g, .int j] E H (some (.int (b2i (inR j 0 (nI k - 1))))) := by
  have hgx0 := hgx
  obtain ⟨hg, hcx, hrl, hal, hmb, hbl⟩ := hgx
  have hk9 := hmb.1
  have hk10 := hmb.2.1
  subst hk9
  refine Ct.ofZ (by decide) (Nat.le_of_ble_eq_true rfl) ?_
  intro p e s m bl mt cd ls Q hF hW hH hl hend
  obtain ⟨F, hin⟩ := hF
  have hx := F.1
  have hb := F.2.1
  have hts := F.2.2.2.2
  have hl : lv_has ls 2 [(0, .ref g), (1, .int j)] := hl
  have hS : va_S (fun _ => False) H H [] := va_S.rf
  obtain ⟨cC, hat⟩ := cat (ci := 6) hW rfl
  refine lv_iload_n hx hb dX1_hasMember_0 rfl (lv_at hl 1 rfl) ?_
  refine lv_iconst (v := 0) hx hb dX1_hasMember_1 (by decide) ?_
  refine lv_aload_n hx hb dX1_hasMember_2 rfl (lv_at hl 0 rfl) ?_
  refine xget (ref := "LayeredCharters$Guild") (ci := 1) (v := .ref M) (C := RX1) (T := TX1) (N := 5) F in_X1 hW hg rfl 1 (by decide) q121 (fun _ h9 => h9) rfl dX1_hasMember_3 ?_
  refine run_ro5 (w := .int (nI ys.length)) (rest := [.int 0, .int j]) (kF (x := ⟨"java/util/List", "size", "()I"⟩) F hW (metJ2_size l E H M arr2 md2 (nI ys.length) hal.1) (by decide +kernel) hat q302 q215 q217 q47 q219 hdJ2_sizeF ⟨Nat.le_of_ble_eq_true rfl, Nat.le_of_ble_eq_true rfl⟩ (recv hW hal.1 rfl) hl.1 rfl (Nat.le_of_ble_eq_true rfl) dX1_hasMember_6 ⟨Nat.le_of_ble_eq_true rfl, Nat.le_of_ble_eq_true rfl⟩) ?_
  refine lv_iconst (v := 1) hx hb dX1_hasMember_11 (by decide) ?_
  refine lv_isub hx hb dX1_hasMember_12 ?_
  refine run_ro (w := .int (b2i (inR j 0 ((nI ys.length) - 1)))) (rest := []) (kS F hW (metX4_holds l E H j 0 ((nI ys.length) - 1)) (lw_S q718 q204 q53 q205) hdX4_holds ⟨Nat.le_of_ble_eq_true rfl, Nat.le_of_ble_eq_true rfl⟩ hl.1 rfl (Nat.le_of_ble_eq_true rfl) dX1_hasMember_13 ⟨Nat.le_of_ble_eq_true rfl, Nat.le_of_ble_eq_true rfl⟩) ?_
  exact hend _ _ _ _ _ _ _ (b2i_nar _) dX1_hasMember_16 (⟨congrArg (fun z : Int32 => some (Value.int z)) (rfl), rfl⟩) hS (Nat.zero_le _) (Nat.zero_le _)

theorem hdX1_copy : Hd yX1_copy 0 := by decide +kernel
set_option maxHeartbeats 1000000 in
set_option maxRecDepth 100000 in
theorem metX1_copy (l : Launch) (E : EV) (H : Heap) (g c L arr cap M arr2 cap2 b : Nat) (md md2 : Int32) (xs ys : List Nat) (n : Nat) (ru : Nat → RV) (k : Nat) (mv : Nat → MV) (dn : Int32) (ly : Nat → Int32) (np : Int32) (hgx : GX E g c L arr cap M arr2 cap2 b md md2 xs ys n ru k mv dn ly np H) : Ct l yX1_copy cX1_copy 3 (some (.object "LayeredCharters$Guild")) 12 546 (29) (541) [.ref g] E H (fun q => H.size ≤ q) (pA (fun r H1 => r = H.size ∧ ∃ (c' L' arr' cap' M' arr3 cap3 b' : Nat) (md' md3 : Int32) (ys3 : List Nat) (B1 : Nat), GX E H.size c' L' arr' cap' M' arr3 cap3 b' md' md3 xs ys3 n ru k mv dn ly np H1 ∧ GFr E H.size c' L' arr' M' arr3 b' B1 ys3)) := by
  have hgx0 := hgx
  obtain ⟨hg, hcx, hrl, hal, hmb, hbl⟩ := hgx
  have hk9 := hmb.1
  have hk10 := hmb.2.1
  subst hk9
  refine Ct.ofA (Or.inl ⟨_, rfl⟩) (by decide) (Nat.le_of_ble_eq_true rfl) ?_
  intro p e s m bl mt cd ls Q hF hW hH hl hend
  obtain ⟨F, hin⟩ := hF
  have hx := F.1
  have hb := F.2.1
  have hts := F.2.2.2.2
  have hl : lv_has ls 3 [(0, .ref g)] := hl
  have hS : va_S (fun q => H.size ≤ q) H H [] := va_S.rf
  obtain ⟨cC, hat⟩ := cat (ci := 6) hW rfl
  have hgl := hg.lt
  refine xnew (ci := 1) (fs := [.null, .null, .int 0, .null, .int 0]) (C := RX1) (T := TX1) (N := 5) F in_X1 tyX1 tyX1_ok q228 q74 q43 hW hS rfl (fun j hj => by rcases (show j = 0 ∨ j = 1 ∨ j = 2 ∨ j = 3 ∨ j = 4 by omega) with rfl | rfl | rfl | rfl | rfl <;> rfl) (by show 0 + 1 ≤ 29; omega) (by show 0 + 5 ≤ 541; omega) dX1_copy_0 (fun H_1 ho_1 hp_1 hS_1 => ?_)
  have hz_H_1 : H_1.size = H.size + 1 := hp_1.1
  have hW_H_1 := hW.kept (hp_1.chg (A := fun _ => False)) (fun _ _ h9 => h9.elim)
  have hg_H_1 := hg.kept (hp_1.chg (A := fun _ => False)) (fun h9 => h9)
  refine lv_dup hx hb dX1_copy_3 rfl ?_
  refine run_chN (rest := [.ref H.size]) (kI F hW_H_1 (metX1_init l E H_1 H.size (show E.2.2.1 ≤ H.size from hW.2.2) ho_1) q77 q43 q229 q76 rfl hdX1_init ⟨Nat.le_of_ble_eq_true rfl, Nat.le_of_ble_eq_true rfl⟩ hl.1 rfl (Nat.le_of_ble_eq_true rfl) dX1_copy_4 ⟨by show 1 + 4 ≤ 29; omega, by show 5 + 12 ≤ 541; omega⟩) hS_1 (fun q9 h9 => h9.elim (fun h => h ▸ Nat.le_refl _) (fun h => by have h8 : H_1.size ≤ q9 := h; show H.size ≤ q9; omega)) (fun H_2 locs hp_2 hc_2 hS_2 => ?_)
  obtain ⟨c0, L0, M', b', hgN, hcx0, halN, hbN, hi1, hi2, hi3, hi4⟩ := hp_2
  have hWn2 := hW_H_1.kept hc_2 (fun q h1 h2 => h2.elim (fun h => h ▸ (show E.2.2.1 ≤ H.size from hW.2.2)) (fun h => absurd h1 (Nat.not_lt.mpr h)))
  have hb2 := hbN.lt
  have hx_H2 := hS_2.chg
  have hg_H2 := hg.kept hx_H2 (Nat.not_le.mpr hg.lt)
  refine lv_astore_n (lv' := [(1, .ref H.size), (0, .ref g)]) hx hb dX1_copy_7 rfl hl (by decide) rfl (fun ls hl => ?_)
  refine lv_aload_n hx hb dX1_copy_8 rfl (lv_at hl 0 rfl) ?_
  refine lv_aload_n hx hb dX1_copy_9 rfl (lv_at hl 1 rfl) ?_
  refine xget (ref := "LayeredCharters$Guild") (ci := 1) (v := .ref c) (C := RX1) (T := TX1) (N := 5) F in_X1 hWn2 hg_H2 rfl 0 (by decide) q119 (fun _ h9 => h9) rfl dX1_copy_10 ?_
  refine run_chA (rest := [.ref H.size]) (kV F hWn2 (metX2_copy l E H_2 c L arr cap xs md ⟨hcx.1.kept hx_H2 (Nat.not_le.mpr hcx.1.lt), hcx.2.ext hW hx_H2⟩ (rls_elt (hrl.ext hx_H2)) (by have := hrl.1; have := hrl.2.1; omega)) (lw_V q230 q231 q232 q44 q233) hdX2_copy ⟨Nat.le_of_ble_eq_true rfl, Nat.le_of_ble_eq_true rfl⟩ (recv hWn2 (hcx.1.kept hx_H2 (Nat.not_le.mpr hcx.1.lt)) rfl) hl.1 rfl (Nat.le_of_ble_eq_true rfl) dX1_copy_13 ⟨by show 5 + 4 ≤ 29; omega, by show 17 + 84 ≤ 541; omega⟩) hS_2 (fun q9 h9 => Nat.le_trans hx_H2.1 h9) (fun r_3 H_3 locs hp_3 hc_3 hS_3 => ?_)
  obtain ⟨e9, L', arr', cap', hcx', hL', harr'⟩ := hp_3
  subst e9
  have hs3 := hc_3.1
  have hWn3 := hWn2.kept hc_3 (fun q h1 h2 => absurd h1 (Nat.not_lt.mpr h2))
  have hgN3 := hgN.kept hc_3 (Nat.not_le.mpr hgN.lt)
  have halN3 := halN.kept hc_3 ⟨Nat.not_le.mpr halN.1.lt, fun h8 => absurd h8 (Nat.not_le.mpr hW.b0)⟩
  have hbN3 := hbN.kept hc_3 (Nat.not_le.mpr hbN.lt)
  have hL3 := hcx'.2.1.lt
  have hc3 := hcx'.1.lt
  have harr3 : arr' = E.2.2.2 0 ∨ arr' < H_3.size := (by rcases hcx'.2.2 with ⟨h1, -, -⟩ | ⟨h1, _, _, _, h5⟩; exact Or.inl h1; exact Or.inr h5.lt)
  have hx_H3 := hS_3.chg
  have hg_H3 := hg.kept hx_H3 (Nat.not_le.mpr hg.lt)
  refine xput (ref := "LayeredCharters$Guild") (ci := 1) (v := .ref H_2.size) (C := RX1) (T := TX1) (N := 5) F in_X1 tyX1 tyX1_ok nmX1 hWn3 hgN3 hS_3 (by show H.size ≤ H.size; omega) rfl 0 (by decide) q119 (fun _ h9 => h9) rfl rfl rfl (Nat.le_of_ble_eq_true rfl) dX1_copy_16 (fun H_4 locs ho_4 hu_4 hS_4 => ?_)
  have ho_4 : oat E H.size 1 [.ref H_2.size, .ref M', .int 0, .ref b', .int 0] H_4 := ho_4
  have hz_H_4 : H_4.size = H_3.size := hu_4.1
  have hW_H_4 := hWn3.kept hu_4.chg (fun q _ hq => hq ▸ (Nat.le_trans (show E.2.2.1 ≤ H.size from hW.2.2) (by omega)))
  have hg_H_4 := hg_H3.kept hu_4.chg (fun h9 => by have h8 : g = H.size := h9; omega)
  have halN3_H_4 := halN3.kept hu_4.chg ⟨(fun h9 => by have h8 : M' = H.size := h9; omega), fun h8 => absurd h8 (Nat.not_le.mpr hW.b0)⟩
  have hbN3_H_4 := hbN3.kept hu_4.chg (fun h9 => by have h8 : b' = H.size := h9; omega)
  have hcx'_H_4 := hcx'.kept hu_4.chg ⟨(fun h9 => by have h8 : H_2.size = H.size := h9; omega), (fun h9 => by have h8 : L' = H.size := h9; omega), fun h7 h9 => by have h8 : arr' = H.size := h9; have h6 : E.2.2.1 ≤ arr' := h7; have h5 := hW.b0; omega⟩
  refine lv_iconst (v := 0) hx hb dX1_copy_19 (by decide) ?_
  refine lv_istore_n (lv' := [(2, .int 0), (1, .ref H.size), (0, .ref g)]) hx hb dX1_copy_20 rfl hl (by decide) rfl (fun ls hl => ?_)
  have hs4 := ho_4.lt
  have loop21 : ∀ (nn i : Nat) (x2 : Int32), i + nn = ys.length → x2 = nI i → ∀ (kc ks : Nat), kc ≤ 9 + 2 * i → ks ≤ 101 + 44 * i → ∀ (Hl_21 : Heap) (locs : List Loc), va_S (fun q => H.size ≤ q) H Hl_21 locs → WK E s Hl_21 → (∃ (md3 : Int32) (arr3 cap3 : Nat) (ys3 : List Nat), AL E M' md3 arr3 cap3 ys3 Hl_21 ∧ Mbs E ys3 i mv Hl_21 ∧ (arr3 = E.2.2.2 0 ∨ H_4.size ≤ arr3) ∧ (∀ y ∈ ys3, H_4.size ≤ y) ∧ Chg (fun q => q = M' ∨ H_4.size ≤ q) H_4 Hl_21) → ∀ ls : Array Slot, lv_has ls 3 [(2, .int x2), (0, .ref g), (1, .ref H.size)] → W p l e ({ frames := 12, cells := 29, slots := 541, locals := 546 } : Room) s m ([.ref g] : List Value).toArray bl mt cd Hl_21 locs kc ks Q (F0 m 21 ls []) := by
    intro nn
    induction nn with
    | zero =>
      intro i x2 hn  e2 kc ks hkc hks Hl_21 locs hS_21 hW_21 hl_21 ls hl
      have hiN : i = ys.length := by omega
      rw [hiN] at e2
      try rw [hiN] at hl_21
      try rw [hiN] at hkc
      try rw [hiN] at hks
      rw [e2] at hl
      clear e2
      obtain ⟨md3, arr3, cap3, ys3, hal3, hmb3, ha3, hy3, hch3⟩ := hl_21
      have hx_Hl21 := hS_21.chg
      have hg_Hl21 := hg.kept hx_Hl21 (Nat.not_le.mpr hg.lt)
      have hgNl := ho_4.kept hch3 (fun h9 => h9.elim (fun h8 => by have h7 : H.size = M' := h8; omega) (fun h8 => by have h7 : H_4.size ≤ H.size := h8; omega))
      have hsl := hch3.1
      have hbNl := hbN3_H_4.kept hch3 (fun h9 => h9.elim (fun h8 => by have h7 : b' = M' := h8; omega) (fun h8 => by have h7 : H_4.size ≤ b' := h8; omega))
      have hcNl := hcx'_H_4.kept hch3 ⟨(fun h9 => h9.elim (fun h8 => by have h7 : H_2.size = M' := h8; omega) (fun h8 => by have h7 : H_4.size ≤ H_2.size := h8; omega)), (fun h9 => h9.elim (fun h8 => by have h7 : L' = M' := h8; omega) (fun h8 => by have h7 : H_4.size ≤ L' := h8; omega)), fun h7 h9 => h9.elim (fun h8 => by have h6 : arr' = M' := h8; have h5 : E.2.2.1 ≤ arr' := h7; have h4 := hW.b0; omega) (fun h8 => by have h6 : H_4.size ≤ arr' := h8; have h5 : E.2.2.1 ≤ arr' := h7; have h4 := hW.b0; omega)⟩
      refine lv_iload_n hx hb dX1_copy_21 rfl (lv_at hl 0 rfl) ?_
      refine lv_aload_n hx hb dX1_copy_22 rfl (lv_at hl 1 rfl) ?_
      refine xget (ref := "LayeredCharters$Guild") (ci := 1) (v := .ref M) (C := RX1) (T := TX1) (N := 5) F in_X1 hW_21 hg_Hl21 rfl 1 (by decide) q121 (fun _ h9 => h9) rfl dX1_copy_23 ?_
      refine run_ro5 (w := .int (nI ys.length)) (rest := [.int (nI ys.length)]) (kF (x := ⟨"java/util/List", "size", "()I"⟩) F hW_21 (metJ2_size l E Hl_21 M arr2 md2 (nI ys.length) (hal.1.kept hx_Hl21 (Nat.not_le.mpr hal.1.lt))) (by decide +kernel) hat q302 q215 q217 q47 q219 hdJ2_sizeF ⟨Nat.le_of_ble_eq_true rfl, Nat.le_of_ble_eq_true rfl⟩ (recv hW_21 (hal.1.kept hx_Hl21 (Nat.not_le.mpr hal.1.lt)) rfl) hl.1 rfl (Nat.le_of_ble_eq_true rfl) dX1_copy_26 ⟨by show kc + 0 ≤ 29; omega, by show ks + 0 ≤ 541; omega⟩) ?_
      refine lv_icmp_ge (tgt := 66) hx hb dX1_copy_31 (by decide) (fun _ => ?_) (fun c9 => absurd (nI_le (by omega) (by omega)) c9)
      refine lv_aload_n hx hb dX1_copy_66 rfl (lv_at hl 2 rfl) ?_
      refine lv_aload_n hx hb dX1_copy_67 rfl (lv_at hl 1 rfl) ?_
      refine xget (ref := "LayeredCharters$Guild") (ci := 1) (v := .int dn) (C := RX1) (T := TX1) (N := 5) F in_X1 hW_21 hg_Hl21 rfl 2 (by decide) q123 (fun _ h9 => h9) rfl dX1_copy_68 ?_
      refine xput (ref := "LayeredCharters$Guild") (ci := 1) (v := .int dn) (C := RX1) (T := TX1) (N := 5) F in_X1 tyX1 tyX1_ok nmX1 hW_21 hgNl hS_21 (by show H.size ≤ H.size; omega) rfl 2 (by decide) q123 (fun _ h9 => h9) rfl rfl rfl (Nat.le_of_ble_eq_true rfl) dX1_copy_71 (fun H_5 locs ho_5 hu_5 hS_5 => ?_)
      have ho_5 : oat E H.size 1 [.ref H_2.size, .ref M', .int dn, .ref b', .int 0] H_5 := ho_5
      have hz_H_5 : H_5.size = Hl_21.size := hu_5.1
      have hW_H_5 := hW_21.kept hu_5.chg (fun q _ hq => hq ▸ (Nat.le_trans (show E.2.2.1 ≤ H.size from hW.2.2) (by omega)))
      have hg_H_5 := hg_Hl21.kept hu_5.chg (fun h9 => by have h8 : g = H.size := h9; omega)
      have hbNl_H_5 := hbNl.kept hu_5.chg (fun h9 => by have h8 : b' = H.size := h9; omega)
      have hcNl_H_5 := hcNl.kept hu_5.chg ⟨(fun h9 => by have h8 : H_2.size = H.size := h9; omega), (fun h9 => by have h8 : L' = H.size := h9; omega), fun h7 h9 => by have h8 : arr' = H.size := h9; have h6 : E.2.2.1 ≤ arr' := h7; have h5 := hW.b0; omega⟩
      have hal3_H_5 := hal3.kept hu_5.chg ⟨(fun h9 => by have h8 : M' = H.size := h9; omega), fun h7 h9 => by have h8 : arr3 = H.size := h9; have h6 : E.2.2.1 ≤ arr3 := h7; have h5 := hW.b0; omega⟩
      have hmb3_H_5 := hmb3.kept hu_5.chg (fun y hy h9 => by have h8 : y = H.size := h9; have h7 := hy3 y hy; omega)
      refine lv_iconst (v := 0) hx hb dX1_copy_74 (by decide) ?_
      refine lv_istore_n (lv' := [(2, .int 0), (0, .ref g), (1, .ref H.size)]) hx hb dX1_copy_75 rfl hl (by decide) rfl (fun ls hl => ?_)
      have hs5 := hbNl_H_5.lt
      have hst := hal3.1.lt
      have loop76 : ∀ (nn i : Nat) (x2 : Int32), i + nn = 5 → x2 = nI i → ∀ (Hl_76 : Heap) (locs : List Loc), va_S (fun q => H.size ≤ q) H Hl_76 locs → WK E s Hl_76 → (iat E b' 0 5 (fun j => if j < i then ly j else 0) Hl_76 ∧ Chg (fun q => q = b') H_5 Hl_76) → ∀ ls : Array Slot, lv_has ls 3 [(2, .int x2), (0, .ref g), (1, .ref H.size)] → W p l e ({ frames := 12, cells := 29, slots := 541, locals := 546 } : Room) s m ([.ref g] : List Value).toArray bl mt cd Hl_76 locs kc ks Q (F0 m 76 ls []) := by
        intro nn
        induction nn with
        | zero =>
          intro i x2 hn  e2 Hl_76 locs hS_76 hW_76 hl_76 ls hl
          have hiN : i = 5 := by omega
          rw [hiN] at e2
          try rw [hiN] at hl_76
          rw [e2] at hl
          clear e2
          obtain ⟨hbl2, hch5⟩ := hl_76
          have hx_Hl76 := hS_76.chg
          have hg_Hl76 := hg.kept hx_Hl76 (Nat.not_le.mpr hg.lt)
          have hsl5 := hch5.1
          have hgN5 := ho_5.kept hch5 (fun h9 => by have h8 : H.size = b' := h9; omega)
          have hbo := hbl.kept hx_Hl76 (Nat.not_le.mpr hbl.lt)
          have hbl_lt := hbl.lt
          have hal5 := hal3_H_5.kept hch5 ⟨(fun h9 => by have h8 : M' = b' := h9; omega), fun h7 h9 => by have h8 : arr3 = b' := h9; have h6 : E.2.2.1 ≤ arr3 := h7; have h5 := hW.b0; omega⟩
          have hmb5 := hmb3_H_5.kept hch5 (fun y hy h9 => by have h8 : y = b' := h9; have h7 := hy3 y hy; omega)
          have hcx5 := hcNl_H_5.kept hch5 ⟨(fun h9 => by have h8 : H_2.size = b' := h9; omega), (fun h9 => by have h8 : L' = b' := h9; omega), fun h7 h9 => by have h8 : arr' = b' := h9; have h6 : E.2.2.1 ≤ arr' := h7; have h5 := hW.b0; omega⟩
          refine lv_iload_n hx hb dX1_copy_76 rfl (lv_at hl 0 rfl) ?_
          refine lv_iconst (v := 5) hx hb dX1_copy_77 (by decide) ?_
          refine lv_icmp_ge (tgt := 99) hx hb dX1_copy_78 (by decide) (fun _ => ?_) (fun c9 => absurd (nI_le (a := 5) (b := 5) (by decide) (by decide)) c9)
          refine lv_aload_n hx hb dX1_copy_99 rfl (lv_at hl 2 rfl) ?_
          refine lv_aload_n hx hb dX1_copy_100 rfl (lv_at hl 1 rfl) ?_
          refine xget (ref := "LayeredCharters$Guild") (ci := 1) (v := .int np) (C := RX1) (T := TX1) (N := 5) F in_X1 hW_76 hg_Hl76 rfl 4 (by decide) q127 (fun _ h9 => h9) rfl dX1_copy_101 ?_
          refine xput (ref := "LayeredCharters$Guild") (ci := 1) (v := .int np) (C := RX1) (T := TX1) (N := 5) F in_X1 tyX1 tyX1_ok nmX1 hW_76 hgN5 hS_76 (by show H.size ≤ H.size; omega) rfl 4 (by decide) q127 (fun _ h9 => h9) rfl rfl rfl (Nat.le_of_ble_eq_true rfl) dX1_copy_104 (fun H_6 locs ho_6 hu_6 hS_6 => ?_)
          have ho_6 : oat E H.size 1 [.ref H_2.size, .ref M', .int dn, .ref b', .int np] H_6 := ho_6
          have hz_H_6 : H_6.size = Hl_76.size := hu_6.1
          have hW_H_6 := hW_76.kept hu_6.chg (fun q _ hq => hq ▸ (Nat.le_trans (show E.2.2.1 ≤ H.size from hW.2.2) (by omega)))
          have hg_H_6 := hg_Hl76.kept hu_6.chg (fun h9 => by have h8 : g = H.size := h9; omega)
          have hbo_H_6 := hbo.kept hu_6.chg (fun h9 => by have h8 : b = H.size := h9; omega)
          have hbl2_H_6 := hbl2.kept hu_6.chg (fun h9 => by have h8 : b' = H.size := h9; omega)
          have hal5_H_6 := hal5.kept hu_6.chg ⟨(fun h9 => by have h8 : M' = H.size := h9; omega), fun h7 h9 => by have h8 : arr3 = H.size := h9; have h6 : E.2.2.1 ≤ arr3 := h7; have h5 := hW.b0; omega⟩
          have hmb5_H_6 := hmb5.kept hu_6.chg (fun y hy h9 => by have h8 : y = H.size := h9; have h7 := hy3 y hy; omega)
          have hcx5_H_6 := hcx5.kept hu_6.chg ⟨(fun h9 => by have h8 : H_2.size = H.size := h9; omega), (fun h9 => by have h8 : L' = H.size := h9; omega), fun h7 h9 => by have h8 : arr' = H.size := h9; have h6 : E.2.2.1 ≤ arr' := h7; have h5 := hW.b0; omega⟩
          refine lv_aload_n hx hb dX1_copy_107 rfl (lv_at hl 2 rfl) ?_
          exact hend _ _ _ _ _ _ _ (Or.inr ⟨_, rfl⟩) dX1_copy_108 (⟨_, rfl, rfl, H_2.size, L', arr', cap', M', arr3, cap3, b', 1, md3, ys3, H_4.size, ⟨ho_6, hcx5_H_6, (hrl.ext hS_6.chg), hal5_H_6, hmb5_H_6, hbl2_H_6.congr (fun j hj => by simp [hj])⟩, ⟨by omega, by omega, by omega, by omega, by omega, by omega, ha3, hy3⟩⟩) hS_6 (by first | exact Nat.le_refl _ | (show (kc : Nat) ≤ 29; omega)) (by first | exact Nat.le_refl _ | (show (ks : Nat) ≤ 541; omega))
        | succ nn ih76 =>
          intro i x2 hn  e2 Hl_76 locs hS_76 hW_76 hl_76 ls hl
          rw [e2] at hl
          clear e2
          obtain ⟨hbl2, hch5⟩ := hl_76
          have hx_Hl76 := hS_76.chg
          have hg_Hl76 := hg.kept hx_Hl76 (Nat.not_le.mpr hg.lt)
          have hsl5 := hch5.1
          have hgN5 := ho_5.kept hch5 (fun h9 => by have h8 : H.size = b' := h9; omega)
          have hbo := hbl.kept hx_Hl76 (Nat.not_le.mpr hbl.lt)
          have hbl_lt := hbl.lt
          refine lv_iload_n hx hb dX1_copy_76 rfl (lv_at hl 0 rfl) ?_
          refine lv_iconst (v := 5) hx hb dX1_copy_77 (by decide) ?_
          refine lv_icmp_ge (tgt := 99) hx hb dX1_copy_78 (by decide) (fun c9 => absurd c9 (nI_ge (a := i) (b := 5) (by omega) (by decide))) (fun _ => ?_)
          refine lv_aload_n hx hb dX1_copy_81 rfl (lv_at hl 2 rfl) ?_
          refine xget (ref := "LayeredCharters$Guild") (ci := 1) (v := .ref b') (C := RX1) (T := TX1) (N := 5) F in_X1 hW_76 hgN5 rfl 3 (by decide) q125 (fun _ h9 => h9) rfl dX1_copy_82 ?_
          refine lv_iload_n hx hb dX1_copy_85 rfl (lv_at hl 0 rfl) ?_
          refine lv_aload_n hx hb dX1_copy_86 rfl (lv_at hl 1 rfl) ?_
          refine xget (ref := "LayeredCharters$Guild") (ci := 1) (v := .ref b) (C := RX1) (T := TX1) (N := 5) F in_X1 hW_76 hg_Hl76 rfl 3 (by decide) q125 (fun _ h9 => h9) rfl dX1_copy_87 ?_
          refine lv_iload_n hx hb dX1_copy_90 rfl (lv_at hl 0 rfl) ?_
          refine xild F hW_76 hbo (vp_in_nI (by omega) (by omega)) dX1_copy_91 ?_
          refine lv_val (y := ly i) ((by rw [nI_clamp (by omega)])) ?_
          refine xist F hW_76 hbl2 hS_76 (by show H.size ≤ b'; omega) (vp_in_nI (by omega) (by omega)) dX1_copy_92 (fun H_7 locs ho_7 hu_7 hS_7 => ?_)
          have ho_7 : iat E b' 0 5 (upd (fun j => if j < i then ly j else 0) i (ly i)) H_7 := by have h9 := ho_7; rw [show (nI i : Int32).toNatClampNeg = i from by rw [nI_clamp (by omega)]] at h9; exact h9
          have hz_H_7 : H_7.size = Hl_76.size := hu_7.1
          have hW_H_7 := hW_76.kept hu_7.chg (fun q _ hq => hq ▸ (Nat.le_trans (show E.2.2.1 ≤ H.size from hW.2.2) (by omega)))
          have hg_H_7 := hg_Hl76.kept hu_7.chg (fun h9 => by have h8 : g = b' := h9; omega)
          have hgN5_H_7 := hgN5.kept hu_7.chg (fun h9 => by have h8 : H.size = b' := h9; omega)
          have hbo_H_7 := hbo.kept hu_7.chg (fun h9 => by have h8 : b = b' := h9; omega)
          refine lv_iinc (v := nI (i + 1)) (lv' := [(2, .int (nI (i + 1))), (0, .ref g), (1, .ref H.size)]) hx hb dX1_copy_93 hl (k := 0) rfl (nI_1 _) (by decide) rfl (fun ls hl => ?_)
          refine lv_goto (tgt := 76) hx hb dX1_copy_96 (by decide) ?_
          exact ih76 (i + 1) _ (by omega)  rfl _ _ hS_7 hW_H_7 (⟨ho_7.congr (fun j _ => upd_if j), hch5.trans2 hu_7.chg (fun q h1 h2 => h2)⟩) ls (lv_sub hl [0, 1, 2] rfl)
      exact loop76 (5 - 0) 0 _ (by omega)  rfl _ _ hS_5 hW_H_5 (⟨hbNl_H_5.congr (fun j hj => by simp), Chg.rf⟩) ls (lv_sub hl [0, 1, 2] rfl)
    | succ nn ih21 =>
      intro i x2 hn  e2 kc ks hkc hks Hl_21 locs hS_21 hW_21 hl_21 ls hl
      rw [e2] at hl
      clear e2
      obtain ⟨md3, arr3, cap3, ys3, hal3, hmb3, ha3, hy3, hch3⟩ := hl_21
      have hx_Hl21 := hS_21.chg
      have hg_Hl21 := hg.kept hx_Hl21 (Nat.not_le.mpr hg.lt)
      have hgNl := ho_4.kept hch3 (fun h9 => h9.elim (fun h8 => by have h7 : H.size = M' := h8; omega) (fun h8 => by have h7 : H_4.size ≤ H.size := h8; omega))
      have hsl := hch3.1
      refine lv_iload_n hx hb dX1_copy_21 rfl (lv_at hl 0 rfl) ?_
      refine lv_aload_n hx hb dX1_copy_22 rfl (lv_at hl 1 rfl) ?_
      refine xget (ref := "LayeredCharters$Guild") (ci := 1) (v := .ref M) (C := RX1) (T := TX1) (N := 5) F in_X1 hW_21 hg_Hl21 rfl 1 (by decide) q121 (fun _ h9 => h9) rfl dX1_copy_23 ?_
      refine run_ro5 (w := .int (nI ys.length)) (rest := [.int (nI i)]) (kF (x := ⟨"java/util/List", "size", "()I"⟩) F hW_21 (metJ2_size l E Hl_21 M arr2 md2 (nI ys.length) (hal.1.kept hx_Hl21 (Nat.not_le.mpr hal.1.lt))) (by decide +kernel) hat q302 q215 q217 q47 q219 hdJ2_sizeF ⟨Nat.le_of_ble_eq_true rfl, Nat.le_of_ble_eq_true rfl⟩ (recv hW_21 (hal.1.kept hx_Hl21 (Nat.not_le.mpr hal.1.lt)) rfl) hl.1 rfl (Nat.le_of_ble_eq_true rfl) dX1_copy_26 ⟨by show kc + 0 ≤ 29; omega, by show ks + 0 ≤ 541; omega⟩) ?_
      refine lv_icmp_ge (tgt := 66) hx hb dX1_copy_31 (by decide) (fun c9 => absurd c9 (nI_ge (by omega) (by omega))) (fun _ => ?_)
      refine lv_aload_n hx hb dX1_copy_34 rfl (lv_at hl 2 rfl) ?_
      refine xget (ref := "LayeredCharters$Guild") (ci := 1) (v := .ref M') (C := RX1) (T := TX1) (N := 5) F in_X1 hW_21 hgNl rfl 1 (by decide) q121 (fun _ h9 => h9) rfl dX1_copy_35 ?_
      refine lv_aload_n hx hb dX1_copy_38 rfl (lv_at hl 1 rfl) ?_
      refine xget (ref := "LayeredCharters$Guild") (ci := 1) (v := .ref M) (C := RX1) (T := TX1) (N := 5) F in_X1 hW_21 hg_Hl21 rfl 1 (by decide) q121 (fun _ h9 => h9) rfl dX1_copy_39 ?_
      refine lv_iload_n hx hb dX1_copy_42 rfl (lv_at hl 0 rfl) ?_
      obtain ⟨y_i, hgy⟩ : ∃ y, ys[i]? = some y := ⟨_, List.getElem?_eq_getElem (by omega)⟩
      have hym := (hmb.2.2.2 i y_i hgy).kept hx_Hl21 (Nat.not_le.mpr (hmb.2.2.2 i y_i hgy).lt)
      refine run_ro5 (w := .ref y_i) (rest := [.ref M']) (kF (x := ⟨"java/util/List", "get", "(I)Ljava/lang/Object;"⟩) F hW_21 (metJ2_get l E Hl_21 M arr2 cap2 i y_i ys md2 (hal.ext hW hx_Hl21) hgy) (by decide +kernel) hat q304 q307 q309 q47 q311 hdJ2_getF ⟨Nat.le_of_ble_eq_true rfl, Nat.le_of_ble_eq_true rfl⟩ (recv hW_21 (hal.1.kept hx_Hl21 (Nat.not_le.mpr hal.1.lt)) rfl) hl.1 rfl (Nat.le_of_ble_eq_true rfl) dX1_copy_43 ⟨by show kc + 0 ≤ 29; omega, by show ks + 0 ≤ 541; omega⟩) ?_
      refine xcast (ci := 4) F hW_21 hym rfl q322 dX1_copy_48 ?_
      refine run_chA (rest := [.ref M']) (kV F hW_21 (metX5_copy l E Hl_21 y_i (mv i) hym) (lw_V q323 q324 q325 q60 q326) hdX5_copy ⟨Nat.le_of_ble_eq_true rfl, Nat.le_of_ble_eq_true rfl⟩ (recv hW_21 hym rfl) hl.1 rfl (Nat.le_of_ble_eq_true rfl) dX1_copy_51 ⟨by show kc + 1 ≤ 29; omega, by show ks + 4 ≤ 541; omega⟩) hS_21 (fun q9 h9 => Nat.le_trans hx_Hl21.1 h9) (fun r_8 H_8 locs hp_8 hc_8 hS_8 => ?_)
      obtain ⟨e9, hyn⟩ := hp_8
      subst e9
      have hWa := hW_21.kept hc_8 (fun q h1 h2 => absurd h1 (Nat.not_lt.mpr h2))
      have hca := hc_8
      have hsa := hca.1
      have hyl := hyn.lt
      have hala := hal3.ext hW_21 hca
      have hmba := hmb3.kept hca (fun y hy => (Nat.not_le.mpr (hmb3.elt y hy).lt))
      refine run_ch5I (rest := []) (kF (x := ⟨"java/util/List", "add", "(Ljava/lang/Object;)Z"⟩) F hWa (metJ2_add l E H_8 M' arr3 cap3 Hl_21.size ys3 md3 (Nat.le_trans (show E.2.2.1 ≤ H.size from hW.2.2) (by omega)) hala (fun z hz => ⟨hmba.elt z hz, by have h9 := hy3 z hz; omega⟩) ⟨4, _, _, hyn, rfl, by decide +kernel⟩ (by omega) (by have h9 := hmb3.1; have h8 := hmb.2.1; omega)) (by decide +kernel) hat q355 q358 q360 q47 q362 hdJ2_addF ⟨Nat.le_of_ble_eq_true rfl, Nat.le_of_ble_eq_true rfl⟩ (recv hWa hala.1 rfl) hl.1 rfl (Nat.le_of_ble_eq_true rfl) dX1_copy_54 ⟨by show kc + 1 + 1 ≤ 29; omega, by show ks + 4 + 40 ≤ 541; omega⟩) hS_8 (fun q9 h9 => h9.elim (fun h8 => by show H.size ≤ q9; omega) (fun h8 => h8.elim (fun h7 => by have h6 : E.2.2.1 ≤ q9 := h7.2; have h5 := h7.1; have h4 := hW.b0; show H.size ≤ q9; rcases ha3 with h3 | h3; omega; omega) (fun h7 => by have h6 : H_8.size ≤ q9 := h7; show H.size ≤ q9; omega))) (fun r_9 H_9 locs hp_9 hc_9 hS_9 => ?_)
      obtain ⟨arr4, cap4, hal4, hor4⟩ := hp_9
      have hWb := hWa.kept hc_9 (LA.old (n := 0) hWa (Nat.le_trans (show E.2.2.1 ≤ H.size from hW.2.2) (by omega)))
      have hmbb := hmba.kept hc_9 (fun z hz h9 => h9.elim (fun h8 => by have h7 := hy3 z hz; omega) (fun h8 => h8.elim (fun h7 => by obtain ⟨j9, hj9⟩ := hmba.mem z hz; exact Arr.ne hWa hala.2 hj9 (h7.1 ▸ h7.2) h7.1.symm) (fun h7 => absurd (hmba.elt z hz).lt (Nat.not_lt.mpr h7))))
      have hyb := hyn.kept hc_9 (fun h9 => h9.elim (fun h8 => by have h7 : Hl_21.size = M' := h8; omega) (fun h8 => h8.elim (fun h7 => Arr.ne hWa hala.2 hyn (h7.1 ▸ h7.2) h7.1.symm) (fun h7 => absurd hyn.lt (Nat.not_lt.mpr h7))))
      have hmb4 := hmbb.snoc (by have h9 := hmb.2.1; omega) hyb (fun h9 => absurd (hmb3.elt _ h9).lt (Nat.lt_irrefl _))
      have ha4 : arr4 = E.2.2.2 0 ∨ H_4.size ≤ arr4 := hor4.elim (fun h => h ▸ ha3) (fun h => Or.inr (by omega))
      have hy4 : ∀ z ∈ ys3 ++ [Hl_21.size], H_4.size ≤ z := fun z hz => (List.mem_append.mp hz).elim (hy3 z) (fun h => by rw [List.mem_singleton] at h; omega)
      have hch4 := (hch3.trans2 hca (fun q h1 h2 => by have h3 : Hl_21.size ≤ q := h2; omega)).trans2 hc_9 (fun q h1 h2 => h2.elim Or.inl (fun h3 => h3.elim (fun h4 => by have h5 := h4.1; have h6 : E.2.2.1 ≤ q := h4.2; have h7 := hW.b0; rcases ha3 with h8 | h8; omega; omega) (fun h4 => by have h5 : H_8.size ≤ q := h4; omega)))
      refine lv_pop hx hb dX1_copy_59 rfl ?_
      refine lv_iinc (v := nI (i + 1)) (lv' := [(2, .int (nI (i + 1))), (0, .ref g), (1, .ref H.size)]) hx hb dX1_copy_60 hl (k := 0) rfl (nI_1 _) (by decide) rfl (fun ls hl => ?_)
      refine lv_goto (tgt := 21) hx hb dX1_copy_63 (by decide) ?_
      exact ih21 (i + 1) _ (by omega)  rfl _ _ (by omega) (by omega) _ _ hS_9 hWb (⟨_, arr4, cap4, _, hal4, hmb4, ha4, hy4, hch4⟩) ls (lv_sub hl [0, 1, 2] rfl)
  exact loop21 (ys.length - 0) 0 _ (by omega)  rfl _ _ (by omega) (by omega) _ _ hS_4 hW_H_4 (⟨0, E.2.2.2 0, 0, [], halN3_H_4, ⟨rfl, Nat.zero_le _, List.nodup_nil, (fun i y hy => by simp at hy)⟩, Or.inl rfl, (fun y hy => by simp at hy), Chg.rf⟩) ls (lv_sub hl [0, 2, 1] rfl)

