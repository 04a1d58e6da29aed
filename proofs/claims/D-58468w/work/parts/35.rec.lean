/-! LAYEREDCHARTERS: record, change -/
set_option maxRecDepth 100000
/-- what a call leaves: new tags, the state -/
def XE (E : EV) (tg : TG) (N : Nat) (x : Nat) (f : Nat → Int32) (n k : Nat) (hist sl z pd : Nat → Int32) (gl ln : Nat) (H1 : Heap) : Prop := ∃ tg' : TG, Ext tg tg' N ∧ XR E tg' x f n k hist sl z pd gl ln H1
theorem sfne {E : EV} {tg : TG} {g : Nat} {hs : List Nat} {sf : Nat → Option Nat} {sl z : Nat → Int32} {H : Heap} (h : SL E tg g hs sf sl z H) : ∀ i a, i < 2 → sf i = some a → a < H.size := fun i a hi2 hi => by
  rcases h i hi2 with ⟨h1, -⟩ | ⟨b, n, k, h1, -, -, -, h2⟩
  · rw [h1] at hi; cases hi
  · rw [h1] at hi; cases hi; exact h2.lt
theorem hi_lt {E : EV} {tg : TG} {g : Nat} {hs : List Nat} {hist : Nat → Int32} {H : Heap} (h : HI E tg g hs hist H) : ∀ a ∈ hs, a < H.size ∧ Elt E a H := fun a ha => by
  obtain ⟨i, hi⟩ := List.mem_iff_getElem?.mp ha
  obtain ⟨n, k, h1⟩ := h.2.2 i a hi
  exact ⟨h1.lt, h1.elt⟩
theorem hi_tag {E : EV} {tg : TG} {g : Nat} {hs : List Nat} {hist : Nat → Int32} {H : Heap} (h : HI E tg g hs hist H) : ∀ a ∈ hs, (tg a).2 = 0 := fun a ha => by
  obtain ⟨i, hi⟩ := List.mem_iff_getElem?.mp ha
  obtain ⟨n, k, h1⟩ := h.2.2 i a hi
  rw [h1.tag.2]
theorem recK_le {gl : Nat} (h : gl ≤ 6) : recK gl ≤ 6 := by unfold recK; split <;> omega
theorem rec_ix {f hist : Nat → Int32} {i j : Nat} (hi : i < 6) (hj : j < 169) : cpA f (shf hist 845) 845 169 (169 * i + j) = cpA f hist (169 * 6) 169 (169 * (i + 1) + j) := by
  unfold cpA shf
  by_cases h : i = 5
  · subst h
    rw [if_pos ⟨by omega, by omega⟩, if_pos ⟨by omega, by omega⟩, show 169 * 5 + j - 845 = j by omega, show 169 * (5 + 1) + j - 169 * 6 = j by omega]
  · rw [if_neg (show ¬ (845 ≤ 169 * i + j ∧ 169 * i + j < 845 + 169) by omega), if_neg (show ¬ (169 * 6 ≤ 169 * (i + 1) + j ∧ 169 * (i + 1) + j < 169 * 6 + 169) by omega), if_pos (show 169 * i + j < 845 by omega), show 169 * i + j + 169 = 169 * (i + 1) + j by omega]
theorem hdX0_record : Hd yX0_record 0 := by decide +kernel
set_option maxHeartbeats 1000000 in
set_option maxRecDepth 100000 in
theorem metX0_record (l : Launch) (E : EV) (H : Heap) (tg : TG) (x : Nat) (f : Nat → Int32) (n k : Nat) (hist sl z pd : Nat → Int32) (gl ln : Nat) (hx : XR E tg x f n k hist sl z pd gl ln H) (hgl6 : gl ≤ 6) : Ct l yX0_record cX0_record 1 none 13 568 (30) (581) [.ref x] E H (XA E tg H.size) (pN (fun H1 => XE E tg H.size x f n k (recH f hist gl) sl z pd (recK gl) ln H1)) := by
  have hx0 := hx
  obtain ⟨g, hL, sa, pb, pl, wr, hxo, hxt, hgs, hrs⟩ := hx
  have hgs0 := hgs
  obtain ⟨c, L, arr, cap, M, arr2, cap2, b, md, md2, xs, ys, hgx, hgt, hvk⟩ := hgs
  have hgx0 := hgx
  have hvk0 := hvk
  obtain ⟨hg, hcx, hrl, hal, hmb, hbl⟩ := hgx
  obtain ⟨hn0, hn24, hk0, hk10, hrok, hmok⟩ := hvk
  have hc0 := hcx.1
  have hcr : CR E c n (ruA f) H := ⟨L, md, arr, cap, xs, hcx.1, hcx.2, hrl⟩
  have hrs0 := hrs
  obtain ⟨hmd, harr, hcap, hs, sf, hAL, hlen, hgl7, hHI, hsa, hSL, hPD, ht11, ht12, ht13⟩ := hrs
  have hb0 : E.2.2.1 ≤ E.2.2.1 := Nat.le_refl _
  refine Ct.ofV (by decide) (Nat.le_of_ble_eq_true rfl) ?_
  intro p e s m bl mt cd ls Q hF hW hH hl hend
  obtain ⟨F, hin⟩ := hF
  have hx := F.1
  have hb := F.2.1
  have hts := F.2.2.2.2
  have hl : lv_has ls 1 [(0, .ref x)] := hl
  have hS : va_S (XA E tg H.size) H H [] := va_S.rf
  have hgl9 := hgl6
  obtain ⟨cC, hat⟩ := cat (ci := 6) hW rfl
  refine lv_aload_n hx hb dX0_record_0 rfl (lv_at hl 0 rfl) ?_
  refine xget (ref := "LayeredCharters") (ci := 0) (v := .ref hL) (C := RX0) (T := TX0) (N := 6) F in_X0 hW hxo rfl 1 (by decide) q178 (fun _ h9 => h9) rfl dX0_record_1 ?_
  refine lv_aload_n hx hb dX0_record_4 rfl (lv_at hl 0 rfl) ?_
  refine xget (ref := "LayeredCharters") (ci := 0) (v := .ref g) (C := RX0) (T := TX0) (N := 6) F in_X0 hW hxo rfl 0 (by decide) q177 (fun _ h9 => h9) rfl dX0_record_5 ?_
  refine run_chA (rest := [.ref hL]) (kV F hW (metX1_copy l E H g c L arr cap M arr2 cap2 b md md2 xs ys n (ruA f) k (mbA f) (f 2) (fun j => f (3 + j)) (f 8) hgx0) (lw_V q224 q225 q226 q43 q227) hdX1_copy ⟨Nat.le_of_ble_eq_true rfl, Nat.le_of_ble_eq_true rfl⟩ (recv hW hg rfl) hl.1 rfl (Nat.le_of_ble_eq_true rfl) dX0_record_8 ⟨by show 0 + 29 ≤ 30; omega, by show 0 + 541 ≤ 581; omega⟩) hS (fun q9 h9 => Or.inr h9) (fun r_1 H_1 locs hp_1 hc_1 hS_1 => ?_)
  obtain ⟨e9, cN, LN, arrN, capN, MN, arr3N, cap3N, bN, mdN, md3N, ysN, B1, hgxN, hfrN⟩ := hp_1
  subst e9
  have hz1 := hc_1.1
  have hW1 := hW.kept hc_1 (fun q h1 h2 => absurd h1 (Nat.not_lt.mpr h2))
  have hcN := hc_1
  have hgN := hgxN.1.lt
  have hgsN := GS.born (tg := tg) hW1 hW.2.2 hgxN hfrN (fun y hy => ⟨hrl.lt hy, hgt.2.2.2.2.2.2.2.2 y hy⟩) hvk0
  have hE1 : Ext tg (tgN tg H.size cN LN MN bN arrN arr3N) H.size := tgN_ext
  generalize tgN tg H.size cN LN MN bN arrN arr3N = tg1 at hgsN hE1
  have hb9 := hW.b0
  have no : ∀ {q : Nat}, q < H.size → ¬ H.size ≤ q := fun h => Nat.not_le.mpr h
  have hx1 := hxo.kept hcN (no hxo.lt)
  have hAL1 := hAL.kept hcN ⟨no hAL.1.lt, fun ho => no (hAL.2.lt ho)⟩
  have hHI1 := (hHI.ext hb9 hE1 (Nat.le_refl _)).kept hb9 hcN (fun q h1 h2 => absurd h1 (Nat.not_lt.mpr h2))
  have hsa1 := hsa.kept hcN (no hsa.lt)
  have hSL1 := (hSL.ext hb9 hE1 (Nat.le_refl _)).kept hb9 hcN (fun q h1 h2 => absurd h1 (Nat.not_lt.mpr h2))
  have hPD1 := (hPD.ext hE1 (Nat.le_refl _)).kept hcN (fun q h1 h2 => absurd h1 (Nat.not_lt.mpr h2))
  have hgs1 := (hgs0.ext hb9 hE1 (Nat.le_refl _)).kept hb9 hcN (fun q h1 h2 => absurd h1 (Nat.not_lt.mpr h2))
  have u11 := ht11.ext hE1 hAL.1.lt
  have u12 : Old E harr → tg1 harr = (x, 12) := fun ho => (hE1 _ (hAL.2.lt ho)).trans (ht12 ho)
  have u13 := ht13.ext hE1 hsa.lt
  have u10 := hxt.ext hE1 hxo.lt
  refine run_ch5I (rest := []) (kF (x := ⟨"java/util/List", "add", "(Ljava/lang/Object;)Z"⟩) F hW1 (metJ2_add l E H_1 hL harr hcap H.size hs hmd u11.1 hAL1 (fun a ha => ⟨(hi_lt hHI1 a ha).2, fun e => by have h9 := hi_tag hHI1 a ha; rw [e, u11.2] at h9; exact absurd h9 (show ¬ (11 : Nat) = 0 by decide)⟩) hgsN.elt (fun e => absurd hAL.1.lt (by rw [← e]; exact Nat.lt_irrefl _)) (by omega)) (by decide +kernel) hat q372 q358 q360 q47 q362 hdJ2_addF ⟨Nat.le_of_ble_eq_true rfl, Nat.le_of_ble_eq_true rfl⟩ (recv hW1 hAL1.1 rfl) hl.1 rfl (Nat.le_of_ble_eq_true rfl) dX0_record_11 ⟨by show 29 + 1 ≤ 30; omega, by show 541 + 40 ≤ 581; omega⟩) hS_1 (fun q9 h9 => XA.ext hE1 hz1 q9 ((TgX.la (tg := tg1) (H := H_1) u11.2 u12).xa (LA.old (n := 0) hW1 u11.1) (by decide) q9 h9)) (fun r_2 H_2 locs hp_2 hc_2 hS_2 => ?_)
  obtain ⟨harr', hcap', hAL2, hor⟩ := hp_2
  have hT := TgX.la (tg := tg1) (H := H_1) (hl := hL) (harr := harr) (E := E) u11.2 u12
  have hW2 := hW1.kept hc_2 (LA.old (n := 0) hW1 u11.1)
  have hRS2 := RS.push (gl := gl) hb9 hc_2 hAL1 hlen hgl6 hHI1 hsa1 hSL1 hPD1 u11 u12 u13 hgsN (fun hm => absurd (hi_lt hHI _ hm).1 (Nat.lt_irrefl _)) (fun e => absurd hgs0.lt (by rw [← e]; exact Nat.lt_irrefl _)) (fun i a hi2 hi e => absurd (sfne hSL i a hi2 hi) (by rw [e]; exact Nat.lt_irrefl _)) hAL2 hor
  have hx2 := hx1.kept hc_2 (hT.no hx1.lt u10.2 (by decide))
  have hT' : TgX (tg1A tg1 H_1.size x 12) H_1 (LA E hL harr H_1.size) [11, 12] := fun q hq ha => by rw [tg1A_ext q hq]; exact hT q hq ha
  have hgs2 := hT'.gs (by decide) hb9 hc_2 (hgs1.ext hb9 tg1A_ext (Nat.le_refl _))
  have hE2 : Ext tg1 (tg1A tg1 H_1.size x 12) H_1.size := tg1A_ext
  generalize tg1A tg1 H_1.size x 12 = tg2 at hRS2 hgs2 hE2
  have hE12 := hE1.trans hE2 hz1
  have hz2 := Nat.le_trans hz1 hc_2.1
  have v10 := u10.ext hE2 hx1.lt
  have hXR2 : XR E tg2 x f n k (cpA f hist (169 * gl) 169) sl z pd (gl + 1) ln H_2 := ⟨g, hL, sa, pb, pl, wr, hx2, v10, hgs2, hRS2⟩
  obtain ⟨hmd2, harr2, hcap2, hs2, sf2, hALx, hlen2, -, hHI2, hsa2, hSL2, hPD2, v11, v12, v13⟩ := hRS2
  refine lv_pop hx hb dX0_record_16 rfl ?_
  refine lv_aload_n hx hb dX0_record_17 rfl (lv_at hl 0 rfl) ?_
  refine xget (ref := "LayeredCharters") (ci := 0) (v := .ref hL) (C := RX0) (T := TX0) (N := 6) F in_X0 hW2 hx2 rfl 1 (by decide) q178 (fun _ h9 => h9) rfl dX0_record_18 ?_
  refine run_ro5 (w := .int (nI (gl + 1))) (rest := []) (kF (x := ⟨"java/util/List", "size", "()I"⟩) F hW2 (metJ2_size l E H_2 hL harr2 hmd2 (nI (gl + 1)) (by have h9 := hALx.1; rw [hlen2] at h9; exact h9)) (by decide +kernel) hat q211 q215 q217 q47 q219 hdJ2_sizeF ⟨Nat.le_of_ble_eq_true rfl, Nat.le_of_ble_eq_true rfl⟩ (recv hW2 hALx.1 rfl) hl.1 rfl (Nat.le_of_ble_eq_true rfl) dX0_record_21 ⟨Nat.le_of_ble_eq_true rfl, Nat.le_of_ble_eq_true rfl⟩) ?_
  refine lv_bipush (v := 6) hx hb dX0_record_26 (by decide) ?_
  refine lv_icmp_le (tgt := 42) hx hb dX0_record_28 (by decide) (fun c_3 => ?_) (fun c_3 => ?_)
  · skip
    have nc_3 := (nI_leI (a := (gl + 1)) (b := 6) (by omega) (by omega)).mp c_3
    exact hend _ _ _ _ _ _ dX0_record_42 (⟨rfl, tg2, hE12, by unfold recH recK; rw [if_neg (show ¬ gl = 6 by omega), if_neg (show ¬ gl = 6 by omega)]; exact hXR2⟩) hS_2 (by first | exact Nat.le_refl _ | (show (30 : Nat) ≤ 30; omega)) (by first | exact Nat.le_refl _ | (show (581 : Nat) ≤ 581; omega))
  · skip
    have nc_3 := Nat.not_le.mp (fun h9 => c_3 ((nI_leI (a := (gl + 1)) (b := 6) (by omega) (by omega)).mpr h9))
    refine lv_aload_n hx hb dX0_record_31 rfl (lv_at hl 0 rfl) ?_
    refine xget (ref := "LayeredCharters") (ci := 0) (v := .ref hL) (C := RX0) (T := TX0) (N := 6) F in_X0 hW2 hx2 rfl 1 (by decide) q178 (fun _ h9 => h9) rfl dX0_record_32 ?_
    refine lv_iconst (v := 0) hx hb dX0_record_35 (by decide) ?_
    have e6 : gl = 6 := by omega
    subst e6
    obtain ⟨x_0, hg_0⟩ : ∃ x, hs2[0]? = some x := ⟨_, List.getElem?_eq_getElem (by omega)⟩
    refine run_ch5A (rest := []) (kF (x := ⟨"java/util/List", "remove", "(I)Ljava/lang/Object;"⟩) F hW2 (metJ2_remove l E H_2 hL harr2 hcap2 0 hs2 hmd2 v11.1 hALx (fun a ha => ⟨(hi_lt hHI2 a ha).2, fun e => by have h9 := hi_tag hHI2 a ha; rw [e, v11.2] at h9; exact absurd h9 (show ¬ (11 : Nat) = 0 by decide)⟩) x_0 hg_0 (by omega)) (by decide +kernel) hat q374 q377 q379 q47 q381 hdJ2_removeF ⟨Nat.le_of_ble_eq_true rfl, Nat.le_of_ble_eq_true rfl⟩ (recv hW2 hALx.1 rfl) hl.1 rfl (Nat.le_of_ble_eq_true rfl) dX0_record_36 ⟨by show 30 + 0 ≤ 30; omega, by show 581 + 0 ≤ 581; omega⟩) hS_2 (fun q9 h9 => XA.ext hE12 hz2 q9 ((TgX.lb (tg := tg2) (H := H_2) v11.2 v12).xa (fun q h1 h2 => h2.elim (fun h => h ▸ v11.1) (fun h => h.2)) (by decide) q9 h9)) (fun r_4 H_4 locs hp_4 hc_4 hS_4 => ?_)
    obtain ⟨-, hAL3⟩ := hp_4
    have hT3 := TgX.lb (tg := tg2) (H := H_2) (hl := hL) (harr := harr2) (E := E) v11.2 v12
    have hRS3 := RS.drop0 (gl := 6) (hist' := cpA f (shf hist 845) 845 169) hb9 hc_4 hALx hlen2 (by omega) hHI2 hsa2 hSL2 hPD2 v11 v12 v13 hAL3 (fun i j hi hj => rec_ix hi hj)
    have hx3 := hx2.kept hc_4 (hT3.no hx2.lt v10.2 (by decide))
    have hgs3 := hT3.gs (by decide) hb9 hc_4 hgs2
    refine lv_pop hx hb dX0_record_41 rfl ?_
    exact hend _ _ _ _ _ _ dX0_record_42 (⟨rfl, tg2, hE12, g, hL, sa, pb, pl, wr, hx3, v10, hgs3, hRS3⟩) hS_4 (by first | exact Nat.le_refl _ | (show (30 : Nat) ≤ 30; omega)) (by first | exact Nat.le_refl _ | (show (581 : Nat) ≤ 581; omega))

