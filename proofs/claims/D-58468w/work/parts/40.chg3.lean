/-! LAYEREDCHARTERS: act, undo, save, restore -/
set_option maxRecDepth 100000
def PX3 (E : EV) (tg : TG) (N x : Nat) (f : Nat → Int32) (n k : Nat) (hist pd : Nat → Int32) (gl ln : Nat) (T : T3) (r : Int32) (H1 : Heap) : Prop := r = T.1 ∧ XE E tg N x f n k hist T.2.1 T.2.2 pd gl ln H1
theorem PX3.of {E : EV} {tg : TG} {N x n k gl ln : Nat} {f hist pd : Nat → Int32} {T T' : T3} {H1 : Heap} (h : T = T') (k9 : XE E tg N x f n k hist T'.2.1 T'.2.2 pd gl ln H1) : PX3 E tg N x f n k hist pd gl ln T T'.1 H1 := by
  subst h; exact ⟨rfl, k9⟩
theorem hdX0_act : Hd yX0_act 2 := by decide +kernel
set_option maxHeartbeats 1000000 in
set_option maxRecDepth 100000 in
theorem metX0_act (l : Launch) (E : EV) (H : Heap) (tg : TG) (x : Nat) (f : Nat → Int32) (n k : Nat) (hist sl z pd : Nat → Int32) (gl ln : Nat) (hx : XR E tg x f n k hist sl z pd gl ln H) (hgl6 : gl ≤ 6) (j d : Int32) : Ct l yX0_act cX0_act 3 (some .int) 14 588 (30) (581) [.ref x, .int j, .int d] E H (XA E tg H.size) (pI (fun r9 H1 => PX E tg H.size x sl z pd ln (actT f hist gl n k j d) r9 H1)) := by
  have hx0 := hx
  obtain ⟨g, hL, sa, pb, pl, wr, hxo, hxt, hgs, hrs⟩ := hx
  have hgs0 := hgs
  obtain ⟨c, L, arr, cap, M, arr2, cap2, b, md, md2, xs, ys, hgx, hgt, hvk⟩ := hgs
  have hgx0 := hgx
  have hvk0 := hvk
  obtain ⟨hg, hcx, hrl, hal, hmb, hbl⟩ := hgx
  obtain ⟨hn0, hn24, hk0, hk10, hrok, hmok⟩ := hvk
  have hc0 := hcx.1
  have hcr : CR E c n (ruA f) H := ⟨L, md, arr, cap, xs, hcx.1, hcx.2, hrl⟩
  refine Ct.ofZ (by decide) (Nat.le_of_ble_eq_true rfl) ?_
  intro p e s m bl mt cd ls Q hF hW hH hl hend
  obtain ⟨F, hin⟩ := hF
  have hx := F.1
  have hb := F.2.1
  have hts := F.2.2.2.2
  have hl : lv_has ls 3 [(0, .ref x), (1, .int j), (2, .int d)] := hl
  have hS : va_S (XA E tg H.size) H H [] := va_S.rf
  obtain ⟨cC, hat⟩ := cat (ci := 6) hW rfl
  refine lv_aload_n hx hb dX0_act_0 rfl (lv_at hl 0 rfl) ?_
  refine xget (ref := "LayeredCharters") (ci := 0) (v := .ref g) (C := RX0) (T := TX0) (N := 6) F in_X0 hW hxo rfl 0 (by decide) q177 (fun _ h9 => h9) rfl dX0_act_1 ?_
  refine lv_iload_n hx hb dX0_act_4 rfl (lv_at hl 1 rfl) ?_
  refine run_ro (w := .int (b2i (inR j 0 (nI k - 1)))) (rest := []) (kV F hW (metX1_hasMember l E H g c L arr cap M arr2 cap2 b md md2 xs ys n (ruA f) k (mbA f) (f 2) (fun j => f (3 + j)) (f 8) hgx0 j) (lw_V q714 q715 q716 q43 q717) hdX1_hasMember ⟨Nat.le_of_ble_eq_true rfl, Nat.le_of_ble_eq_true rfl⟩ (recv hW hg rfl) hl.1 rfl (Nat.le_of_ble_eq_true rfl) dX0_act_5 ⟨Nat.le_of_ble_eq_true rfl, Nat.le_of_ble_eq_true rfl⟩) ?_
  refine lv_if_eq (tgt := 18) hx hb dX0_act_8 (by decide) (fun c_1 => ?_) (fun c_1 => ?_)
  · skip
    have bc_1 := c_1
    have c_1 := b2i_f c_1
    refine lv_iconst (v := (-1)) hx hb dX0_act_18 (by decide) ?_
    exact hend _ _ _ _ _ _ _ rfl dX0_act_19 (⟨_, rfl, PX.of (T' := ((-1), f, hist, gl)) (by simp [actT, c_1]) ⟨tg, Ext.rf, hx0⟩⟩) hS (Nat.zero_le _) (Nat.zero_le _)
  · skip
    have bc_1 := c_1
    have c_1 := b2i_t c_1
    refine lv_iload_n hx hb dX0_act_11 rfl (lv_at hl 2 rfl) ?_
    refine run_ro (w := .int (b2i (inR d 0 5))) (rest := []) (kS F hW (metX4_isDeed l E H d) (lw_S q727 q728 q53 q729) hdX4_isDeed ⟨Nat.le_of_ble_eq_true rfl, Nat.le_of_ble_eq_true rfl⟩ hl.1 rfl (Nat.le_of_ble_eq_true rfl) dX0_act_12 ⟨Nat.le_of_ble_eq_true rfl, Nat.le_of_ble_eq_true rfl⟩) ?_
    refine lv_if_ne (tgt := 20) hx hb dX0_act_15 (by decide) (fun c_2 => ?_) (fun c_2 => ?_)
    · skip
      have bc_2 := c_2
      have c_2 := b2i_t c_2
      obtain ⟨i, hi, eri⟩ := idx_of c_1 (by omega)
      subst eri
      refine lv_aload_n hx hb dX0_act_20 rfl (lv_at hl 0 rfl) ?_
      refine run_chN (rest := []) (kV F hW (metX0_record l E H tg x f n k hist sl z pd gl ln hx0 hgl6) (lw_V q220 q222 qs0 q42 q223) hdX0_record ⟨Nat.le_of_ble_eq_true rfl, Nat.le_of_ble_eq_true rfl⟩ (recv hW hxo rfl) hl.1 rfl (Nat.le_of_ble_eq_true rfl) dX0_act_21 ⟨by show 0 + 30 ≤ 30; omega, by show 0 + 581 ≤ 581; omega⟩) hS (fun _ h => h) (fun H_3 locs hp_3 hc_3 hS_3 => ?_)
      obtain ⟨tg1, hE1, hX1⟩ := hp_3
      have hz1 := hc_3.1
      have hb9 := hW.b0
      have hW1 := hW.kept hc_3 (XA.old (Nat.le_refl _))
      have hcR := hc_3
      have hX1' := hX1
      obtain ⟨g1, hL1, sa1, pb1, pl1, wr1, hxo1, hxt1, hgs1, hrs1⟩ := hX1
      have hgs01 := hgs1
      obtain ⟨c1, L1, arr1, cap1, M1, arr21, cap21, b1, md1, md21, xs1, ys1, hgx1, hgt1, hvk1⟩ := hgs1
      have hgx01 := hgx1
      have hvk01 := hvk1
      obtain ⟨hg1, hcx1, hrl1, hal1, hmb1, hbl1⟩ := hgx1
      obtain ⟨hn01, hn241, hk01, hk101, hrok1, hmok1⟩ := hvk1
      have hc01 := hcx1.1
      have hcr1 : CR E c1 n (ruA f) H_3 := ⟨L1, md1, arr1, cap1, xs1, hcx1.1, hcx1.2, hrl1⟩
      have lx1 := hxo1.lt; have lg1 := hg1.lt; have lc1 := hc01.lt; have lL1 := hcx1.2.1.lt; have lM1 := hal1.1.lt
      refine lv_aload_n hx hb dX0_act_24 rfl (lv_at hl 0 rfl) ?_
      refine xget (ref := "LayeredCharters") (ci := 0) (v := .ref g1) (C := RX0) (T := TX0) (N := 6) F in_X0 hW1 hxo1 rfl 0 (by decide) q177 (fun _ h9 => h9) rfl dX0_act_25 ?_
      refine lv_aload_n hx hb dX0_act_28 rfl (lv_at hl 0 rfl) ?_
      refine xget (ref := "LayeredCharters") (ci := 0) (v := .ref g1) (C := RX0) (T := TX0) (N := 6) F in_X0 hW1 hxo1 rfl 0 (by decide) q177 (fun _ h9 => h9) rfl dX0_act_29 ?_
      refine xget (ref := "LayeredCharters$Guild") (ci := 1) (v := .ref M1) (C := RX1) (T := TX1) (N := 5) F in_X1 hW1 hg1 rfl 1 (by decide) q122 (fun _ h9 => h9) rfl dX0_act_32 ?_
      refine lv_iload_n hx hb dX0_act_35 rfl (lv_at hl 1 rfl) ?_
      obtain ⟨y_i, hgi⟩ : ∃ y, ys1[i]? = some y := ⟨_, List.getElem?_eq_getElem (show i < ys1.length by rw [hmb1.1]; exact hi)⟩
      have hy_i := hmb1.2.2.2 i y_i hgi
      have hty := hgt1.2.2.2.2.2.2.2.1 y_i (List.mem_of_getElem? hgi)
      refine run_ro5 (w := .ref y_i) (rest := [.ref g1]) (kF (x := ⟨"java/util/List", "get", "(I)Ljava/lang/Object;"⟩) F hW1 (metJ2_get l E H_3 M1 arr21 cap21 i y_i ys1 md21 hal1 hgi) (by decide +kernel) hat q433 q307 q309 q47 q311 hdJ2_getF ⟨Nat.le_of_ble_eq_true rfl, Nat.le_of_ble_eq_true rfl⟩ (recv hW1 hal1.1 rfl) hl.1 rfl (Nat.le_of_ble_eq_true rfl) dX0_act_36 ⟨Nat.le_of_ble_eq_true rfl, Nat.le_of_ble_eq_true rfl⟩) ?_
      refine xcast (ci := 4) F hW1 hy_i rfl q708 dX0_act_41 ?_
      refine lv_iload_n hx hb dX0_act_44 rfl (lv_at hl 2 rfl) ?_
      have hR9 : acR (ruA f) n (mbA f i) d = actR f n i d := reason_eq (by omega) hrok1
      refine run_chI (rest := []) (kV F hW1 (metX1_act l E H_3 g1 c1 L1 arr1 cap1 M1 arr21 cap21 b1 md1 md21 xs1 ys1 n (ruA f) k (mbA f) (f 2) (fun j => f (3 + j)) (f 8) hgx01 tg1 hgt1 i y_i hgi d (fun i hi => by obtain ⟨la, h1, h2, -⟩ := (hrok1 i hi).la; exact ⟨la, h1, h2⟩)) (lw_V q730 q731 q732 q43 q733) hdX1_act ⟨Nat.le_of_ble_eq_true rfl, Nat.le_of_ble_eq_true rfl⟩ (recv hW1 hg1 rfl) hl.1 rfl (Nat.le_of_ble_eq_true rfl) dX0_act_45 ⟨by show 30 + 0 ≤ 30; omega, by show 581 + 0 ≤ 581; omega⟩) hS_3 (fun q9 h9 => XA.ext hE1 hz1 q9 (h9.elim (fun h => h ▸ XA.of hgt1.1 (by decide) (by decide)) (fun h => h.elim (fun h => h ▸ XA.of hty (by decide) (by decide)) (fun h => h ▸ XA.of hgt1.2.2.2.2.1 (by decide) (by decide))))) (fun r_4 H_4 locs hp_4 hc_4 hS_4 => ?_)
      obtain ⟨er, hGX⟩ := hp_4
      rw [hR9] at er hGX
      have hX2 := XR.act (R := actR f n i d) hW1 hxo1 hxt1 hgx01 hgt1 hvk01 hrs1 hgi reasonM_in hc_4 hGX
      refine lv_val (y := actR f n i d) (er) ?_
      exact hend _ _ _ _ _ _ _ rfl dX0_act_48 (⟨_, rfl, PX.of (T' := (actR f n i d, actF f i (actR f n i d), recH f hist gl, recK gl)) (by simp [actT, c_1, c_2, ix_nI (show i < 2 ^ 31 by omega)]) ⟨_, hE1, hX2⟩⟩) hS_4 (by first | exact Nat.le_refl _ | (show (30 : Nat) ≤ 30; omega)) (by first | exact Nat.le_refl _ | (show (581 : Nat) ≤ 581; omega))
    · skip
      have bc_2 := c_2
      have c_2 := b2i_f c_2
      refine lv_iconst (v := (-1)) hx hb dX0_act_18 (by decide) ?_
      exact hend _ _ _ _ _ _ _ rfl dX0_act_19 (⟨_, rfl, PX.of (T' := ((-1), f, hist, gl)) (by simp [actT, c_1, c_2]) ⟨tg, Ext.rf, hx0⟩⟩) hS (Nat.zero_le _) (Nat.zero_le _)

theorem hdX0_undo : Hd yX0_undo 0 := by decide +kernel
set_option maxHeartbeats 1000000 in
set_option maxRecDepth 100000 in
theorem metX0_undo (l : Launch) (E : EV) (H : Heap) (tg : TG) (x : Nat) (f : Nat → Int32) (n k : Nat) (hist sl z pd : Nat → Int32) (gl ln : Nat) (hx : XR E tg x f n k hist sl z pd gl ln H) (hgl6 : gl ≤ 6) : Ct l yX0_undo cX0_undo 1 (some .int) 3 110 (0) (0) [.ref x] E H (XA E tg H.size) (pI (fun r9 H1 => PX E tg H.size x sl z pd ln (undoT f hist gl) r9 H1)) := by
  have hx0 := hx
  obtain ⟨g, hL, sa, pb, pl, wr, hxo, hxt, hgs, hrs⟩ := hx
  have hgs0 := hgs
  obtain ⟨c, L, arr, cap, M, arr2, cap2, b, md, md2, xs, ys, hgx, hgt, hvk⟩ := hgs
  have hgx0 := hgx
  have hvk0 := hvk
  obtain ⟨hg, hcx, hrl, hal, hmb, hbl⟩ := hgx
  obtain ⟨hn0, hn24, hk0, hk10, hrok, hmok⟩ := hvk
  have hc0 := hcx.1
  have hcr : CR E c n (ruA f) H := ⟨L, md, arr, cap, xs, hcx.1, hcx.2, hrl⟩
  have hrs0 := hrs
  obtain ⟨hmd, harr, hcap, hs, sf, hAL, hlen, hgl7, hHI, hsa, hSL, hPD, ht11, ht12, ht13⟩ := hrs
  have hb0 : E.2.2.1 ≤ E.2.2.1 := Nat.le_refl _
  refine Ct.ofZ (by decide) (Nat.le_of_ble_eq_true rfl) ?_
  intro p e s m bl mt cd ls Q hF hW hH hl hend
  obtain ⟨F, hin⟩ := hF
  have hx := F.1
  have hb := F.2.1
  have hts := F.2.2.2.2
  have hl : lv_has ls 1 [(0, .ref x)] := hl
  have hS : va_S (XA E tg H.size) H H [] := va_S.rf
  obtain ⟨cC, hat⟩ := cat (ci := 6) hW rfl
  refine lv_aload_n hx hb dX0_undo_0 rfl (lv_at hl 0 rfl) ?_
  refine xget (ref := "LayeredCharters") (ci := 0) (v := .ref hL) (C := RX0) (T := TX0) (N := 6) F in_X0 hW hxo rfl 1 (by decide) q178 (fun _ h9 => h9) rfl dX0_undo_1 ?_
  refine run_ro5 (w := .int (b2i (decide (nI gl = 0)))) (rest := []) (kF (x := ⟨"java/util/List", "isEmpty", "()Z"⟩) F hW (metJ2_isEmpty l E H hL harr hmd (nI gl) (by have h9 := hAL.1; rw [hlen] at h9; exact h9)) (by decide +kernel) hat q994 q997 q999 q47 q1001 hdJ2_isEmptyF ⟨Nat.le_of_ble_eq_true rfl, Nat.le_of_ble_eq_true rfl⟩ (recv hW hAL.1 rfl) hl.1 rfl (Nat.le_of_ble_eq_true rfl) dX0_undo_4 ⟨Nat.le_of_ble_eq_true rfl, Nat.le_of_ble_eq_true rfl⟩) ?_
  refine lv_if_eq (tgt := 15) hx hb dX0_undo_9 (by decide) (fun c_1 => ?_) (fun c_1 => ?_)
  · skip
    have bc_1 := c_1
    have c_1 := b2i_f c_1
    have hgl0 : gl ≠ 0 := fun h => by rw [h] at c_1; exact absurd c_1 (by decide)
    obtain ⟨m9, rfl⟩ : ∃ m9, gl = m9 + 1 := ⟨gl - 1, by omega⟩
    have hb9 := hW.b0
    refine lv_aload_n hx hb dX0_undo_15 rfl (lv_at hl 0 rfl) ?_
    refine lv_aload_n hx hb dX0_undo_16 rfl (lv_at hl 0 rfl) ?_
    refine xget (ref := "LayeredCharters") (ci := 0) (v := .ref hL) (C := RX0) (T := TX0) (N := 6) F in_X0 hW hxo rfl 1 (by decide) q178 (fun _ h9 => h9) rfl dX0_undo_17 ?_
    refine lv_aload_n hx hb dX0_undo_20 rfl (lv_at hl 0 rfl) ?_
    refine xget (ref := "LayeredCharters") (ci := 0) (v := .ref hL) (C := RX0) (T := TX0) (N := 6) F in_X0 hW hxo rfl 1 (by decide) q178 (fun _ h9 => h9) rfl dX0_undo_21 ?_
    refine run_ro5 (w := .int (nI (m9 + 1))) (rest := [.ref hL, .ref x]) (kF (x := ⟨"java/util/List", "size", "()I"⟩) F hW (metJ2_size l E H hL harr hmd (nI (m9 + 1)) (by have h9 := hAL.1; rw [hlen] at h9; exact h9)) (by decide +kernel) hat q211 q215 q217 q47 q219 hdJ2_sizeF ⟨Nat.le_of_ble_eq_true rfl, Nat.le_of_ble_eq_true rfl⟩ (recv hW hAL.1 rfl) hl.1 rfl (Nat.le_of_ble_eq_true rfl) dX0_undo_24 ⟨Nat.le_of_ble_eq_true rfl, Nat.le_of_ble_eq_true rfl⟩) ?_
    refine lv_iconst (v := 1) hx hb dX0_undo_29 (by decide) ?_
    refine lv_isub hx hb dX0_undo_30 ?_
    refine lv_val (y := nI m9) (nI_pred m9) ?_
    obtain ⟨g2, hg2⟩ : ∃ y, hs[m9]? = some y := ⟨_, List.getElem?_eq_getElem (show m9 < hs.length by omega)⟩
    refine run_ch5A (rest := [.ref x]) (kF (x := ⟨"java/util/List", "remove", "(I)Ljava/lang/Object;"⟩) F hW (metJ2_remove l E H hL harr hcap m9 hs hmd ht11.1 hAL (fun a ha => ⟨(hi_lt hHI a ha).2, fun e => by have h9 := hi_tag hHI a ha; rw [e, ht11.2] at h9; exact absurd h9 (show ¬ (11 : Nat) = 0 by decide)⟩) g2 hg2 (by omega)) (by decide +kernel) hat q374 q377 q379 q47 q381 hdJ2_removeF ⟨Nat.le_of_ble_eq_true rfl, Nat.le_of_ble_eq_true rfl⟩ (recv hW hAL.1 rfl) hl.1 rfl (Nat.le_of_ble_eq_true rfl) dX0_undo_31 ⟨by show 0 + 0 ≤ 0; omega, by show 0 + 0 ≤ 0; omega⟩) hS ((TgX.lb (tg := tg) (H := H) ht11.2 ht12).xa (fun q h1 h2 => h2.elim (fun h => h ▸ ht11.1) (fun h => h.2)) (by decide)) (fun r_2 H_2 locs hp_2 hc_2 hS_2 => ?_)
    obtain ⟨er, hAL2⟩ := hp_2
    subst er
    have hT2 := TgX.lb (tg := tg) (H := H) ht11.2 ht12
    have hW2 := hW.kept hc_2 (fun q h1 h2 => h2.elim (fun h => h ▸ ht11.1) (fun h => h.2))
    obtain ⟨hRS2, n2, k2, hGS2⟩ := RS.undo hb9 hAL hlen (by omega) hHI hsa hSL hPD ht11 ht12 ht13 hg2 hc_2 hAL2
    have hx2 := hxo.kept hc_2 (hT2.no hxo.lt hxt.2 (by decide))
    have hGS2' := hGS2
    obtain ⟨c2, L2, arrU, capU, M2, arr22, cap22, b2, md2', md22, xs2, ys2, hgx2, hgt2, hvk2⟩ := hGS2'
    have hg2o := hgx2.1
    refine xcast (ci := 1) F hW2 hg2o rfl q73 dX0_undo_36 ?_
    refine xput (ref := "LayeredCharters") (ci := 0) (v := .ref r_2) (C := RX0) (T := TX0) (N := 6) F in_X0 tyX0 tyX0_ok nmX0 hW2 hx2 hS_2 (XA.of hxt (by decide) (by decide)) rfl 0 (by decide) q177 (fun _ h9 => h9) rfl rfl rfl (Nat.le_of_ble_eq_true rfl) dX0_undo_39 (fun H_3 locs ho_3 hu_3 hS_3 => ?_)
    have ho_3 : oat E x 0 [.ref r_2, .ref hL, .ref sa, .ref pb, .int pl, .int wr] H_3 := ho_3
    have hz_H_3 : H_3.size = H_2.size := hu_3.1
    have hW_H_3 := hW2.kept hu_3.chg (fun q _ hq => hq ▸ hxt.1)
    have hg2o_H_3 := hg2o.kept hu_3.chg (fun h9 => tne hgt2.1.2 hxt.2 (by decide) (show r_2 = x from h9))
    have hGS3 := hGS2.kept hb9 hu_3.chg (fun q hq e => by rw [show q = x from e, hxt.2]; simp)
    have hRS3 := hRS2.kept hb9 hu_3.chg (fun q hq e => Or.inr (Or.inl (by rw [show q = x from e, hxt.2])))
    have hRS3' := hRS3
    obtain ⟨hmd3, harr3, hcap3, hs3, sf3, hAL3, hlen3, -⟩ := hRS3'
    refine lv_aload_n hx hb dX0_undo_42 rfl (lv_at hl 0 rfl) ?_
    refine xget (ref := "LayeredCharters") (ci := 0) (v := .ref hL) (C := RX0) (T := TX0) (N := 6) F in_X0 hW_H_3 ho_3 rfl 1 (by decide) q178 (fun _ h9 => h9) rfl dX0_undo_43 ?_
    refine run_ro5 (w := .int (nI m9)) (rest := []) (kF (x := ⟨"java/util/List", "size", "()I"⟩) F hW_H_3 (metJ2_size l E H_3 hL harr3 hmd3 (nI m9) (by have h9 := hAL3.1; rw [hlen3] at h9; exact h9)) (by decide +kernel) hat q211 q215 q217 q47 q219 hdJ2_sizeF ⟨Nat.le_of_ble_eq_true rfl, Nat.le_of_ble_eq_true rfl⟩ (recv hW_H_3 hAL3.1 rfl) hl.1 rfl (Nat.le_of_ble_eq_true rfl) dX0_undo_46 ⟨Nat.le_of_ble_eq_true rfl, Nat.le_of_ble_eq_true rfl⟩) ?_
    exact hend _ _ _ _ _ _ _ rfl dX0_undo_51 (⟨_, rfl, PX.of (T' := (nI m9, cpB f hist (169 * m9) 169, hist, m9)) (by simp [undoT]) ⟨tg, Ext.rf, _, _, _, _, _, _, ho_3, hxt, hGS3.congr (fun j hj => (if_pos hj).symm), hRS3⟩⟩) hS_3 (Nat.zero_le _) (Nat.zero_le _)
  · skip
    have bc_1 := c_1
    have c_1 := b2i_t c_1
    refine lv_bipush (v := (-5)) hx hb dX0_undo_12 (by decide) ?_
    exact hend _ _ _ _ _ _ _ rfl dX0_undo_14 (⟨_, rfl, PX.of (T' := ((-5), f, hist, gl)) (by have h0 : gl = 0 := (nI_eq (a := gl) (b := 0) (by omega) (by omega)).mp (of_decide_eq_true c_1); simp [undoT, h0]) ⟨tg, Ext.rf, hx0⟩⟩) hS (Nat.zero_le _) (Nat.zero_le _)

theorem hdX0_save : Hd yX0_save 1 := by decide +kernel
set_option maxHeartbeats 1000000 in
set_option maxRecDepth 100000 in
theorem metX0_save (l : Launch) (E : EV) (H : Heap) (tg : TG) (x : Nat) (f : Nat → Int32) (n k : Nat) (hist sl z pd : Nat → Int32) (gl ln : Nat) (hx : XR E tg x f n k hist sl z pd gl ln H) (s0 : Int32) : Ct l yX0_save cX0_save 2 (some .int) 13 568 (29) (541) [.ref x, .int s0] E H (XA E tg H.size) (pI (fun r9 H1 => PX3 E tg H.size x f n k hist pd gl ln (saveT f sl z n s0) r9 H1)) := by
  have hx0 := hx
  obtain ⟨g, hL, sa, pb, pl, wr, hxo, hxt, hgs, hrs⟩ := hx
  have hgs0 := hgs
  obtain ⟨c, L, arr, cap, M, arr2, cap2, b, md, md2, xs, ys, hgx, hgt, hvk⟩ := hgs
  have hgx0 := hgx
  have hvk0 := hvk
  obtain ⟨hg, hcx, hrl, hal, hmb, hbl⟩ := hgx
  obtain ⟨hn0, hn24, hk0, hk10, hrok, hmok⟩ := hvk
  have hc0 := hcx.1
  have hcr : CR E c n (ruA f) H := ⟨L, md, arr, cap, xs, hcx.1, hcx.2, hrl⟩
  have hrs0 := hrs
  obtain ⟨hmd, harr, hcap, hs, sf, hAL, hlen, hgl7, hHI, hsa, hSL, hPD, ht11, ht12, ht13⟩ := hrs
  have hb0 : E.2.2.1 ≤ E.2.2.1 := Nat.le_refl _
  refine Ct.ofZ (by decide) (Nat.le_of_ble_eq_true rfl) ?_
  intro p e s m bl mt cd ls Q hF hW hH hl hend
  obtain ⟨F, hin⟩ := hF
  have hx := F.1
  have hb := F.2.1
  have hts := F.2.2.2.2
  have hl : lv_has ls 2 [(0, .ref x), (1, .int s0)] := hl
  have hS : va_S (XA E tg H.size) H H [] := va_S.rf
  obtain ⟨cC, hat⟩ := cat (ci := 6) hW rfl
  refine lv_iload_n hx hb dX0_save_0 rfl (lv_at hl 1 rfl) ?_
  refine lv_iconst (v := 0) hx hb dX0_save_1 (by decide) ?_
  refine lv_iconst (v := 1) hx hb dX0_save_2 (by decide) ?_
  refine run_ro (w := .int (b2i (inR s0 0 1))) (rest := []) (kS F hW (metX4_holds l E H s0 0 1) (lw_S q206 q204 q53 q205) hdX4_holds ⟨Nat.le_of_ble_eq_true rfl, Nat.le_of_ble_eq_true rfl⟩ hl.1 rfl (Nat.le_of_ble_eq_true rfl) dX0_save_3 ⟨Nat.le_of_ble_eq_true rfl, Nat.le_of_ble_eq_true rfl⟩) ?_
  refine lv_if_ne (tgt := 12) hx hb dX0_save_6 (by decide) (fun c_1 => ?_) (fun c_1 => ?_)
  · skip
    have bc_1 := c_1
    have c_1 := b2i_t c_1
    obtain ⟨i, hi, eri⟩ := rng_of (b := 1) c_1 (by decide)
    subst eri
    refine lv_aload_n hx hb dX0_save_12 rfl (lv_at hl 0 rfl) ?_
    refine xget (ref := "LayeredCharters") (ci := 0) (v := .ref sa) (C := RX0) (T := TX0) (N := 6) F in_X0 hW hxo rfl 2 (by decide) q179 (fun _ h9 => h9) rfl dX0_save_13 ?_
    refine lv_iload_n hx hb dX0_save_16 rfl (lv_at hl 1 rfl) ?_
    refine lv_aload_n hx hb dX0_save_17 rfl (lv_at hl 0 rfl) ?_
    refine xget (ref := "LayeredCharters") (ci := 0) (v := .ref g) (C := RX0) (T := TX0) (N := 6) F in_X0 hW hxo rfl 0 (by decide) q177 (fun _ h9 => h9) rfl dX0_save_18 ?_
    refine run_chA (rest := [.int (nI i), .ref sa]) (kV F hW (metX1_copy l E H g c L arr cap M arr2 cap2 b md md2 xs ys n (ruA f) k (mbA f) (f 2) (fun j => f (3 + j)) (f 8) hgx0) (lw_V q224 q225 q226 q43 q227) hdX1_copy ⟨Nat.le_of_ble_eq_true rfl, Nat.le_of_ble_eq_true rfl⟩ (recv hW hg rfl) hl.1 rfl (Nat.le_of_ble_eq_true rfl) dX0_save_21 ⟨by show 0 + 29 ≤ 29; omega, by show 0 + 541 ≤ 541; omega⟩) hS (fun q9 h9 => Or.inr h9) (fun r_2 H_2 locs hp_2 hc_2 hS_2 => ?_)
    obtain ⟨e9, cN, LN, arrN, capN, MN, arr3N, cap3N, bN, mdN, md3N, ysN, B1, hgxN, hfrN⟩ := hp_2
    subst e9
    have hz1 := hc_2.1
    have hW1 := hW.kept hc_2 (fun q h1 h2 => absurd h1 (Nat.not_lt.mpr h2))
    have hcN := hc_2
    have hgN := hgxN.1.lt
    have hgsN := GS.born (tg := tg) hW1 hW.2.2 hgxN hfrN (fun y hy => ⟨hrl.lt hy, hgt.2.2.2.2.2.2.2.2 y hy⟩) hvk0
    have hE1 : Ext tg (tgN tg H.size cN LN MN bN arrN arr3N) H.size := tgN_ext
    generalize tgN tg H.size cN LN MN bN arrN arr3N = tg1 at hgsN hE1
    have hb9 := hW.b0
    have no : ∀ {q : Nat}, q < H.size → ¬ H.size ≤ q := fun h => Nat.not_le.mpr h
    have hx1 := hxo.kept hcN (no hxo.lt)
    have hAL1 := hAL.kept hcN ⟨no hAL.1.lt, fun ho => no (hAL.2.lt ho)⟩
    have hHI1 := (hHI.ext hb9 hE1 (Nat.le_refl _)).kept hb9 hcN (fun q h1 h2 => absurd h1 (Nat.not_lt.mpr h2))
    have hsa1 := hsa.kept hcN (no hsa.lt)
    have hSL1 := (hSL.ext hb9 hE1 (Nat.le_refl _)).kept hb9 hcN (fun q h1 h2 => absurd h1 (Nat.not_lt.mpr h2))
    have hPD1 := (hPD.ext hE1 (Nat.le_refl _)).kept hcN (fun q h1 h2 => absurd h1 (Nat.not_lt.mpr h2))
    have hgs1 := (hgs0.ext hb9 hE1 (Nat.le_refl _)).kept hb9 hcN (fun q h1 h2 => absurd h1 (Nat.not_lt.mpr h2))
    have u11 := ht11.ext hE1 hAL.1.lt
    have u12 : Old E harr → tg1 harr = (x, 12) := fun ho => (hE1 _ (hAL.2.lt ho)).trans (ht12 ho)
    have u13 := ht13.ext hE1 hsa.lt
    have u10 := hxt.ext hE1 hxo.lt
    refine xqst (C := "LayeredCharters$Guild") F hW1 4 hsa1 rfl hS_2 (XA.ext hE1 hz1 _ (XA.of u13 (by decide) (by decide))) (anyG hW1 hgxN.1) (vin_eq (n := i) (rfl : nI i = nI i) (by omega) (by omega)) dX0_save_24 (fun H_3 locs ho_3 hu_3 hS_3 => ?_)
    have ho_3 : qat E sa 4 2 (va_up sf (i) (some H.size)) H_3 := by have h9 := ho_3; rw [show (nI i : Int32).toNatClampNeg = (i) from (cl_eq (n := i) (rfl : nI i = nI i) (by omega))] at h9; exact h9
    have hz_H_3 : H_3.size = H_2.size := hu_3.1
    have hW_H_3 := hW1.kept hu_3.chg (fun q _ hq => hq ▸ u13.1)
    have hx1_H_3 := hx1.kept hu_3.chg (fun h9 => tne u10.2 u13.2 (by decide) (show x = sa from h9))
    have hRS2 := RS.save hb9 hAL1 hlen hgl7 hHI1 hsa1 hSL1 hPD1 u11 u12 u13 hgsN (fun e => absurd hgs0.lt (by rw [← e]; exact Nat.lt_irrefl _)) (fun hm => absurd (hi_lt hHI _ hm).1 (Nat.lt_irrefl _)) hu_3.chg ho_3 (by omega)
    have hgs2 := hgs1.kept hb9 hu_3.chg (fun q hq e => by rw [show q = sa from e, u13.2]; simp)
    have hX2 : XR E tg1 x f n k hist (cpA f sl (169 * i) 169) (upd z i 1) pd gl ln H_3 := ⟨g, hL, sa, pb, pl, wr, hx1_H_3, u10, hgs2, hRS2⟩
    have hX2' := hX2
    obtain ⟨g2, hL2, sa2, pb2, pl2, wr2, hxo2, hxt2, hgs2, hrs2⟩ := hX2
    have hgs02 := hgs2
    obtain ⟨c2, L2, arr2, cap2, M2, arr22, cap22, b2, md2, md22, xs2, ys2, hgx2, hgt2, hvk2⟩ := hgs2
    have hgx02 := hgx2
    have hvk02 := hvk2
    obtain ⟨hg2, hcx2, hrl2, hal2, hmb2, hbl2⟩ := hgx2
    obtain ⟨hn02, hn242, hk02, hk102, hrok2, hmok2⟩ := hvk2
    have hc02 := hcx2.1
    have hcr2 : CR E c2 n (ruA f) H_3 := ⟨L2, md2, arr2, cap2, xs2, hcx2.1, hcx2.2, hrl2⟩
    have lx2 := hxo2.lt; have lg2 := hg2.lt; have lc2 := hc02.lt; have lL2 := hcx2.2.1.lt; have lM2 := hal2.1.lt
    refine lv_aload_n hx hb dX0_save_25 rfl (lv_at hl 0 rfl) ?_
    refine xget (ref := "LayeredCharters") (ci := 0) (v := .ref g2) (C := RX0) (T := TX0) (N := 6) F in_X0 hW_H_3 hxo2 rfl 0 (by decide) q177 (fun _ h9 => h9) rfl dX0_save_26 ?_
    refine xget (ref := "LayeredCharters$Guild") (ci := 1) (v := .ref c2) (C := RX1) (T := TX1) (N := 5) F in_X1 hW_H_3 hg2 rfl 0 (by decide) q120 (fun _ h9 => h9) rfl dX0_save_29 ?_
    refine xget (ref := "LayeredCharters$Charter") (ci := 2) (v := .ref L2) (C := RX2) (T := TX2) (N := 1) F in_X2 hW_H_3 hc02 rfl 0 (by decide) q112 (fun _ h9 => h9) rfl dX0_save_32 ?_
    refine run_ro5 (w := .int (nI n)) (rest := []) (kF (x := ⟨"java/util/List", "size", "()I"⟩) F hW_H_3 (metJ2_size l E H_3 L2 arr2 md2 (nI n) (by have h9 := hcx2.2.1; rw [hrl2.1] at h9; exact h9)) (by decide +kernel) hat q211 q215 q217 q47 q219 hdJ2_sizeF ⟨Nat.le_of_ble_eq_true rfl, Nat.le_of_ble_eq_true rfl⟩ (recv hW_H_3 hcx2.2.1 rfl) hl.1 rfl (Nat.le_of_ble_eq_true rfl) dX0_save_35 ⟨Nat.le_of_ble_eq_true rfl, Nat.le_of_ble_eq_true rfl⟩) ?_
    exact hend _ _ _ _ _ _ _ rfl dX0_save_40 (⟨_, rfl, PX3.of (T' := (nI n, cpA f sl (169 * i) 169, upd z i 1)) (by simp [saveT, c_1, ix_nI (show i < 2 ^ 31 by omega)]) ⟨_, hE1, hX2'⟩⟩) hS_3 (by first | exact Nat.le_refl _ | (show (29 : Nat) ≤ 29; omega)) (by first | exact Nat.le_refl _ | (show (541 : Nat) ≤ 541; omega))
  · skip
    have bc_1 := c_1
    have c_1 := b2i_f c_1
    refine lv_bipush (v := (-2)) hx hb dX0_save_9 (by decide) ?_
    exact hend _ _ _ _ _ _ _ rfl dX0_save_11 (⟨_, rfl, PX3.of (T' := ((-2), sl, z)) (by simp [saveT, c_1]) ⟨tg, Ext.rf, hx0⟩⟩) hS (Nat.zero_le _) (Nat.zero_le _)

theorem hdX0_restore : Hd yX0_restore 1 := by decide +kernel
set_option maxHeartbeats 1000000 in
set_option maxRecDepth 100000 in
theorem metX0_restore (l : Launch) (E : EV) (H : Heap) (tg : TG) (x : Nat) (f : Nat → Int32) (n k : Nat) (hist sl z pd : Nat → Int32) (gl ln : Nat) (hx : XR E tg x f n k hist sl z pd gl ln H) (hgl6 : gl ≤ 6) (s0 : Int32) : Ct l yX0_restore cX0_restore 2 (some .int) 14 588 (59) (1122) [.ref x, .int s0] E H (XA E tg H.size) (pI (fun r9 H1 => PX E tg H.size x sl z pd ln (restoreT f hist sl z gl s0) r9 H1)) := by
  have hx0 := hx
  obtain ⟨g, hL, sa, pb, pl, wr, hxo, hxt, hgs, hrs⟩ := hx
  have hgs0 := hgs
  obtain ⟨c, L, arr, cap, M, arr2, cap2, b, md, md2, xs, ys, hgx, hgt, hvk⟩ := hgs
  have hgx0 := hgx
  have hvk0 := hvk
  obtain ⟨hg, hcx, hrl, hal, hmb, hbl⟩ := hgx
  obtain ⟨hn0, hn24, hk0, hk10, hrok, hmok⟩ := hvk
  have hc0 := hcx.1
  have hcr : CR E c n (ruA f) H := ⟨L, md, arr, cap, xs, hcx.1, hcx.2, hrl⟩
  have hrs0 := hrs
  obtain ⟨hmd, harr, hcap, hs, sf, hAL, hlen, hgl7, hHI, hsa, hSL, hPD, ht11, ht12, ht13⟩ := hrs
  have hb0 : E.2.2.1 ≤ E.2.2.1 := Nat.le_refl _
  refine Ct.ofZ (by decide) (Nat.le_of_ble_eq_true rfl) ?_
  intro p e s m bl mt cd ls Q hF hW hH hl hend
  obtain ⟨F, hin⟩ := hF
  have hx := F.1
  have hb := F.2.1
  have hts := F.2.2.2.2
  have hl : lv_has ls 2 [(0, .ref x), (1, .int s0)] := hl
  have hS : va_S (XA E tg H.size) H H [] := va_S.rf
  obtain ⟨cC, hat⟩ := cat (ci := 6) hW rfl
  refine lv_iload_n hx hb dX0_restore_0 rfl (lv_at hl 1 rfl) ?_
  refine lv_iconst (v := 0) hx hb dX0_restore_1 (by decide) ?_
  refine lv_iconst (v := 1) hx hb dX0_restore_2 (by decide) ?_
  refine run_ro (w := .int (b2i (inR s0 0 1))) (rest := []) (kS F hW (metX4_holds l E H s0 0 1) (lw_S q206 q204 q53 q205) hdX4_holds ⟨Nat.le_of_ble_eq_true rfl, Nat.le_of_ble_eq_true rfl⟩ hl.1 rfl (Nat.le_of_ble_eq_true rfl) dX0_restore_3 ⟨Nat.le_of_ble_eq_true rfl, Nat.le_of_ble_eq_true rfl⟩) ?_
  refine lv_if_ne (tgt := 12) hx hb dX0_restore_6 (by decide) (fun c_1 => ?_) (fun c_1 => ?_)
  · skip
    have bc_1 := c_1
    have c_1 := b2i_t c_1
    obtain ⟨i, hi, eri⟩ := rng_of (b := 1) c_1 (by decide)
    subst eri
    rcases hSL i (by omega) with ⟨hsi, hzi⟩ | ⟨hh, n2, k2, hsi, hzi, hhg, hhs, hGSh⟩
    · skip
      refine lv_aload_n hx hb dX0_restore_12 rfl (lv_at hl 0 rfl) ?_
      refine xget (ref := "LayeredCharters") (ci := 0) (v := .ref sa) (C := RX0) (T := TX0) (N := 6) F in_X0 hW hxo rfl 2 (by decide) q179 (fun _ h9 => h9) rfl dX0_restore_13 ?_
      refine lv_iload_n hx hb dX0_restore_16 rfl (lv_at hl 1 rfl) ?_
      refine xqld (C := "LayeredCharters$Guild") F hW 4 hsa rfl (vin_eq (n := i) (rfl : nI i = nI i) (by omega) (by omega)) dX0_restore_17 ?_
      refine lv_valn (show sf (nI i : Int32).toNatClampNeg = none by rw [show (nI i : Int32).toNatClampNeg = (i) from (cl_eq (n := i) (rfl : nI i = nI i) (by omega))]; exact hsi) ?_
      refine lv_ifnonnullN hx hb dX0_restore_18 ?_
      refine lv_bipush (v := (-5)) hx hb dX0_restore_21 (by decide) ?_
      exact hend _ _ _ _ _ _ _ rfl dX0_restore_23 (⟨_, rfl, PX.of (T' := ((-5), f, hist, gl)) (by simp [restoreT, c_1, ix_nI (show i < 2 ^ 31 by omega), hzi]) ⟨tg, Ext.rf, hx0⟩⟩) hS (Nat.zero_le _) (Nat.zero_le _)
    · skip
      refine lv_aload_n hx hb dX0_restore_12 rfl (lv_at hl 0 rfl) ?_
      refine xget (ref := "LayeredCharters") (ci := 0) (v := .ref sa) (C := RX0) (T := TX0) (N := 6) F in_X0 hW hxo rfl 2 (by decide) q179 (fun _ h9 => h9) rfl dX0_restore_13 ?_
      refine lv_iload_n hx hb dX0_restore_16 rfl (lv_at hl 1 rfl) ?_
      refine xqld (C := "LayeredCharters$Guild") F hW 4 hsa rfl (vin_eq (n := i) (rfl : nI i = nI i) (by omega) (by omega)) dX0_restore_17 ?_
      refine lv_valr (show sf (nI i : Int32).toNatClampNeg = some hh by rw [show (nI i : Int32).toNatClampNeg = (i) from (cl_eq (n := i) (rfl : nI i = nI i) (by omega))]; exact hsi) ?_
      refine lv_ifnonnull (tgt := 24) hx hb dX0_restore_18 (by decide) ?_
      refine lv_aload_n hx hb dX0_restore_24 rfl (lv_at hl 0 rfl) ?_
      refine run_chN (rest := []) (kV F hW (metX0_record l E H tg x f n k hist sl z pd gl ln hx0 hgl6) (lw_V q220 q222 qs0 q42 q223) hdX0_record ⟨Nat.le_of_ble_eq_true rfl, Nat.le_of_ble_eq_true rfl⟩ (recv hW hxo rfl) hl.1 rfl (Nat.le_of_ble_eq_true rfl) dX0_restore_25 ⟨by show 0 + 30 ≤ 59; omega, by show 0 + 581 ≤ 1122; omega⟩) hS (fun _ h => h) (fun H_2 locs hp_2 hc_2 hS_2 => ?_)
      obtain ⟨tg1, hE1, hX1⟩ := hp_2
      have hz1 := hc_2.1
      have hb9 := hW.b0
      have hW1 := hW.kept hc_2 (XA.old (Nat.le_refl _))
      have hcR := hc_2
      have hX1' := hX1
      obtain ⟨g1, hL1, sa1, pb1, pl1, wr1, hxo1, hxt1, hgs1, hrs1⟩ := hX1
      have hgs01 := hgs1
      obtain ⟨c1, L1, arr1, cap1, M1, arr21, cap21, b1, md1, md21, xs1, ys1, hgx1, hgt1, hvk1⟩ := hgs1
      have hgx01 := hgx1
      have hvk01 := hvk1
      obtain ⟨hg1, hcx1, hrl1, hal1, hmb1, hbl1⟩ := hgx1
      obtain ⟨hn01, hn241, hk01, hk101, hrok1, hmok1⟩ := hvk1
      have hc01 := hcx1.1
      have hcr1 : CR E c1 n (ruA f) H_2 := ⟨L1, md1, arr1, cap1, xs1, hcx1.1, hcx1.2, hrl1⟩
      have lx1 := hxo1.lt; have lg1 := hg1.lt; have lc1 := hc01.lt; have lL1 := hcx1.2.1.lt; have lM1 := hal1.1.lt
      have hrs1' := hrs1
      obtain ⟨hmd1, harr1, hcap1, hs1, sf1, hAL1, hlen1, hgl71, hHI1, hsa1, hSL1, hPD1, u11, u12, u13⟩ := hrs1'
      obtain ⟨hh1, n3, k3, hsi1, hzi1, hhg1, hhs1, hGS1⟩ := (hSL1 i (by omega)).resolve_left (fun h => by rw [hzi] at h; exact absurd h.2 (by decide))
      have hGS1' := hGS1
      obtain ⟨cH, LH, arrH, capH, MH, arr2H, cap2H, bH, mdH, md2H, xsH, ysH, hgxH, hgtH, hvkH⟩ := hGS1'
      have hgHo := hgxH.1
      refine lv_aload_n hx hb dX0_restore_28 rfl (lv_at hl 0 rfl) ?_
      refine lv_aload_n hx hb dX0_restore_29 rfl (lv_at hl 0 rfl) ?_
      refine xget (ref := "LayeredCharters") (ci := 0) (v := .ref sa1) (C := RX0) (T := TX0) (N := 6) F in_X0 hW1 hxo1 rfl 2 (by decide) q179 (fun _ h9 => h9) rfl dX0_restore_30 ?_
      refine lv_iload_n hx hb dX0_restore_33 rfl (lv_at hl 1 rfl) ?_
      refine xqld (C := "LayeredCharters$Guild") F hW1 4 hsa1 rfl (vin_eq (n := i) (rfl : nI i = nI i) (by omega) (by omega)) dX0_restore_34 ?_
      refine lv_valr (show sf1 (nI i : Int32).toNatClampNeg = some hh1 by rw [show (nI i : Int32).toNatClampNeg = (i) from (cl_eq (n := i) (rfl : nI i = nI i) (by omega))]; exact hsi1) ?_
      refine run_chA (rest := [.ref x]) (kV F hW1 (metX1_copy l E H_2 hh1 cH LH arrH capH MH arr2H cap2H bH mdH md2H xsH ysH n3 (ruA (fun j => sl (169 * i + j))) k3 (mbA (fun j => sl (169 * i + j))) (sl (169 * i + 2)) (fun j => sl (169 * i + (3 + j))) (sl (169 * i + 8)) hgxH) (lw_V q224 q225 q226 q43 q227) hdX1_copy ⟨Nat.le_of_ble_eq_true rfl, Nat.le_of_ble_eq_true rfl⟩ (recv hW1 hgHo rfl) hl.1 rfl (Nat.le_of_ble_eq_true rfl) dX0_restore_35 ⟨by show 30 + 29 ≤ 59; omega, by show 581 + 541 ≤ 1122; omega⟩) hS_2 (fun q9 h9 => Or.inr (Nat.le_trans hz1 h9)) (fun r_3 H_3 locs hp_3 hc_3 hS_3 => ?_)
      obtain ⟨e9, cN, LN, arrN, capN, MN, arr3N, cap3N, bN, mdN, md3N, ysN, B1, hgxN, hfrN⟩ := hp_3
      subst e9
      have hz2 := hc_3.1
      have hW2 := hW1.kept hc_3 (fun q h1 h2 => absurd h1 (Nat.not_lt.mpr h2))
      have hgsN := GS.born (f := (fun j => sl (169 * i + j))) (tg := tg1) hW2 hW1.2.2 hgxN hfrN (fun y hy => ⟨hgxH.2.2.1.lt hy, hgtH.2.2.2.2.2.2.2.2 y hy⟩) hvkH
      have hE2 : Ext tg1 (tgN tg1 H_2.size cN LN MN bN arrN arr3N) H_2.size := tgN_ext
      generalize tgN tg1 H_2.size cN LN MN bN arrN arr3N = tg2 at hgsN hE2
      have hx2 := hxo1.kept hc_3 (Nat.not_le.mpr hxo1.lt)
      have v10 := hxt1.ext hE2 hxo1.lt
      have hRS2 := ((hrs1.swap (N := H_2.size) (Nat.le_refl _)).ext hb9 hE2 (Nat.le_refl _)).kept hb9 hc_3 (fun q h1 h2 => absurd h1 (Nat.not_lt.mpr h2))
      refine xput (ref := "LayeredCharters") (ci := 0) (v := .ref H_2.size) (C := RX0) (T := TX0) (N := 6) F in_X0 tyX0 tyX0_ok nmX0 hW2 hx2 hS_3 (XA.ext (hE1.trans hE2 hz1) (Nat.le_trans hz1 hz2) _ (XA.of v10 (by decide) (by decide))) rfl 0 (by decide) q177 (fun _ h9 => h9) rfl rfl rfl (Nat.le_of_ble_eq_true rfl) dX0_restore_38 (fun H_4 locs ho_4 hu_4 hS_4 => ?_)
      have ho_4 : oat E x 0 [.ref H_2.size, .ref hL1, .ref sa1, .ref pb1, .int pl1, .int wr1] H_4 := ho_4
      have hz_H_4 : H_4.size = H_3.size := hu_4.1
      have hW_H_4 := hW2.kept hu_4.chg (fun q _ hq => hq ▸ v10.1)
      have hgs3 := hgsN.kept hb9 hu_4.chg (fun q hq e => by rw [show q = x from e, v10.2]; simp)
      have hRS3 := hRS2.kept hb9 hu_4.chg (fun q hq e => Or.inr (Or.inl (by rw [show q = x from e, v10.2])))
      have hX3 : XR E tg2 x (cpB f sl (169 * i) 169) n3 k3 (recH f hist gl) sl z pd (recK gl) ln H_4 := ⟨_, _, _, _, _, _, ho_4, v10, hgs3.congr (fun j hj => by unfold cpB; rw [if_pos hj]), hRS3⟩
      have hX3' := hX3
      obtain ⟨g3, hL3, sa3, pb3, pl3, wr3, hxo3, hxt3, hgs3, hrs3⟩ := hX3
      have hgs03 := hgs3
      obtain ⟨c3, L3, arr3, cap3, M3, arr23, cap23, b3, md3, md23, xs3, ys3, hgx3, hgt3, hvk3⟩ := hgs3
      have hgx03 := hgx3
      have hvk03 := hvk3
      obtain ⟨hg3, hcx3, hrl3, hal3, hmb3, hbl3⟩ := hgx3
      obtain ⟨hn03, hn243, hk03, hk103, hrok3, hmok3⟩ := hvk3
      have hc03 := hcx3.1
      have hcr3 : CR E c3 n3 (ruA (cpB f sl (169 * i) 169)) H_4 := ⟨L3, md3, arr3, cap3, xs3, hcx3.1, hcx3.2, hrl3⟩
      have lx3 := hxo3.lt; have lg3 := hg3.lt; have lc3 := hc03.lt; have lL3 := hcx3.2.1.lt; have lM3 := hal3.1.lt
      refine lv_aload_n hx hb dX0_restore_41 rfl (lv_at hl 0 rfl) ?_
      refine xget (ref := "LayeredCharters") (ci := 0) (v := .ref g3) (C := RX0) (T := TX0) (N := 6) F in_X0 hW_H_4 hxo3 rfl 0 (by decide) q177 (fun _ h9 => h9) rfl dX0_restore_42 ?_
      refine xget (ref := "LayeredCharters$Guild") (ci := 1) (v := .ref c3) (C := RX1) (T := TX1) (N := 5) F in_X1 hW_H_4 hg3 rfl 0 (by decide) q120 (fun _ h9 => h9) rfl dX0_restore_45 ?_
      refine xget (ref := "LayeredCharters$Charter") (ci := 2) (v := .ref L3) (C := RX2) (T := TX2) (N := 1) F in_X2 hW_H_4 hc03 rfl 0 (by decide) q112 (fun _ h9 => h9) rfl dX0_restore_48 ?_
      refine run_ro5 (w := .int (nI n3)) (rest := []) (kF (x := ⟨"java/util/List", "size", "()I"⟩) F hW_H_4 (metJ2_size l E H_4 L3 arr3 md3 (nI n3) (by have h9 := hcx3.2.1; rw [hrl3.1] at h9; exact h9)) (by decide +kernel) hat q211 q215 q217 q47 q219 hdJ2_sizeF ⟨Nat.le_of_ble_eq_true rfl, Nat.le_of_ble_eq_true rfl⟩ (recv hW_H_4 hcx3.2.1 rfl) hl.1 rfl (Nat.le_of_ble_eq_true rfl) dX0_restore_51 ⟨Nat.le_of_ble_eq_true rfl, Nat.le_of_ble_eq_true rfl⟩) ?_
      exact hend _ _ _ _ _ _ _ rfl dX0_restore_56 (⟨_, rfl, PX.of (T' := (nI n3, cpB f sl (169 * i) 169, recH f hist gl, recK gl)) (by have h9 : sl (169 * i) = nI n3 := hvkH.1; simp [restoreT, c_1, ix_nI (show i < 2 ^ 31 by omega), hzi, h9]) ⟨_, hE1.trans hE2 hz1, hX3'⟩⟩) hS_4 (by first | exact Nat.le_refl _ | (show (59 : Nat) ≤ 59; omega)) (by first | exact Nat.le_refl _ | (show (1122 : Nat) ≤ 1122; omega))
  · skip
    have bc_1 := c_1
    have c_1 := b2i_f c_1
    refine lv_bipush (v := (-2)) hx hb dX0_restore_9 (by decide) ?_
    exact hend _ _ _ _ _ _ _ rfl dX0_restore_11 (⟨_, rfl, PX.of (T' := ((-2), f, hist, gl)) (by simp [restoreT, c_1]) ⟨tg, Ext.rf, hx0⟩⟩) hS (Nat.zero_le _) (Nat.zero_le _)

