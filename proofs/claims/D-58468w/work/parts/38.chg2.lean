/-! LAYEREDCHARTERS: changes, the second part -/
set_option maxRecDepth 100000
theorem hdX0_seal : Hd yX0_seal 2 := by decide +kernel
set_option maxHeartbeats 1000000 in
set_option maxRecDepth 100000 in
theorem metX0_seal (l : Launch) (E : EV) (H : Heap) (tg : TG) (x : Nat) (f : Nat → Int32) (n k : Nat) (hist sl z pd : Nat → Int32) (gl ln : Nat) (hx : XR E tg x f n k hist sl z pd gl ln H) (hgl6 : gl ≤ 6) (r v : Int32) : Ct l yX0_seal cX0_seal 4 (some .int) 14 588 (31) (586) [.ref x, .int r, .int v] E H (XA E tg H.size) (pI (fun r9 H1 => PX E tg H.size x sl z pd ln (sealT f hist gl n r v) r9 H1)) := by
  have hx0 := hx
  obtain ⟨g, hL, sa, pb, pl, wr, hxo, hxt, hgs, hrs⟩ := hx
  have hgs0 := hgs
  obtain ⟨c, L, arr, cap, M, arr2, cap2, b, md, md2, xs, ys, hgx, hgt, hvk⟩ := hgs
  have hgx0 := hgx
  have hvk0 := hvk
  obtain ⟨hg, hcx, hrl, hal, hmb, hbl⟩ := hgx
  obtain ⟨hn0, hn24, hk0, hk10, hrok, hmok⟩ := hvk
  have hc0 := hcx.1
  have hcr : CR E c n (ruA f) H := ⟨L, md, arr, cap, xs, hcx.1, hcx.2, hrl⟩
  refine Ct.ofZ (by decide) (Nat.le_of_ble_eq_true rfl) ?_
  intro p e s m bl mt cd ls Q hF hW hH hl hend
  obtain ⟨F, hin⟩ := hF
  have hx := F.1
  have hb := F.2.1
  have hts := F.2.2.2.2
  have hl : lv_has ls 4 [(0, .ref x), (1, .int r), (2, .int v)] := hl
  have hS : va_S (XA E tg H.size) H H [] := va_S.rf
  obtain ⟨cC, hat⟩ := cat (ci := 6) hW rfl
  refine lv_aload_n hx hb dX0_seal_0 rfl (lv_at hl 0 rfl) ?_
  refine xget (ref := "LayeredCharters") (ci := 0) (v := .ref g) (C := RX0) (T := TX0) (N := 6) F in_X0 hW hxo rfl 0 (by decide) q177 (fun _ h9 => h9) rfl dX0_seal_1 ?_
  refine xget (ref := "LayeredCharters$Guild") (ci := 1) (v := .ref c) (C := RX1) (T := TX1) (N := 5) F in_X1 hW hg rfl 0 (by decide) q120 (fun _ h9 => h9) rfl dX0_seal_4 ?_
  refine lv_iload_n hx hb dX0_seal_7 rfl (lv_at hl 1 rfl) ?_
  refine run_ro (w := .int (b2i (inR r 0 (nI n - 1)))) (rest := []) (kV F hW (metX2_hasRule l E H c n (ruA f) hcr r) (lw_V q421 q422 q423 q44 q424) hdX2_hasRule ⟨Nat.le_of_ble_eq_true rfl, Nat.le_of_ble_eq_true rfl⟩ (recv hW hc0 rfl) hl.1 rfl (Nat.le_of_ble_eq_true rfl) dX0_seal_8 ⟨Nat.le_of_ble_eq_true rfl, Nat.le_of_ble_eq_true rfl⟩) ?_
  refine lv_if_ne (tgt := 16) hx hb dX0_seal_11 (by decide) (fun c_1 => ?_) (fun c_1 => ?_)
  · skip
    have bc_1 := c_1
    have c_1 := b2i_t c_1
    refine lv_iload_n hx hb dX0_seal_16 rfl (lv_at hl 2 rfl) ?_
    refine run_ro (w := .int (b2i (inR v 1 9))) (rest := []) (kS F hW (metX4_isSeal l E H v) (lw_S q207 q208 q53 q209) hdX4_isSeal ⟨Nat.le_of_ble_eq_true rfl, Nat.le_of_ble_eq_true rfl⟩ hl.1 rfl (Nat.le_of_ble_eq_true rfl) dX0_seal_17 ⟨Nat.le_of_ble_eq_true rfl, Nat.le_of_ble_eq_true rfl⟩) ?_
    refine lv_if_ne (tgt := 26) hx hb dX0_seal_20 (by decide) (fun c_2 => ?_) (fun c_2 => ?_)
    · skip
      have bc_2 := c_2
      have c_2 := b2i_t c_2
      obtain ⟨i, hi, eri⟩ := idx_of c_1 (by omega)
      subst eri
      refine lv_aload_n hx hb dX0_seal_26 rfl (lv_at hl 0 rfl) ?_
      refine run_chN (rest := []) (kV F hW (metX0_record l E H tg x f n k hist sl z pd gl ln hx0 hgl6) (lw_V q220 q222 qs0 q42 q223) hdX0_record ⟨Nat.le_of_ble_eq_true rfl, Nat.le_of_ble_eq_true rfl⟩ (recv hW hxo rfl) hl.1 rfl (Nat.le_of_ble_eq_true rfl) dX0_seal_27 ⟨by show 0 + 30 ≤ 31; omega, by show 0 + 581 ≤ 586; omega⟩) hS (fun _ h => h) (fun H_3 locs hp_3 hc_3 hS_3 => ?_)
      obtain ⟨tg1, hE1, hX1⟩ := hp_3
      have hz1 := hc_3.1
      have hb9 := hW.b0
      have hW1 := hW.kept hc_3 (XA.old (Nat.le_refl _))
      have hcR := hc_3
      have hX1' := hX1
      obtain ⟨g1, hL1, sa1, pb1, pl1, wr1, hxo1, hxt1, hgs1, hrs1⟩ := hX1
      have hgs01 := hgs1
      obtain ⟨c1, L1, arr1, cap1, M1, arr21, cap21, b1, md1, md21, xs1, ys1, hgx1, hgt1, hvk1⟩ := hgs1
      have hgx01 := hgx1
      have hvk01 := hvk1
      obtain ⟨hg1, hcx1, hrl1, hal1, hmb1, hbl1⟩ := hgx1
      obtain ⟨hn01, hn241, hk01, hk101, hrok1, hmok1⟩ := hvk1
      have hc01 := hcx1.1
      have hcr1 : CR E c1 n (ruA f) H_3 := ⟨L1, md1, arr1, cap1, xs1, hcx1.1, hcx1.2, hrl1⟩
      have lx1 := hxo1.lt; have lg1 := hg1.lt; have lc1 := hc01.lt; have lL1 := hcx1.2.1.lt; have lM1 := hal1.1.lt
      refine lv_aload_n hx hb dX0_seal_30 rfl (lv_at hl 0 rfl) ?_
      refine xget (ref := "LayeredCharters") (ci := 0) (v := .ref g1) (C := RX0) (T := TX0) (N := 6) F in_X0 hW1 hxo1 rfl 0 (by decide) q177 (fun _ h9 => h9) rfl dX0_seal_31 ?_
      refine xget (ref := "LayeredCharters$Guild") (ci := 1) (v := .ref c1) (C := RX1) (T := TX1) (N := 5) F in_X1 hW1 hg1 rfl 0 (by decide) q120 (fun _ h9 => h9) rfl dX0_seal_34 ?_
      refine xget (ref := "LayeredCharters$Charter") (ci := 2) (v := .ref L1) (C := RX2) (T := TX2) (N := 1) F in_X2 hW1 hc01 rfl 0 (by decide) q112 (fun _ h9 => h9) rfl dX0_seal_37 ?_
      refine lv_iload_n hx hb dX0_seal_40 rfl (lv_at hl 1 rfl) ?_
      obtain ⟨x_i, hgi⟩ : ∃ y, xs1[i]? = some y := ⟨_, List.getElem?_eq_getElem (show i < xs1.length by rw [hrl1.1]; exact hi)⟩
      have hx_i := hrl1.2.2 i x_i hgi
      have hti9 := hgt1.2.2.2.2.2.2.2.2 x_i (List.mem_of_getElem? hgi)
      refine run_ro5 (w := .ref x_i) (rest := []) (kF (x := ⟨"java/util/List", "get", "(I)Ljava/lang/Object;"⟩) F hW1 (metJ2_get l E H_3 L1 arr1 cap1 i x_i xs1 md1 hcx1.2 hgi) (by decide +kernel) hat q433 q307 q309 q47 q311 hdJ2_getF ⟨Nat.le_of_ble_eq_true rfl, Nat.le_of_ble_eq_true rfl⟩ (recv hW1 hcx1.2.1 rfl) hl.1 rfl (Nat.le_of_ble_eq_true rfl) dX0_seal_41 ⟨Nat.le_of_ble_eq_true rfl, Nat.le_of_ble_eq_true rfl⟩) ?_
      refine xcast (ci := 5) F hW1 hx_i rfl q386 dX0_seal_46 ?_
      refine lv_astore_n (lv' := [(3, .ref x_i), (0, .ref x), (1, .int (nI i)), (2, .int v)]) hx hb dX0_seal_49 rfl hl (by decide) rfl (fun ls hl => ?_)
      refine lv_aload_n hx hb dX0_seal_50 rfl (lv_at hl 1 rfl) ?_
      refine lv_iload_n hx hb dX0_seal_51 rfl (lv_at hl 2 rfl) ?_
      refine lv_aload_n hx hb dX0_seal_52 rfl (lv_at hl 0 rfl) ?_
      refine xget (ref := "LayeredCharters$Rule") (ci := 5) (v := .int ((ruA f i).1)) (C := RX6) (T := TX6) (N := 5) F in_X6 hW1 hx_i rfl 0 (by decide) q394 (fun _ h9 => h9) rfl dX0_seal_53 ?_
      refine lv_iload_n hx hb dX0_seal_56 rfl (lv_at hl 3 rfl) ?_
      have hokc : RVok ((ruA f i).1, (ruA f i).2.1, (ruA f i).2.2.1, (ruA f i).2.2.2.1, v) := (hrok i hi).seal c_2
      refine run_chN (rest := []) (kV F hW1 (metX0_change l E H_3 tg1 x f n k (recH f hist gl) sl z pd (recK gl) ln hX1' i hi ((ruA f i).1) v hokc) (lw_V q434 q436 qs5 q42 q437) hdX0_change ⟨Nat.le_of_ble_eq_true rfl, Nat.le_of_ble_eq_true rfl⟩ (recv hW1 hxo1 rfl) hl.1 rfl (Nat.le_of_ble_eq_true rfl) dX0_seal_57 ⟨by show 30 + 1 ≤ 31; omega, by show 581 + 5 ≤ 586; omega⟩) hS_3 (fun q9 h9 => XA.ext hE1 hz1 q9 h9) (fun H_4 locs hp_4 hc_4 hS_4 => ?_)
      obtain ⟨tg2, hE2, hX2⟩ := hp_4
      have hW2 := hW1.kept hc_4 (XA.old (Nat.le_refl _))
      have hxi2 := hx_i.kept hc_4 (XA.no9 hx_i.lt hti9)
      refine lv_aload_n hx hb dX0_seal_60 rfl (lv_at hl 0 rfl) ?_
      refine xget (ref := "LayeredCharters$Rule") (ci := 5) (v := .int ((ruA f i).2.2.2.2)) (C := RX6) (T := TX6) (N := 5) F in_X6 hW2 hxi2 rfl 4 (by decide) q404 (fun _ h9 => h9) rfl dX0_seal_61 ?_
      exact hend _ _ _ _ _ _ _ rfl dX0_seal_64 (⟨_, rfl, PX.of (T' := ((ruA f i).2.2.2.2, upd f (9 + 5 * i + 4) v, recH f hist gl, recK gl)) (by simp [sealT, c_1, c_2, ix_nI (show i < 2 ^ 31 by omega), ruA]) ⟨tg2, hE1.trans hE2 hz1, by rw [← chF_la]; exact hX2⟩⟩) hS_4 (by first | exact Nat.le_refl _ | (show (31 : Nat) ≤ 31; omega)) (by first | exact Nat.le_refl _ | (show (586 : Nat) ≤ 586; omega))
    · skip
      have bc_2 := c_2
      have c_2 := b2i_f c_2
      refine lv_bipush (v := (-2)) hx hb dX0_seal_23 (by decide) ?_
      exact hend _ _ _ _ _ _ _ rfl dX0_seal_25 (⟨_, rfl, PX.of (T' := ((-2), f, hist, gl)) (by simp [sealT, c_1, c_2]) ⟨tg, Ext.rf, hx0⟩⟩) hS (Nat.zero_le _) (Nat.zero_le _)
  · skip
    have bc_1 := c_1
    have c_1 := b2i_f c_1
    refine lv_iconst (v := (-1)) hx hb dX0_seal_14 (by decide) ?_
    exact hend _ _ _ _ _ _ _ rfl dX0_seal_15 (⟨_, rfl, PX.of (T' := ((-1), f, hist, gl)) (by simp [sealT, c_1]) ⟨tg, Ext.rf, hx0⟩⟩) hS (Nat.zero_le _) (Nat.zero_le _)

theorem hdX0_move : Hd yX0_move 2 := by decide +kernel
set_option maxHeartbeats 1000000 in
set_option maxRecDepth 100000 in
theorem metX0_move (l : Launch) (E : EV) (H : Heap) (tg : TG) (x : Nat) (f : Nat → Int32) (n k : Nat) (hist sl z pd : Nat → Int32) (gl ln : Nat) (hx : XR E tg x f n k hist sl z pd gl ln H) (hgl6 : gl ≤ 6) (r v : Int32) : Ct l yX0_move cX0_move 4 (some .int) 14 588 (31) (586) [.ref x, .int r, .int v] E H (XA E tg H.size) (pI (fun r9 H1 => PX E tg H.size x sl z pd ln (moveT f hist gl n r v) r9 H1)) := by
  have hx0 := hx
  obtain ⟨g, hL, sa, pb, pl, wr, hxo, hxt, hgs, hrs⟩ := hx
  have hgs0 := hgs
  obtain ⟨c, L, arr, cap, M, arr2, cap2, b, md, md2, xs, ys, hgx, hgt, hvk⟩ := hgs
  have hgx0 := hgx
  have hvk0 := hvk
  obtain ⟨hg, hcx, hrl, hal, hmb, hbl⟩ := hgx
  obtain ⟨hn0, hn24, hk0, hk10, hrok, hmok⟩ := hvk
  have hc0 := hcx.1
  have hcr : CR E c n (ruA f) H := ⟨L, md, arr, cap, xs, hcx.1, hcx.2, hrl⟩
  refine Ct.ofZ (by decide) (Nat.le_of_ble_eq_true rfl) ?_
  intro p e s m bl mt cd ls Q hF hW hH hl hend
  obtain ⟨F, hin⟩ := hF
  have hx := F.1
  have hb := F.2.1
  have hts := F.2.2.2.2
  have hl : lv_has ls 4 [(0, .ref x), (1, .int r), (2, .int v)] := hl
  have hS : va_S (XA E tg H.size) H H [] := va_S.rf
  obtain ⟨cC, hat⟩ := cat (ci := 6) hW rfl
  refine lv_aload_n hx hb dX0_move_0 rfl (lv_at hl 0 rfl) ?_
  refine xget (ref := "LayeredCharters") (ci := 0) (v := .ref g) (C := RX0) (T := TX0) (N := 6) F in_X0 hW hxo rfl 0 (by decide) q177 (fun _ h9 => h9) rfl dX0_move_1 ?_
  refine xget (ref := "LayeredCharters$Guild") (ci := 1) (v := .ref c) (C := RX1) (T := TX1) (N := 5) F in_X1 hW hg rfl 0 (by decide) q120 (fun _ h9 => h9) rfl dX0_move_4 ?_
  refine lv_iload_n hx hb dX0_move_7 rfl (lv_at hl 1 rfl) ?_
  refine run_ro (w := .int (b2i (inR r 0 (nI n - 1)))) (rest := []) (kV F hW (metX2_hasRule l E H c n (ruA f) hcr r) (lw_V q421 q422 q423 q44 q424) hdX2_hasRule ⟨Nat.le_of_ble_eq_true rfl, Nat.le_of_ble_eq_true rfl⟩ (recv hW hc0 rfl) hl.1 rfl (Nat.le_of_ble_eq_true rfl) dX0_move_8 ⟨Nat.le_of_ble_eq_true rfl, Nat.le_of_ble_eq_true rfl⟩) ?_
  refine lv_if_eq (tgt := 21) hx hb dX0_move_11 (by decide) (fun c_1 => ?_) (fun c_1 => ?_)
  · skip
    have bc_1 := c_1
    have c_1 := b2i_f c_1
    refine lv_iconst (v := (-1)) hx hb dX0_move_21 (by decide) ?_
    exact hend _ _ _ _ _ _ _ rfl dX0_move_22 (⟨_, rfl, PX.of (T' := ((-1), f, hist, gl)) (by simp [moveT, c_1]) ⟨tg, Ext.rf, hx0⟩⟩) hS (Nat.zero_le _) (Nat.zero_le _)
  · skip
    have bc_1 := c_1
    have c_1 := b2i_t c_1
    refine lv_iload_n hx hb dX0_move_14 rfl (lv_at hl 2 rfl) ?_
    refine run_ro (w := .int (b2i (inR v 0 4))) (rest := []) (kS F hW (metX4_isLayer l E H v) (lw_S q200 q201 q53 q202) hdX4_isLayer ⟨Nat.le_of_ble_eq_true rfl, Nat.le_of_ble_eq_true rfl⟩ hl.1 rfl (Nat.le_of_ble_eq_true rfl) dX0_move_15 ⟨Nat.le_of_ble_eq_true rfl, Nat.le_of_ble_eq_true rfl⟩) ?_
    refine lv_if_ne (tgt := 23) hx hb dX0_move_18 (by decide) (fun c_2 => ?_) (fun c_2 => ?_)
    · skip
      have bc_2 := c_2
      have c_2 := b2i_t c_2
      obtain ⟨i, hi, eri⟩ := idx_of c_1 (by omega)
      subst eri
      refine lv_aload_n hx hb dX0_move_23 rfl (lv_at hl 0 rfl) ?_
      refine xget (ref := "LayeredCharters") (ci := 0) (v := .ref g) (C := RX0) (T := TX0) (N := 6) F in_X0 hW hxo rfl 0 (by decide) q177 (fun _ h9 => h9) rfl dX0_move_24 ?_
      refine xget (ref := "LayeredCharters$Guild") (ci := 1) (v := .ref c) (C := RX1) (T := TX1) (N := 5) F in_X1 hW hg rfl 0 (by decide) q120 (fun _ h9 => h9) rfl dX0_move_27 ?_
      refine xget (ref := "LayeredCharters$Charter") (ci := 2) (v := .ref L) (C := RX2) (T := TX2) (N := 1) F in_X2 hW hc0 rfl 0 (by decide) q112 (fun _ h9 => h9) rfl dX0_move_30 ?_
      refine lv_iload_n hx hb dX0_move_33 rfl (lv_at hl 1 rfl) ?_
      obtain ⟨x_i, hgi⟩ : ∃ y, xs[i]? = some y := ⟨_, List.getElem?_eq_getElem (show i < xs.length by rw [hrl.1]; exact hi)⟩
      have hx_i := hrl.2.2 i x_i hgi
      have hti9o := hgt.2.2.2.2.2.2.2.2 x_i (List.mem_of_getElem? hgi)
      refine run_ro5 (w := .ref x_i) (rest := []) (kF (x := ⟨"java/util/List", "get", "(I)Ljava/lang/Object;"⟩) F hW (metJ2_get l E H L arr cap i x_i xs md hcx.2 hgi) (by decide +kernel) hat q433 q307 q309 q47 q311 hdJ2_getF ⟨Nat.le_of_ble_eq_true rfl, Nat.le_of_ble_eq_true rfl⟩ (recv hW hcx.2.1 rfl) hl.1 rfl (Nat.le_of_ble_eq_true rfl) dX0_move_34 ⟨Nat.le_of_ble_eq_true rfl, Nat.le_of_ble_eq_true rfl⟩) ?_
      refine xcast (ci := 5) F hW hx_i rfl q386 dX0_move_39 ?_
      refine lv_astore_n (lv' := [(3, .ref x_i), (0, .ref x), (1, .int (nI i)), (2, .int v)]) hx hb dX0_move_42 rfl hl (by decide) rfl (fun ls hl => ?_)
      refine lv_aload_n hx hb dX0_move_43 rfl (lv_at hl 0 rfl) ?_
      refine xget (ref := "LayeredCharters$Rule") (ci := 5) (v := .int ((ruA f i).2.1)) (C := RX6) (T := TX6) (N := 5) F in_X6 hW hx_i rfl 1 (by decide) q398 (fun _ h9 => h9) rfl dX0_move_44 ?_
      refine lv_if_ne (tgt := 57) hx hb dX0_move_47 (by decide) (fun c_3 => ?_) (fun c_3 => ?_)
      · skip
        refine lv_aload_n hx hb dX0_move_57 rfl (lv_at hl 1 rfl) ?_
        refine run_chN (rest := []) (kV F hW (metX0_record l E H tg x f n k hist sl z pd gl ln hx0 hgl6) (lw_V q220 q222 qs0 q42 q223) hdX0_record ⟨Nat.le_of_ble_eq_true rfl, Nat.le_of_ble_eq_true rfl⟩ (recv hW hxo rfl) hl.1 rfl (Nat.le_of_ble_eq_true rfl) dX0_move_58 ⟨by show 0 + 30 ≤ 31; omega, by show 0 + 581 ≤ 586; omega⟩) hS (fun _ h => h) (fun H_4 locs hp_4 hc_4 hS_4 => ?_)
        obtain ⟨tg1, hE1, hX1⟩ := hp_4
        have hz1 := hc_4.1
        have hb9 := hW.b0
        have hW1 := hW.kept hc_4 (XA.old (Nat.le_refl _))
        have hcR := hc_4
        have hX1' := hX1
        have hxi1 := hx_i.kept hcR (XA.no9 hx_i.lt hti9o)
        have hti9 : (tg1 x_i).2 = 9 := by rw [hE1 _ hx_i.lt]; exact hti9o
        obtain ⟨g1, hL1, sa1, pb1, pl1, wr1, hxo1, hxt1, hgs1, hrs1⟩ := hX1
        have hgs01 := hgs1
        obtain ⟨c1, L1, arr1, cap1, M1, arr21, cap21, b1, md1, md21, xs1, ys1, hgx1, hgt1, hvk1⟩ := hgs1
        have hgx01 := hgx1
        have hvk01 := hvk1
        obtain ⟨hg1, hcx1, hrl1, hal1, hmb1, hbl1⟩ := hgx1
        obtain ⟨hn01, hn241, hk01, hk101, hrok1, hmok1⟩ := hvk1
        have hc01 := hcx1.1
        have hcr1 : CR E c1 n (ruA f) H_4 := ⟨L1, md1, arr1, cap1, xs1, hcx1.1, hcx1.2, hrl1⟩
        have lx1 := hxo1.lt; have lg1 := hg1.lt; have lc1 := hc01.lt; have lL1 := hcx1.2.1.lt; have lM1 := hal1.1.lt
        refine lv_aload_n hx hb dX0_move_61 rfl (lv_at hl 1 rfl) ?_
        refine lv_iload_n hx hb dX0_move_62 rfl (lv_at hl 2 rfl) ?_
        refine lv_iload_n hx hb dX0_move_63 rfl (lv_at hl 3 rfl) ?_
        refine lv_aload_n hx hb dX0_move_64 rfl (lv_at hl 0 rfl) ?_
        refine xget (ref := "LayeredCharters$Rule") (ci := 5) (v := .int ((ruA f i).2.2.2.2)) (C := RX6) (T := TX6) (N := 5) F in_X6 hW1 hxi1 rfl 4 (by decide) q404 (fun _ h9 => h9) rfl dX0_move_65 ?_
        have hokc : RVok (v, (ruA f i).2.1, (ruA f i).2.2.1, (ruA f i).2.2.2.1, (ruA f i).2.2.2.2) := (hrok i hi).layer c_2 (fun h => absurd h c_3)
        refine run_chN (rest := []) (kV F hW1 (metX0_change l E H_4 tg1 x f n k (recH f hist gl) sl z pd (recK gl) ln hX1' i hi v ((ruA f i).2.2.2.2) hokc) (lw_V q434 q436 qs5 q42 q437) hdX0_change ⟨Nat.le_of_ble_eq_true rfl, Nat.le_of_ble_eq_true rfl⟩ (recv hW1 hxo1 rfl) hl.1 rfl (Nat.le_of_ble_eq_true rfl) dX0_move_68 ⟨by show 30 + 1 ≤ 31; omega, by show 581 + 5 ≤ 586; omega⟩) hS_4 (fun q9 h9 => XA.ext hE1 hz1 q9 h9) (fun H_5 locs hp_5 hc_5 hS_5 => ?_)
        obtain ⟨tg2, hE2, hX2⟩ := hp_5
        have hW2 := hW1.kept hc_5 (XA.old (Nat.le_refl _))
        have hxi2 := hxi1.kept hc_5 (XA.no9 hxi1.lt hti9)
        refine lv_aload_n hx hb dX0_move_71 rfl (lv_at hl 0 rfl) ?_
        refine xget (ref := "LayeredCharters$Rule") (ci := 5) (v := .int ((ruA f i).1)) (C := RX6) (T := TX6) (N := 5) F in_X6 hW2 hxi2 rfl 0 (by decide) q394 (fun _ h9 => h9) rfl dX0_move_72 ?_
        exact hend _ _ _ _ _ _ _ rfl dX0_move_75 (⟨_, rfl, PX.of (T' := ((ruA f i).1, upd f (9 + 5 * i) v, recH f hist gl, recK gl)) (by simp [moveT, c_1, c_2, c_3, ix_nI (show i < 2 ^ 31 by omega), show ∀ i, (ruA f i).1 = f (9 + 5 * i) from fun _ => rfl]) ⟨tg2, hE1.trans hE2 hz1, by rw [← chF_se]; exact hX2⟩⟩) hS_5 (by first | exact Nat.le_refl _ | (show (31 : Nat) ≤ 31; omega)) (by first | exact Nat.le_refl _ | (show (586 : Nat) ≤ 586; omega))
      · skip
        refine lv_iload_n hx hb dX0_move_50 rfl (lv_at hl 3 rfl) ?_
        refine lv_if_le (tgt := 57) hx hb dX0_move_51 (by decide) (fun c_6 => ?_) (fun c_6 => ?_)
        · skip
          refine lv_aload_n hx hb dX0_move_57 rfl (lv_at hl 1 rfl) ?_
          refine run_chN (rest := []) (kV F hW (metX0_record l E H tg x f n k hist sl z pd gl ln hx0 hgl6) (lw_V q220 q222 qs0 q42 q223) hdX0_record ⟨Nat.le_of_ble_eq_true rfl, Nat.le_of_ble_eq_true rfl⟩ (recv hW hxo rfl) hl.1 rfl (Nat.le_of_ble_eq_true rfl) dX0_move_58 ⟨by show 0 + 30 ≤ 31; omega, by show 0 + 581 ≤ 586; omega⟩) hS (fun _ h => h) (fun H_7 locs hp_7 hc_7 hS_7 => ?_)
          obtain ⟨tg1, hE1, hX1⟩ := hp_7
          have hz1 := hc_7.1
          have hb9 := hW.b0
          have hW1 := hW.kept hc_7 (XA.old (Nat.le_refl _))
          have hcR := hc_7
          have hX1' := hX1
          have hxi1 := hx_i.kept hcR (XA.no9 hx_i.lt hti9o)
          have hti9 : (tg1 x_i).2 = 9 := by rw [hE1 _ hx_i.lt]; exact hti9o
          obtain ⟨g1, hL1, sa1, pb1, pl1, wr1, hxo1, hxt1, hgs1, hrs1⟩ := hX1
          have hgs01 := hgs1
          obtain ⟨c1, L1, arr1, cap1, M1, arr21, cap21, b1, md1, md21, xs1, ys1, hgx1, hgt1, hvk1⟩ := hgs1
          have hgx01 := hgx1
          have hvk01 := hvk1
          obtain ⟨hg1, hcx1, hrl1, hal1, hmb1, hbl1⟩ := hgx1
          obtain ⟨hn01, hn241, hk01, hk101, hrok1, hmok1⟩ := hvk1
          have hc01 := hcx1.1
          have hcr1 : CR E c1 n (ruA f) H_7 := ⟨L1, md1, arr1, cap1, xs1, hcx1.1, hcx1.2, hrl1⟩
          have lx1 := hxo1.lt; have lg1 := hg1.lt; have lc1 := hc01.lt; have lL1 := hcx1.2.1.lt; have lM1 := hal1.1.lt
          refine lv_aload_n hx hb dX0_move_61 rfl (lv_at hl 1 rfl) ?_
          refine lv_iload_n hx hb dX0_move_62 rfl (lv_at hl 2 rfl) ?_
          refine lv_iload_n hx hb dX0_move_63 rfl (lv_at hl 3 rfl) ?_
          refine lv_aload_n hx hb dX0_move_64 rfl (lv_at hl 0 rfl) ?_
          refine xget (ref := "LayeredCharters$Rule") (ci := 5) (v := .int ((ruA f i).2.2.2.2)) (C := RX6) (T := TX6) (N := 5) F in_X6 hW1 hxi1 rfl 4 (by decide) q404 (fun _ h9 => h9) rfl dX0_move_65 ?_
          have hokc : RVok (v, (ruA f i).2.1, (ruA f i).2.2.1, (ruA f i).2.2.2.1, (ruA f i).2.2.2.2) := (hrok i hi).layer c_2 (fun _ => c_6)
          refine run_chN (rest := []) (kV F hW1 (metX0_change l E H_7 tg1 x f n k (recH f hist gl) sl z pd (recK gl) ln hX1' i hi v ((ruA f i).2.2.2.2) hokc) (lw_V q434 q436 qs5 q42 q437) hdX0_change ⟨Nat.le_of_ble_eq_true rfl, Nat.le_of_ble_eq_true rfl⟩ (recv hW1 hxo1 rfl) hl.1 rfl (Nat.le_of_ble_eq_true rfl) dX0_move_68 ⟨by show 30 + 1 ≤ 31; omega, by show 581 + 5 ≤ 586; omega⟩) hS_7 (fun q9 h9 => XA.ext hE1 hz1 q9 h9) (fun H_8 locs hp_8 hc_8 hS_8 => ?_)
          obtain ⟨tg2, hE2, hX2⟩ := hp_8
          have hW2 := hW1.kept hc_8 (XA.old (Nat.le_refl _))
          have hxi2 := hxi1.kept hc_8 (XA.no9 hxi1.lt hti9)
          refine lv_aload_n hx hb dX0_move_71 rfl (lv_at hl 0 rfl) ?_
          refine xget (ref := "LayeredCharters$Rule") (ci := 5) (v := .int ((ruA f i).1)) (C := RX6) (T := TX6) (N := 5) F in_X6 hW2 hxi2 rfl 0 (by decide) q394 (fun _ h9 => h9) rfl dX0_move_72 ?_
          exact hend _ _ _ _ _ _ _ rfl dX0_move_75 (⟨_, rfl, PX.of (T' := ((ruA f i).1, upd f (9 + 5 * i) v, recH f hist gl, recK gl)) (by simp [moveT, c_1, c_2, c_3, c_6, ix_nI (show i < 2 ^ 31 by omega), show ∀ i, (ruA f i).1 = f (9 + 5 * i) from fun _ => rfl]) ⟨tg2, hE1.trans hE2 hz1, by rw [← chF_se]; exact hX2⟩⟩) hS_8 (by first | exact Nat.le_refl _ | (show (31 : Nat) ≤ 31; omega)) (by first | exact Nat.le_refl _ | (show (586 : Nat) ≤ 586; omega))
        · skip
          refine lv_bipush (v := (-5)) hx hb dX0_move_54 (by decide) ?_
          exact hend _ _ _ _ _ _ _ rfl dX0_move_56 (⟨_, rfl, PX.of (T' := ((-5), f, hist, gl)) (by simp [moveT, c_1, c_2, c_3, c_6, ix_nI (show i < 2 ^ 31 by omega)]) ⟨tg, Ext.rf, hx0⟩⟩) hS (Nat.zero_le _) (Nat.zero_le _)
    · skip
      have bc_2 := c_2
      have c_2 := b2i_f c_2
      refine lv_iconst (v := (-1)) hx hb dX0_move_21 (by decide) ?_
      exact hend _ _ _ _ _ _ _ rfl dX0_move_22 (⟨_, rfl, PX.of (T' := ((-1), f, hist, gl)) (by simp [moveT, c_1, c_2]) ⟨tg, Ext.rf, hx0⟩⟩) hS (Nat.zero_le _) (Nat.zero_le _)

theorem hdX0_join : Hd yX0_join 2 := by decide +kernel
set_option maxHeartbeats 1000000 in
set_option maxRecDepth 100000 in
theorem metX0_join (l : Launch) (E : EV) (H : Heap) (tg : TG) (x : Nat) (f : Nat → Int32) (n k : Nat) (hist sl z pd : Nat → Int32) (gl ln : Nat) (hx : XR E tg x f n k hist sl z pd gl ln H) (hgl6 : gl ≤ 6) (c0 v : Int32) : Ct l yX0_join cX0_join 3 (some .int) 14 588 (32) (625) [.ref x, .int c0, .int v] E H (XA E tg H.size) (pI (fun r9 H1 => PX E tg H.size x sl z pd ln (joinT f hist gl k c0 v) r9 H1)) := by
  have hx0 := hx
  obtain ⟨g, hL, sa, pb, pl, wr, hxo, hxt, hgs, hrs⟩ := hx
  have hgs0 := hgs
  obtain ⟨c, L, arr, cap, M, arr2, cap2, b, md, md2, xs, ys, hgx, hgt, hvk⟩ := hgs
  have hgx0 := hgx
  have hvk0 := hvk
  obtain ⟨hg, hcx, hrl, hal, hmb, hbl⟩ := hgx
  obtain ⟨hn0, hn24, hk0, hk10, hrok, hmok⟩ := hvk
  have hc0 := hcx.1
  have hcr : CR E c n (ruA f) H := ⟨L, md, arr, cap, xs, hcx.1, hcx.2, hrl⟩
  refine Ct.ofZ (by decide) (Nat.le_of_ble_eq_true rfl) ?_
  intro p e s m bl mt cd ls Q hF hW hH hl hend
  obtain ⟨F, hin⟩ := hF
  have hx := F.1
  have hb := F.2.1
  have hts := F.2.2.2.2
  have hl : lv_has ls 3 [(0, .ref x), (1, .int c0), (2, .int v)] := hl
  have hS : va_S (XA E tg H.size) H H [] := va_S.rf
  obtain ⟨cC, hat⟩ := cat (ci := 6) hW rfl
  refine lv_iload_n hx hb dX0_join_0 rfl (lv_at hl 1 rfl) ?_
  refine run_ro (w := .int (b2i (inR c0 0 4))) (rest := []) (kS F hW (metX4_isCraft l E H c0) (lw_S q702 q703 q53 q704) hdX4_isCraft ⟨Nat.le_of_ble_eq_true rfl, Nat.le_of_ble_eq_true rfl⟩ hl.1 rfl (Nat.le_of_ble_eq_true rfl) dX0_join_1 ⟨Nat.le_of_ble_eq_true rfl, Nat.le_of_ble_eq_true rfl⟩) ?_
  refine lv_if_ne (tgt := 9) hx hb dX0_join_4 (by decide) (fun c_1 => ?_) (fun c_1 => ?_)
  · skip
    have bc_1 := c_1
    have c_1 := b2i_t c_1
    refine lv_iload_n hx hb dX0_join_9 rfl (lv_at hl 2 rfl) ?_
    refine run_ro (w := .int (b2i (inR v 0 9))) (rest := []) (kS F hW (metX4_isRank l E H v) (lw_S q705 q706 q53 q707) hdX4_isRank ⟨Nat.le_of_ble_eq_true rfl, Nat.le_of_ble_eq_true rfl⟩ hl.1 rfl (Nat.le_of_ble_eq_true rfl) dX0_join_10 ⟨Nat.le_of_ble_eq_true rfl, Nat.le_of_ble_eq_true rfl⟩) ?_
    refine lv_if_ne (tgt := 19) hx hb dX0_join_13 (by decide) (fun c_2 => ?_) (fun c_2 => ?_)
    · skip
      have bc_2 := c_2
      have c_2 := b2i_t c_2
      refine lv_aload_n hx hb dX0_join_19 rfl (lv_at hl 0 rfl) ?_
      refine xget (ref := "LayeredCharters") (ci := 0) (v := .ref g) (C := RX0) (T := TX0) (N := 6) F in_X0 hW hxo rfl 0 (by decide) q177 (fun _ h9 => h9) rfl dX0_join_20 ?_
      refine xget (ref := "LayeredCharters$Guild") (ci := 1) (v := .ref M) (C := RX1) (T := TX1) (N := 5) F in_X1 hW hg rfl 1 (by decide) q122 (fun _ h9 => h9) rfl dX0_join_23 ?_
      refine run_ro5 (w := .int (nI k)) (rest := []) (kF (x := ⟨"java/util/List", "size", "()I"⟩) F hW (metJ2_size l E H M arr2 md2 (nI k) (by have h9 := hal.1; rw [hmb.1] at h9; exact h9)) (by decide +kernel) hat q211 q215 q217 q47 q219 hdJ2_sizeF ⟨Nat.le_of_ble_eq_true rfl, Nat.le_of_ble_eq_true rfl⟩ (recv hW hal.1 rfl) hl.1 rfl (Nat.le_of_ble_eq_true rfl) dX0_join_26 ⟨Nat.le_of_ble_eq_true rfl, Nat.le_of_ble_eq_true rfl⟩) ?_
      refine lv_bipush (v := 10) hx hb dX0_join_31 (by decide) ?_
      refine lv_icmp_ne (tgt := 39) hx hb dX0_join_33 (by decide) (fun c_3 => ?_) (fun c_3 => ?_)
      · skip
        obtain ⟨cn, hcn, ecn⟩ := rng_of (b := 4) c_1 (by decide)
        subst ecn
        obtain ⟨rn, hrn, ern⟩ := rng_of (b := 9) c_2 (by decide)
        subst ern
        have k10 : k < 10 := Nat.lt_of_le_of_ne hk10 (fun h => c_3 ((nI_eq10 hk10).mpr h))
        refine lv_aload_n hx hb dX0_join_39 rfl (lv_at hl 0 rfl) ?_
        refine run_chN (rest := []) (kV F hW (metX0_record l E H tg x f n k hist sl z pd gl ln hx0 hgl6) (lw_V q220 q222 qs0 q42 q223) hdX0_record ⟨Nat.le_of_ble_eq_true rfl, Nat.le_of_ble_eq_true rfl⟩ (recv hW hxo rfl) hl.1 rfl (Nat.le_of_ble_eq_true rfl) dX0_join_40 ⟨by show 0 + 30 ≤ 32; omega, by show 0 + 581 ≤ 625; omega⟩) hS (fun _ h => h) (fun H_4 locs hp_4 hc_4 hS_4 => ?_)
        obtain ⟨tg1, hE1, hX1⟩ := hp_4
        have hz1 := hc_4.1
        have hb9 := hW.b0
        have hW1 := hW.kept hc_4 (XA.old (Nat.le_refl _))
        have hcR := hc_4
        have hX1' := hX1
        obtain ⟨g1, hL1, sa1, pb1, pl1, wr1, hxo1, hxt1, hgs1, hrs1⟩ := hX1
        have hgs01 := hgs1
        obtain ⟨c1, L1, arr1, cap1, M1, arr21, cap21, b1, md1, md21, xs1, ys1, hgx1, hgt1, hvk1⟩ := hgs1
        have hgx01 := hgx1
        have hvk01 := hvk1
        obtain ⟨hg1, hcx1, hrl1, hal1, hmb1, hbl1⟩ := hgx1
        obtain ⟨hn01, hn241, hk01, hk101, hrok1, hmok1⟩ := hvk1
        have hc01 := hcx1.1
        have hcr1 : CR E c1 n (ruA f) H_4 := ⟨L1, md1, arr1, cap1, xs1, hcx1.1, hcx1.2, hrl1⟩
        have lx1 := hxo1.lt; have lg1 := hg1.lt; have lc1 := hc01.lt; have lL1 := hcx1.2.1.lt; have lM1 := hal1.1.lt
        refine lv_aload_n hx hb dX0_join_43 rfl (lv_at hl 0 rfl) ?_
        refine xget (ref := "LayeredCharters") (ci := 0) (v := .ref g1) (C := RX0) (T := TX0) (N := 6) F in_X0 hW1 hxo1 rfl 0 (by decide) q177 (fun _ h9 => h9) rfl dX0_join_44 ?_
        refine xget (ref := "LayeredCharters$Guild") (ci := 1) (v := .ref M1) (C := RX1) (T := TX1) (N := 5) F in_X1 hW1 hg1 rfl 1 (by decide) q122 (fun _ h9 => h9) rfl dX0_join_47 ?_
        refine xnew (ci := 4) (fs := [.int 0, .int 0, .int 0, .int 0]) (C := RX5) (T := TX5) (N := 4) F in_X5 tyX5 tyX5_ok q708 q328 q60 hW1 hS_4 rfl (fun j hj => by rcases (show j = 0 ∨ j = 1 ∨ j = 2 ∨ j = 3 by omega) with rfl | rfl | rfl | rfl <;> rfl) (by show 30 + 1 ≤ 32; omega) (by show 581 + 4 ≤ 625; omega) dX0_join_50 (fun H_5 ho_5 hp_5 hS_5 => ?_)
        have hz_H_5 : H_5.size = H_4.size + 1 := hp_5.1
        have hW_H_5 := hW1.kept (hp_5.chg (A := fun _ => False)) (fun _ _ h9 => h9.elim)
        have hxo1_H_5 := hxo1.kept (hp_5.chg (A := fun _ => False)) (fun h9 => h9)
        have hg1_H_5 := hg1.kept (hp_5.chg (A := fun _ => False)) (fun h9 => h9)
        have hc01_H_5 := hc01.kept (hp_5.chg (A := fun _ => False)) (fun h9 => h9)
        refine lv_dup hx hb dX0_join_53 rfl ?_
        refine lv_iload_n hx hb dX0_join_54 rfl (lv_at hl 1 rfl) ?_
        refine lv_iload_n hx hb dX0_join_55 rfl (lv_at hl 2 rfl) ?_
        refine run_chN (rest := [.ref H_4.size, .ref M1]) (kI F hW_H_5 (metX5_init l E H_5 H_4.size (Nat.le_trans (show E.2.2.1 ≤ H.size from hW.2.2) (by omega)) (nI cn) (nI rn) ho_5) q331 q60 q709 q330 rfl hdX5_init ⟨Nat.le_of_ble_eq_true rfl, Nat.le_of_ble_eq_true rfl⟩ hl.1 rfl (Nat.le_of_ble_eq_true rfl) dX0_join_56 ⟨by show 31 + 0 ≤ 32; omega, by show 585 + 0 ≤ 625; omega⟩) hS_5 (fun q9 h9 => Or.inr (by have h8 : q9 = H_4.size := h9; omega)) (fun H_6 locs hp_6 hc_6 hS_6 => ?_)
        have hcI := hc_6
        have hz_H_6 := hc_6.1
        have hW_H_6 := hW_H_5.kept hc_6 (fun q9 _ h9 => h9 ▸ (Nat.le_trans (show E.2.2.1 ≤ H.size from hW.2.2) (by omega)))
        have hxo1_H_6 := hxo1_H_5.kept hc_6 (fun h9 => by have h8 : x = H_4.size := h9; omega)
        have hg1_H_6 := hg1_H_5.kept hc_6 (fun h9 => by have h8 : g1 = H_4.size := h9; omega)
        have hc01_H_6 := hc01_H_5.kept hc_6 (fun h9 => by have h8 : c1 = H_4.size := h9; omega)
        have hv_I := hp_6
        have hch : Chg (fun q => H_4.size ≤ q) H_4 H_6 := ((hp_5.chg (A := fun q => H_4.size ≤ q))).trans2 hcI (fun q h1 h2 => by have h3 : q = H_4.size := h2; show H_4.size ≤ q; omega)
        have hALc := hal1.ext hW1 hch
        have hvl := hv_I.lt
        have hvL : ¬ LA E M1 arr21 H_6.size H_4.size := fun h9 => h9.elim (fun h8 => by have h7 : H_4.size = M1 := h8; omega) (fun h8 => h8.elim (fun h7 => Arr.ne hW_H_6 hALc.2 hv_I (h7.1 ▸ h7.2) h7.1.symm) (fun h7 => absurd hvl (Nat.not_lt.mpr h7)))
        refine run_ch5I (rest := []) (kF (x := ⟨"java/util/List", "add", "(Ljava/lang/Object;)Z"⟩) F hW_H_6 (metJ2_add l E H_6 M1 arr21 cap21 H_4.size ys1 md21 hgt1.2.2.2.1.1 hALc (fun y hy => ⟨(hmb1.elt y hy).kept hch (Nat.not_le.mpr (hmb1.lt hy)), tne (hgt1.2.2.2.2.2.2.2.1 y hy).2 hgt1.2.2.2.1.2 (by decide)⟩) ⟨4, _, _, hv_I, rfl, by decide +kernel⟩ (by omega) (by rw [hmb1.1]; omega)) (by decide +kernel) hat q372 q358 q360 q47 q362 hdJ2_addF ⟨Nat.le_of_ble_eq_true rfl, Nat.le_of_ble_eq_true rfl⟩ (recv hW_H_6 hALc.1 rfl) hl.1 rfl (Nat.le_of_ble_eq_true rfl) dX0_join_59 ⟨by show 31 + 1 ≤ 32; omega, by show 585 + 40 ≤ 625; omega⟩) hS_6 (fun q9 h9 => XA.ext hE1 hz1 q9 (((TgA.la hgt1.2.2.2.1.2 hgt1.2.2.2.2.2.2.1).xa (LA.old (n := 0) hW1 hgt1.2.2.2.1.1) (by decide)) q9 (LA.mono h9 hch.1))) (fun r_7 H_7 locs hp_7 hc_7 hS_7 => ?_)
        obtain ⟨arr', cap', hAL2, hor⟩ := hp_7
        have hcT : Chg (LA E M1 arr21 H_4.size) H_4 H_7 := (hch.weak (fun q _ h => Or.inr (Or.inr h))).trans2 hc_7 (fun q h1 h2 => LA.mono h2 hch.1)
        have hW2 := hW_H_6.kept hc_7 (LA.old (n := 0) hW_H_6 hgt1.2.2.2.1.1)
        have hv2 := hv_I.kept hc_7 hvL
        have hX2 := XR.join hW1 hW2 hxo1 hxt1 hgx01 hgt1 hvk01 hrs1 hcT hAL2 (hor.imp id (fun h => Nat.le_trans hch.1 h)) hv2 (Nat.le_refl _) k10 (by omega) (by omega)
        have hX2' := hX2
        obtain ⟨g2, hL2, sa2, pb2, pl2, wr2, hxo2, hxt2, hgs2, hrs2⟩ := hX2
        have hgs02 := hgs2
        obtain ⟨c2, L2, arr2, cap2, M2, arr22, cap22, b2, md2, md22, xs2, ys2, hgx2, hgt2, hvk2⟩ := hgs2
        have hgx02 := hgx2
        have hvk02 := hvk2
        obtain ⟨hg2, hcx2, hrl2, hal2, hmb2, hbl2⟩ := hgx2
        obtain ⟨hn02, hn242, hk02, hk102, hrok2, hmok2⟩ := hvk2
        have hc02 := hcx2.1
        have hcr2 : CR E c2 n (ruA (joinF f k (nI cn) (nI rn))) H_7 := ⟨L2, md2, arr2, cap2, xs2, hcx2.1, hcx2.2, hrl2⟩
        have lx2 := hxo2.lt; have lg2 := hg2.lt; have lc2 := hc02.lt; have lL2 := hcx2.2.1.lt; have lM2 := hal2.1.lt
        refine lv_pop hx hb dX0_join_64 rfl ?_
        refine lv_aload_n hx hb dX0_join_65 rfl (lv_at hl 0 rfl) ?_
        refine xget (ref := "LayeredCharters") (ci := 0) (v := .ref g2) (C := RX0) (T := TX0) (N := 6) F in_X0 hW2 hxo2 rfl 0 (by decide) q177 (fun _ h9 => h9) rfl dX0_join_66 ?_
        refine xget (ref := "LayeredCharters$Guild") (ci := 1) (v := .ref M2) (C := RX1) (T := TX1) (N := 5) F in_X1 hW2 hg2 rfl 1 (by decide) q122 (fun _ h9 => h9) rfl dX0_join_69 ?_
        refine run_ro5 (w := .int (nI (k + 1))) (rest := []) (kF (x := ⟨"java/util/List", "size", "()I"⟩) F hW2 (metJ2_size l E H_7 M2 arr22 md22 (nI (k + 1)) (by have h9 := hal2.1; rw [hmb2.1] at h9; exact h9)) (by decide +kernel) hat q211 q215 q217 q47 q219 hdJ2_sizeF ⟨Nat.le_of_ble_eq_true rfl, Nat.le_of_ble_eq_true rfl⟩ (recv hW2 hal2.1 rfl) hl.1 rfl (Nat.le_of_ble_eq_true rfl) dX0_join_72 ⟨Nat.le_of_ble_eq_true rfl, Nat.le_of_ble_eq_true rfl⟩) ?_
        refine lv_iconst (v := 1) hx hb dX0_join_77 (by decide) ?_
        refine lv_isub hx hb dX0_join_78 ?_
        refine lv_val (y := nI k) (nI_pred k) ?_
        exact hend _ _ _ _ _ _ _ rfl dX0_join_79 (⟨_, rfl, PX.of (T' := (nI k, joinF f k (nI cn) (nI rn), recH f hist gl, recK gl)) (by have h10 : ¬ k = 10 := (by omega); simp [joinT, c_1, c_2, c_3, h10]) ⟨_, hE1.trans tgV_ext hz1, hX2'⟩⟩) hS_7 (by first | exact Nat.le_refl _ | (show (32 : Nat) ≤ 32; omega)) (by first | exact Nat.le_refl _ | (show (625 : Nat) ≤ 625; omega))
      · skip
        refine lv_bipush (v := (-4)) hx hb dX0_join_36 (by decide) ?_
        exact hend _ _ _ _ _ _ _ rfl dX0_join_38 (⟨_, rfl, PX.of (T' := ((-4), f, hist, gl)) (by simp [joinT, c_1, c_2, c_3, (nI_eq10 hk10).mp c_3]) ⟨tg, Ext.rf, hx0⟩⟩) hS (Nat.zero_le _) (Nat.zero_le _)
    · skip
      have bc_2 := c_2
      have c_2 := b2i_f c_2
      refine lv_bipush (v := (-2)) hx hb dX0_join_16 (by decide) ?_
      exact hend _ _ _ _ _ _ _ rfl dX0_join_18 (⟨_, rfl, PX.of (T' := ((-2), f, hist, gl)) (by simp [joinT, c_1, c_2]) ⟨tg, Ext.rf, hx0⟩⟩) hS (Nat.zero_le _) (Nat.zero_le _)
  · skip
    have bc_1 := c_1
    have c_1 := b2i_f c_1
    refine lv_iconst (v := (-1)) hx hb dX0_join_7 (by decide) ?_
    exact hend _ _ _ _ _ _ _ rfl dX0_join_8 (⟨_, rfl, PX.of (T' := ((-1), f, hist, gl)) (by simp [joinT, c_1]) ⟨tg, Ext.rf, hx0⟩⟩) hS (Nat.zero_le _) (Nat.zero_le _)

theorem hdX0_leave : Hd yX0_leave 1 := by decide +kernel
set_option maxHeartbeats 1000000 in
set_option maxRecDepth 100000 in
theorem metX0_leave (l : Launch) (E : EV) (H : Heap) (tg : TG) (x : Nat) (f : Nat → Int32) (n k : Nat) (hist sl z pd : Nat → Int32) (gl ln : Nat) (hx : XR E tg x f n k hist sl z pd gl ln H) (hgl6 : gl ≤ 6) (j : Int32) : Ct l yX0_leave cX0_leave 2 (some .int) 14 588 (30) (581) [.ref x, .int j] E H (XA E tg H.size) (pI (fun r9 H1 => PX E tg H.size x sl z pd ln (leaveT f hist gl k j) r9 H1)) := by
  have hx0 := hx
  obtain ⟨g, hL, sa, pb, pl, wr, hxo, hxt, hgs, hrs⟩ := hx
  have hgs0 := hgs
  obtain ⟨c, L, arr, cap, M, arr2, cap2, b, md, md2, xs, ys, hgx, hgt, hvk⟩ := hgs
  have hgx0 := hgx
  have hvk0 := hvk
  obtain ⟨hg, hcx, hrl, hal, hmb, hbl⟩ := hgx
  obtain ⟨hn0, hn24, hk0, hk10, hrok, hmok⟩ := hvk
  have hc0 := hcx.1
  have hcr : CR E c n (ruA f) H := ⟨L, md, arr, cap, xs, hcx.1, hcx.2, hrl⟩
  refine Ct.ofZ (by decide) (Nat.le_of_ble_eq_true rfl) ?_
  intro p e s m bl mt cd ls Q hF hW hH hl hend
  obtain ⟨F, hin⟩ := hF
  have hx := F.1
  have hb := F.2.1
  have hts := F.2.2.2.2
  have hl : lv_has ls 2 [(0, .ref x), (1, .int j)] := hl
  have hS : va_S (XA E tg H.size) H H [] := va_S.rf
  obtain ⟨cC, hat⟩ := cat (ci := 6) hW rfl
  refine lv_aload_n hx hb dX0_leave_0 rfl (lv_at hl 0 rfl) ?_
  refine xget (ref := "LayeredCharters") (ci := 0) (v := .ref g) (C := RX0) (T := TX0) (N := 6) F in_X0 hW hxo rfl 0 (by decide) q177 (fun _ h9 => h9) rfl dX0_leave_1 ?_
  refine lv_iload_n hx hb dX0_leave_4 rfl (lv_at hl 1 rfl) ?_
  refine run_ro (w := .int (b2i (inR j 0 (nI k - 1)))) (rest := []) (kV F hW (metX1_hasMember l E H g c L arr cap M arr2 cap2 b md md2 xs ys n (ruA f) k (mbA f) (f 2) (fun j => f (3 + j)) (f 8) hgx0 j) (lw_V q714 q715 q716 q43 q717) hdX1_hasMember ⟨Nat.le_of_ble_eq_true rfl, Nat.le_of_ble_eq_true rfl⟩ (recv hW hg rfl) hl.1 rfl (Nat.le_of_ble_eq_true rfl) dX0_leave_5 ⟨Nat.le_of_ble_eq_true rfl, Nat.le_of_ble_eq_true rfl⟩) ?_
  refine lv_if_ne (tgt := 13) hx hb dX0_leave_8 (by decide) (fun c_1 => ?_) (fun c_1 => ?_)
  · skip
    have bc_1 := c_1
    have c_1 := b2i_t c_1
    obtain ⟨i, hi, eri⟩ := idx_of c_1 (by omega)
    subst eri
    refine lv_aload_n hx hb dX0_leave_13 rfl (lv_at hl 0 rfl) ?_
    refine run_chN (rest := []) (kV F hW (metX0_record l E H tg x f n k hist sl z pd gl ln hx0 hgl6) (lw_V q220 q222 qs0 q42 q223) hdX0_record ⟨Nat.le_of_ble_eq_true rfl, Nat.le_of_ble_eq_true rfl⟩ (recv hW hxo rfl) hl.1 rfl (Nat.le_of_ble_eq_true rfl) dX0_leave_14 ⟨by show 0 + 30 ≤ 30; omega, by show 0 + 581 ≤ 581; omega⟩) hS (fun _ h => h) (fun H_2 locs hp_2 hc_2 hS_2 => ?_)
    obtain ⟨tg1, hE1, hX1⟩ := hp_2
    have hz1 := hc_2.1
    have hb9 := hW.b0
    have hW1 := hW.kept hc_2 (XA.old (Nat.le_refl _))
    have hcR := hc_2
    have hX1' := hX1
    obtain ⟨g1, hL1, sa1, pb1, pl1, wr1, hxo1, hxt1, hgs1, hrs1⟩ := hX1
    have hgs01 := hgs1
    obtain ⟨c1, L1, arr1, cap1, M1, arr21, cap21, b1, md1, md21, xs1, ys1, hgx1, hgt1, hvk1⟩ := hgs1
    have hgx01 := hgx1
    have hvk01 := hvk1
    obtain ⟨hg1, hcx1, hrl1, hal1, hmb1, hbl1⟩ := hgx1
    obtain ⟨hn01, hn241, hk01, hk101, hrok1, hmok1⟩ := hvk1
    have hc01 := hcx1.1
    have hcr1 : CR E c1 n (ruA f) H_2 := ⟨L1, md1, arr1, cap1, xs1, hcx1.1, hcx1.2, hrl1⟩
    have lx1 := hxo1.lt; have lg1 := hg1.lt; have lc1 := hc01.lt; have lL1 := hcx1.2.1.lt; have lM1 := hal1.1.lt
    refine lv_aload_n hx hb dX0_leave_17 rfl (lv_at hl 0 rfl) ?_
    refine xget (ref := "LayeredCharters") (ci := 0) (v := .ref g1) (C := RX0) (T := TX0) (N := 6) F in_X0 hW1 hxo1 rfl 0 (by decide) q177 (fun _ h9 => h9) rfl dX0_leave_18 ?_
    refine xget (ref := "LayeredCharters$Guild") (ci := 1) (v := .ref M1) (C := RX1) (T := TX1) (N := 5) F in_X1 hW1 hg1 rfl 1 (by decide) q122 (fun _ h9 => h9) rfl dX0_leave_21 ?_
    refine lv_iload_n hx hb dX0_leave_24 rfl (lv_at hl 1 rfl) ?_
    obtain ⟨y_i, hgi⟩ : ∃ y, ys1[i]? = some y := ⟨_, List.getElem?_eq_getElem (show i < ys1.length by rw [hmb1.1]; exact hi)⟩
    have hy_i := hmb1.2.2.2 i y_i hgi
    have hty := hgt1.2.2.2.2.2.2.2.1 y_i (List.mem_of_getElem? hgi)
    refine run_ch5A (rest := []) (kF (x := ⟨"java/util/List", "remove", "(I)Ljava/lang/Object;"⟩) F hW1 (metJ2_remove l E H_2 M1 arr21 cap21 i ys1 md21 hgt1.2.2.2.1.1 hal1 (fun y hy => ⟨hmb1.elt y hy, tne (hgt1.2.2.2.2.2.2.2.1 y hy).2 hgt1.2.2.2.1.2 (by decide)⟩) y_i hgi (by rw [hmb1.1]; omega)) (by decide +kernel) hat q374 q377 q379 q47 q381 hdJ2_removeF ⟨Nat.le_of_ble_eq_true rfl, Nat.le_of_ble_eq_true rfl⟩ (recv hW1 hal1.1 rfl) hl.1 rfl (Nat.le_of_ble_eq_true rfl) dX0_leave_25 ⟨by show 30 + 0 ≤ 30; omega, by show 581 + 0 ≤ 581; omega⟩) hS_2 (fun q9 h9 => XA.ext hE1 hz1 q9 (((TgA.lb hgt1.2.2.2.1.2 hgt1.2.2.2.2.2.2.1).xa (fun q h1 h2 => h2.elim (fun h => h ▸ hgt1.2.2.2.1.1) (fun h => h.2)) (by decide)) q9 h9)) (fun r_3 H_3 locs hp_3 hc_3 hS_3 => ?_)
    obtain ⟨er, hAL2⟩ := hp_3
    subst er
    have hW2 := hW1.kept hc_3 (fun q h1 h2 => h2.elim (fun h => h ▸ hgt1.2.2.2.1.1) (fun h => h.2))
    have hX2 := XR.leave hW1 hxo1 hxt1 hgx01 hgt1 hvk01 hrs1 hc_3 hAL2 hi
    have hy2 := hy_i.kept hc_3 ((TgA.lb hgt1.2.2.2.1.2 hgt1.2.2.2.2.2.2.1).no hy_i.lt hty.2 (by decide))
    refine xcast (ci := 4) F hW2 hy2 rfl q708 dX0_leave_30 ?_
    refine xget (ref := "LayeredCharters$Member") (ci := 4) (v := .int ((mbA f i).2.2.1)) (C := RX5) (T := TX5) (N := 4) F in_X5 hW2 hy2 rfl 2 (by decide) q341 (fun _ h9 => h9) rfl dX0_leave_33 ?_
    exact hend _ _ _ _ _ _ _ rfl dX0_leave_36 (⟨_, rfl, PX.of (T' := ((mbA f i).2.2.1, leaF f k i, recH f hist gl, recK gl)) (by simp [leaveT, c_1, ix_nI (show i < 2 ^ 31 by omega), mbA]) ⟨_, hE1, hX2⟩⟩) hS_3 (by first | exact Nat.le_refl _ | (show (30 : Nat) ≤ 30; omega)) (by first | exact Nat.le_refl _ | (show (581 : Nat) ≤ 581; omega))
  · skip
    have bc_1 := c_1
    have c_1 := b2i_f c_1
    refine lv_iconst (v := (-1)) hx hb dX0_leave_11 (by decide) ?_
    exact hend _ _ _ _ _ _ _ rfl dX0_leave_12 (⟨_, rfl, PX.of (T' := ((-1), f, hist, gl)) (by simp [leaveT, c_1]) ⟨tg, Ext.rf, hx0⟩⟩) hS (Nat.zero_le _) (Nat.zero_le _)

theorem hdX0_rank : Hd yX0_rank 2 := by decide +kernel
set_option maxHeartbeats 1000000 in
set_option maxRecDepth 100000 in
theorem metX0_rank (l : Launch) (E : EV) (H : Heap) (tg : TG) (x : Nat) (f : Nat → Int32) (n k : Nat) (hist sl z pd : Nat → Int32) (gl ln : Nat) (hx : XR E tg x f n k hist sl z pd gl ln H) (hgl6 : gl ≤ 6) (j v : Int32) : Ct l yX0_rank cX0_rank 4 (some .int) 14 588 (30) (581) [.ref x, .int j, .int v] E H (XA E tg H.size) (pI (fun r9 H1 => PX E tg H.size x sl z pd ln (rankT f hist gl k j v) r9 H1)) := by
  have hx0 := hx
  obtain ⟨g, hL, sa, pb, pl, wr, hxo, hxt, hgs, hrs⟩ := hx
  have hgs0 := hgs
  obtain ⟨c, L, arr, cap, M, arr2, cap2, b, md, md2, xs, ys, hgx, hgt, hvk⟩ := hgs
  have hgx0 := hgx
  have hvk0 := hvk
  obtain ⟨hg, hcx, hrl, hal, hmb, hbl⟩ := hgx
  obtain ⟨hn0, hn24, hk0, hk10, hrok, hmok⟩ := hvk
  have hc0 := hcx.1
  have hcr : CR E c n (ruA f) H := ⟨L, md, arr, cap, xs, hcx.1, hcx.2, hrl⟩
  refine Ct.ofZ (by decide) (Nat.le_of_ble_eq_true rfl) ?_
  intro p e s m bl mt cd ls Q hF hW hH hl hend
  obtain ⟨F, hin⟩ := hF
  have hx := F.1
  have hb := F.2.1
  have hts := F.2.2.2.2
  have hl : lv_has ls 4 [(0, .ref x), (1, .int j), (2, .int v)] := hl
  have hS : va_S (XA E tg H.size) H H [] := va_S.rf
  obtain ⟨cC, hat⟩ := cat (ci := 6) hW rfl
  refine lv_aload_n hx hb dX0_rank_0 rfl (lv_at hl 0 rfl) ?_
  refine xget (ref := "LayeredCharters") (ci := 0) (v := .ref g) (C := RX0) (T := TX0) (N := 6) F in_X0 hW hxo rfl 0 (by decide) q177 (fun _ h9 => h9) rfl dX0_rank_1 ?_
  refine lv_iload_n hx hb dX0_rank_4 rfl (lv_at hl 1 rfl) ?_
  refine run_ro (w := .int (b2i (inR j 0 (nI k - 1)))) (rest := []) (kV F hW (metX1_hasMember l E H g c L arr cap M arr2 cap2 b md md2 xs ys n (ruA f) k (mbA f) (f 2) (fun j => f (3 + j)) (f 8) hgx0 j) (lw_V q714 q715 q716 q43 q717) hdX1_hasMember ⟨Nat.le_of_ble_eq_true rfl, Nat.le_of_ble_eq_true rfl⟩ (recv hW hg rfl) hl.1 rfl (Nat.le_of_ble_eq_true rfl) dX0_rank_5 ⟨Nat.le_of_ble_eq_true rfl, Nat.le_of_ble_eq_true rfl⟩) ?_
  refine lv_if_ne (tgt := 13) hx hb dX0_rank_8 (by decide) (fun c_1 => ?_) (fun c_1 => ?_)
  · skip
    have bc_1 := c_1
    have c_1 := b2i_t c_1
    refine lv_iload_n hx hb dX0_rank_13 rfl (lv_at hl 2 rfl) ?_
    refine run_ro (w := .int (b2i (inR v 0 9))) (rest := []) (kS F hW (metX4_isRank l E H v) (lw_S q705 q706 q53 q707) hdX4_isRank ⟨Nat.le_of_ble_eq_true rfl, Nat.le_of_ble_eq_true rfl⟩ hl.1 rfl (Nat.le_of_ble_eq_true rfl) dX0_rank_14 ⟨Nat.le_of_ble_eq_true rfl, Nat.le_of_ble_eq_true rfl⟩) ?_
    refine lv_if_ne (tgt := 23) hx hb dX0_rank_17 (by decide) (fun c_2 => ?_) (fun c_2 => ?_)
    · skip
      have bc_2 := c_2
      have c_2 := b2i_t c_2
      obtain ⟨i, hi, eri⟩ := idx_of c_1 (by omega)
      subst eri
      obtain ⟨rn, hrn, ern⟩ := rng_of (b := 9) c_2 (by decide)
      subst ern
      refine lv_aload_n hx hb dX0_rank_23 rfl (lv_at hl 0 rfl) ?_
      refine run_chN (rest := []) (kV F hW (metX0_record l E H tg x f n k hist sl z pd gl ln hx0 hgl6) (lw_V q220 q222 qs0 q42 q223) hdX0_record ⟨Nat.le_of_ble_eq_true rfl, Nat.le_of_ble_eq_true rfl⟩ (recv hW hxo rfl) hl.1 rfl (Nat.le_of_ble_eq_true rfl) dX0_rank_24 ⟨by show 0 + 30 ≤ 30; omega, by show 0 + 581 ≤ 581; omega⟩) hS (fun _ h => h) (fun H_3 locs hp_3 hc_3 hS_3 => ?_)
      obtain ⟨tg1, hE1, hX1⟩ := hp_3
      have hz1 := hc_3.1
      have hb9 := hW.b0
      have hW1 := hW.kept hc_3 (XA.old (Nat.le_refl _))
      have hcR := hc_3
      have hX1' := hX1
      obtain ⟨g1, hL1, sa1, pb1, pl1, wr1, hxo1, hxt1, hgs1, hrs1⟩ := hX1
      have hgs01 := hgs1
      obtain ⟨c1, L1, arr1, cap1, M1, arr21, cap21, b1, md1, md21, xs1, ys1, hgx1, hgt1, hvk1⟩ := hgs1
      have hgx01 := hgx1
      have hvk01 := hvk1
      obtain ⟨hg1, hcx1, hrl1, hal1, hmb1, hbl1⟩ := hgx1
      obtain ⟨hn01, hn241, hk01, hk101, hrok1, hmok1⟩ := hvk1
      have hc01 := hcx1.1
      have hcr1 : CR E c1 n (ruA f) H_3 := ⟨L1, md1, arr1, cap1, xs1, hcx1.1, hcx1.2, hrl1⟩
      have lx1 := hxo1.lt; have lg1 := hg1.lt; have lc1 := hc01.lt; have lL1 := hcx1.2.1.lt; have lM1 := hal1.1.lt
      refine lv_aload_n hx hb dX0_rank_27 rfl (lv_at hl 0 rfl) ?_
      refine xget (ref := "LayeredCharters") (ci := 0) (v := .ref g1) (C := RX0) (T := TX0) (N := 6) F in_X0 hW1 hxo1 rfl 0 (by decide) q177 (fun _ h9 => h9) rfl dX0_rank_28 ?_
      refine xget (ref := "LayeredCharters$Guild") (ci := 1) (v := .ref M1) (C := RX1) (T := TX1) (N := 5) F in_X1 hW1 hg1 rfl 1 (by decide) q122 (fun _ h9 => h9) rfl dX0_rank_31 ?_
      refine lv_iload_n hx hb dX0_rank_34 rfl (lv_at hl 1 rfl) ?_
      obtain ⟨y_i, hgi⟩ : ∃ y, ys1[i]? = some y := ⟨_, List.getElem?_eq_getElem (show i < ys1.length by rw [hmb1.1]; exact hi)⟩
      have hy_i := hmb1.2.2.2 i y_i hgi
      have hty := hgt1.2.2.2.2.2.2.2.1 y_i (List.mem_of_getElem? hgi)
      refine run_ro5 (w := .ref y_i) (rest := []) (kF (x := ⟨"java/util/List", "get", "(I)Ljava/lang/Object;"⟩) F hW1 (metJ2_get l E H_3 M1 arr21 cap21 i y_i ys1 md21 hal1 hgi) (by decide +kernel) hat q433 q307 q309 q47 q311 hdJ2_getF ⟨Nat.le_of_ble_eq_true rfl, Nat.le_of_ble_eq_true rfl⟩ (recv hW1 hal1.1 rfl) hl.1 rfl (Nat.le_of_ble_eq_true rfl) dX0_rank_35 ⟨Nat.le_of_ble_eq_true rfl, Nat.le_of_ble_eq_true rfl⟩) ?_
      refine xcast (ci := 4) F hW1 hy_i rfl q708 dX0_rank_40 ?_
      refine xget (ref := "LayeredCharters$Member") (ci := 4) (v := .int ((mbA f i).2.1)) (C := RX5) (T := TX5) (N := 4) F in_X5 hW1 hy_i rfl 1 (by decide) q338 (fun _ h9 => h9) rfl dX0_rank_43 ?_
      refine lv_istore_n (lv' := [(3, .int ((mbA f i).2.1)), (0, .ref x), (1, .int (nI i)), (2, .int (nI rn))]) hx hb dX0_rank_46 rfl hl (by decide) rfl (fun ls hl => ?_)
      refine lv_aload_n hx hb dX0_rank_47 rfl (lv_at hl 1 rfl) ?_
      refine xget (ref := "LayeredCharters") (ci := 0) (v := .ref g1) (C := RX0) (T := TX0) (N := 6) F in_X0 hW1 hxo1 rfl 0 (by decide) q177 (fun _ h9 => h9) rfl dX0_rank_48 ?_
      refine xget (ref := "LayeredCharters$Guild") (ci := 1) (v := .ref M1) (C := RX1) (T := TX1) (N := 5) F in_X1 hW1 hg1 rfl 1 (by decide) q122 (fun _ h9 => h9) rfl dX0_rank_51 ?_
      refine lv_iload_n hx hb dX0_rank_54 rfl (lv_at hl 2 rfl) ?_
      refine run_ro5 (w := .ref y_i) (rest := []) (kF (x := ⟨"java/util/List", "get", "(I)Ljava/lang/Object;"⟩) F hW1 (metJ2_get l E H_3 M1 arr21 cap21 i y_i ys1 md21 hal1 hgi) (by decide +kernel) hat q433 q307 q309 q47 q311 hdJ2_getF ⟨Nat.le_of_ble_eq_true rfl, Nat.le_of_ble_eq_true rfl⟩ (recv hW1 hal1.1 rfl) hl.1 rfl (Nat.le_of_ble_eq_true rfl) dX0_rank_55 ⟨Nat.le_of_ble_eq_true rfl, Nat.le_of_ble_eq_true rfl⟩) ?_
      refine xcast (ci := 4) F hW1 hy_i rfl q708 dX0_rank_60 ?_
      refine lv_iload_n hx hb dX0_rank_63 rfl (lv_at hl 3 rfl) ?_
      refine xput (ref := "LayeredCharters$Member") (ci := 4) (v := .int (nI rn)) (C := RX5) (T := TX5) (N := 4) F in_X5 tyX5 tyX5_ok nmX5 hW1 hy_i hS_3 (XA.ext hE1 hz1 _ (XA.of hty (by decide) (by decide))) rfl 1 (by decide) q338 (fun _ h9 => h9) rfl rfl rfl (Nat.le_of_ble_eq_true rfl) dX0_rank_64 (fun H_4 locs ho_4 hu_4 hS_4 => ?_)
      have ho_4 : oat E y_i 4 [.int ((mbA f i).1), .int (nI rn), .int ((mbA f i).2.2.1), .int ((mbA f i).2.2.2)] H_4 := ho_4
      have hz_H_4 : H_4.size = H_3.size := hu_4.1
      have hW_H_4 := hW1.kept hu_4.chg (fun q _ hq => hq ▸ hty.1)
      have hxo1_H_4 := hxo1.kept hu_4.chg (fun h9 => tne hxt1.2 hty.2 (by decide) (show x = y_i from h9))
      have hg1_H_4 := hg1.kept hu_4.chg (fun h9 => tne hgt1.1.2 hty.2 (by decide) (show g1 = y_i from h9))
      have hc01_H_4 := hc01.kept hu_4.chg (fun h9 => tne hgt1.2.1.2 hty.2 (by decide) (show c1 = y_i from h9))
      refine lv_iload_n hx hb dX0_rank_67 rfl (lv_at hl 0 rfl) ?_
      exact hend _ _ _ _ _ _ _ rfl dX0_rank_68 (⟨_, rfl, PX.of (T' := ((mbA f i).2.1, upd f (129 + 4 * i + 1) (nI rn), recH f hist gl, recK gl)) (by simp [rankT, c_1, c_2, ix_nI (show i < 2 ^ 31 by omega), mbA]) ⟨_, hE1, XR.rank hW1 hxo1 hxt1 hgx01 hgt1 hvk01 hrs1 hgi hu_4.chg ho_4 (by omega)⟩⟩) hS_4 (by first | exact Nat.le_refl _ | (show (30 : Nat) ≤ 30; omega)) (by first | exact Nat.le_refl _ | (show (581 : Nat) ≤ 581; omega))
    · skip
      have bc_2 := c_2
      have c_2 := b2i_f c_2
      refine lv_bipush (v := (-2)) hx hb dX0_rank_20 (by decide) ?_
      exact hend _ _ _ _ _ _ _ rfl dX0_rank_22 (⟨_, rfl, PX.of (T' := ((-2), f, hist, gl)) (by simp [rankT, c_1, c_2]) ⟨tg, Ext.rf, hx0⟩⟩) hS (Nat.zero_le _) (Nat.zero_le _)
  · skip
    have bc_1 := c_1
    have c_1 := b2i_f c_1
    refine lv_iconst (v := (-1)) hx hb dX0_rank_11 (by decide) ?_
    exact hend _ _ _ _ _ _ _ rfl dX0_rank_12 (⟨_, rfl, PX.of (T' := ((-1), f, hist, gl)) (by simp [rankT, c_1]) ⟨tg, Ext.rf, hx0⟩⟩) hS (Nat.zero_le _) (Nat.zero_le _)

