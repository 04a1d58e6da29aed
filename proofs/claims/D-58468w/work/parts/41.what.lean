/-! LAYEREDCHARTERS: tidy, what if -/
set_option maxRecDepth 100000
theorem i_addsub (a b c : Int32) : a + (b - c) = a + b - c := by rw [Int32.sub_eq_add_neg, Int32.sub_eq_add_neg, Int32.add_assoc]
theorem moX_eq {f : Nat → Int32} {n i : Nat} (hn : n ≤ 25) (hok : ∀ r, r < n → RVok (ruA f r)) (hi : i < n) : moX (ruA f) n i = trM (ruA f) n (nI i) (-6) 0 30 - trM (ruA f) n (-6) (-6) 0 30 := by
  unfold moX; rw [tr_eq (but_eq hn hok hi), tr_eq (now_eq hn hok)]
theorem hdX0_tidy : Hd yX0_tidy 0 := by decide +kernel
set_option maxHeartbeats 1000000 in
set_option maxRecDepth 100000 in
theorem metX0_tidy (l : Launch) (E : EV) (H : Heap) (tg : TG) (x : Nat) (f : Nat → Int32) (n k : Nat) (hist sl z pd : Nat → Int32) (gl ln : Nat) (hx : XR E tg x f n k hist sl z pd gl ln H) (hgl6 : gl ≤ 6) : Ct l yX0_tidy cX0_tidy 3 (some .int) 15 610 (2630) (55181) [.ref x] E H (XA E tg H.size) (pI (fun r9 H1 => PX E tg H.size x sl z pd ln (tidyT f hist gl n) r9 H1)) := by
  have hx0 := hx
  obtain ⟨g, hL, sa, pb, pl, wr, hxo, hxt, hgs, hrs⟩ := hx
  have hgs0 := hgs
  obtain ⟨c, L, arr, cap, M, arr2, cap2, b, md, md2, xs, ys, hgx, hgt, hvk⟩ := hgs
  have hgx0 := hgx
  have hvk0 := hvk
  obtain ⟨hg, hcx, hrl, hal, hmb, hbl⟩ := hgx
  obtain ⟨hn0, hn24, hk0, hk10, hrok, hmok⟩ := hvk
  have hc0 := hcx.1
  have hcr : CR E c n (ruA f) H := ⟨L, md, arr, cap, xs, hcx.1, hcx.2, hrl⟩
  refine Ct.ofZ (by decide) (Nat.le_of_ble_eq_true rfl) ?_
  intro p e s m bl mt cd ls Q hF hW hH hl hend
  obtain ⟨F, hin⟩ := hF
  have hx := F.1
  have hb := F.2.1
  have hts := F.2.2.2.2
  have hl : lv_has ls 3 [(0, .ref x)] := hl
  have hS : va_S (XA E tg H.size) H H [] := va_S.rf
  obtain ⟨cC, hat⟩ := cat (ci := 6) hW rfl
  refine lv_aload_n hx hb dX0_tidy_0 rfl (lv_at hl 0 rfl) ?_
  refine run_chN (rest := []) (kV F hW (metX0_record l E H tg x f n k hist sl z pd gl ln hx0 hgl6) (lw_V q220 q222 qs0 q42 q223) hdX0_record ⟨Nat.le_of_ble_eq_true rfl, Nat.le_of_ble_eq_true rfl⟩ (recv hW hxo rfl) hl.1 rfl (Nat.le_of_ble_eq_true rfl) dX0_tidy_1 ⟨by show 0 + 30 ≤ 2630; omega, by show 0 + 581 ≤ 55181; omega⟩) hS (fun _ h => h) (fun H_1 locs hp_1 hc_1 hS_1 => ?_)
  obtain ⟨tg1, hE1, hX1⟩ := hp_1
  have hz1 := hc_1.1
  have hb9 := hW.b0
  have hW1 := hW.kept hc_1 (XA.old (Nat.le_refl _))
  have hcR := hc_1
  have hX1' := hX1
  obtain ⟨g1, hL1, sa1, pb1, pl1, wr1, hxo1, hxt1, hgs1, hrs1⟩ := hX1
  have hgs01 := hgs1
  obtain ⟨c1, L1, arr1, cap1, M1, arr21, cap21, b1, md1, md21, xs1, ys1, hgx1, hgt1, hvk1⟩ := hgs1
  have hgx01 := hgx1
  have hvk01 := hvk1
  obtain ⟨hg1, hcx1, hrl1, hal1, hmb1, hbl1⟩ := hgx1
  obtain ⟨hn01, hn241, hk01, hk101, hrok1, hmok1⟩ := hvk1
  have hc01 := hcx1.1
  have hcr1 : CR E c1 n (ruA f) H_1 := ⟨L1, md1, arr1, cap1, xs1, hcx1.1, hcx1.2, hrl1⟩
  have lx1 := hxo1.lt; have lg1 := hg1.lt; have lc1 := hc01.lt; have lL1 := hcx1.2.1.lt; have lM1 := hal1.1.lt
  refine lv_iconst (v := 0) hx hb dX0_tidy_4 (by decide) ?_
  refine lv_istore_n (lv' := [(1, .int 0), (0, .ref x)]) hx hb dX0_tidy_5 rfl hl (by decide) rfl (fun ls hl => ?_)
  refine lv_aload_n hx hb dX0_tidy_6 rfl (lv_at hl 1 rfl) ?_
  refine xget (ref := "LayeredCharters") (ci := 0) (v := .ref g1) (C := RX0) (T := TX0) (N := 6) F in_X0 hW1 hxo1 rfl 0 (by decide) q177 (fun _ h9 => h9) rfl dX0_tidy_7 ?_
  refine xget (ref := "LayeredCharters$Guild") (ci := 1) (v := .ref c1) (C := RX1) (T := TX1) (N := 5) F in_X1 hW1 hg1 rfl 0 (by decide) q120 (fun _ h9 => h9) rfl dX0_tidy_10 ?_
  refine run_chI (rest := []) (kV F hW1 (metX2_firstIdle l E H_1 c1 n (ruA f) hcr1) (lw_V q659 q660 q661 q44 q662) hdX2_firstIdle ⟨Nat.le_of_ble_eq_true rfl, Nat.le_of_ble_eq_true rfl⟩ (recv hW1 hc01 rfl) hl.1 rfl (Nat.le_of_ble_eq_true rfl) dX0_tidy_13 ⟨by show 30 + 100 ≤ 2630; omega, by show 581 + 2100 ≤ 55181; omega⟩) hS_1 (fun q9 h9 => Or.inr (Nat.le_trans hz1 h9)) (fun r_2 H_2 locs hp_2 hc_2 hS_2 => ?_)
  have hWf := hW1.kept hc_2 (fun q h1 h2 => absurd h1 (Nat.not_lt.mpr h2))
  have hXg := hX1'.grow hW1.b0 hc_2
  have hzg := Nat.le_trans hz1 hc_2.1
  refine lv_val (y := fiM (ruA f) n) (hp_2.trans (fi_eq (by omega) hrok1)) ?_
  refine lv_istore_n (lv' := [(2, .int (fiM (ruA f) n)), (1, .int 0), (0, .ref x)]) hx hb dX0_tidy_16 rfl hl (by decide) rfl (fun ls hl => ?_)
  have lg17 : ∀ (kk : Nat) (f2 : Nat → Int32) (n2 : Nat) (ct2 : Nat), n2 < kk → (tdF n f n = (ct2 + (tdF n2 f2 n2).1, (tdF n2 f2 n2).2)) → (ct2 + n2 = n) → ∀ (kc ks : Nat), kc ≤ 130 + 100 * ct2 → ks ≤ 2681 + 2100 * ct2 → ∀ (Hg_17 : Heap) (locs : List Loc), va_S (XA E tg H.size) H Hg_17 locs → WK E s Hg_17 → (H.size ≤ Hg_17.size ∧ ∃ tg2, Ext tg tg2 H.size ∧ XR E tg2 x f2 n2 k (recH f hist gl) sl z pd (recK gl) ln Hg_17) → ∀ ls : Array Slot, lv_has ls 3 [(1, .int (nI ct2)), (2, .int (fiM (ruA f2) n2)), (0, .ref x)] → W p l e ({ frames := 15, cells := 2630, slots := 55181, locals := 610 } : Room) s m ([.ref x] : List Value).toArray bl mt cd Hg_17 locs kc ks Q (F0 m 17 ls []) := by
    intro kk
    induction kk with
    | zero => intro f2 n2 ct2 hm; exact absurd hm (Nat.not_lt_zero _)
    | succ kk ih17 =>
      intro f2 n2 ct2 hm hinv hcn kc ks hkc hks Hg_17 locs hS_17 hW_17 hl_17 ls hl
      obtain ⟨hzc, tg2, hE2, hX2⟩ := hl_17
      have hX2' := hX2
      obtain ⟨g2, hL2, sa2, pb2, pl2, wr2, hxo2, hxt2, hgs2, hrs2⟩ := hX2
      have hgs02 := hgs2
      obtain ⟨c2, L2, arr2, cap2, M2, arr22, cap22, b2, md2, md22, xs2, ys2, hgx2, hgt2, hvk2⟩ := hgs2
      have hgx02 := hgx2
      have hvk02 := hvk2
      obtain ⟨hg2, hcx2, hrl2, hal2, hmb2, hbl2⟩ := hgx2
      obtain ⟨hn02, hn242, hk02, hk102, hrok2, hmok2⟩ := hvk2
      have hc02 := hcx2.1
      have hcr2 : CR E c2 n2 (ruA f2) Hg_17 := ⟨L2, md2, arr2, cap2, xs2, hcx2.1, hcx2.2, hrl2⟩
      have lx2 := hxo2.lt; have lg2 := hg2.lt; have lc2 := hc02.lt; have lL2 := hcx2.2.1.lt; have lM2 := hal2.1.lt
      refine lv_iload_n hx hb dX0_tidy_17 rfl (lv_at hl 1 rfl) ?_
      refine lv_if_lt (tgt := 55) hx hb dX0_tidy_18 (by decide) (fun c_3 => ?_) (fun c_3 => ?_)
      · skip
        refine lv_iload_n hx hb dX0_tidy_55 rfl (lv_at hl 0 rfl) ?_
        have heq : fiM (ruA f2) n2 = -6 := (fiM_in (ru := ruA f2) (n := n2)).resolve_right (fun ⟨i, h8, h9⟩ => nI_pos (n := i) (by omega) (h9 ▸ c_3))
        exact hend _ _ _ _ _ _ _ rfl dX0_tidy_56 (⟨_, rfl, PX.of (T := tidyT f hist gl n) (T' := (nI ct2, f2, recH f hist gl, recK gl)) (by unfold tidyT; rw [hinv, tdF_0 heq]; rfl) ⟨_, hE2, hX2'⟩⟩) hS_17 (by first | exact Nat.le_refl _ | (show (kc : Nat) ≤ 2630; omega)) (by first | exact Nat.le_refl _ | (show (ks : Nat) ≤ 55181; omega))
      · skip
        obtain ⟨i, hi, hfi⟩ := (fiM_in (ru := ruA f2) (n := n2)).resolve_left (fun h9 => c_3 (by rw [h9]; decide))
        refine lv_aload_n hx hb dX0_tidy_21 rfl (lv_at hl 2 rfl) ?_
        refine xget (ref := "LayeredCharters") (ci := 0) (v := .ref g2) (C := RX0) (T := TX0) (N := 6) F in_X0 hW_17 hxo2 rfl 0 (by decide) q177 (fun _ h9 => h9) rfl dX0_tidy_22 ?_
        refine xget (ref := "LayeredCharters$Guild") (ci := 1) (v := .ref c2) (C := RX1) (T := TX1) (N := 5) F in_X1 hW_17 hg2 rfl 0 (by decide) q120 (fun _ h9 => h9) rfl dX0_tidy_25 ?_
        refine xget (ref := "LayeredCharters$Charter") (ci := 2) (v := .ref L2) (C := RX2) (T := TX2) (N := 1) F in_X2 hW_17 hc02 rfl 0 (by decide) q112 (fun _ h9 => h9) rfl dX0_tidy_28 ?_
        refine lv_iload_n hx hb dX0_tidy_31 rfl (lv_at hl 1 rfl) ?_
        refine lv_val (y := nI i) hfi ?_
        obtain ⟨x_i, hgi⟩ : ∃ y, xs2[i]? = some y := ⟨_, List.getElem?_eq_getElem (show i < xs2.length by rw [hrl2.1]; exact hi)⟩
        refine run_ch5A (rest := []) (kF (x := ⟨"java/util/List", "remove", "(I)Ljava/lang/Object;"⟩) F hW_17 (metJ2_remove l E Hg_17 L2 arr2 cap2 i xs2 md2 hgt2.2.2.1.1 hcx2.2 (fun y hy => ⟨rls_elt hrl2 y hy, tne9 (hgt2.2.2.2.2.2.2.2.2 y hy) hgt2.2.2.1.2 (by decide)⟩) x_i hgi (by rw [hrl2.1]; omega)) (by decide +kernel) hat q374 q377 q379 q47 q381 hdJ2_removeF ⟨Nat.le_of_ble_eq_true rfl, Nat.le_of_ble_eq_true rfl⟩ (recv hW_17 hcx2.2.1 rfl) hl.1 rfl (Nat.le_of_ble_eq_true rfl) dX0_tidy_32 ⟨by show kc + 0 ≤ 2630; omega, by show ks + 0 ≤ 55181; omega⟩) hS_17 (fun q9 h9 => XA.ext hE2 hzc q9 (((TgA.lb hgt2.2.2.1.2 hgt2.2.2.2.2.2.1).xa (fun q h1 h2 => h2.elim (fun h => h ▸ hgt2.2.2.1.1) (fun h => h.2)) (by decide)) q9 h9)) (fun r_4 H_4 locs hp_4 hc_4 hS_4 => ?_)
        obtain ⟨-, hAL2⟩ := hp_4
        have hW3 := hW_17.kept hc_4 (fun q h1 h2 => h2.elim (fun h => h ▸ hgt2.2.2.1.1) (fun h => h.2))
        have hX3 := XR.strike hW_17 hxo2 hxt2 hgx02 hgt2 hvk02 hrs2 hc_4 hAL2 hi
        have hX3' := hX3
        have hz3 := Nat.le_trans hzc hc_4.1
        obtain ⟨g3, hL3, sa3, pb3, pl3, wr3, hxo3, hxt3, hgs3, hrs3⟩ := hX3
        have hgs03 := hgs3
        obtain ⟨c3, L3, arr3, cap3, M3, arr23, cap23, b3, md3, md23, xs3, ys3, hgx3, hgt3, hvk3⟩ := hgs3
        have hgx03 := hgx3
        have hvk03 := hvk3
        obtain ⟨hg3, hcx3, hrl3, hal3, hmb3, hbl3⟩ := hgx3
        obtain ⟨hn03, hn243, hk03, hk103, hrok3, hmok3⟩ := hvk3
        have hc03 := hcx3.1
        have hcr3 : CR E c3 (n2 - 1) (ruA (strF f2 n2 i)) H_4 := ⟨L3, md3, arr3, cap3, xs3, hcx3.1, hcx3.2, hrl3⟩
        have lx3 := hxo3.lt; have lg3 := hg3.lt; have lc3 := hc03.lt; have lL3 := hcx3.2.1.lt; have lM3 := hal3.1.lt
        refine lv_pop hx hb dX0_tidy_37 rfl ?_
        refine lv_iinc (v := nI (ct2 + 1)) (lv' := [(1, .int (nI (ct2 + 1))), (2, .int (fiM (ruA f2) n2)), (0, .ref x)]) hx hb dX0_tidy_38 hl (k := 0) rfl (nI_1 _) (by decide) rfl (fun ls hl => ?_)
        refine lv_aload_n hx hb dX0_tidy_41 rfl (lv_at hl 2 rfl) ?_
        refine xget (ref := "LayeredCharters") (ci := 0) (v := .ref g3) (C := RX0) (T := TX0) (N := 6) F in_X0 hW3 hxo3 rfl 0 (by decide) q177 (fun _ h9 => h9) rfl dX0_tidy_42 ?_
        refine xget (ref := "LayeredCharters$Guild") (ci := 1) (v := .ref c3) (C := RX1) (T := TX1) (N := 5) F in_X1 hW3 hg3 rfl 0 (by decide) q120 (fun _ h9 => h9) rfl dX0_tidy_45 ?_
        refine run_chI (rest := []) (kV F hW3 (metX2_firstIdle l E H_4 c3 (n2 - 1) (ruA (strF f2 n2 i)) hcr3) (lw_V q659 q660 q661 q44 q662) hdX2_firstIdle ⟨Nat.le_of_ble_eq_true rfl, Nat.le_of_ble_eq_true rfl⟩ (recv hW3 hc03 rfl) hl.1 rfl (Nat.le_of_ble_eq_true rfl) dX0_tidy_48 ⟨by show kc + 100 ≤ 2630; omega, by show ks + 2100 ≤ 55181; omega⟩) hS_4 (fun q9 h9 => Or.inr (Nat.le_trans hz3 h9)) (fun r_5 H_5 locs hp_5 hc_5 hS_5 => ?_)
        have hWf := hW3.kept hc_5 (fun q h1 h2 => absurd h1 (Nat.not_lt.mpr h2))
        have hXg := hX3'.grow hW3.b0 hc_5
        have hzg := Nat.le_trans hz3 hc_5.1
        refine lv_val (y := fiM (ruA (strF f2 n2 i)) (n2 - 1)) (hp_5.trans (fi_eq (by omega) hrok3)) ?_
        refine lv_istore_n (lv' := [(2, .int (fiM (ruA (strF f2 n2 i)) (n2 - 1))), (1, .int (nI (ct2 + 1))), (0, .ref x)]) hx hb dX0_tidy_51 rfl hl (by decide) rfl (fun ls hl => ?_)
        refine lv_goto (tgt := 17) hx hb dX0_tidy_52 (by decide) ?_
        exact ih17 _ (n2 - 1) (ct2 + 1) (by omega) (td_step hinv hfi hi (by omega)) (by omega) _ _ (by omega) (by omega) _ _ hS_5 hWf (⟨hzg, tg2, hE2, hXg⟩) ls (lv_sub hl [1, 0, 2] rfl)
  exact lg17 _ f n 0 (Nat.lt_succ_self _) (by rw [Nat.zero_add]) (Nat.zero_add n) _ _ (by omega) (by omega) _ _ hS_2 hWf (⟨hzg, tg1, hE1, hXg⟩) ls (lv_sub hl [1, 0, 2] rfl)

theorem hdX0_more : Hd yX0_more 1 := by decide +kernel
set_option maxHeartbeats 1000000 in
set_option maxRecDepth 100000 in
theorem metX0_more (l : Launch) (E : EV) (H : Heap) (tg : TG) (x : Nat) (f : Nat → Int32) (n k : Nat) (hist sl z pd : Nat → Int32) (gl ln : Nat) (hx : XR E tg x f n k hist sl z pd gl ln H) (i : Nat) (hi : i < n) : Ct l yX0_more cX0_more 2 (some .int) 13 568 (4) (84) [.ref x, .int (nI i)] E H (fun q => H.size ≤ q) (pI (fun r9 H1 => r9 = moX (ruA f) n i)) := by
  have hx0 := hx
  obtain ⟨g, hL, sa, pb, pl, wr, hxo, hxt, hgs, hrs⟩ := hx
  have hgs0 := hgs
  obtain ⟨c, L, arr, cap, M, arr2, cap2, b, md, md2, xs, ys, hgx, hgt, hvk⟩ := hgs
  have hgx0 := hgx
  have hvk0 := hvk
  obtain ⟨hg, hcx, hrl, hal, hmb, hbl⟩ := hgx
  obtain ⟨hn0, hn24, hk0, hk10, hrok, hmok⟩ := hvk
  have hc0 := hcx.1
  have hcr : CR E c n (ruA f) H := ⟨L, md, arr, cap, xs, hcx.1, hcx.2, hrl⟩
  refine Ct.ofZ (by decide) (Nat.le_of_ble_eq_true rfl) ?_
  intro p e s m bl mt cd ls Q hF hW hH hl hend
  obtain ⟨F, hin⟩ := hF
  have hx := F.1
  have hb := F.2.1
  have hts := F.2.2.2.2
  have hl : lv_has ls 2 [(0, .ref x), (1, .int (nI i))] := hl
  have hS : va_S (fun q => H.size ≤ q) H H [] := va_S.rf
  refine lv_aload_n hx hb dX0_more_0 rfl (lv_at hl 0 rfl) ?_
  refine xget (ref := "LayeredCharters") (ci := 0) (v := .ref g) (C := RX0) (T := TX0) (N := 6) F in_X0 hW hxo rfl 0 (by decide) q177 (fun _ h9 => h9) rfl dX0_more_1 ?_
  refine xget (ref := "LayeredCharters$Guild") (ci := 1) (v := .ref c) (C := RX1) (T := TX1) (N := 5) F in_X1 hW hg rfl 0 (by decide) q120 (fun _ h9 => h9) rfl dX0_more_4 ?_
  refine lv_iload_n hx hb dX0_more_7 rfl (lv_at hl 1 rfl) ?_
  refine run_chA (rest := []) (kV F hW (metX2_without l E H c L arr cap xs md hcx (rls_elt hrl) (by rw [hrl.1]; omega) i (by rw [hrl.1]; exact hi)) (lw_V q840 q668 q669 q44 q670) hdX2_without ⟨Nat.le_of_ble_eq_true rfl, Nat.le_of_ble_eq_true rfl⟩ (recv hW hc0 rfl) hl.1 rfl (Nat.le_of_ble_eq_true rfl) dX0_more_8 ⟨by show 0 + 4 ≤ 4; omega, by show 0 + 84 ≤ 84; omega⟩) hS (fun _ h => h) (fun r_1 H_1 locs hp_1 hc_1 hS_1 => ?_)
  obtain ⟨e9, L', arr', cap', hcx', hL', harr'⟩ := hp_1
  subst e9
  have hWn := hW.kept hc_1 (fun q h1 h2 => absurd h1 (Nat.not_lt.mpr h2))
  have hext := hc_1
  have hcrn : CR E H.size (n - 1) (ruE (ruA f) i) H_1 := ⟨L', 2, arr', cap', _, hcx'.1, hcx'.2, (hrl.ext hext).erase hi⟩
  have hcr1 := hcr.ext hW hext
  have hcE := hcx'.1
  have hc1 := hc0.kept hext (Nat.not_le.mpr hc0.lt)
  have hg1 := hg.kept hext (Nat.not_le.mpr hg.lt)
  have hx1 := hxo.kept hext (Nat.not_le.mpr hxo.lt)
  refine run_ro (w := .int (trX (ruE (ruA f) i) (n - 1) 5)) (rest := []) (kV F hWn (metX2_triples l E H_1 H.size (n - 1) (ruE (ruA f) i) hcrn ) (lw_V q824 q825 q826 q44 q827) hdX2_triples ⟨Nat.le_of_ble_eq_true rfl, Nat.le_of_ble_eq_true rfl⟩ (recv hWn hcE rfl) hl.1 rfl (Nat.le_of_ble_eq_true rfl) dX0_more_11 ⟨Nat.le_of_ble_eq_true rfl, Nat.le_of_ble_eq_true rfl⟩) ?_
  refine lv_aload_n hx hb dX0_more_14 rfl (lv_at hl 0 rfl) ?_
  refine xget (ref := "LayeredCharters") (ci := 0) (v := .ref g) (C := RX0) (T := TX0) (N := 6) F in_X0 hWn hx1 rfl 0 (by decide) q177 (fun _ h9 => h9) rfl dX0_more_15 ?_
  refine xget (ref := "LayeredCharters$Guild") (ci := 1) (v := .ref c) (C := RX1) (T := TX1) (N := 5) F in_X1 hWn hg1 rfl 0 (by decide) q120 (fun _ h9 => h9) rfl dX0_more_18 ?_
  refine run_ro (w := .int (trX (ruA f) n 5)) (rest := [.int (trX (ruE (ruA f) i) (n - 1) 5)]) (kV F hWn (metX2_triples l E H_1 c n (ruA f) hcr1 ) (lw_V q824 q825 q826 q44 q827) hdX2_triples ⟨Nat.le_of_ble_eq_true rfl, Nat.le_of_ble_eq_true rfl⟩ (recv hWn hc1 rfl) hl.1 rfl (Nat.le_of_ble_eq_true rfl) dX0_more_21 ⟨Nat.le_of_ble_eq_true rfl, Nat.le_of_ble_eq_true rfl⟩) ?_
  refine lv_isub hx hb dX0_more_24 ?_
  exact hend _ _ _ _ _ _ _ rfl dX0_more_25 (⟨_, rfl, rfl⟩) hS_1 (by first | exact Nat.le_refl _ | (show (4 : Nat) ≤ 4; omega)) (by first | exact Nat.le_refl _ | (show (84 : Nat) ≤ 84; omega))

theorem hdX0_ifStruck : Hd yX0_ifStruck 1 := by decide +kernel
set_option maxHeartbeats 1000000 in
set_option maxRecDepth 100000 in
theorem metX0_ifStruck (l : Launch) (E : EV) (H : Heap) (tg : TG) (x : Nat) (f : Nat → Int32) (n k : Nat) (hist sl z pd : Nat → Int32) (gl ln : Nat) (hx : XR E tg x f n k hist sl z pd gl ln H) (r : Int32) : Ct l yX0_ifStruck cX0_ifStruck 2 (some .int) 14 589 (4) (84) [.ref x, .int r] E H (fun q => H.size ≤ q) (pI (fun r9 H1 => r9 = ifStruckM f n r)) := by
  have hx0 := hx
  obtain ⟨g, hL, sa, pb, pl, wr, hxo, hxt, hgs, hrs⟩ := hx
  have hgs0 := hgs
  obtain ⟨c, L, arr, cap, M, arr2, cap2, b, md, md2, xs, ys, hgx, hgt, hvk⟩ := hgs
  have hgx0 := hgx
  have hvk0 := hvk
  obtain ⟨hg, hcx, hrl, hal, hmb, hbl⟩ := hgx
  obtain ⟨hn0, hn24, hk0, hk10, hrok, hmok⟩ := hvk
  have hc0 := hcx.1
  have hcr : CR E c n (ruA f) H := ⟨L, md, arr, cap, xs, hcx.1, hcx.2, hrl⟩
  refine Ct.ofZ (by decide) (Nat.le_of_ble_eq_true rfl) ?_
  intro p e s m bl mt cd ls Q hF hW hH hl hend
  obtain ⟨F, hin⟩ := hF
  have hx := F.1
  have hb := F.2.1
  have hts := F.2.2.2.2
  have hl : lv_has ls 2 [(0, .ref x), (1, .int r)] := hl
  have hS : va_S (fun q => H.size ≤ q) H H [] := va_S.rf
  refine lv_aload_n hx hb dX0_ifStruck_0 rfl (lv_at hl 0 rfl) ?_
  refine xget (ref := "LayeredCharters") (ci := 0) (v := .ref g) (C := RX0) (T := TX0) (N := 6) F in_X0 hW hxo rfl 0 (by decide) q177 (fun _ h9 => h9) rfl dX0_ifStruck_1 ?_
  refine xget (ref := "LayeredCharters$Guild") (ci := 1) (v := .ref c) (C := RX1) (T := TX1) (N := 5) F in_X1 hW hg rfl 0 (by decide) q120 (fun _ h9 => h9) rfl dX0_ifStruck_4 ?_
  refine lv_iload_n hx hb dX0_ifStruck_7 rfl (lv_at hl 1 rfl) ?_
  refine run_ro (w := .int (b2i (inR r 0 (nI n - 1)))) (rest := []) (kV F hW (metX2_hasRule l E H c n (ruA f) hcr r) (lw_V q421 q422 q423 q44 q424) hdX2_hasRule ⟨Nat.le_of_ble_eq_true rfl, Nat.le_of_ble_eq_true rfl⟩ (recv hW hc0 rfl) hl.1 rfl (Nat.le_of_ble_eq_true rfl) dX0_ifStruck_8 ⟨Nat.le_of_ble_eq_true rfl, Nat.le_of_ble_eq_true rfl⟩) ?_
  refine lv_if_eq (tgt := 26) hx hb dX0_ifStruck_11 (by decide) (fun c_1 => ?_) (fun c_1 => ?_)
  · skip
    have bc_1 := c_1
    have c_1 := b2i_f c_1
    refine lv_iconst (v := (-1)) hx hb dX0_ifStruck_26 (by decide) ?_
    exact hend _ _ _ _ _ _ _ rfl dX0_ifStruck_27 (⟨_, rfl, by simp [ifStruckM, c_1]⟩) hS (Nat.zero_le _) (Nat.zero_le _)
  · skip
    have bc_1 := c_1
    have c_1 := b2i_t c_1
    obtain ⟨i, hi, eri⟩ := idx_of c_1 (by omega)
    subst eri
    refine lv_sipush (v := 1000) hx hb dX0_ifStruck_14 (by decide) ?_
    refine lv_aload_n hx hb dX0_ifStruck_17 rfl (lv_at hl 0 rfl) ?_
    refine lv_iload_n hx hb dX0_ifStruck_18 rfl (lv_at hl 1 rfl) ?_
    refine run_chI (rest := [.int 1000]) (kV F hW (metX0_more l E H tg x f n k hist sl z pd gl ln hx0 i hi) (lw_V q836 q838 qs15 q42 q839) hdX0_more ⟨Nat.le_of_ble_eq_true rfl, Nat.le_of_ble_eq_true rfl⟩ (recv hW hxo rfl) hl.1 rfl (Nat.le_of_ble_eq_true rfl) dX0_ifStruck_19 ⟨by show 0 + 4 ≤ 4; omega, by show 0 + 84 ≤ 84; omega⟩) hS (fun _ h => h) (fun r_2 H_2 locs hp_2 hc_2 hS_2 => ?_)
    have hW_H_2 := hW.kept hc_2 (fun q h1 h2 => absurd h1 (Nat.not_lt.mpr h2))
    refine lv_val (y := moX (ruA f) n i) (hp_2) ?_
    refine lv_iadd hx hb dX0_ifStruck_22 ?_
    refine lv_goto (tgt := 27) hx hb dX0_ifStruck_23 (by decide) ?_
    exact hend _ _ _ _ _ _ _ rfl dX0_ifStruck_27 (⟨_, rfl, by rw [moX_eq (by omega) hrok hi, i_addsub]; simp [ifStruckM, c_1]⟩) hS_2 (by first | exact Nat.le_refl _ | (show (4 : Nat) ≤ 4; omega)) (by first | exact Nat.le_refl _ | (show (84 : Nat) ≤ 84; omega))

theorem hdX0_worstBan : Hd yX0_worstBan 0 := by decide +kernel
set_option maxHeartbeats 1000000 in
set_option maxRecDepth 100000 in
theorem metX0_worstBan (l : Launch) (E : EV) (H : Heap) (tg : TG) (x : Nat) (f : Nat → Int32) (n k : Nat) (hist sl z pd : Nat → Int32) (gl ln : Nat) (hx : XR E tg x f n k hist sl z pd gl ln H) : Ct l yX0_worstBan cX0_worstBan 5 (some .int) 14 589 ((8 * 24)) ((168 * 24)) [.ref x] E H (fun q => H.size ≤ q) (pI (fun r9 H1 => r9 = (wbX (ruA f) n n).1)) := by
  have hx0 := hx
  obtain ⟨g, hL, sa, pb, pl, wr, hxo, hxt, hgs, hrs⟩ := hx
  have hgs0 := hgs
  obtain ⟨c, L, arr, cap, M, arr2, cap2, b, md, md2, xs, ys, hgx, hgt, hvk⟩ := hgs
  have hgx0 := hgx
  have hvk0 := hvk
  obtain ⟨hg, hcx, hrl, hal, hmb, hbl⟩ := hgx
  obtain ⟨hn0, hn24, hk0, hk10, hrok, hmok⟩ := hvk
  have hc0 := hcx.1
  have hcr : CR E c n (ruA f) H := ⟨L, md, arr, cap, xs, hcx.1, hcx.2, hrl⟩
  refine Ct.ofZ (by decide) (Nat.le_of_ble_eq_true rfl) ?_
  intro p e s m bl mt cd ls Q hF hW hH hl hend
  obtain ⟨F, hin⟩ := hF
  have hx := F.1
  have hb := F.2.1
  have hts := F.2.2.2.2
  have hl : lv_has ls 5 [(0, .ref x)] := hl
  have hS : va_S (fun q => H.size ≤ q) H H [] := va_S.rf
  obtain ⟨cC, hat⟩ := cat (ci := 6) hW rfl
  refine lv_bipush (v := (-6)) hx hb dX0_worstBan_0 (by decide) ?_
  refine lv_istore_n (lv' := [(1, .int (-6)), (0, .ref x)]) hx hb dX0_worstBan_2 rfl hl (by decide) rfl (fun ls hl => ?_)
  refine lv_iconst (v := (-1)) hx hb dX0_worstBan_3 (by decide) ?_
  refine lv_istore_n (lv' := [(2, .int (-1)), (1, .int (-6)), (0, .ref x)]) hx hb dX0_worstBan_4 rfl hl (by decide) rfl (fun ls hl => ?_)
  refine lv_iconst (v := 0) hx hb dX0_worstBan_5 (by decide) ?_
  refine lv_istore_n (lv' := [(3, .int 0), (2, .int (-1)), (1, .int (-6)), (0, .ref x)]) hx hb dX0_worstBan_6 rfl hl (by decide) rfl (fun ls hl => ?_)
  have loop7 : ∀ (nn i : Nat) (x3 a1 a2 : Int32), i + nn = n → a1 = (wbX (ruA f) n i).1 → a2 = (wbX (ruA f) n i).2 → x3 = nI i → ∀ (kc ks : Nat), kc ≤ 8 * i → ks ≤ 168 * i → ∀ (Hl_7 : Heap) (locs : List Loc), va_S (fun q => H.size ≤ q) H Hl_7 locs → WK E s Hl_7 → True → ∀ ls : Array Slot, lv_has ls 5 [(3, .int x3), (1, .int a1), (2, .int a2), (0, .ref x)] → W p l e ({ frames := 14, cells := (8 * 24), slots := (168 * 24), locals := 589 } : Room) s m ([.ref x] : List Value).toArray bl mt cd Hl_7 locs kc ks Q (F0 m 7 ls []) := by
    intro nn
    induction nn with
    | zero =>
      intro i x3 a1 a2 hn e1 e2 e3 kc ks hkc hks Hl_7 locs hS_7 hW_7 hl_7 ls hl
      have hiN : i = n := by omega
      rw [hiN] at e3
      try rw [hiN] at e1
      try rw [hiN] at e2
      try rw [hiN] at hl_7
      try rw [hiN] at hkc
      try rw [hiN] at hks
      rw [e3, e1, e2] at hl
      clear e3 e1 e2
      have hext := hS_7.chg
      have hxl := hx0.grow hW.b0 hext
      have hxo2 := hxo.kept hext (Nat.not_le.mpr hxo.lt)
      have hg2 := hg.kept hext (Nat.not_le.mpr hg.lt)
      have hc2 := hc0.kept hext (Nat.not_le.mpr hc0.lt)
      have hal2 := hcx.2.ext hW hext
      refine lv_iload_n hx hb dX0_worstBan_7 rfl (lv_at hl 0 rfl) ?_
      refine lv_aload_n hx hb dX0_worstBan_8 rfl (lv_at hl 3 rfl) ?_
      refine xget (ref := "LayeredCharters") (ci := 0) (v := .ref g) (C := RX0) (T := TX0) (N := 6) F in_X0 hW_7 hxo2 rfl 0 (by decide) q177 (fun _ h9 => h9) rfl dX0_worstBan_9 ?_
      refine xget (ref := "LayeredCharters$Guild") (ci := 1) (v := .ref c) (C := RX1) (T := TX1) (N := 5) F in_X1 hW_7 hg2 rfl 0 (by decide) q120 (fun _ h9 => h9) rfl dX0_worstBan_12 ?_
      refine xget (ref := "LayeredCharters$Charter") (ci := 2) (v := .ref L) (C := RX2) (T := TX2) (N := 1) F in_X2 hW_7 hc2 rfl 0 (by decide) q112 (fun _ h9 => h9) rfl dX0_worstBan_15 ?_
      refine run_ro5 (w := .int (nI n)) (rest := [.int (nI n)]) (kF (x := ⟨"java/util/List", "size", "()I"⟩) F hW_7 (metJ2_size l E Hl_7 L arr md (nI n) (by have h9 := hal2.1; rw [hrl.1] at h9; exact h9)) (by decide +kernel) hat q211 q215 q217 q47 q219 hdJ2_sizeF ⟨Nat.le_of_ble_eq_true rfl, Nat.le_of_ble_eq_true rfl⟩ (recv hW_7 hal2.1 rfl) hl.1 rfl (Nat.le_of_ble_eq_true rfl) dX0_worstBan_18 ⟨by show kc + 0 ≤ (8 * 24); omega, by show ks + 0 ≤ (168 * 24); omega⟩) ?_
      refine lv_icmp_ge (tgt := 100) hx hb dX0_worstBan_23 (by decide) (fun _ => ?_) (fun c9 => absurd (nI_le (by omega) (by omega)) c9)
      refine lv_iload_n hx hb dX0_worstBan_100 rfl (lv_at hl 1 rfl) ?_
      exact hend _ _ _ _ _ _ _ rfl dX0_worstBan_101 (⟨_, rfl, rfl⟩) hS_7 (by first | exact Nat.le_refl _ | (show (kc : Nat) ≤ (8 * 24); omega)) (by first | exact Nat.le_refl _ | (show (ks : Nat) ≤ (168 * 24); omega))
    | succ nn ih7 =>
      intro i x3 a1 a2 hn e1 e2 e3 kc ks hkc hks Hl_7 locs hS_7 hW_7 hl_7 ls hl
      rw [e3, e1, e2] at hl
      clear e3 e1 e2
      have hext := hS_7.chg
      have hxl := hx0.grow hW.b0 hext
      have hxo2 := hxo.kept hext (Nat.not_le.mpr hxo.lt)
      have hg2 := hg.kept hext (Nat.not_le.mpr hg.lt)
      have hc2 := hc0.kept hext (Nat.not_le.mpr hc0.lt)
      have hal2 := hcx.2.ext hW hext
      refine lv_iload_n hx hb dX0_worstBan_7 rfl (lv_at hl 0 rfl) ?_
      refine lv_aload_n hx hb dX0_worstBan_8 rfl (lv_at hl 3 rfl) ?_
      refine xget (ref := "LayeredCharters") (ci := 0) (v := .ref g) (C := RX0) (T := TX0) (N := 6) F in_X0 hW_7 hxo2 rfl 0 (by decide) q177 (fun _ h9 => h9) rfl dX0_worstBan_9 ?_
      refine xget (ref := "LayeredCharters$Guild") (ci := 1) (v := .ref c) (C := RX1) (T := TX1) (N := 5) F in_X1 hW_7 hg2 rfl 0 (by decide) q120 (fun _ h9 => h9) rfl dX0_worstBan_12 ?_
      refine xget (ref := "LayeredCharters$Charter") (ci := 2) (v := .ref L) (C := RX2) (T := TX2) (N := 1) F in_X2 hW_7 hc2 rfl 0 (by decide) q112 (fun _ h9 => h9) rfl dX0_worstBan_15 ?_
      refine run_ro5 (w := .int (nI n)) (rest := [.int (nI i)]) (kF (x := ⟨"java/util/List", "size", "()I"⟩) F hW_7 (metJ2_size l E Hl_7 L arr md (nI n) (by have h9 := hal2.1; rw [hrl.1] at h9; exact h9)) (by decide +kernel) hat q211 q215 q217 q47 q219 hdJ2_sizeF ⟨Nat.le_of_ble_eq_true rfl, Nat.le_of_ble_eq_true rfl⟩ (recv hW_7 hal2.1 rfl) hl.1 rfl (Nat.le_of_ble_eq_true rfl) dX0_worstBan_18 ⟨by show kc + 0 ≤ (8 * 24); omega, by show ks + 0 ≤ (168 * 24); omega⟩) ?_
      refine lv_icmp_ge (tgt := 100) hx hb dX0_worstBan_23 (by decide) (fun c9 => absurd c9 (nI_ge (by omega) (by omega))) (fun _ => ?_)
      refine lv_aload_n hx hb dX0_worstBan_26 rfl (lv_at hl 3 rfl) ?_
      refine xget (ref := "LayeredCharters") (ci := 0) (v := .ref g) (C := RX0) (T := TX0) (N := 6) F in_X0 hW_7 hxo2 rfl 0 (by decide) q177 (fun _ h9 => h9) rfl dX0_worstBan_27 ?_
      refine xget (ref := "LayeredCharters$Guild") (ci := 1) (v := .ref c) (C := RX1) (T := TX1) (N := 5) F in_X1 hW_7 hg2 rfl 0 (by decide) q120 (fun _ h9 => h9) rfl dX0_worstBan_30 ?_
      refine xget (ref := "LayeredCharters$Charter") (ci := 2) (v := .ref L) (C := RX2) (T := TX2) (N := 1) F in_X2 hW_7 hc2 rfl 0 (by decide) q112 (fun _ h9 => h9) rfl dX0_worstBan_33 ?_
      refine lv_iload_n hx hb dX0_worstBan_36 rfl (lv_at hl 0 rfl) ?_
      obtain ⟨x_i, hgi⟩ : ∃ y, xs[i]? = some y := ⟨_, List.getElem?_eq_getElem (show i < xs.length by rw [hrl.1]; omega)⟩
      have hx_i := (hrl.2.2 i x_i hgi).kept hext (Nat.not_le.mpr (hrl.2.2 i x_i hgi).lt)
      refine run_ro5 (w := .ref x_i) (rest := []) (kF (x := ⟨"java/util/List", "get", "(I)Ljava/lang/Object;"⟩) F hW_7 (metJ2_get l E Hl_7 L arr cap i x_i xs md hal2 hgi) (by decide +kernel) hat q433 q307 q309 q47 q311 hdJ2_getF ⟨Nat.le_of_ble_eq_true rfl, Nat.le_of_ble_eq_true rfl⟩ (recv hW_7 hal2.1 rfl) hl.1 rfl (Nat.le_of_ble_eq_true rfl) dX0_worstBan_37 ⟨by show kc + 0 ≤ (8 * 24); omega, by show ks + 0 ≤ (168 * 24); omega⟩) ?_
      refine xcast (ci := 5) F hW_7 hx_i rfl q386 dX0_worstBan_42 ?_
      refine xget (ref := "LayeredCharters$Rule") (ci := 5) (v := .int ((ruA f i).2.1)) (C := RX6) (T := TX6) (N := 5) F in_X6 hW_7 hx_i rfl 1 (by decide) q398 (fun _ h9 => h9) rfl dX0_worstBan_45 ?_
      refine lv_iconst (v := 1) hx hb dX0_worstBan_48 (by decide) ?_
      refine lv_icmp_ne (tgt := 65) hx hb dX0_worstBan_49 (by decide) (fun c_1 => ?_) (fun c_1 => ?_)
      · skip
        refine lv_iconst (v := 0) hx hb dX0_worstBan_65 (by decide) ?_
        refine lv_istore (lv' := [(4, .int 0), (3, .int (nI i)), (1, .int ((wbX (ruA f) n i).1)), (2, .int ((wbX (ruA f) n i).2)), (0, .ref x)]) hx hb dX0_worstBan_66 hl (by decide) rfl (fun ls hl => ?_)
        refine lv_iload hx hb dX0_worstBan_68 (lv_at hl 0 rfl) ?_
        refine lv_if_eq (tgt := 77) hx hb dX0_worstBan_70 (by decide) (fun _ => ?_) (fun c9 => absurd (by decide) c9)
        refine lv_iload_n hx hb dX0_worstBan_77 rfl (lv_at hl 2 rfl) ?_
        refine lv_istore_n (lv' := [(1, .int ((wbX (ruA f) n i).1)), (4, .int 0), (3, .int (nI i)), (2, .int ((wbX (ruA f) n i).2)), (0, .ref x)]) hx hb dX0_worstBan_78 rfl hl (by decide) rfl (fun ls hl => ?_)
        refine lv_iload hx hb dX0_worstBan_79 (lv_at hl 1 rfl) ?_
        refine lv_if_eq (tgt := 92) hx hb dX0_worstBan_81 (by decide) (fun _ => ?_) (fun c9 => absurd (by decide) c9)
        refine lv_iload_n hx hb dX0_worstBan_92 rfl (lv_at hl 3 rfl) ?_
        refine lv_istore_n (lv' := [(2, .int ((wbX (ruA f) n i).2)), (1, .int ((wbX (ruA f) n i).1)), (4, .int 0), (3, .int (nI i)), (0, .ref x)]) hx hb dX0_worstBan_93 rfl hl (by decide) rfl (fun ls hl => ?_)
        refine lv_iinc (v := nI (i + 1)) (lv' := [(3, .int (nI (i + 1))), (2, .int ((wbX (ruA f) n i).2)), (1, .int ((wbX (ruA f) n i).1)), (4, .int 0), (0, .ref x)]) hx hb dX0_worstBan_94 hl (k := 3) rfl (nI_1 _) (by decide) rfl (fun ls hl => ?_)
        refine lv_goto (tgt := 7) hx hb dX0_worstBan_97 (by decide) ?_
        exact ih7 (i + 1) _ _ _ (by omega) (by rw [wbX_s]; simp [wost, c_1]) (by rw [wbX_s]; simp [wost, c_1]) rfl _ _ (by omega) (by omega) _ _ hS_7 hW_7 (trivial) ls (lv_sub hl [0, 2, 1, 4] rfl)
      · skip
        refine lv_aload_n hx hb dX0_worstBan_52 rfl (lv_at hl 3 rfl) ?_
        refine lv_iload_n hx hb dX0_worstBan_53 rfl (lv_at hl 0 rfl) ?_
        refine run_chI (rest := []) (kV F hW_7 (metX0_more l E Hl_7 tg x f n k hist sl z pd gl ln hxl i (by omega)) (lw_V q836 q838 qs15 q42 q839) hdX0_more ⟨Nat.le_of_ble_eq_true rfl, Nat.le_of_ble_eq_true rfl⟩ (recv hW_7 hxo2 rfl) hl.1 rfl (Nat.le_of_ble_eq_true rfl) dX0_worstBan_54 ⟨by show kc + 4 ≤ (8 * 24); omega, by show ks + 84 ≤ (168 * 24); omega⟩) hS_7 (fun q9 h9 => Nat.le_trans (hS_7.chg).1 h9) (fun r_2 H_2 locs hp_2 hc_2 hS_2 => ?_)
        have hW_H_2 := hW_7.kept hc_2 (fun q h1 h2 => absurd h1 (Nat.not_lt.mpr h2))
        refine lv_val (y := moX (ruA f) n i) (hp_2) ?_
        have hz_H_2 := hc_2.1
        have hxo2_H_2 := hxo2.kept hc_2 (Nat.not_le.mpr hxo2.lt)
        have hg2_H_2 := hg2.kept hc_2 (Nat.not_le.mpr hg2.lt)
        have hc2_H_2 := hc2.kept hc_2 (Nat.not_le.mpr hc2.lt)
        have hxl_H_2 := hxl.grow hW.b0 hc_2
        refine lv_iload_n hx hb dX0_worstBan_57 rfl (lv_at hl 2 rfl) ?_
        refine lv_icmp_le (tgt := 65) hx hb dX0_worstBan_58 (by decide) (fun c_3 => ?_) (fun c_3 => ?_)
        · skip
          refine lv_iconst (v := 0) hx hb dX0_worstBan_65 (by decide) ?_
          refine lv_istore (lv' := [(4, .int 0), (3, .int (nI i)), (1, .int ((wbX (ruA f) n i).1)), (2, .int ((wbX (ruA f) n i).2)), (0, .ref x)]) hx hb dX0_worstBan_66 hl (by decide) rfl (fun ls hl => ?_)
          refine lv_iload hx hb dX0_worstBan_68 (lv_at hl 0 rfl) ?_
          refine lv_if_eq (tgt := 77) hx hb dX0_worstBan_70 (by decide) (fun _ => ?_) (fun c9 => absurd (by decide) c9)
          refine lv_iload_n hx hb dX0_worstBan_77 rfl (lv_at hl 2 rfl) ?_
          refine lv_istore_n (lv' := [(1, .int ((wbX (ruA f) n i).1)), (4, .int 0), (3, .int (nI i)), (2, .int ((wbX (ruA f) n i).2)), (0, .ref x)]) hx hb dX0_worstBan_78 rfl hl (by decide) rfl (fun ls hl => ?_)
          refine lv_iload hx hb dX0_worstBan_79 (lv_at hl 1 rfl) ?_
          refine lv_if_eq (tgt := 92) hx hb dX0_worstBan_81 (by decide) (fun _ => ?_) (fun c9 => absurd (by decide) c9)
          refine lv_iload_n hx hb dX0_worstBan_92 rfl (lv_at hl 3 rfl) ?_
          refine lv_istore_n (lv' := [(2, .int ((wbX (ruA f) n i).2)), (1, .int ((wbX (ruA f) n i).1)), (4, .int 0), (3, .int (nI i)), (0, .ref x)]) hx hb dX0_worstBan_93 rfl hl (by decide) rfl (fun ls hl => ?_)
          refine lv_iinc (v := nI (i + 1)) (lv' := [(3, .int (nI (i + 1))), (2, .int ((wbX (ruA f) n i).2)), (1, .int ((wbX (ruA f) n i).1)), (4, .int 0), (0, .ref x)]) hx hb dX0_worstBan_94 hl (k := 3) rfl (nI_1 _) (by decide) rfl (fun ls hl => ?_)
          refine lv_goto (tgt := 7) hx hb dX0_worstBan_97 (by decide) ?_
          exact ih7 (i + 1) _ _ _ (by omega) (by rw [wbX_s]; simp [wost, c_1, c_3]) (by rw [wbX_s]; simp [wost, c_1, c_3]) rfl _ _ (by omega) (by omega) _ _ hS_2 hW_H_2 (trivial) ls (lv_sub hl [0, 2, 1, 4] rfl)
        · skip
          refine lv_iconst (v := 1) hx hb dX0_worstBan_61 (by decide) ?_
          refine lv_goto (tgt := 66) hx hb dX0_worstBan_62 (by decide) ?_
          refine lv_istore (lv' := [(4, .int 1), (3, .int (nI i)), (1, .int ((wbX (ruA f) n i).1)), (2, .int ((wbX (ruA f) n i).2)), (0, .ref x)]) hx hb dX0_worstBan_66 hl (by decide) rfl (fun ls hl => ?_)
          refine lv_iload hx hb dX0_worstBan_68 (lv_at hl 0 rfl) ?_
          refine lv_if_eq (tgt := 77) hx hb dX0_worstBan_70 (by decide) (fun c9 => absurd c9 (by decide)) (fun _ => ?_)
          refine lv_iload_n hx hb dX0_worstBan_73 rfl (lv_at hl 1 rfl) ?_
          refine lv_goto (tgt := 78) hx hb dX0_worstBan_74 (by decide) ?_
          refine lv_istore_n (lv' := [(1, .int (nI i)), (4, .int 1), (3, .int (nI i)), (2, .int ((wbX (ruA f) n i).2)), (0, .ref x)]) hx hb dX0_worstBan_78 rfl hl (by decide) rfl (fun ls hl => ?_)
          refine lv_iload hx hb dX0_worstBan_79 (lv_at hl 1 rfl) ?_
          refine lv_if_eq (tgt := 92) hx hb dX0_worstBan_81 (by decide) (fun c9 => absurd c9 (by decide)) (fun _ => ?_)
          refine lv_aload_n hx hb dX0_worstBan_84 rfl (lv_at hl 4 rfl) ?_
          refine lv_iload_n hx hb dX0_worstBan_85 rfl (lv_at hl 2 rfl) ?_
          refine run_chI (rest := []) (kV F hW_H_2 (metX0_more l E H_2 tg x f n k hist sl z pd gl ln hxl_H_2 i (by omega)) (lw_V q836 q838 qs15 q42 q839) hdX0_more ⟨Nat.le_of_ble_eq_true rfl, Nat.le_of_ble_eq_true rfl⟩ (recv hW_H_2 hxo2_H_2 rfl) hl.1 rfl (Nat.le_of_ble_eq_true rfl) dX0_worstBan_86 ⟨by show kc + 4 + 4 ≤ (8 * 24); omega, by show ks + 84 + 84 ≤ (168 * 24); omega⟩) hS_2 (fun q9 h9 => Nat.le_trans (hS_2.chg).1 h9) (fun r_4 H_4 locs hp_4 hc_4 hS_4 => ?_)
          have hW_H_4 := hW_H_2.kept hc_4 (fun q h1 h2 => absurd h1 (Nat.not_lt.mpr h2))
          refine lv_val (y := moX (ruA f) n i) (hp_4) ?_
          have hz_H_4 := hc_4.1
          have hxo2_H_4 := hxo2_H_2.kept hc_4 (Nat.not_le.mpr hxo2_H_2.lt)
          have hg2_H_4 := hg2_H_2.kept hc_4 (Nat.not_le.mpr hg2_H_2.lt)
          have hc2_H_4 := hc2_H_2.kept hc_4 (Nat.not_le.mpr hc2_H_2.lt)
          have hxl_H_4 := hxl_H_2.grow hW.b0 hc_4
          refine lv_goto (tgt := 93) hx hb dX0_worstBan_89 (by decide) ?_
          refine lv_istore_n (lv' := [(2, .int (moX (ruA f) n i)), (1, .int (nI i)), (4, .int 1), (3, .int (nI i)), (0, .ref x)]) hx hb dX0_worstBan_93 rfl hl (by decide) rfl (fun ls hl => ?_)
          refine lv_iinc (v := nI (i + 1)) (lv' := [(3, .int (nI (i + 1))), (2, .int (moX (ruA f) n i)), (1, .int (nI i)), (4, .int 1), (0, .ref x)]) hx hb dX0_worstBan_94 hl (k := 3) rfl (nI_1 _) (by decide) rfl (fun ls hl => ?_)
          refine lv_goto (tgt := 7) hx hb dX0_worstBan_97 (by decide) ?_
          exact ih7 (i + 1) _ _ _ (by omega) (by rw [wbX_s]; simp [wost, c_1, c_3]) (by rw [wbX_s]; simp [wost, c_1, c_3]) rfl _ _ (by omega) (by omega) _ _ hS_4 hW_H_4 (trivial) ls (lv_sub hl [0, 2, 1, 4] rfl)
  exact loop7 (n - 0) 0 _ _ _ (by omega) rfl rfl rfl _ _ (Nat.zero_le _) (Nat.zero_le _) _ _ hS hW (trivial) ls (lv_sub hl [0, 2, 1, 3] rfl)

