/-! LAYEREDCHARTERS: changes -/
set_option maxRecDepth 100000
/-- an answer and the state behind it -/
def PX (E : EV) (tg : TG) (N x : Nat) (sl z pd : Nat → Int32) (ln : Nat) (T : T4) (r : Int32) (H1 : Heap) : Prop := r = T.1 ∧ ∃ n' k' : Nat, XE E tg N x T.2.1 n' k' T.2.2.1 sl z pd T.2.2.2 ln H1
theorem PX.of {E : EV} {tg : TG} {N x n' k' : Nat} {sl z pd : Nat → Int32} {ln : Nat} {T T' : T4} {H1 : Heap} (h : T = T') (k : XE E tg N x T'.2.1 n' k' T'.2.2.1 sl z pd T'.2.2.2 ln H1) : PX E tg N x sl z pd ln T T'.1 H1 := by
  subst h; exact ⟨rfl, n', k', k⟩
theorem RVok.mk {la ki cr de se : Int32} (h1 : inR la 0 4 = true) (h2 : inR cr 0 5 = true) (h3 : inR de 0 6 = true) (h4 : inR ki 0 2 = true) (h5 : inR se 1 9 = true) (h6 : ki = 0 → la ≤ 0) : RVok (la, ki, cr, de, se) := by
  obtain ⟨a, ha, ea⟩ := rng_of (b := 4) h1 (by decide)
  obtain ⟨b, hb, eb⟩ := rng_of (b := 5) h2 (by decide)
  obtain ⟨c, hc, ec⟩ := rng_of (b := 6) h3 (by decide)
  obtain ⟨d, hd, ed⟩ := rng_of (b := 2) h4 (by decide)
  have h7 := inR_iff.mp h5
  have h10 : (1 : Int32).toInt = 1 := by decide
  obtain ⟨e, he, ee⟩ := nat_of (x := se) (b := 9) (by have := h7.1; omega) h7.2 (by decide)
  refine ⟨a, d, b, c, e, by rw [ea, eb, ec, ed, ee], by omega, by omega, by omega, by omega, ?_, by omega, fun h => ?_⟩
  · have h9 := h7.1
    rw [ee, nI_toInt (by omega)] at h9
    have h8 : (1 : Int32).toInt = 1 := by decide
    omega
  · have h9 := h6 (by rw [ed, h]; rfl)
    rw [ea] at h9
    exact Nat.le_zero.mp ((nI_leI (b := 0) (by omega) (by omega)).mp h9)
theorem RVok.seal {v : RV} (h : RVok v) {se : Int32} (h5 : inR se 1 9 = true) : RVok (v.1, v.2.1, v.2.2.1, v.2.2.2.1, se) := by
  obtain ⟨la, ki, cr, de, s0, e, h1, h2, h3, h4, -, -, h7⟩ := h
  have h8 := inR_iff.mp h5
  have h1' : (1 : Int32).toInt = 1 := by decide
  obtain ⟨q, hq, eq⟩ := nat_of (x := se) (b := 9) (by have := h8.1; omega) h8.2 (by decide)
  refine ⟨la, ki, cr, de, q, by rw [e, eq], h1, h2, h3, h4, ?_, by omega, h7⟩
  have h9 := h8.1
  rw [eq, nI_toInt (by omega)] at h9
  omega
theorem RVok.layer {v : RV} (h : RVok v) {la : Int32} (h5 : inR la 0 4 = true) (h6 : v.2.1 = 0 → la ≤ 0) : RVok (la, v.2.1, v.2.2.1, v.2.2.2.1, v.2.2.2.2) := by
  obtain ⟨l0, ki, cr, de, s0, e, h1, h2, h3, h4, h7, h8, h9⟩ := h
  obtain ⟨a, ha, ea⟩ := rng_of (b := 4) h5 (by decide)
  refine ⟨a, ki, cr, de, s0, by rw [e, ea], by omega, h2, h3, h4, h7, h8, fun h => ?_⟩
  have h10 := h6 (by rw [e]; show nI ki = 0; rw [h]; rfl)
  rw [ea] at h10
  exact Nat.le_zero.mp ((nI_leI (b := 0) (by omega) (by omega)).mp h10)
theorem nI_eq24 {n : Nat} (hn : n ≤ 24) : (nI n = 24) ↔ n = 24 := nI_eq (a := n) (b := 24) (by omega) (by omega)
theorem nI_eq10 {n : Nat} (hn : n ≤ 10) : (nI n = 10) ↔ n = 10 := nI_eq (a := n) (b := 10) (by omega) (by omega)
theorem jx_ix (v : Int32) : jx v = ix v := rfl
theorem hdX0_change : Hd yX0_change 3 := by decide +kernel
set_option maxHeartbeats 1000000 in
set_option maxRecDepth 100000 in
theorem metX0_change (l : Launch) (E : EV) (H : Heap) (tg : TG) (x : Nat) (f : Nat → Int32) (n k : Nat) (hist sl z pd : Nat → Int32) (gl ln : Nat) (hx : XR E tg x f n k hist sl z pd gl ln H) (i : Nat) (hi : i < n) (la se : Int32) (hok : RVok (la, (ruA f i).2.1, (ruA f i).2.2.1, (ruA f i).2.2.2.1, se)) : Ct l yX0_change cX0_change 5 none 3 66 (1) (5) [.ref x, .int (nI i), .int la, .int se] E H (XA E tg H.size) (pN (fun H1 => XE E tg H.size x (chF f i la se) n k hist sl z pd gl ln H1)) := by
  have hx0 := hx
  obtain ⟨g, hL, sa, pb, pl, wr, hxo, hxt, hgs, hrs⟩ := hx
  have hgs0 := hgs
  obtain ⟨c, L, arr, cap, M, arr2, cap2, b, md, md2, xs, ys, hgx, hgt, hvk⟩ := hgs
  have hgx0 := hgx
  have hvk0 := hvk
  obtain ⟨hg, hcx, hrl, hal, hmb, hbl⟩ := hgx
  obtain ⟨hn0, hn24, hk0, hk10, hrok, hmok⟩ := hvk
  have hc0 := hcx.1
  have hcr : CR E c n (ruA f) H := ⟨L, md, arr, cap, xs, hcx.1, hcx.2, hrl⟩
  refine Ct.ofV (by decide) (Nat.le_of_ble_eq_true rfl) ?_
  intro p e s m bl mt cd ls Q hF hW hH hl hend
  obtain ⟨F, hin⟩ := hF
  have hx := F.1
  have hb := F.2.1
  have hts := F.2.2.2.2
  have hl : lv_has ls 5 [(0, .ref x), (1, .int (nI i)), (2, .int la), (3, .int se)] := hl
  have hS : va_S (XA E tg H.size) H H [] := va_S.rf
  obtain ⟨x_i, hgi⟩ : ∃ y, xs[i]? = some y := ⟨_, List.getElem?_eq_getElem (show i < xs.length by rw [hrl.1]; exact hi)⟩
  have hx_i := hrl.2.2 i x_i hgi
  have lx := hxo.lt; have lg := hg.lt; have lc := hc0.lt; have lL := hcx.2.1.lt; have li := hx_i.lt
  have hb9 := hW.b0
  obtain ⟨cC, hat⟩ := cat (ci := 6) hW rfl
  refine lv_aload_n hx hb dX0_change_0 rfl (lv_at hl 0 rfl) ?_
  refine xget (ref := "LayeredCharters") (ci := 0) (v := .ref g) (C := RX0) (T := TX0) (N := 6) F in_X0 hW hxo rfl 0 (by decide) q177 (fun _ h9 => h9) rfl dX0_change_1 ?_
  refine xget (ref := "LayeredCharters$Guild") (ci := 1) (v := .ref c) (C := RX1) (T := TX1) (N := 5) F in_X1 hW hg rfl 0 (by decide) q120 (fun _ h9 => h9) rfl dX0_change_4 ?_
  refine xget (ref := "LayeredCharters$Charter") (ci := 2) (v := .ref L) (C := RX2) (T := TX2) (N := 1) F in_X2 hW hc0 rfl 0 (by decide) q112 (fun _ h9 => h9) rfl dX0_change_7 ?_
  refine lv_iload_n hx hb dX0_change_10 rfl (lv_at hl 1 rfl) ?_
  refine run_ro5 (w := .ref x_i) (rest := []) (kF (x := ⟨"java/util/List", "get", "(I)Ljava/lang/Object;"⟩) F hW (metJ2_get l E H L arr cap i x_i xs md hcx.2 hgi) (by decide +kernel) hat q433 q307 q309 q47 q311 hdJ2_getF ⟨Nat.le_of_ble_eq_true rfl, Nat.le_of_ble_eq_true rfl⟩ (recv hW hcx.2.1 rfl) hl.1 rfl (Nat.le_of_ble_eq_true rfl) dX0_change_11 ⟨Nat.le_of_ble_eq_true rfl, Nat.le_of_ble_eq_true rfl⟩) ?_
  refine xcast (ci := 5) F hW hx_i rfl q386 dX0_change_16 ?_
  refine lv_astore (lv' := [(4, .ref x_i), (0, .ref x), (1, .int (nI i)), (2, .int la), (3, .int se)]) hx hb dX0_change_19 hl (by decide) rfl (fun ls hl => ?_)
  refine lv_aload_n hx hb dX0_change_21 rfl (lv_at hl 1 rfl) ?_
  refine xget (ref := "LayeredCharters") (ci := 0) (v := .ref g) (C := RX0) (T := TX0) (N := 6) F in_X0 hW hxo rfl 0 (by decide) q177 (fun _ h9 => h9) rfl dX0_change_22 ?_
  refine xget (ref := "LayeredCharters$Guild") (ci := 1) (v := .ref c) (C := RX1) (T := TX1) (N := 5) F in_X1 hW hg rfl 0 (by decide) q120 (fun _ h9 => h9) rfl dX0_change_25 ?_
  refine xget (ref := "LayeredCharters$Charter") (ci := 2) (v := .ref L) (C := RX2) (T := TX2) (N := 1) F in_X2 hW hc0 rfl 0 (by decide) q112 (fun _ h9 => h9) rfl dX0_change_28 ?_
  refine lv_iload_n hx hb dX0_change_31 rfl (lv_at hl 2 rfl) ?_
  refine xnew (ci := 5) (fs := [.int 0, .int 0, .int 0, .int 0, .int 0]) (C := RX6) (T := TX6) (N := 5) F in_X6 tyX6 tyX6_ok q386 q387 q61 hW hS rfl (fun j hj => by rcases (show j = 0 ∨ j = 1 ∨ j = 2 ∨ j = 3 ∨ j = 4 by omega) with rfl | rfl | rfl | rfl | rfl <;> rfl) (by show 0 + 1 ≤ 1; omega) (by show 0 + 5 ≤ 5; omega) dX0_change_32 (fun H_1 ho_1 hp_1 hS_1 => ?_)
  have hz_H_1 : H_1.size = H.size + 1 := hp_1.1
  have hW_H_1 := hW.kept (hp_1.chg (A := fun _ => False)) (fun _ _ h9 => h9.elim)
  have hxo_H_1 := hxo.kept (hp_1.chg (A := fun _ => False)) (fun h9 => h9)
  have hg_H_1 := hg.kept (hp_1.chg (A := fun _ => False)) (fun h9 => h9)
  have hc0_H_1 := hc0.kept (hp_1.chg (A := fun _ => False)) (fun h9 => h9)
  have hx_H_1 := hx_i.kept (hp_1.chg (A := fun _ => False)) (fun h9 => h9)
  refine lv_dup hx hb dX0_change_35 rfl ?_
  refine lv_iload_n hx hb dX0_change_36 rfl (lv_at hl 3 rfl) ?_
  refine lv_aload hx hb dX0_change_37 (lv_at hl 0 rfl) ?_
  refine xget (ref := "LayeredCharters$Rule") (ci := 5) (v := .int ((ruA f i).2.1)) (C := RX6) (T := TX6) (N := 5) F in_X6 hW_H_1 hx_H_1 rfl 1 (by decide) q398 (fun _ h9 => h9) rfl dX0_change_39 ?_
  refine lv_aload hx hb dX0_change_42 (lv_at hl 0 rfl) ?_
  refine xget (ref := "LayeredCharters$Rule") (ci := 5) (v := .int ((ruA f i).2.2.1)) (C := RX6) (T := TX6) (N := 5) F in_X6 hW_H_1 hx_H_1 rfl 2 (by decide) q400 (fun _ h9 => h9) rfl dX0_change_44 ?_
  refine lv_aload hx hb dX0_change_47 (lv_at hl 0 rfl) ?_
  refine xget (ref := "LayeredCharters$Rule") (ci := 5) (v := .int ((ruA f i).2.2.2.1)) (C := RX6) (T := TX6) (N := 5) F in_X6 hW_H_1 hx_H_1 rfl 3 (by decide) q402 (fun _ h9 => h9) rfl dX0_change_49 ?_
  refine lv_iload_n hx hb dX0_change_52 rfl (lv_at hl 4 rfl) ?_
  refine run_chN (rest := [.ref H.size, .int (nI i), .ref L]) (kI F hW_H_1 (metX6_init l E H_1 H.size (Nat.le_trans (show E.2.2.1 ≤ H.size from hW.2.2) (by omega)) (la, (ruA f i).2.1, (ruA f i).2.2.1, (ruA f i).2.2.2.1, se) ho_1) q390 q61 q388 q389 rfl hdX6_init ⟨Nat.le_of_ble_eq_true rfl, Nat.le_of_ble_eq_true rfl⟩ hl.1 rfl (Nat.le_of_ble_eq_true rfl) dX0_change_53 ⟨by show 1 + 0 ≤ 1; omega, by show 5 + 0 ≤ 5; omega⟩) hS_1 (fun q9 h9 => Or.inr (by have h8 : q9 = H.size := h9; omega)) (fun H_2 locs hp_2 hc_2 hS_2 => ?_)
  have hcI := hc_2
  have hz_H_2 := hc_2.1
  have hW_H_2 := hW_H_1.kept hc_2 (fun q9 _ h9 => h9 ▸ (Nat.le_trans (show E.2.2.1 ≤ H.size from hW.2.2) (by omega)))
  have hxo_H_2 := hxo_H_1.kept hc_2 (fun h9 => by have h8 : x = H.size := h9; omega)
  have hg_H_2 := hg_H_1.kept hc_2 (fun h9 => by have h8 : g = H.size := h9; omega)
  have hc0_H_2 := hc0_H_1.kept hc_2 (fun h9 => by have h8 : c = H.size := h9; omega)
  have hx_H_2 := hx_H_1.kept hc_2 (fun h9 => by have h8 : x_i = H.size := h9; omega)
  have hv_I := hp_2
  have hch : Chg (fun q => H.size ≤ q) H H_2 := ((hp_1.chg (A := fun q => H.size ≤ q))).trans2 hcI (fun q h1 h2 => by have h3 : q = H.size := h2; show H.size ≤ q; omega)
  have hALc := hcx.2.ext hW hch
  have hvl := hv_I.lt
  have hvL : ¬ LA E L arr H_2.size H.size := fun h9 => h9.elim (fun h8 => by have h7 : H.size = L := h8; omega) (fun h8 => h8.elim (fun h7 => Arr.ne hW_H_2 hALc.2 hv_I (h7.1 ▸ h7.2) h7.1.symm) (fun h7 => absurd hvl (Nat.not_lt.mpr h7)))
  refine run_ch5A (rest := []) (kF (x := ⟨"java/util/List", "set", "(ILjava/lang/Object;)Ljava/lang/Object;"⟩) F hW_H_2 (metJ2_set l E H_2 L arr cap i x_i xs md hALc hgi H.size ⟨5, _, _, hv_I, rfl, by decide +kernel⟩ hvL) (by decide +kernel) hat q439 q442 q444 q47 q446 hdJ2_setF ⟨Nat.le_of_ble_eq_true rfl, Nat.le_of_ble_eq_true rfl⟩ (recv hW_H_2 hALc.1 rfl) hl.1 rfl (Nat.le_of_ble_eq_true rfl) dX0_change_56 ⟨by show 1 + 0 ≤ 1; omega, by show 5 + 0 ≤ 5; omega⟩) hS_2 (fun q9 h9 => (((TgA.la hgt.2.2.1.2 hgt.2.2.2.2.2.1).xa (LA.old (n := 0) hW hgt.2.2.1.1) (by decide)) q9 (LA.mono h9 hch.1))) (fun r_3 H_3 locs hp_3 hc_3 hS_3 => ?_)
  obtain ⟨-, hAL2⟩ := hp_3
  have hcT : Chg (LA E L arr H.size) H H_3 := (hch.weak (fun q _ h => Or.inr (Or.inr h))).trans2 hc_3 (fun q h1 h2 => LA.mono h2 hch.1)
  have hW2 := hW_H_2.kept hc_3 (LA.old (n := 0) hW_H_2 hgt.2.2.1.1)
  have hv2 := hv_I.kept hc_3 hvL
  have hX2 := XR.setRule (la := la) (se := se) hW hW2 hxo hxt hgx0 hgt hvk0 hrs hcT hAL2 hv2 (Nat.le_refl _) hi hok
  refine lv_pop hx hb dX0_change_61 rfl ?_
  exact hend _ _ _ _ _ _ dX0_change_62 (⟨rfl, _, tgV_ext, hX2⟩) hS_3 (by first | exact Nat.le_refl _ | (show (1 : Nat) ≤ 1; omega)) (by first | exact Nat.le_refl _ | (show (5 : Nat) ≤ 5; omega))

theorem hdX0_add : Hd yX0_add 5 := by decide +kernel
set_option maxHeartbeats 1000000 in
set_option maxRecDepth 100000 in
theorem metX0_add (l : Launch) (E : EV) (H : Heap) (tg : TG) (x : Nat) (f : Nat → Int32) (n k : Nat) (hist sl z pd : Nat → Int32) (gl ln : Nat) (hx : XR E tg x f n k hist sl z pd gl ln H) (hgl6 : gl ≤ 6) (la ki cr de se : Int32) : Ct l yX0_add cX0_add 6 (some .int) 14 588 (32) (626) [.ref x, .int la, .int ki, .int cr, .int de, .int se] E H (XA E tg H.size) (pI (fun r9 H1 => PX E tg H.size x sl z pd ln (addT f hist gl n la ki cr de se) r9 H1)) := by
  have hx0 := hx
  obtain ⟨g, hL, sa, pb, pl, wr, hxo, hxt, hgs, hrs⟩ := hx
  have hgs0 := hgs
  obtain ⟨c, L, arr, cap, M, arr2, cap2, b, md, md2, xs, ys, hgx, hgt, hvk⟩ := hgs
  have hgx0 := hgx
  have hvk0 := hvk
  obtain ⟨hg, hcx, hrl, hal, hmb, hbl⟩ := hgx
  obtain ⟨hn0, hn24, hk0, hk10, hrok, hmok⟩ := hvk
  have hc0 := hcx.1
  have hcr : CR E c n (ruA f) H := ⟨L, md, arr, cap, xs, hcx.1, hcx.2, hrl⟩
  refine Ct.ofZ (by decide) (Nat.le_of_ble_eq_true rfl) ?_
  intro p e s m bl mt cd ls Q hF hW hH hl hend
  obtain ⟨F, hin⟩ := hF
  have hx := F.1
  have hb := F.2.1
  have hts := F.2.2.2.2
  have hl : lv_has ls 6 [(0, .ref x), (1, .int la), (2, .int ki), (3, .int cr), (4, .int de), (5, .int se)] := hl
  have hS : va_S (XA E tg H.size) H H [] := va_S.rf
  obtain ⟨cC, hat⟩ := cat (ci := 6) hW rfl
  refine lv_iload_n hx hb dX0_add_0 rfl (lv_at hl 1 rfl) ?_
  refine run_ro (w := .int (b2i (inR la 0 4))) (rest := []) (kS F hW (metX4_isLayer l E H la) (lw_S q200 q201 q53 q202) hdX4_isLayer ⟨Nat.le_of_ble_eq_true rfl, Nat.le_of_ble_eq_true rfl⟩ hl.1 rfl (Nat.le_of_ble_eq_true rfl) dX0_add_1 ⟨Nat.le_of_ble_eq_true rfl, Nat.le_of_ble_eq_true rfl⟩) ?_
  refine lv_if_eq (tgt := 27) hx hb dX0_add_4 (by decide) (fun c_1 => ?_) (fun c_1 => ?_)
  · skip
    have bc_1 := c_1
    have c_1 := b2i_f c_1
    refine lv_iconst (v := (-1)) hx hb dX0_add_27 (by decide) ?_
    exact hend _ _ _ _ _ _ _ rfl dX0_add_28 (⟨_, rfl, PX.of (T' := ((-1), f, hist, gl)) (by simp [addT, inR002, c_1]) ⟨tg, Ext.rf, hx0⟩⟩) hS (Nat.zero_le _) (Nat.zero_le _)
  · skip
    have bc_1 := c_1
    have c_1 := b2i_t c_1
    refine lv_iload_n hx hb dX0_add_7 rfl (lv_at hl 3 rfl) ?_
    refine lv_iconst (v := 0) hx hb dX0_add_8 (by decide) ?_
    refine lv_iconst (v := 5) hx hb dX0_add_9 (by decide) ?_
    refine run_ro (w := .int (b2i (inR cr 0 5))) (rest := []) (kS F hW (metX4_holds l E H cr 0 5) (lw_S q206 q204 q53 q205) hdX4_holds ⟨Nat.le_of_ble_eq_true rfl, Nat.le_of_ble_eq_true rfl⟩ hl.1 rfl (Nat.le_of_ble_eq_true rfl) dX0_add_10 ⟨Nat.le_of_ble_eq_true rfl, Nat.le_of_ble_eq_true rfl⟩) ?_
    refine lv_if_eq (tgt := 27) hx hb dX0_add_13 (by decide) (fun c_2 => ?_) (fun c_2 => ?_)
    · skip
      have bc_2 := c_2
      have c_2 := b2i_f c_2
      refine lv_iconst (v := (-1)) hx hb dX0_add_27 (by decide) ?_
      exact hend _ _ _ _ _ _ _ rfl dX0_add_28 (⟨_, rfl, PX.of (T' := ((-1), f, hist, gl)) (by simp [addT, inR002, c_1, c_2]) ⟨tg, Ext.rf, hx0⟩⟩) hS (Nat.zero_le _) (Nat.zero_le _)
    · skip
      have bc_2 := c_2
      have c_2 := b2i_t c_2
      refine lv_iload hx hb dX0_add_16 (lv_at hl 4 rfl) ?_
      refine lv_iconst (v := 0) hx hb dX0_add_18 (by decide) ?_
      refine lv_bipush (v := 6) hx hb dX0_add_19 (by decide) ?_
      refine run_ro (w := .int (b2i (inR de 0 6))) (rest := []) (kS F hW (metX4_holds l E H de 0 6) (lw_S q206 q204 q53 q205) hdX4_holds ⟨Nat.le_of_ble_eq_true rfl, Nat.le_of_ble_eq_true rfl⟩ hl.1 rfl (Nat.le_of_ble_eq_true rfl) dX0_add_21 ⟨Nat.le_of_ble_eq_true rfl, Nat.le_of_ble_eq_true rfl⟩) ?_
      refine lv_if_ne (tgt := 29) hx hb dX0_add_24 (by decide) (fun c_3 => ?_) (fun c_3 => ?_)
      · skip
        have bc_3 := c_3
        have c_3 := b2i_t c_3
        refine lv_iload_n hx hb dX0_add_29 rfl (lv_at hl 2 rfl) ?_
        refine lv_iconst (v := 0) hx hb dX0_add_30 (by decide) ?_
        refine lv_iconst (v := 2) hx hb dX0_add_31 (by decide) ?_
        refine run_ro (w := .int (b2i (inR ki 0 2))) (rest := []) (kS F hW (metX4_holds l E H ki 0 2) (lw_S q206 q204 q53 q205) hdX4_holds ⟨Nat.le_of_ble_eq_true rfl, Nat.le_of_ble_eq_true rfl⟩ hl.1 rfl (Nat.le_of_ble_eq_true rfl) dX0_add_32 ⟨Nat.le_of_ble_eq_true rfl, Nat.le_of_ble_eq_true rfl⟩) ?_
        refine lv_if_eq (tgt := 46) hx hb dX0_add_35 (by decide) (fun c_4 => ?_) (fun c_4 => ?_)
        · skip
          have bc_4 := c_4
          have c_4 := b2i_f c_4
          refine lv_bipush (v := (-2)) hx hb dX0_add_46 (by decide) ?_
          exact hend _ _ _ _ _ _ _ rfl dX0_add_48 (⟨_, rfl, PX.of (T' := ((-2), f, hist, gl)) (by simp [addT, inR002, c_1, c_2, c_3, c_4]) ⟨tg, Ext.rf, hx0⟩⟩) hS (Nat.zero_le _) (Nat.zero_le _)
        · skip
          have bc_4 := c_4
          have c_4 := b2i_t c_4
          refine lv_iload hx hb dX0_add_38 (lv_at hl 5 rfl) ?_
          refine run_ro (w := .int (b2i (inR se 1 9))) (rest := []) (kS F hW (metX4_isSeal l E H se) (lw_S q207 q208 q53 q209) hdX4_isSeal ⟨Nat.le_of_ble_eq_true rfl, Nat.le_of_ble_eq_true rfl⟩ hl.1 rfl (Nat.le_of_ble_eq_true rfl) dX0_add_40 ⟨Nat.le_of_ble_eq_true rfl, Nat.le_of_ble_eq_true rfl⟩) ?_
          refine lv_if_ne (tgt := 49) hx hb dX0_add_43 (by decide) (fun c_5 => ?_) (fun c_5 => ?_)
          · skip
            have bc_5 := c_5
            have c_5 := b2i_t c_5
            refine lv_iload_n hx hb dX0_add_49 rfl (lv_at hl 2 rfl) ?_
            refine lv_if_ne (tgt := 60) hx hb dX0_add_50 (by decide) (fun c_6 => ?_) (fun c_6 => ?_)
            · skip
              refine lv_aload_n hx hb dX0_add_60 rfl (lv_at hl 0 rfl) ?_
              refine xget (ref := "LayeredCharters") (ci := 0) (v := .ref g) (C := RX0) (T := TX0) (N := 6) F in_X0 hW hxo rfl 0 (by decide) q177 (fun _ h9 => h9) rfl dX0_add_61 ?_
              refine xget (ref := "LayeredCharters$Guild") (ci := 1) (v := .ref c) (C := RX1) (T := TX1) (N := 5) F in_X1 hW hg rfl 0 (by decide) q120 (fun _ h9 => h9) rfl dX0_add_64 ?_
              refine xget (ref := "LayeredCharters$Charter") (ci := 2) (v := .ref L) (C := RX2) (T := TX2) (N := 1) F in_X2 hW hc0 rfl 0 (by decide) q112 (fun _ h9 => h9) rfl dX0_add_67 ?_
              refine run_ro5 (w := .int (nI n)) (rest := []) (kF (x := ⟨"java/util/List", "size", "()I"⟩) F hW (metJ2_size l E H L arr md (nI n) (by have h9 := hcx.2.1; rw [hrl.1] at h9; exact h9)) (by decide +kernel) hat q211 q215 q217 q47 q219 hdJ2_sizeF ⟨Nat.le_of_ble_eq_true rfl, Nat.le_of_ble_eq_true rfl⟩ (recv hW hcx.2.1 rfl) hl.1 rfl (Nat.le_of_ble_eq_true rfl) dX0_add_70 ⟨Nat.le_of_ble_eq_true rfl, Nat.le_of_ble_eq_true rfl⟩) ?_
              refine lv_bipush (v := 24) hx hb dX0_add_75 (by decide) ?_
              refine lv_icmp_ne (tgt := 83) hx hb dX0_add_77 (by decide) (fun c_7 => ?_) (fun c_7 => ?_)
              · skip
                have hok := RVok.mk (la := la) (ki := ki) (cr := cr) (de := de) (se := se) c_1 c_2 c_3 c_4 c_5 (fun h => absurd h c_6)
                have n24 : n < 24 := Nat.lt_of_le_of_ne hn24 (fun h => c_7 ((nI_eq24 hn24).mpr h))
                refine lv_aload_n hx hb dX0_add_83 rfl (lv_at hl 0 rfl) ?_
                refine run_chN (rest := []) (kV F hW (metX0_record l E H tg x f n k hist sl z pd gl ln hx0 hgl6) (lw_V q220 q222 qs0 q42 q223) hdX0_record ⟨Nat.le_of_ble_eq_true rfl, Nat.le_of_ble_eq_true rfl⟩ (recv hW hxo rfl) hl.1 rfl (Nat.le_of_ble_eq_true rfl) dX0_add_84 ⟨by show 0 + 30 ≤ 32; omega, by show 0 + 581 ≤ 626; omega⟩) hS (fun _ h => h) (fun H_8 locs hp_8 hc_8 hS_8 => ?_)
                obtain ⟨tg1, hE1, hX1⟩ := hp_8
                have hz1 := hc_8.1
                have hb9 := hW.b0
                have hW1 := hW.kept hc_8 (XA.old (Nat.le_refl _))
                have hcR := hc_8
                obtain ⟨g1, hL1, sa1, pb1, pl1, wr1, hxo1, hxt1, hgs1, hrs1⟩ := hX1
                have hgs01 := hgs1
                obtain ⟨c1, L1, arr1, cap1, M1, arr21, cap21, b1, md1, md21, xs1, ys1, hgx1, hgt1, hvk1⟩ := hgs1
                have hgx01 := hgx1
                have hvk01 := hvk1
                obtain ⟨hg1, hcx1, hrl1, hal1, hmb1, hbl1⟩ := hgx1
                obtain ⟨hn01, hn241, hk01, hk101, hrok1, hmok1⟩ := hvk1
                have hc01 := hcx1.1
                have hcr1 : CR E c1 n (ruA f) H_8 := ⟨L1, md1, arr1, cap1, xs1, hcx1.1, hcx1.2, hrl1⟩
                have lx1 := hxo1.lt; have lg1 := hg1.lt; have lc1 := hc01.lt; have lL1 := hcx1.2.1.lt; have lM1 := hal1.1.lt
                refine lv_aload_n hx hb dX0_add_87 rfl (lv_at hl 0 rfl) ?_
                refine xget (ref := "LayeredCharters") (ci := 0) (v := .ref g1) (C := RX0) (T := TX0) (N := 6) F in_X0 hW1 hxo1 rfl 0 (by decide) q177 (fun _ h9 => h9) rfl dX0_add_88 ?_
                refine xget (ref := "LayeredCharters$Guild") (ci := 1) (v := .ref c1) (C := RX1) (T := TX1) (N := 5) F in_X1 hW1 hg1 rfl 0 (by decide) q120 (fun _ h9 => h9) rfl dX0_add_91 ?_
                refine xget (ref := "LayeredCharters$Charter") (ci := 2) (v := .ref L1) (C := RX2) (T := TX2) (N := 1) F in_X2 hW1 hc01 rfl 0 (by decide) q112 (fun _ h9 => h9) rfl dX0_add_94 ?_
                refine xnew (ci := 5) (fs := [.int 0, .int 0, .int 0, .int 0, .int 0]) (C := RX6) (T := TX6) (N := 5) F in_X6 tyX6 tyX6_ok q386 q387 q61 hW1 hS_8 rfl (fun j hj => by rcases (show j = 0 ∨ j = 1 ∨ j = 2 ∨ j = 3 ∨ j = 4 by omega) with rfl | rfl | rfl | rfl | rfl <;> rfl) (by show 30 + 1 ≤ 32; omega) (by show 581 + 5 ≤ 626; omega) dX0_add_97 (fun H_9 ho_9 hp_9 hS_9 => ?_)
                have hz_H_9 : H_9.size = H_8.size + 1 := hp_9.1
                have hW_H_9 := hW1.kept (hp_9.chg (A := fun _ => False)) (fun _ _ h9 => h9.elim)
                have hxo1_H_9 := hxo1.kept (hp_9.chg (A := fun _ => False)) (fun h9 => h9)
                have hg1_H_9 := hg1.kept (hp_9.chg (A := fun _ => False)) (fun h9 => h9)
                have hc01_H_9 := hc01.kept (hp_9.chg (A := fun _ => False)) (fun h9 => h9)
                refine lv_dup hx hb dX0_add_100 rfl ?_
                refine lv_iload_n hx hb dX0_add_101 rfl (lv_at hl 1 rfl) ?_
                refine lv_iload_n hx hb dX0_add_102 rfl (lv_at hl 2 rfl) ?_
                refine lv_iload_n hx hb dX0_add_103 rfl (lv_at hl 3 rfl) ?_
                refine lv_iload hx hb dX0_add_104 (lv_at hl 4 rfl) ?_
                refine lv_iload hx hb dX0_add_106 (lv_at hl 5 rfl) ?_
                refine run_chN (rest := [.ref H_8.size, .ref L1]) (kI F hW_H_9 (metX6_init l E H_9 H_8.size (Nat.le_trans (show E.2.2.1 ≤ H.size from hW.2.2) (by omega)) (la, ki, cr, de, se) ho_9) q390 q61 q388 q389 rfl hdX6_init ⟨Nat.le_of_ble_eq_true rfl, Nat.le_of_ble_eq_true rfl⟩ hl.1 rfl (Nat.le_of_ble_eq_true rfl) dX0_add_108 ⟨by show 31 + 0 ≤ 32; omega, by show 586 + 0 ≤ 626; omega⟩) hS_9 (fun q9 h9 => Or.inr (by have h8 : q9 = H_8.size := h9; omega)) (fun H_10 locs hp_10 hc_10 hS_10 => ?_)
                have hcI := hc_10
                have hz_H_10 := hc_10.1
                have hW_H_10 := hW_H_9.kept hc_10 (fun q9 _ h9 => h9 ▸ (Nat.le_trans (show E.2.2.1 ≤ H.size from hW.2.2) (by omega)))
                have hxo1_H_10 := hxo1_H_9.kept hc_10 (fun h9 => by have h8 : x = H_8.size := h9; omega)
                have hg1_H_10 := hg1_H_9.kept hc_10 (fun h9 => by have h8 : g1 = H_8.size := h9; omega)
                have hc01_H_10 := hc01_H_9.kept hc_10 (fun h9 => by have h8 : c1 = H_8.size := h9; omega)
                have hv_I := hp_10
                have hch : Chg (fun q => H_8.size ≤ q) H_8 H_10 := ((hp_9.chg (A := fun q => H_8.size ≤ q))).trans2 hcI (fun q h1 h2 => by have h3 : q = H_8.size := h2; show H_8.size ≤ q; omega)
                have hALc := hcx1.2.ext hW1 hch
                have hvl := hv_I.lt
                have hvL : ¬ LA E L1 arr1 H_10.size H_8.size := fun h9 => h9.elim (fun h8 => by have h7 : H_8.size = L1 := h8; omega) (fun h8 => h8.elim (fun h7 => Arr.ne hW_H_10 hALc.2 hv_I (h7.1 ▸ h7.2) h7.1.symm) (fun h7 => absurd hvl (Nat.not_lt.mpr h7)))
                refine run_ch5I (rest := []) (kF (x := ⟨"java/util/List", "add", "(Ljava/lang/Object;)Z"⟩) F hW_H_10 (metJ2_add l E H_10 L1 arr1 cap1 H_8.size xs1 md1 hgt1.2.2.1.1 hALc (fun y hy => ⟨(rls_elt hrl1 y hy).kept hch (Nat.not_le.mpr (hrl1.lt hy)), tne9 (hgt1.2.2.2.2.2.2.2.2 y hy) hgt1.2.2.1.2 (by decide)⟩) ⟨5, _, _, hv_I, rfl, by decide +kernel⟩ (by omega) (by rw [hrl1.1]; omega)) (by decide +kernel) hat q372 q358 q360 q47 q362 hdJ2_addF ⟨Nat.le_of_ble_eq_true rfl, Nat.le_of_ble_eq_true rfl⟩ (recv hW_H_10 hALc.1 rfl) hl.1 rfl (Nat.le_of_ble_eq_true rfl) dX0_add_111 ⟨by show 31 + 1 ≤ 32; omega, by show 586 + 40 ≤ 626; omega⟩) hS_10 (fun q9 h9 => XA.ext hE1 hz1 q9 (((TgA.la hgt1.2.2.1.2 hgt1.2.2.2.2.2.1).xa (LA.old (n := 0) hW1 hgt1.2.2.1.1) (by decide)) q9 (LA.mono h9 hch.1))) (fun r_11 H_11 locs hp_11 hc_11 hS_11 => ?_)
                obtain ⟨arr', cap', hAL2, hor⟩ := hp_11
                have hcT : Chg (LA E L1 arr1 H_8.size) H_8 H_11 := (hch.weak (fun q _ h => Or.inr (Or.inr h))).trans2 hc_11 (fun q h1 h2 => LA.mono h2 hch.1)
                have hW2 := hW_H_10.kept hc_11 (LA.old (n := 0) hW_H_10 hgt1.2.2.1.1)
                have hv2 := hv_I.kept hc_11 hvL
                have hX2 := XR.addRule (la := la) (ki := ki) (cr := cr) (de := de) (se := se) hW1 hW2 hxo1 hxt1 hgx01 hgt1 hvk01 hrs1 hcT hAL2 (hor.imp id (fun h => Nat.le_trans hch.1 h)) hv2 (Nat.le_refl _) n24 hok
                have hX2' := hX2
                obtain ⟨g2, hL2, sa2, pb2, pl2, wr2, hxo2, hxt2, hgs2, hrs2⟩ := hX2
                have hgs02 := hgs2
                obtain ⟨c2, L2, arr2, cap2, M2, arr22, cap22, b2, md2, md22, xs2, ys2, hgx2, hgt2, hvk2⟩ := hgs2
                have hgx02 := hgx2
                have hvk02 := hvk2
                obtain ⟨hg2, hcx2, hrl2, hal2, hmb2, hbl2⟩ := hgx2
                obtain ⟨hn02, hn242, hk02, hk102, hrok2, hmok2⟩ := hvk2
                have hc02 := hcx2.1
                have hcr2 : CR E c2 (n + 1) (ruA (addF f n la ki cr de se)) H_11 := ⟨L2, md2, arr2, cap2, xs2, hcx2.1, hcx2.2, hrl2⟩
                have lx2 := hxo2.lt; have lg2 := hg2.lt; have lc2 := hc02.lt; have lL2 := hcx2.2.1.lt; have lM2 := hal2.1.lt
                refine lv_pop hx hb dX0_add_116 rfl ?_
                refine lv_aload_n hx hb dX0_add_117 rfl (lv_at hl 0 rfl) ?_
                refine xget (ref := "LayeredCharters") (ci := 0) (v := .ref g2) (C := RX0) (T := TX0) (N := 6) F in_X0 hW2 hxo2 rfl 0 (by decide) q177 (fun _ h9 => h9) rfl dX0_add_118 ?_
                refine xget (ref := "LayeredCharters$Guild") (ci := 1) (v := .ref c2) (C := RX1) (T := TX1) (N := 5) F in_X1 hW2 hg2 rfl 0 (by decide) q120 (fun _ h9 => h9) rfl dX0_add_121 ?_
                refine xget (ref := "LayeredCharters$Charter") (ci := 2) (v := .ref L2) (C := RX2) (T := TX2) (N := 1) F in_X2 hW2 hc02 rfl 0 (by decide) q112 (fun _ h9 => h9) rfl dX0_add_124 ?_
                refine run_ro5 (w := .int (nI (n + 1))) (rest := []) (kF (x := ⟨"java/util/List", "size", "()I"⟩) F hW2 (metJ2_size l E H_11 L2 arr2 md2 (nI (n + 1)) (by have h9 := hcx2.2.1; rw [hrl2.1] at h9; exact h9)) (by decide +kernel) hat q211 q215 q217 q47 q219 hdJ2_sizeF ⟨Nat.le_of_ble_eq_true rfl, Nat.le_of_ble_eq_true rfl⟩ (recv hW2 hcx2.2.1 rfl) hl.1 rfl (Nat.le_of_ble_eq_true rfl) dX0_add_127 ⟨Nat.le_of_ble_eq_true rfl, Nat.le_of_ble_eq_true rfl⟩) ?_
                refine lv_iconst (v := 1) hx hb dX0_add_132 (by decide) ?_
                refine lv_isub hx hb dX0_add_133 ?_
                refine lv_val (y := nI n) (nI_pred n) ?_
                exact hend _ _ _ _ _ _ _ rfl dX0_add_134 (⟨_, rfl, PX.of (T' := (nI n, addF f n la ki cr de se, recH f hist gl, recK gl)) (by have h24 : ¬ n = 24 := (by omega); simp [addT, inR002, c_1, c_2, c_3, c_4, c_5, c_6, c_7, h24]) ⟨_, hE1.trans tgV_ext hz1, hX2'⟩⟩) hS_11 (by first | exact Nat.le_refl _ | (show (32 : Nat) ≤ 32; omega)) (by first | exact Nat.le_refl _ | (show (626 : Nat) ≤ 626; omega))
              · skip
                refine lv_bipush (v := (-4)) hx hb dX0_add_80 (by decide) ?_
                exact hend _ _ _ _ _ _ _ rfl dX0_add_82 (⟨_, rfl, PX.of (T' := ((-4), f, hist, gl)) (by simp [addT, inR002, c_1, c_2, c_3, c_4, c_5, c_6, c_7, (nI_eq24 hn24).mp c_7]) ⟨tg, Ext.rf, hx0⟩⟩) hS (Nat.zero_le _) (Nat.zero_le _)
            · skip
              refine lv_iload_n hx hb dX0_add_53 rfl (lv_at hl 1 rfl) ?_
              refine lv_if_le (tgt := 60) hx hb dX0_add_54 (by decide) (fun c_12 => ?_) (fun c_12 => ?_)
              · skip
                refine lv_aload_n hx hb dX0_add_60 rfl (lv_at hl 0 rfl) ?_
                refine xget (ref := "LayeredCharters") (ci := 0) (v := .ref g) (C := RX0) (T := TX0) (N := 6) F in_X0 hW hxo rfl 0 (by decide) q177 (fun _ h9 => h9) rfl dX0_add_61 ?_
                refine xget (ref := "LayeredCharters$Guild") (ci := 1) (v := .ref c) (C := RX1) (T := TX1) (N := 5) F in_X1 hW hg rfl 0 (by decide) q120 (fun _ h9 => h9) rfl dX0_add_64 ?_
                refine xget (ref := "LayeredCharters$Charter") (ci := 2) (v := .ref L) (C := RX2) (T := TX2) (N := 1) F in_X2 hW hc0 rfl 0 (by decide) q112 (fun _ h9 => h9) rfl dX0_add_67 ?_
                refine run_ro5 (w := .int (nI n)) (rest := []) (kF (x := ⟨"java/util/List", "size", "()I"⟩) F hW (metJ2_size l E H L arr md (nI n) (by have h9 := hcx.2.1; rw [hrl.1] at h9; exact h9)) (by decide +kernel) hat q211 q215 q217 q47 q219 hdJ2_sizeF ⟨Nat.le_of_ble_eq_true rfl, Nat.le_of_ble_eq_true rfl⟩ (recv hW hcx.2.1 rfl) hl.1 rfl (Nat.le_of_ble_eq_true rfl) dX0_add_70 ⟨Nat.le_of_ble_eq_true rfl, Nat.le_of_ble_eq_true rfl⟩) ?_
                refine lv_bipush (v := 24) hx hb dX0_add_75 (by decide) ?_
                refine lv_icmp_ne (tgt := 83) hx hb dX0_add_77 (by decide) (fun c_13 => ?_) (fun c_13 => ?_)
                · skip
                  have hok := RVok.mk (la := la) (ki := ki) (cr := cr) (de := de) (se := se) c_1 c_2 c_3 c_4 c_5 (fun _ => c_12)
                  have n24 : n < 24 := Nat.lt_of_le_of_ne hn24 (fun h => c_13 ((nI_eq24 hn24).mpr h))
                  refine lv_aload_n hx hb dX0_add_83 rfl (lv_at hl 0 rfl) ?_
                  refine run_chN (rest := []) (kV F hW (metX0_record l E H tg x f n k hist sl z pd gl ln hx0 hgl6) (lw_V q220 q222 qs0 q42 q223) hdX0_record ⟨Nat.le_of_ble_eq_true rfl, Nat.le_of_ble_eq_true rfl⟩ (recv hW hxo rfl) hl.1 rfl (Nat.le_of_ble_eq_true rfl) dX0_add_84 ⟨by show 0 + 30 ≤ 32; omega, by show 0 + 581 ≤ 626; omega⟩) hS (fun _ h => h) (fun H_14 locs hp_14 hc_14 hS_14 => ?_)
                  obtain ⟨tg1, hE1, hX1⟩ := hp_14
                  have hz1 := hc_14.1
                  have hb9 := hW.b0
                  have hW1 := hW.kept hc_14 (XA.old (Nat.le_refl _))
                  have hcR := hc_14
                  obtain ⟨g1, hL1, sa1, pb1, pl1, wr1, hxo1, hxt1, hgs1, hrs1⟩ := hX1
                  have hgs01 := hgs1
                  obtain ⟨c1, L1, arr1, cap1, M1, arr21, cap21, b1, md1, md21, xs1, ys1, hgx1, hgt1, hvk1⟩ := hgs1
                  have hgx01 := hgx1
                  have hvk01 := hvk1
                  obtain ⟨hg1, hcx1, hrl1, hal1, hmb1, hbl1⟩ := hgx1
                  obtain ⟨hn01, hn241, hk01, hk101, hrok1, hmok1⟩ := hvk1
                  have hc01 := hcx1.1
                  have hcr1 : CR E c1 n (ruA f) H_14 := ⟨L1, md1, arr1, cap1, xs1, hcx1.1, hcx1.2, hrl1⟩
                  have lx1 := hxo1.lt; have lg1 := hg1.lt; have lc1 := hc01.lt; have lL1 := hcx1.2.1.lt; have lM1 := hal1.1.lt
                  refine lv_aload_n hx hb dX0_add_87 rfl (lv_at hl 0 rfl) ?_
                  refine xget (ref := "LayeredCharters") (ci := 0) (v := .ref g1) (C := RX0) (T := TX0) (N := 6) F in_X0 hW1 hxo1 rfl 0 (by decide) q177 (fun _ h9 => h9) rfl dX0_add_88 ?_
                  refine xget (ref := "LayeredCharters$Guild") (ci := 1) (v := .ref c1) (C := RX1) (T := TX1) (N := 5) F in_X1 hW1 hg1 rfl 0 (by decide) q120 (fun _ h9 => h9) rfl dX0_add_91 ?_
                  refine xget (ref := "LayeredCharters$Charter") (ci := 2) (v := .ref L1) (C := RX2) (T := TX2) (N := 1) F in_X2 hW1 hc01 rfl 0 (by decide) q112 (fun _ h9 => h9) rfl dX0_add_94 ?_
                  refine xnew (ci := 5) (fs := [.int 0, .int 0, .int 0, .int 0, .int 0]) (C := RX6) (T := TX6) (N := 5) F in_X6 tyX6 tyX6_ok q386 q387 q61 hW1 hS_14 rfl (fun j hj => by rcases (show j = 0 ∨ j = 1 ∨ j = 2 ∨ j = 3 ∨ j = 4 by omega) with rfl | rfl | rfl | rfl | rfl <;> rfl) (by show 30 + 1 ≤ 32; omega) (by show 581 + 5 ≤ 626; omega) dX0_add_97 (fun H_15 ho_15 hp_15 hS_15 => ?_)
                  have hz_H_15 : H_15.size = H_14.size + 1 := hp_15.1
                  have hW_H_15 := hW1.kept (hp_15.chg (A := fun _ => False)) (fun _ _ h9 => h9.elim)
                  have hxo1_H_15 := hxo1.kept (hp_15.chg (A := fun _ => False)) (fun h9 => h9)
                  have hg1_H_15 := hg1.kept (hp_15.chg (A := fun _ => False)) (fun h9 => h9)
                  have hc01_H_15 := hc01.kept (hp_15.chg (A := fun _ => False)) (fun h9 => h9)
                  refine lv_dup hx hb dX0_add_100 rfl ?_
                  refine lv_iload_n hx hb dX0_add_101 rfl (lv_at hl 1 rfl) ?_
                  refine lv_iload_n hx hb dX0_add_102 rfl (lv_at hl 2 rfl) ?_
                  refine lv_iload_n hx hb dX0_add_103 rfl (lv_at hl 3 rfl) ?_
                  refine lv_iload hx hb dX0_add_104 (lv_at hl 4 rfl) ?_
                  refine lv_iload hx hb dX0_add_106 (lv_at hl 5 rfl) ?_
                  refine run_chN (rest := [.ref H_14.size, .ref L1]) (kI F hW_H_15 (metX6_init l E H_15 H_14.size (Nat.le_trans (show E.2.2.1 ≤ H.size from hW.2.2) (by omega)) (la, ki, cr, de, se) ho_15) q390 q61 q388 q389 rfl hdX6_init ⟨Nat.le_of_ble_eq_true rfl, Nat.le_of_ble_eq_true rfl⟩ hl.1 rfl (Nat.le_of_ble_eq_true rfl) dX0_add_108 ⟨by show 31 + 0 ≤ 32; omega, by show 586 + 0 ≤ 626; omega⟩) hS_15 (fun q9 h9 => Or.inr (by have h8 : q9 = H_14.size := h9; omega)) (fun H_16 locs hp_16 hc_16 hS_16 => ?_)
                  have hcI := hc_16
                  have hz_H_16 := hc_16.1
                  have hW_H_16 := hW_H_15.kept hc_16 (fun q9 _ h9 => h9 ▸ (Nat.le_trans (show E.2.2.1 ≤ H.size from hW.2.2) (by omega)))
                  have hxo1_H_16 := hxo1_H_15.kept hc_16 (fun h9 => by have h8 : x = H_14.size := h9; omega)
                  have hg1_H_16 := hg1_H_15.kept hc_16 (fun h9 => by have h8 : g1 = H_14.size := h9; omega)
                  have hc01_H_16 := hc01_H_15.kept hc_16 (fun h9 => by have h8 : c1 = H_14.size := h9; omega)
                  have hv_I := hp_16
                  have hch : Chg (fun q => H_14.size ≤ q) H_14 H_16 := ((hp_15.chg (A := fun q => H_14.size ≤ q))).trans2 hcI (fun q h1 h2 => by have h3 : q = H_14.size := h2; show H_14.size ≤ q; omega)
                  have hALc := hcx1.2.ext hW1 hch
                  have hvl := hv_I.lt
                  have hvL : ¬ LA E L1 arr1 H_16.size H_14.size := fun h9 => h9.elim (fun h8 => by have h7 : H_14.size = L1 := h8; omega) (fun h8 => h8.elim (fun h7 => Arr.ne hW_H_16 hALc.2 hv_I (h7.1 ▸ h7.2) h7.1.symm) (fun h7 => absurd hvl (Nat.not_lt.mpr h7)))
                  refine run_ch5I (rest := []) (kF (x := ⟨"java/util/List", "add", "(Ljava/lang/Object;)Z"⟩) F hW_H_16 (metJ2_add l E H_16 L1 arr1 cap1 H_14.size xs1 md1 hgt1.2.2.1.1 hALc (fun y hy => ⟨(rls_elt hrl1 y hy).kept hch (Nat.not_le.mpr (hrl1.lt hy)), tne9 (hgt1.2.2.2.2.2.2.2.2 y hy) hgt1.2.2.1.2 (by decide)⟩) ⟨5, _, _, hv_I, rfl, by decide +kernel⟩ (by omega) (by rw [hrl1.1]; omega)) (by decide +kernel) hat q372 q358 q360 q47 q362 hdJ2_addF ⟨Nat.le_of_ble_eq_true rfl, Nat.le_of_ble_eq_true rfl⟩ (recv hW_H_16 hALc.1 rfl) hl.1 rfl (Nat.le_of_ble_eq_true rfl) dX0_add_111 ⟨by show 31 + 1 ≤ 32; omega, by show 586 + 40 ≤ 626; omega⟩) hS_16 (fun q9 h9 => XA.ext hE1 hz1 q9 (((TgA.la hgt1.2.2.1.2 hgt1.2.2.2.2.2.1).xa (LA.old (n := 0) hW1 hgt1.2.2.1.1) (by decide)) q9 (LA.mono h9 hch.1))) (fun r_17 H_17 locs hp_17 hc_17 hS_17 => ?_)
                  obtain ⟨arr', cap', hAL2, hor⟩ := hp_17
                  have hcT : Chg (LA E L1 arr1 H_14.size) H_14 H_17 := (hch.weak (fun q _ h => Or.inr (Or.inr h))).trans2 hc_17 (fun q h1 h2 => LA.mono h2 hch.1)
                  have hW2 := hW_H_16.kept hc_17 (LA.old (n := 0) hW_H_16 hgt1.2.2.1.1)
                  have hv2 := hv_I.kept hc_17 hvL
                  have hX2 := XR.addRule (la := la) (ki := ki) (cr := cr) (de := de) (se := se) hW1 hW2 hxo1 hxt1 hgx01 hgt1 hvk01 hrs1 hcT hAL2 (hor.imp id (fun h => Nat.le_trans hch.1 h)) hv2 (Nat.le_refl _) n24 hok
                  have hX2' := hX2
                  obtain ⟨g2, hL2, sa2, pb2, pl2, wr2, hxo2, hxt2, hgs2, hrs2⟩ := hX2
                  have hgs02 := hgs2
                  obtain ⟨c2, L2, arr2, cap2, M2, arr22, cap22, b2, md2, md22, xs2, ys2, hgx2, hgt2, hvk2⟩ := hgs2
                  have hgx02 := hgx2
                  have hvk02 := hvk2
                  obtain ⟨hg2, hcx2, hrl2, hal2, hmb2, hbl2⟩ := hgx2
                  obtain ⟨hn02, hn242, hk02, hk102, hrok2, hmok2⟩ := hvk2
                  have hc02 := hcx2.1
                  have hcr2 : CR E c2 (n + 1) (ruA (addF f n la ki cr de se)) H_17 := ⟨L2, md2, arr2, cap2, xs2, hcx2.1, hcx2.2, hrl2⟩
                  have lx2 := hxo2.lt; have lg2 := hg2.lt; have lc2 := hc02.lt; have lL2 := hcx2.2.1.lt; have lM2 := hal2.1.lt
                  refine lv_pop hx hb dX0_add_116 rfl ?_
                  refine lv_aload_n hx hb dX0_add_117 rfl (lv_at hl 0 rfl) ?_
                  refine xget (ref := "LayeredCharters") (ci := 0) (v := .ref g2) (C := RX0) (T := TX0) (N := 6) F in_X0 hW2 hxo2 rfl 0 (by decide) q177 (fun _ h9 => h9) rfl dX0_add_118 ?_
                  refine xget (ref := "LayeredCharters$Guild") (ci := 1) (v := .ref c2) (C := RX1) (T := TX1) (N := 5) F in_X1 hW2 hg2 rfl 0 (by decide) q120 (fun _ h9 => h9) rfl dX0_add_121 ?_
                  refine xget (ref := "LayeredCharters$Charter") (ci := 2) (v := .ref L2) (C := RX2) (T := TX2) (N := 1) F in_X2 hW2 hc02 rfl 0 (by decide) q112 (fun _ h9 => h9) rfl dX0_add_124 ?_
                  refine run_ro5 (w := .int (nI (n + 1))) (rest := []) (kF (x := ⟨"java/util/List", "size", "()I"⟩) F hW2 (metJ2_size l E H_17 L2 arr2 md2 (nI (n + 1)) (by have h9 := hcx2.2.1; rw [hrl2.1] at h9; exact h9)) (by decide +kernel) hat q211 q215 q217 q47 q219 hdJ2_sizeF ⟨Nat.le_of_ble_eq_true rfl, Nat.le_of_ble_eq_true rfl⟩ (recv hW2 hcx2.2.1 rfl) hl.1 rfl (Nat.le_of_ble_eq_true rfl) dX0_add_127 ⟨Nat.le_of_ble_eq_true rfl, Nat.le_of_ble_eq_true rfl⟩) ?_
                  refine lv_iconst (v := 1) hx hb dX0_add_132 (by decide) ?_
                  refine lv_isub hx hb dX0_add_133 ?_
                  refine lv_val (y := nI n) (nI_pred n) ?_
                  exact hend _ _ _ _ _ _ _ rfl dX0_add_134 (⟨_, rfl, PX.of (T' := (nI n, addF f n la ki cr de se, recH f hist gl, recK gl)) (by have h24 : ¬ n = 24 := (by omega); simp [addT, inR002, c_1, c_2, c_3, c_4, c_5, c_6, c_12, c_13, h24]) ⟨_, hE1.trans tgV_ext hz1, hX2'⟩⟩) hS_17 (by first | exact Nat.le_refl _ | (show (32 : Nat) ≤ 32; omega)) (by first | exact Nat.le_refl _ | (show (626 : Nat) ≤ 626; omega))
                · skip
                  refine lv_bipush (v := (-4)) hx hb dX0_add_80 (by decide) ?_
                  exact hend _ _ _ _ _ _ _ rfl dX0_add_82 (⟨_, rfl, PX.of (T' := ((-4), f, hist, gl)) (by simp [addT, inR002, c_1, c_2, c_3, c_4, c_5, c_6, c_12, c_13, (nI_eq24 hn24).mp c_13]) ⟨tg, Ext.rf, hx0⟩⟩) hS (Nat.zero_le _) (Nat.zero_le _)
              · skip
                refine lv_bipush (v := (-5)) hx hb dX0_add_57 (by decide) ?_
                exact hend _ _ _ _ _ _ _ rfl dX0_add_59 (⟨_, rfl, PX.of (T' := ((-5), f, hist, gl)) (by simp [addT, inR002, c_1, c_2, c_3, c_4, c_5, c_6, c_12]) ⟨tg, Ext.rf, hx0⟩⟩) hS (Nat.zero_le _) (Nat.zero_le _)
          · skip
            have bc_5 := c_5
            have c_5 := b2i_f c_5
            refine lv_bipush (v := (-2)) hx hb dX0_add_46 (by decide) ?_
            exact hend _ _ _ _ _ _ _ rfl dX0_add_48 (⟨_, rfl, PX.of (T' := ((-2), f, hist, gl)) (by simp [addT, inR002, c_1, c_2, c_3, c_4, c_5]) ⟨tg, Ext.rf, hx0⟩⟩) hS (Nat.zero_le _) (Nat.zero_le _)
      · skip
        have bc_3 := c_3
        have c_3 := b2i_f c_3
        refine lv_iconst (v := (-1)) hx hb dX0_add_27 (by decide) ?_
        exact hend _ _ _ _ _ _ _ rfl dX0_add_28 (⟨_, rfl, PX.of (T' := ((-1), f, hist, gl)) (by simp [addT, inR002, c_1, c_2, c_3]) ⟨tg, Ext.rf, hx0⟩⟩) hS (Nat.zero_le _) (Nat.zero_le _)

theorem hdX0_strike : Hd yX0_strike 1 := by decide +kernel
set_option maxHeartbeats 1000000 in
set_option maxRecDepth 100000 in
theorem metX0_strike (l : Launch) (E : EV) (H : Heap) (tg : TG) (x : Nat) (f : Nat → Int32) (n k : Nat) (hist sl z pd : Nat → Int32) (gl ln : Nat) (hx : XR E tg x f n k hist sl z pd gl ln H) (hgl6 : gl ≤ 6) (r : Int32) : Ct l yX0_strike cX0_strike 2 (some .int) 14 588 (30) (581) [.ref x, .int r] E H (XA E tg H.size) (pI (fun r9 H1 => PX E tg H.size x sl z pd ln (strikeT f hist gl n r) r9 H1)) := by
  have hx0 := hx
  obtain ⟨g, hL, sa, pb, pl, wr, hxo, hxt, hgs, hrs⟩ := hx
  have hgs0 := hgs
  obtain ⟨c, L, arr, cap, M, arr2, cap2, b, md, md2, xs, ys, hgx, hgt, hvk⟩ := hgs
  have hgx0 := hgx
  have hvk0 := hvk
  obtain ⟨hg, hcx, hrl, hal, hmb, hbl⟩ := hgx
  obtain ⟨hn0, hn24, hk0, hk10, hrok, hmok⟩ := hvk
  have hc0 := hcx.1
  have hcr : CR E c n (ruA f) H := ⟨L, md, arr, cap, xs, hcx.1, hcx.2, hrl⟩
  refine Ct.ofZ (by decide) (Nat.le_of_ble_eq_true rfl) ?_
  intro p e s m bl mt cd ls Q hF hW hH hl hend
  obtain ⟨F, hin⟩ := hF
  have hx := F.1
  have hb := F.2.1
  have hts := F.2.2.2.2
  have hl : lv_has ls 2 [(0, .ref x), (1, .int r)] := hl
  have hS : va_S (XA E tg H.size) H H [] := va_S.rf
  obtain ⟨cC, hat⟩ := cat (ci := 6) hW rfl
  refine lv_aload_n hx hb dX0_strike_0 rfl (lv_at hl 0 rfl) ?_
  refine xget (ref := "LayeredCharters") (ci := 0) (v := .ref g) (C := RX0) (T := TX0) (N := 6) F in_X0 hW hxo rfl 0 (by decide) q177 (fun _ h9 => h9) rfl dX0_strike_1 ?_
  refine xget (ref := "LayeredCharters$Guild") (ci := 1) (v := .ref c) (C := RX1) (T := TX1) (N := 5) F in_X1 hW hg rfl 0 (by decide) q120 (fun _ h9 => h9) rfl dX0_strike_4 ?_
  refine lv_iload_n hx hb dX0_strike_7 rfl (lv_at hl 1 rfl) ?_
  refine run_ro (w := .int (b2i (inR r 0 (nI n - 1)))) (rest := []) (kV F hW (metX2_hasRule l E H c n (ruA f) hcr r) (lw_V q421 q422 q423 q44 q424) hdX2_hasRule ⟨Nat.le_of_ble_eq_true rfl, Nat.le_of_ble_eq_true rfl⟩ (recv hW hc0 rfl) hl.1 rfl (Nat.le_of_ble_eq_true rfl) dX0_strike_8 ⟨Nat.le_of_ble_eq_true rfl, Nat.le_of_ble_eq_true rfl⟩) ?_
  refine lv_if_ne (tgt := 16) hx hb dX0_strike_11 (by decide) (fun c_1 => ?_) (fun c_1 => ?_)
  · skip
    have bc_1 := c_1
    have c_1 := b2i_t c_1
    refine lv_aload_n hx hb dX0_strike_16 rfl (lv_at hl 0 rfl) ?_
    refine run_chN (rest := []) (kV F hW (metX0_record l E H tg x f n k hist sl z pd gl ln hx0 hgl6) (lw_V q220 q222 qs0 q42 q223) hdX0_record ⟨Nat.le_of_ble_eq_true rfl, Nat.le_of_ble_eq_true rfl⟩ (recv hW hxo rfl) hl.1 rfl (Nat.le_of_ble_eq_true rfl) dX0_strike_17 ⟨by show 0 + 30 ≤ 30; omega, by show 0 + 581 ≤ 581; omega⟩) hS (fun _ h => h) (fun H_2 locs hp_2 hc_2 hS_2 => ?_)
    obtain ⟨tg1, hE1, hX1⟩ := hp_2
    have hz1 := hc_2.1
    have hb9 := hW.b0
    have hW1 := hW.kept hc_2 (XA.old (Nat.le_refl _))
    have hcR := hc_2
    obtain ⟨i, hi, eri⟩ := idx_of c_1 (by omega)
    obtain ⟨g1, hL1, sa1, pb1, pl1, wr1, hxo1, hxt1, hgs1, hrs1⟩ := hX1
    have hgs01 := hgs1
    obtain ⟨c1, L1, arr1, cap1, M1, arr21, cap21, b1, md1, md21, xs1, ys1, hgx1, hgt1, hvk1⟩ := hgs1
    have hgx01 := hgx1
    have hvk01 := hvk1
    obtain ⟨hg1, hcx1, hrl1, hal1, hmb1, hbl1⟩ := hgx1
    obtain ⟨hn01, hn241, hk01, hk101, hrok1, hmok1⟩ := hvk1
    have hc01 := hcx1.1
    have hcr1 : CR E c1 n (ruA f) H_2 := ⟨L1, md1, arr1, cap1, xs1, hcx1.1, hcx1.2, hrl1⟩
    have lx1 := hxo1.lt; have lg1 := hg1.lt; have lc1 := hc01.lt; have lL1 := hcx1.2.1.lt; have lM1 := hal1.1.lt
    refine lv_aload_n hx hb dX0_strike_20 rfl (lv_at hl 0 rfl) ?_
    refine xget (ref := "LayeredCharters") (ci := 0) (v := .ref g1) (C := RX0) (T := TX0) (N := 6) F in_X0 hW1 hxo1 rfl 0 (by decide) q177 (fun _ h9 => h9) rfl dX0_strike_21 ?_
    refine xget (ref := "LayeredCharters$Guild") (ci := 1) (v := .ref c1) (C := RX1) (T := TX1) (N := 5) F in_X1 hW1 hg1 rfl 0 (by decide) q120 (fun _ h9 => h9) rfl dX0_strike_24 ?_
    refine xget (ref := "LayeredCharters$Charter") (ci := 2) (v := .ref L1) (C := RX2) (T := TX2) (N := 1) F in_X2 hW1 hc01 rfl 0 (by decide) q112 (fun _ h9 => h9) rfl dX0_strike_27 ?_
    refine lv_iload_n hx hb dX0_strike_30 rfl (lv_at hl 1 rfl) ?_
    refine lv_val (y := nI i) eri ?_
    obtain ⟨x_i, hgi⟩ : ∃ y, xs1[i]? = some y := ⟨_, List.getElem?_eq_getElem (show i < xs1.length by rw [hrl1.1]; exact hi)⟩
    refine run_ch5A (rest := []) (kF (x := ⟨"java/util/List", "remove", "(I)Ljava/lang/Object;"⟩) F hW1 (metJ2_remove l E H_2 L1 arr1 cap1 i xs1 md1 hgt1.2.2.1.1 hcx1.2 (fun y hy => ⟨rls_elt hrl1 y hy, tne9 (hgt1.2.2.2.2.2.2.2.2 y hy) hgt1.2.2.1.2 (by decide)⟩) x_i hgi (by rw [hrl1.1]; omega)) (by decide +kernel) hat q374 q377 q379 q47 q381 hdJ2_removeF ⟨Nat.le_of_ble_eq_true rfl, Nat.le_of_ble_eq_true rfl⟩ (recv hW1 hcx1.2.1 rfl) hl.1 rfl (Nat.le_of_ble_eq_true rfl) dX0_strike_31 ⟨by show 30 + 0 ≤ 30; omega, by show 581 + 0 ≤ 581; omega⟩) hS_2 (fun q9 h9 => XA.ext hE1 hz1 q9 (((TgA.lb hgt1.2.2.1.2 hgt1.2.2.2.2.2.1).xa (fun q h1 h2 => h2.elim (fun h => h ▸ hgt1.2.2.1.1) (fun h => h.2)) (by decide)) q9 h9)) (fun r_3 H_3 locs hp_3 hc_3 hS_3 => ?_)
    obtain ⟨-, hAL2⟩ := hp_3
    have hW2 := hW1.kept hc_3 (fun q h1 h2 => h2.elim (fun h => h ▸ hgt1.2.2.1.1) (fun h => h.2))
    have hX2 := XR.strike hW1 hxo1 hxt1 hgx01 hgt1 hvk01 hrs1 hc_3 hAL2 hi
    have hX2' := hX2
    obtain ⟨g2, hL2, sa2, pb2, pl2, wr2, hxo2, hxt2, hgs2, hrs2⟩ := hX2
    have hgs02 := hgs2
    obtain ⟨c2, L2, arr2, cap2, M2, arr22, cap22, b2, md2, md22, xs2, ys2, hgx2, hgt2, hvk2⟩ := hgs2
    have hgx02 := hgx2
    have hvk02 := hvk2
    obtain ⟨hg2, hcx2, hrl2, hal2, hmb2, hbl2⟩ := hgx2
    obtain ⟨hn02, hn242, hk02, hk102, hrok2, hmok2⟩ := hvk2
    have hc02 := hcx2.1
    have hcr2 : CR E c2 (n - 1) (ruA (strF f n i)) H_3 := ⟨L2, md2, arr2, cap2, xs2, hcx2.1, hcx2.2, hrl2⟩
    have lx2 := hxo2.lt; have lg2 := hg2.lt; have lc2 := hc02.lt; have lL2 := hcx2.2.1.lt; have lM2 := hal2.1.lt
    refine lv_pop hx hb dX0_strike_36 rfl ?_
    refine lv_aload_n hx hb dX0_strike_37 rfl (lv_at hl 0 rfl) ?_
    refine xget (ref := "LayeredCharters") (ci := 0) (v := .ref g2) (C := RX0) (T := TX0) (N := 6) F in_X0 hW2 hxo2 rfl 0 (by decide) q177 (fun _ h9 => h9) rfl dX0_strike_38 ?_
    refine xget (ref := "LayeredCharters$Guild") (ci := 1) (v := .ref c2) (C := RX1) (T := TX1) (N := 5) F in_X1 hW2 hg2 rfl 0 (by decide) q120 (fun _ h9 => h9) rfl dX0_strike_41 ?_
    refine xget (ref := "LayeredCharters$Charter") (ci := 2) (v := .ref L2) (C := RX2) (T := TX2) (N := 1) F in_X2 hW2 hc02 rfl 0 (by decide) q112 (fun _ h9 => h9) rfl dX0_strike_44 ?_
    refine run_ro5 (w := .int (nI (n - 1))) (rest := []) (kF (x := ⟨"java/util/List", "size", "()I"⟩) F hW2 (metJ2_size l E H_3 L2 arr2 md2 (nI (n - 1)) (by have h9 := hcx2.2.1; rw [hrl2.1] at h9; exact h9)) (by decide +kernel) hat q211 q215 q217 q47 q219 hdJ2_sizeF ⟨Nat.le_of_ble_eq_true rfl, Nat.le_of_ble_eq_true rfl⟩ (recv hW2 hcx2.2.1 rfl) hl.1 rfl (Nat.le_of_ble_eq_true rfl) dX0_strike_47 ⟨Nat.le_of_ble_eq_true rfl, Nat.le_of_ble_eq_true rfl⟩) ?_
    exact hend _ _ _ _ _ _ _ rfl dX0_strike_52 (⟨_, rfl, PX.of (T' := (nI (n - 1), strF f n i, recH f hist gl, recK gl)) (by subst eri; simp [strikeT, c_1, ix_nI (show i < 2 ^ 31 by omega)]) ⟨_, hE1, hX2'⟩⟩) hS_3 (by first | exact Nat.le_refl _ | (show (30 : Nat) ≤ 30; omega)) (by first | exact Nat.le_refl _ | (show (581 : Nat) ≤ 581; omega))
  · skip
    have bc_1 := c_1
    have c_1 := b2i_f c_1
    refine lv_iconst (v := (-1)) hx hb dX0_strike_14 (by decide) ?_
    exact hend _ _ _ _ _ _ _ rfl dX0_strike_15 (⟨_, rfl, PX.of (T' := ((-1), f, hist, gl)) (by simp [strikeT, c_1]) ⟨tg, Ext.rf, hx0⟩⟩) hS (Nat.zero_le _) (Nat.zero_le _)

