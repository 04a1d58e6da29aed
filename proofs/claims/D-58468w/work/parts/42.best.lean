/-! LAYEREDCHARTERS: bestWaiver, wipe, the constructor -/
set_option maxRecDepth 100000
theorem seal_nat {v : Int32} (h : inR v 1 9 = true) : ∃ q : Nat, 1 ≤ q ∧ q < 10 ∧ v = nI q := by
  have h7 := inR_iff.mp h
  have h10 : (1 : Int32).toInt = 1 := by decide
  obtain ⟨e, he, ee⟩ := nat_of (x := v) (b := 9) (by have := h7.1; omega) h7.2 (by decide)
  have h9 := h7.1
  rw [ee, nI_toInt (by omega)] at h9
  exact ⟨e, by omega, by omega, ee⟩
theorem bw_M {f : Nat → Int32} {n k se : Nat} (hv : Vok f n k) (h1 : 1 ≤ se) (h2 : se < 10) (h : inR (nI se) 1 9 = true) : (bwX (ruA f) n (nI se) 5).1 = bestWaiverM f n (nI se) := by
  unfold bestWaiverM; rw [if_pos h]; exact bw_eq hv.2.1 hv.2.2.2.2.1 h1 h2
/-- the pad has changed -/
theorem XR.pad {E : EV} {tg tg' : TG} {x g hl sa pb gl ln ln' n k : Nat} {pl' wr' : Int32} {f hist sl z pd pd' : Nat → Int32} {H H1 : Heap} {A : Nat → Prop} (hb : E.2.2.2 0 < E.2.2.1) (hxo : oat E x 0 [.ref g, .ref hl, .ref sa, .ref pb, .int pl', .int wr'] H1) (hxt : Own E tg x 10 x) (hxl : x < H.size) (hgs : GS E tg g f n k H) (hrs : RS E tg x g hl sa pb hist gl sl z pd ln H) (hE : Ext tg tg' H.size) (hc : Chg A H H1) (hT : ∀ q, q < H.size → A q → (tg q).2 = 10 ∨ (tg q).2 = 14 ∨ (tg q).2 = 15) (hPD : PD E tg' x pb pd' ln' H1) : XR E tg' x f n k hist sl z pd' gl ln' H1 := by
  obtain ⟨hmd, harr, hcap, hs, sf, h1, h2, h3, h4, h5, h6, h7, h8, h9, h10⟩ := hrs
  have no : ∀ {q o j : Nat}, q < H.size → tg q = (o, j) → j ≠ 10 → j ≠ 14 → j ≠ 15 → ¬ A q := fun hq e a b c ha => by
    have e2 := congrArg Prod.snd e
    simp only at e2
    rcases hT _ hq ha with r | r | r <;> omega
  have hk : ∀ q, q < H.size → A q → 10 ≤ (tg' q).2 := fun q hq ha => by rw [hE q hq]; rcases hT q hq ha with r | r | r <;> omega
  refine ⟨g, hl, sa, pb, pl', wr', hxo, hxt.ext hE hxl, (hgs.ext hb hE (Nat.le_refl _)).kept hb hc (fun q hq ha => by have := hk q hq ha; exact ⟨fun h => by omega, by omega⟩), hmd, harr, hcap, hs, sf, h1.kept hc ⟨no h1.1.lt h8.2 (by decide) (by decide) (by decide), fun ho => no (h1.2.lt ho) (h9 ho) (by decide) (by decide) (by decide)⟩, h2, h3, (h4.ext hb hE (Nat.le_refl _)).kept hb hc (fun q hq ha => by have := hk q hq ha; exact ⟨by omega, fun a _ h => by omega⟩), h5.kept hc (no h5.lt h10.2 (by decide) (by decide) (by decide)), (h6.ext hb hE (Nat.le_refl _)).kept hb hc (fun q hq ha => by have := hk q hq ha; exact ⟨by omega, fun i a _ _ h => by omega⟩), hPD, h8.ext hE h1.1.lt, fun ho => (hE _ (h1.2.lt ho)).trans (h9 ho), h10.ext hE h5.lt⟩
theorem XR.fresh {E : EV} {s : State} {x g hl sa pb c L M b pv : Nat} {H : Heap} (hW : WK E s H) (h1 : x < g) (h2 : g < c) (h3 : c < L) (h4 : L < M) (h5 : M < b) (h6 : b < hl) (h7 : hl < sa) (h8 : sa < pb) (h9 : pb < pv) (ho : Old E x)
    (hxo : oat E x 0 [.ref g, .ref hl, .ref sa, .ref pb, .int 0, .int 0] H) (hg : oat E g 1 [.ref c, .ref M, .int 0, .ref b, .int 0] H) (hcx : CX E c L 0 (E.2.2.2 0) 0 [] H) (hal : AL E M 0 (E.2.2.2 0) 0 [] H) (hbl : iat E b 0 5 (fun _ => 0) H) (hhl : AL E hl 0 (E.2.2.2 0) 0 [] H) (hsa : qat E sa 4 2 (fun _ => none) H) (hsb : SB E pb pv 16 0 0 (fun _ => 0) H) : ∃ tg, XR E tg x (fun _ => 0) 0 0 (fun _ => 0) (fun _ => 0) (fun _ => 0) (fun _ => 0) 0 0 H := by
  have hb := hW.b0
  have o : ∀ {q : Nat}, x ≤ q → Old E q := fun h => Nat.le_trans ho h
  have k0 : ¬ Old E (E.2.2.2 0) := Nat.not_le.mpr hb
  refine ⟨fun q => if q = x then (x, 10) else if q = g then (g, 0) else if q = c then (g, 1) else if q = L then (g, 2) else if q = M then (g, 3) else if q = b then (g, 4) else if q = hl then (x, 11) else if q = sa then (x, 13) else if q = pb then (x, 14) else (x, 15), g, hl, sa, pb, 0, 0, hxo, ⟨ho, if_pos rfl⟩,
    ⟨c, L, E.2.2.2 0, 0, M, E.2.2.2 0, 0, b, 0, 0, [], [], ⟨hg, hcx, ⟨rfl, by decide, fun i y hy => by simp at hy⟩, hal, ⟨rfl, by decide, List.nodup_nil, fun i y hy => by simp at hy⟩, hbl⟩, ⟨⟨o (by omega), ?_⟩, ⟨o (by omega), ?_⟩, ⟨o (by omega), ?_⟩, ⟨o (by omega), ?_⟩, ⟨o (by omega), ?_⟩, fun h => absurd h k0, fun h => absurd h k0, fun y hy => by simp at hy, fun y hy => by simp at hy⟩, ⟨rfl, by decide, rfl, by decide, fun i hi => absurd hi (Nat.not_lt_zero _), fun j hj => absurd hj (Nat.not_lt_zero _)⟩⟩,
    0, E.2.2.2 0, 0, [], fun _ => none, hhl, rfl, by decide, ⟨List.nodup_nil, by simp, fun i h hi => by simp at hi⟩, hsa, fun i hi => Or.inl ⟨rfl, rfl⟩, ⟨pv, 16, 0, fun _ => 0, hsb, by decide, ⟨fun i hi => ⟨0, rfl, by decide⟩, fun i hi => absurd hi (Nat.not_lt_zero _)⟩, ⟨o (by omega), ?_⟩, ⟨o (by omega), ?_⟩⟩, ⟨o (by omega), ?_⟩, fun h => absurd h k0, ⟨o (by omega), ?_⟩⟩
  all_goals simp only []
  · rw [if_neg (by omega), if_pos trivial]
  · rw [if_neg (by omega), if_neg (by omega), if_pos trivial]
  · rw [if_neg (by omega), if_neg (by omega), if_neg (by omega), if_pos trivial]
  · rw [if_neg (by omega), if_neg (by omega), if_neg (by omega), if_neg (by omega), if_pos trivial]
  · rw [if_neg (by omega), if_neg (by omega), if_neg (by omega), if_neg (by omega), if_neg (by omega), if_pos trivial]
  · rw [if_neg (by omega), if_neg (by omega), if_neg (by omega), if_neg (by omega), if_neg (by omega), if_neg (by omega), if_neg (by omega), if_neg (by omega), if_pos trivial]
  · rw [if_neg (by omega), if_neg (by omega), if_neg (by omega), if_neg (by omega), if_neg (by omega), if_neg (by omega), if_neg (by omega), if_neg (by omega), if_neg (by omega)]
  · rw [if_neg (by omega), if_neg (by omega), if_neg (by omega), if_neg (by omega), if_neg (by omega), if_neg (by omega), if_pos trivial]
  · rw [if_neg (by omega), if_neg (by omega), if_neg (by omega), if_neg (by omega), if_neg (by omega), if_neg (by omega), if_neg (by omega), if_pos trivial]
theorem hdX0_bestWaiver : Hd yX0_bestWaiver 1 := by decide +kernel
set_option maxHeartbeats 1000000 in
set_option maxRecDepth 100000 in
theorem metX0_bestWaiver (l : Launch) (E : EV) (H : Heap) (tg : TG) (x : Nat) (f : Nat → Int32) (n k : Nat) (hist sl z pd : Nat → Int32) (gl ln : Nat) (hx : XR E tg x f n k hist sl z pd gl ln H) (sv : Int32) : Ct l yX0_bestWaiver cX0_bestWaiver 7 (some .int) 12 546 (30) (645) [.ref x, .int sv] E H (fun q => H.size ≤ q) (pI (fun r9 H1 => r9 = bestWaiverM f n sv)) := by
  have hx0 := hx
  obtain ⟨g, hL, sa, pb, pl, wr, hxo, hxt, hgs, hrs⟩ := hx
  have hgs0 := hgs
  obtain ⟨c, L, arr, cap, M, arr2, cap2, b, md, md2, xs, ys, hgx, hgt, hvk⟩ := hgs
  have hgx0 := hgx
  have hvk0 := hvk
  obtain ⟨hg, hcx, hrl, hal, hmb, hbl⟩ := hgx
  obtain ⟨hn0, hn24, hk0, hk10, hrok, hmok⟩ := hvk
  have hc0 := hcx.1
  have hcr : CR E c n (ruA f) H := ⟨L, md, arr, cap, xs, hcx.1, hcx.2, hrl⟩
  refine Ct.ofZ (by decide) (Nat.le_of_ble_eq_true rfl) ?_
  intro p e s m bl mt cd ls Q hF hW hH hl hend
  obtain ⟨F, hin⟩ := hF
  have hx := F.1
  have hb := F.2.1
  have hts := F.2.2.2.2
  have hl : lv_has ls 7 [(0, .ref x), (1, .int sv)] := hl
  have hS : va_S (fun q => H.size ≤ q) H H [] := va_S.rf
  obtain ⟨cC, hat⟩ := cat (ci := 6) hW rfl
  refine lv_iload_n hx hb dX0_bestWaiver_0 rfl (lv_at hl 1 rfl) ?_
  refine run_ro (w := .int (b2i (inR sv 1 9))) (rest := []) (kS F hW (metX4_isSeal l E H sv) (lw_S q207 q208 q53 q209) hdX4_isSeal ⟨Nat.le_of_ble_eq_true rfl, Nat.le_of_ble_eq_true rfl⟩ hl.1 rfl (Nat.le_of_ble_eq_true rfl) dX0_bestWaiver_1 ⟨Nat.le_of_ble_eq_true rfl, Nat.le_of_ble_eq_true rfl⟩) ?_
  refine lv_if_ne (tgt := 10) hx hb dX0_bestWaiver_4 (by decide) (fun c_1 => ?_) (fun c_1 => ?_)
  · skip
    have bc_1 := c_1
    have c_1 := b2i_t c_1
    have hin9 := c_1
    obtain ⟨se, hse1, hse2, ese⟩ := seal_nat hin9
    subst ese
    have lx := hxo.lt; have lg := hg.lt; have lc := hc0.lt; have lL := hcx.2.1.lt
    refine lv_bipush (v := (-6)) hx hb dX0_bestWaiver_10 (by decide) ?_
    refine lv_istore_n (lv' := [(2, .int (-6)), (0, .ref x), (1, .int (nI se))]) hx hb dX0_bestWaiver_12 rfl hl (by decide) rfl (fun ls hl => ?_)
    refine lv_iconst (v := (-1)) hx hb dX0_bestWaiver_13 (by decide) ?_
    refine lv_istore_n (lv' := [(3, .int (-1)), (2, .int (-6)), (0, .ref x), (1, .int (nI se))]) hx hb dX0_bestWaiver_14 rfl hl (by decide) rfl (fun ls hl => ?_)
    refine lv_iconst (v := 0) hx hb dX0_bestWaiver_15 (by decide) ?_
    refine lv_istore (lv' := [(4, .int 0), (3, .int (-1)), (2, .int (-6)), (0, .ref x), (1, .int (nI se))]) hx hb dX0_bestWaiver_16 hl (by decide) rfl (fun ls hl => ?_)
    have loop18 : ∀ (nn i : Nat) (x4 a1 a2 : Int32), i + nn = 5 → a1 = (bwX (ruA f) n (nI se) i).1 → a2 = (bwX (ruA f) n (nI se) i).2 → x4 = nI i → ∀ (kc ks : Nat), kc ≤ 6 * i → ks ≤ 129 * i → ∀ (Hl_18 : Heap) (locs : List Loc), va_S (fun q => H.size ≤ q) H Hl_18 locs → WK E s Hl_18 → True → ∀ ls : Array Slot, lv_has ls 7 [(4, .int x4), (2, .int a1), (3, .int a2), (0, .ref x), (1, .int (nI se))] → W p l e ({ frames := 12, cells := 30, slots := 645, locals := 546 } : Room) s m ([.ref x, .int (nI se)] : List Value).toArray bl mt cd Hl_18 locs kc ks Q (F0 m 18 ls []) := by
      intro nn
      induction nn with
      | zero =>
        intro i x4 a1 a2 hn e2 e3 e4 kc ks hkc hks Hl_18 locs hS_18 hW_18 hl_18 ls hl
        have hiN : i = 5 := by omega
        rw [hiN] at e4
        try rw [hiN] at e2
        try rw [hiN] at e3
        try rw [hiN] at hl_18
        try rw [hiN] at hkc
        try rw [hiN] at hks
        rw [e4, e2, e3] at hl
        clear e4 e2 e3
        have hext := hS_18.chg
        have hxl := hx0.grow hW.b0 hext
        have hxo2 := hxo.kept hext (Nat.not_le.mpr hxo.lt)
        have hg2 := hg.kept hext (Nat.not_le.mpr hg.lt)
        have hc2 := hc0.kept hext (Nat.not_le.mpr hc0.lt)
        have hal2 := hcx.2.ext hW hext
        refine lv_iload hx hb dX0_bestWaiver_18 (lv_at hl 0 rfl) ?_
        refine lv_iconst (v := 5) hx hb dX0_bestWaiver_20 (by decide) ?_
        refine lv_icmp_ge (tgt := 94) hx hb dX0_bestWaiver_21 (by decide) (fun _ => ?_) (fun c9 => absurd (nI_le (a := 5) (b := 5) (by decide) (by decide)) c9)
        refine lv_iload_n hx hb dX0_bestWaiver_94 rfl (lv_at hl 1 rfl) ?_
        exact hend _ _ _ _ _ _ _ rfl dX0_bestWaiver_95 (⟨_, rfl, bw_M hvk0 hse1 hse2 hin9⟩) hS_18 (by first | exact Nat.le_refl _ | (show (kc : Nat) ≤ 30; omega)) (by first | exact Nat.le_refl _ | (show (ks : Nat) ≤ 645; omega))
      | succ nn ih18 =>
        intro i x4 a1 a2 hn e2 e3 e4 kc ks hkc hks Hl_18 locs hS_18 hW_18 hl_18 ls hl
        rw [e4, e2, e3] at hl
        clear e4 e2 e3
        have hext := hS_18.chg
        have hxl := hx0.grow hW.b0 hext
        have hxo2 := hxo.kept hext (Nat.not_le.mpr hxo.lt)
        have hg2 := hg.kept hext (Nat.not_le.mpr hg.lt)
        have hc2 := hc0.kept hext (Nat.not_le.mpr hc0.lt)
        have hal2 := hcx.2.ext hW hext
        refine lv_iload hx hb dX0_bestWaiver_18 (lv_at hl 0 rfl) ?_
        refine lv_iconst (v := 5) hx hb dX0_bestWaiver_20 (by decide) ?_
        refine lv_icmp_ge (tgt := 94) hx hb dX0_bestWaiver_21 (by decide) (fun c9 => absurd c9 (nI_ge (a := i) (b := 5) (by omega) (by decide))) (fun _ => ?_)
        refine lv_aload_n hx hb dX0_bestWaiver_24 rfl (lv_at hl 3 rfl) ?_
        refine xget (ref := "LayeredCharters") (ci := 0) (v := .ref g) (C := RX0) (T := TX0) (N := 6) F in_X0 hW_18 hxo2 rfl 0 (by decide) q177 (fun _ h9 => h9) rfl dX0_bestWaiver_25 ?_
        refine xget (ref := "LayeredCharters$Guild") (ci := 1) (v := .ref c) (C := RX1) (T := TX1) (N := 5) F in_X1 hW_18 hg2 rfl 0 (by decide) q120 (fun _ h9 => h9) rfl dX0_bestWaiver_28 ?_
        refine run_chA (rest := []) (kV F hW_18 (metX2_copy l E Hl_18 c L arr cap xs md ⟨hc2, hal2⟩ (rls_elt (hrl.ext hext)) (by rw [hrl.1]; omega)) (lw_V q849 q231 q232 q44 q233) hdX2_copy ⟨Nat.le_of_ble_eq_true rfl, Nat.le_of_ble_eq_true rfl⟩ (recv hW_18 hc2 rfl) hl.1 rfl (Nat.le_of_ble_eq_true rfl) dX0_bestWaiver_31 ⟨by show kc + 4 ≤ 30; omega, by show ks + 84 ≤ 645; omega⟩) hS_18 (fun q9 h9 => Nat.le_trans hext.1 h9) (fun r_2 H_2 locs hp_2 hc_2 hS_2 => ?_)
        obtain ⟨e9, L', arr', cap', hcx', hL', harr'⟩ := hp_2
        subst e9
        have hWn := hW_18.kept hc_2 (fun q h1 h2 => absurd h1 (Nat.not_lt.mpr h2))
        have hcE := hcx'.1
        have hlE := hcE.lt; have hlL := hcx'.2.1.lt
        have hzc := hext.1
        have hcxl := hcx'.2
        refine lv_astore (lv' := [(5, .ref Hl_18.size), (4, .int (nI i)), (2, .int ((bwX (ruA f) n (nI se) i).1)), (3, .int ((bwX (ruA f) n (nI se) i).2)), (0, .ref x), (1, .int (nI se))]) hx hb dX0_bestWaiver_34 hl (by decide) rfl (fun ls hl => ?_)
        refine lv_aload hx hb dX0_bestWaiver_36 (lv_at hl 0 rfl) ?_
        refine xget (ref := "LayeredCharters$Charter") (ci := 2) (v := .ref L') (C := RX2) (T := TX2) (N := 1) F in_X2 hWn hcE rfl 0 (by decide) q112 (fun _ h9 => h9) rfl dX0_bestWaiver_38 ?_
        refine xnew (ci := 5) (fs := [.int 0, .int 0, .int 0, .int 0, .int 0]) (C := RX6) (T := TX6) (N := 5) F in_X6 tyX6 tyX6_ok q386 q387 q61 hWn hS_2 rfl (fun j hj => by rcases (show j = 0 ∨ j = 1 ∨ j = 2 ∨ j = 3 ∨ j = 4 by omega) with rfl | rfl | rfl | rfl | rfl <;> rfl) (by show kc + 4 + 1 ≤ 30; omega) (by show ks + 84 + 5 ≤ 645; omega) dX0_bestWaiver_41 (fun H_3 ho_3 hp_3 hS_3 => ?_)
        have hz_H_3 : H_3.size = H_2.size + 1 := hp_3.1
        have hW_H_3 := hWn.kept (hp_3.chg (A := fun _ => False)) (fun _ _ h9 => h9.elim)
        have hcE_H_3 := hcE.kept (hp_3.chg (A := fun _ => False)) (fun h9 => h9)
        refine lv_dup hx hb dX0_bestWaiver_44 rfl ?_
        refine lv_iload hx hb dX0_bestWaiver_45 (lv_at hl 1 rfl) ?_
        refine lv_iconst (v := 2) hx hb dX0_bestWaiver_47 (by decide) ?_
        refine lv_iconst (v := 5) hx hb dX0_bestWaiver_48 (by decide) ?_
        refine lv_bipush (v := 6) hx hb dX0_bestWaiver_49 (by decide) ?_
        refine lv_iload_n hx hb dX0_bestWaiver_51 rfl (lv_at hl 5 rfl) ?_
        refine run_chN (rest := [.ref H_2.size, .ref L']) (kI F hW_H_3 (metX6_init l E H_3 H_2.size (Nat.le_trans (show E.2.2.1 ≤ H.size from hW.2.2) (by omega)) (nI i, 2, 5, 6, nI se) ho_3) q390 q61 q388 q389 rfl hdX6_init ⟨Nat.le_of_ble_eq_true rfl, Nat.le_of_ble_eq_true rfl⟩ hl.1 rfl (Nat.le_of_ble_eq_true rfl) dX0_bestWaiver_52 ⟨by show kc + 4 + 1 + 0 ≤ 30; omega, by show ks + 84 + 5 + 0 ≤ 645; omega⟩) hS_3 (fun q9 h9 => by have h8 : q9 = H_2.size := h9; show H.size ≤ q9; omega) (fun H_4 locs hp_4 hc_4 hS_4 => ?_)
        have hcI := hc_4
        have hz_H_4 := hc_4.1
        have hW_H_4 := hW_H_3.kept hc_4 (fun q9 _ h9 => h9 ▸ (Nat.le_trans (show E.2.2.1 ≤ H.size from hW.2.2) (by omega)))
        have hcE_H_4 := hcE_H_3.kept hc_4 (fun h9 => by have h8 : Hl_18.size = H_2.size := h9; omega)
        have hv_I := hp_4
        have hch : Chg (fun q => H_2.size ≤ q) H_2 H_4 := ((hp_3.chg (A := fun q => H_2.size ≤ q))).trans2 hcI (fun q h1 h2 => by have h3 : q = H_2.size := h2; show H_2.size ≤ q; omega)
        have hALc := hcxl.ext hWn hch
        have hvl := hv_I.lt
        have hrlc := hrl.ext hS_4.chg
        have hvL : ¬ LA E L' arr' H_4.size H_2.size := fun h9 => h9.elim (fun h8 => by have h7 : H_2.size = L' := h8; omega) (fun h8 => h8.elim (fun h7 => Arr.ne hW_H_4 hALc.2 hv_I (h7.1 ▸ h7.2) h7.1.symm) (fun h7 => absurd hvl (Nat.not_lt.mpr h7)))
        have hqL : ¬ LA E L' arr' H_4.size Hl_18.size := fun h9 => h9.elim (fun h8 => by have h7 : Hl_18.size = L' := h8; omega) (fun h8 => h8.elim (fun h7 => Arr.ne hW_H_4 hALc.2 hcE_H_4 (h7.1 ▸ h7.2) h7.1.symm) (fun h7 => absurd hcE_H_4.lt (Nat.not_lt.mpr h7)))
        refine run_ch5I (rest := []) (kF (x := ⟨"java/util/List", "add", "(Ljava/lang/Object;)Z"⟩) F hW_H_4 (metJ2_add l E H_4 L' arr' cap' H_2.size xs 1 (show E.2.2.1 ≤ L' from (Nat.le_trans (show E.2.2.1 ≤ H.size from hW.2.2) (by omega))) hALc (fun y hy => ⟨rls_elt hrlc y hy, fun e => by have h9 := hrl.lt hy; omega⟩) ⟨5, _, _, hv_I, rfl, by decide +kernel⟩ (by omega) (by rw [hrl.1]; omega)) (by decide +kernel) hat q372 q358 q360 q47 q362 hdJ2_addF ⟨Nat.le_of_ble_eq_true rfl, Nat.le_of_ble_eq_true rfl⟩ (recv hW_H_4 hALc.1 rfl) hl.1 rfl (Nat.le_of_ble_eq_true rfl) dX0_bestWaiver_55 ⟨by show kc + 4 + 1 + 0 + 1 ≤ 30; omega, by show ks + 84 + 5 + 0 + 40 ≤ 645; omega⟩) hS_4 (fun q9 h9 => h9.elim (fun h8 => by show H.size ≤ q9; omega) (fun h8 => h8.elim (fun h7 => by have h6 : E.2.2.1 ≤ q9 := h7.2; have h5 := h7.1; have h4 := hW.b0; show H.size ≤ q9; rcases harr' with h3 | h3; omega; omega) (fun h7 => by have h6 : H_4.size ≤ q9 := h7; show H.size ≤ q9; omega))) (fun r_5 H_5 locs hp_5 hc_5 hS_5 => ?_)
        obtain ⟨arr'', cap'', hAL2, hor⟩ := hp_5
        have hW4 := hW_H_4.kept hc_5 (LA.old (n := 0) hW_H_4 (show E.2.2.1 ≤ L' from (Nat.le_trans (show E.2.2.1 ≤ H.size from hW.2.2) (by omega))))
        have hv2 := hv_I.kept hc_5 hvL
        have hq2 := hcE_H_4.kept hc_5 hqL
        have hrl2 := hrl.ext hS_5.chg
        have hcrq : CR E Hl_18.size (n + 1) (ruP (ruA f) n (nI i, 2, 5, 6, nI se)) H_5 := ⟨L', _, arr'', cap'', _, hq2, hAL2, hrl2.snoc (by omega) hv2 (fun i9 hi9 => (show _ = ruP (ruA f) n _ i9 by unfold ruP; rw [if_neg (by omega)])) (by unfold ruP; rw [if_pos rfl])⟩
        refine lv_pop hx hb dX0_bestWaiver_60 rfl ?_
        refine lv_aload hx hb dX0_bestWaiver_61 (lv_at hl 0 rfl) ?_
        refine run_ro (w := .int (trX (ruP (ruA f) n (nI i, 2, 5, 6, nI se)) (n + 1) 5)) (rest := []) (kV F hW4 (metX2_triples l E H_5 Hl_18.size (n + 1) (ruP (ruA f) n (nI i, 2, 5, 6, nI se)) hcrq ) (lw_V q824 q825 q826 q44 q827) hdX2_triples ⟨Nat.le_of_ble_eq_true rfl, Nat.le_of_ble_eq_true rfl⟩ (recv hW4 hq2 rfl) hl.1 rfl (Nat.le_of_ble_eq_true rfl) dX0_bestWaiver_63 ⟨by show kc + 4 + 1 + 0 + 1 + 0 ≤ 30; omega, by show ks + 84 + 5 + 0 + 40 + 0 ≤ 645; omega⟩) ?_
        refine lv_istore (lv' := [(6, .int (trX (ruP (ruA f) n (nI i, 2, 5, 6, nI se)) (n + 1) 5)), (5, .ref Hl_18.size), (4, .int (nI i)), (2, .int ((bwX (ruA f) n (nI se) i).1)), (3, .int ((bwX (ruA f) n (nI se) i).2)), (0, .ref x), (1, .int (nI se))]) hx hb dX0_bestWaiver_66 hl (by decide) rfl (fun ls hl => ?_)
        refine lv_iload hx hb dX0_bestWaiver_68 (lv_at hl 0 rfl) ?_
        refine lv_iload_n hx hb dX0_bestWaiver_70 rfl (lv_at hl 4 rfl) ?_
        refine lv_icmp_lt (tgt := 79) hx hb dX0_bestWaiver_71 (by decide) (fun c_6 => ?_) (fun c_6 => ?_)
        · skip
          refine lv_iload_n hx hb dX0_bestWaiver_79 rfl (lv_at hl 3 rfl) ?_
          refine lv_istore_n (lv' := [(2, .int ((bwX (ruA f) n (nI se) i).1)), (6, .int (trX (ruP (ruA f) n (nI i, 2, 5, 6, nI se)) (n + 1) 5)), (5, .ref Hl_18.size), (4, .int (nI i)), (3, .int ((bwX (ruA f) n (nI se) i).2)), (0, .ref x), (1, .int (nI se))]) hx hb dX0_bestWaiver_80 rfl hl (by decide) rfl (fun ls hl => ?_)
          refine lv_iload hx hb dX0_bestWaiver_81 (lv_at hl 1 rfl) ?_
          refine lv_iload_n hx hb dX0_bestWaiver_83 rfl (lv_at hl 4 rfl) ?_
          refine xmax (hl.1 ▸ F) q850 (Nat.le_of_ble_eq_true rfl) (Nat.le_of_ble_eq_true rfl) (by show kc + 4 + 1 + 0 + 1 ≤ 30; omega) (by show ks + 84 + 5 + 0 + 40 ≤ 645; omega) dX0_bestWaiver_84 ?_
          refine lv_istore_n (lv' := [(3, .int (mxI (trX (ruP (ruA f) n (nI i, 2, 5, 6, nI se)) (n + 1) 5) ((bwX (ruA f) n (nI se) i).2))), (2, .int ((bwX (ruA f) n (nI se) i).1)), (6, .int (trX (ruP (ruA f) n (nI i, 2, 5, 6, nI se)) (n + 1) 5)), (5, .ref Hl_18.size), (4, .int (nI i)), (0, .ref x), (1, .int (nI se))]) hx hb dX0_bestWaiver_87 rfl hl (by decide) rfl (fun ls hl => ?_)
          refine lv_iinc (v := nI (i + 1)) (lv' := [(4, .int (nI (i + 1))), (3, .int (mxI (trX (ruP (ruA f) n (nI i, 2, 5, 6, nI se)) (n + 1) 5) ((bwX (ruA f) n (nI se) i).2))), (2, .int ((bwX (ruA f) n (nI se) i).1)), (6, .int (trX (ruP (ruA f) n (nI i, 2, 5, 6, nI se)) (n + 1) 5)), (5, .ref Hl_18.size), (0, .ref x), (1, .int (nI se))]) hx hb dX0_bestWaiver_88 hl (k := 4) rfl (nI_1 _) (by decide) rfl (fun ls hl => ?_)
          refine lv_goto (tgt := 18) hx hb dX0_bestWaiver_91 (by decide) ?_
          exact ih18 (i + 1) _ _ _ (by omega) (by rw [bwX_s]; simp [bwXst, c_6]) (by rw [bwX_s]; rfl) rfl _ _ (by omega) (by omega) _ _ hS_5 hW4 (trivial) ls (lv_sub hl [0, 2, 1, 5, 6] rfl)
        · skip
          refine lv_iload hx hb dX0_bestWaiver_74 (lv_at hl 2 rfl) ?_
          refine lv_goto (tgt := 80) hx hb dX0_bestWaiver_76 (by decide) ?_
          refine lv_istore_n (lv' := [(2, .int (nI i)), (6, .int (trX (ruP (ruA f) n (nI i, 2, 5, 6, nI se)) (n + 1) 5)), (5, .ref Hl_18.size), (4, .int (nI i)), (3, .int ((bwX (ruA f) n (nI se) i).2)), (0, .ref x), (1, .int (nI se))]) hx hb dX0_bestWaiver_80 rfl hl (by decide) rfl (fun ls hl => ?_)
          refine lv_iload hx hb dX0_bestWaiver_81 (lv_at hl 1 rfl) ?_
          refine lv_iload_n hx hb dX0_bestWaiver_83 rfl (lv_at hl 4 rfl) ?_
          refine xmax (hl.1 ▸ F) q850 (Nat.le_of_ble_eq_true rfl) (Nat.le_of_ble_eq_true rfl) (by show kc + 4 + 1 + 0 + 1 ≤ 30; omega) (by show ks + 84 + 5 + 0 + 40 ≤ 645; omega) dX0_bestWaiver_84 ?_
          refine lv_istore_n (lv' := [(3, .int (mxI (trX (ruP (ruA f) n (nI i, 2, 5, 6, nI se)) (n + 1) 5) ((bwX (ruA f) n (nI se) i).2))), (2, .int (nI i)), (6, .int (trX (ruP (ruA f) n (nI i, 2, 5, 6, nI se)) (n + 1) 5)), (5, .ref Hl_18.size), (4, .int (nI i)), (0, .ref x), (1, .int (nI se))]) hx hb dX0_bestWaiver_87 rfl hl (by decide) rfl (fun ls hl => ?_)
          refine lv_iinc (v := nI (i + 1)) (lv' := [(4, .int (nI (i + 1))), (3, .int (mxI (trX (ruP (ruA f) n (nI i, 2, 5, 6, nI se)) (n + 1) 5) ((bwX (ruA f) n (nI se) i).2))), (2, .int (nI i)), (6, .int (trX (ruP (ruA f) n (nI i, 2, 5, 6, nI se)) (n + 1) 5)), (5, .ref Hl_18.size), (0, .ref x), (1, .int (nI se))]) hx hb dX0_bestWaiver_88 hl (k := 4) rfl (nI_1 _) (by decide) rfl (fun ls hl => ?_)
          refine lv_goto (tgt := 18) hx hb dX0_bestWaiver_91 (by decide) ?_
          exact ih18 (i + 1) _ _ _ (by omega) (by rw [bwX_s]; simp [bwXst, c_6]) (by rw [bwX_s]; rfl) rfl _ _ (by omega) (by omega) _ _ hS_5 hW4 (trivial) ls (lv_sub hl [0, 2, 1, 5, 6] rfl)
    exact loop18 (5 - 0) 0 _ _ _ (by omega) rfl rfl rfl _ _ (Nat.zero_le _) (Nat.zero_le _) _ _ hS hW (trivial) ls (lv_sub hl [0, 2, 1, 3, 4] rfl)
  · skip
    have bc_1 := c_1
    have c_1 := b2i_f c_1
    refine lv_bipush (v := (-2)) hx hb dX0_bestWaiver_7 (by decide) ?_
    exact hend _ _ _ _ _ _ _ rfl dX0_bestWaiver_9 (⟨_, rfl, by simp [bestWaiverM, c_1]⟩) hS (Nat.zero_le _) (Nat.zero_le _)

theorem hdX0_wipe : Hd yX0_wipe 0 := by decide +kernel
set_option maxHeartbeats 1000000 in
set_option maxRecDepth 100000 in
theorem metX0_wipe (l : Launch) (E : EV) (H : Heap) (tg : TG) (x : Nat) (f : Nat → Int32) (n k : Nat) (hist sl z pd : Nat → Int32) (gl ln : Nat) (hx : XR E tg x f n k hist sl z pd gl ln H) : Ct l yX0_wipe cX0_wipe 2 (some .int) 3 64 (0) (0) [.ref x] E H (XA E tg H.size) (pI (fun r9 H1 => r9 = nI ln ∧ XE E tg H.size x f n k hist sl z pd gl 0 H1)) := by
  have hx0 := hx
  obtain ⟨g, hL, sa, pb, pl, wr, hxo, hxt, hgs, hrs⟩ := hx
  have hgs0 := hgs
  obtain ⟨c, L, arr, cap, M, arr2, cap2, b, md, md2, xs, ys, hgx, hgt, hvk⟩ := hgs
  have hgx0 := hgx
  have hvk0 := hvk
  obtain ⟨hg, hcx, hrl, hal, hmb, hbl⟩ := hgx
  obtain ⟨hn0, hn24, hk0, hk10, hrok, hmok⟩ := hvk
  have hc0 := hcx.1
  have hcr : CR E c n (ruA f) H := ⟨L, md, arr, cap, xs, hcx.1, hcx.2, hrl⟩
  have hrs0 := hrs
  obtain ⟨hmd, harr, hcap, hs, sf, hAL, hlen, hgl7, hHI, hsa, hSL, hPD, ht11, ht12, ht13⟩ := hrs
  obtain ⟨pv, pcap, pmb, pf, hsb, hln60, hpd, ht14, ht15⟩ := hPD
  have hpv : pb ≠ pv := tne ht14.2 ht15.2 (by decide)
  refine Ct.ofZ (by decide) (Nat.le_of_ble_eq_true rfl) ?_
  intro p e s m bl mt cd ls Q hF hW hH hl hend
  obtain ⟨F, hin⟩ := hF
  have hx := F.1
  have hb := F.2.1
  have hts := F.2.2.2.2
  have hl : lv_has ls 2 [(0, .ref x)] := hl
  have hS : va_S (XA E tg H.size) H H [] := va_S.rf
  refine lv_aload_n hx hb dX0_wipe_0 rfl (lv_at hl 0 rfl) ?_
  refine xget (ref := "LayeredCharters") (ci := 0) (v := .ref pb) (C := RX0) (T := TX0) (N := 6) F in_X0 hW hxo rfl 3 (by decide) q180 (fun _ h9 => h9) rfl dX0_wipe_1 ?_
  refine run_ro (w := .int (nI ln)) (rest := []) (kV F hW (metJ4_length l E H pb pv pcap ln pmb pf hsb) (lw_V q467 q468 q469 q49 q470) hdJ4_length ⟨Nat.le_of_ble_eq_true rfl, Nat.le_of_ble_eq_true rfl⟩ (recv hW hsb.1 rfl) hl.1 rfl (Nat.le_of_ble_eq_true rfl) dX0_wipe_4 ⟨Nat.le_of_ble_eq_true rfl, Nat.le_of_ble_eq_true rfl⟩) ?_
  refine lv_istore_n (lv' := [(1, .int (nI ln)), (0, .ref x)]) hx hb dX0_wipe_7 rfl hl (by decide) rfl (fun ls hl => ?_)
  refine lv_aload_n hx hb dX0_wipe_8 rfl (lv_at hl 1 rfl) ?_
  refine xget (ref := "LayeredCharters") (ci := 0) (v := .ref pb) (C := RX0) (T := TX0) (N := 6) F in_X0 hW hxo rfl 3 (by decide) q180 (fun _ h9 => h9) rfl dX0_wipe_9 ?_
  refine lv_iconst (v := 0) hx hb dX0_wipe_12 (by decide) ?_
  refine run_chN (rest := []) (kV F hW (metJ4_setLength l E H pb pv pcap ln pmb pf hsb ht14.1 hpv) (lw_V q610 q611 q612 q49 q613) hdJ4_setLength ⟨Nat.le_of_ble_eq_true rfl, Nat.le_of_ble_eq_true rfl⟩ (recv hW hsb.1 rfl) hl.1 rfl (Nat.le_of_ble_eq_true rfl) dX0_wipe_13 ⟨by show 0 + 0 ≤ 0; omega, by show 0 + 0 ≤ 0; omega⟩) hS (fun q9 h9 => (show q9 = pb from h9) ▸ XA.of ht14 (by decide) (by decide)) (fun H_1 locs hp_1 hc_1 hS_1 => ?_)
  obtain ⟨mb', hsb'⟩ := hp_1
  have hxo2 := hxo.kept hc_1 (fun h9 => tne hxt.2 ht14.2 (by decide) (show x = pb from h9))
  have hX2 := XR.pad (pd' := pd) (ln' := 0) hW.b0 hxo2 hxt hxo.lt hgs0 hrs0 Ext.rf hc_1 (fun q hq e => Or.inr (Or.inl (by rw [show q = pb from e, ht14.2]))) ⟨pv, pcap, mb', pf, hsb', by decide, ⟨hpd.1, fun i hi => absurd hi (Nat.not_lt_zero _)⟩, ht14, ht15⟩
  refine lv_iload_n hx hb dX0_wipe_16 rfl (lv_at hl 0 rfl) ?_
  exact hend _ _ _ _ _ _ _ rfl dX0_wipe_17 (⟨_, rfl, rfl, tg, Ext.rf, hX2⟩) hS_1 (Nat.zero_le _) (Nat.zero_le _)

theorem hdX0_init : Hd yX0_init 0 := by decide +kernel
set_option maxHeartbeats 1000000 in
set_option maxRecDepth 100000 in
theorem metX0_init (l : Launch) (E : EV) (H : Heap) (x : Nat) (hq0 : Old E x) (hq : oat E x 0 [.null, .null, .null, .null, .int 0, .int 0] H) : Ct l yX0_init cX0_init 1 none 6 112 (9) (42) [.ref x] E H (fun q => q = x ∨ H.size ≤ q) (pN (fun H1 => ∃ tg, XR E tg x (fun _ => 0) 0 0 (fun _ => 0) (fun _ => 0) (fun _ => 0) (fun _ => 0) 0 0 H1)) := by
  refine Ct.ofV (by decide) (Nat.le_of_ble_eq_true rfl) ?_
  intro p e s m bl mt cd ls Q hF hW hH hl hend
  obtain ⟨F, hin⟩ := hF
  have hx := F.1
  have hb := F.2.1
  have hts := F.2.2.2.2
  have hl : lv_has ls 1 [(0, .ref x)] := hl
  have hS : va_S (fun q => q = x ∨ H.size ≤ q) H H [] := va_S.rf
  have lx := hq.lt
  refine lv_aload_n hx hb dX0_init_0 rfl (lv_at hl 0 rfl) ?_
  refine W.objInit hx hb F.2.2.2.1 (hts _ q70) (hts _ q71) (hts _ q72) rfl (by rw [F.2.2.1]; exact hl.1) rfl dX0_init_1 (Nat.le_of_ble_eq_true rfl) (Nat.le_of_ble_eq_true rfl) ?_
  refine W.eq (g2 := F0 m 4 ls []) rfl ?_
  refine lv_aload_n hx hb dX0_init_4 rfl (lv_at hl 0 rfl) ?_
  refine xnew (ci := 1) (fs := [.null, .null, .int 0, .null, .int 0]) (C := RX1) (T := TX1) (N := 5) F in_X1 tyX1 tyX1_ok q73 q74 q43 hW hS rfl (fun j hj => by rcases (show j = 0 ∨ j = 1 ∨ j = 2 ∨ j = 3 ∨ j = 4 by omega) with rfl | rfl | rfl | rfl | rfl <;> rfl) (by show 0 + 1 ≤ 9; omega) (by show 0 + 5 ≤ 42; omega) dX0_init_5 (fun H_1 ho_1 hp_1 hS_1 => ?_)
  have hz_H_1 : H_1.size = H.size + 1 := hp_1.1
  have hW_H_1 := hW.kept (hp_1.chg (A := fun _ => False)) (fun _ _ h9 => h9.elim)
  have hq_H_1 := hq.kept (hp_1.chg (A := fun _ => False)) (fun h9 => h9)
  refine lv_dup hx hb dX0_init_8 rfl ?_
  refine run_chN (rest := [.ref H.size, .ref x]) (kIN (host := "LayeredCharters") F hW_H_1 (metX1_init l E H_1 H.size (show E.2.2.1 ≤ H.size from Nat.le_trans (show E.2.2.1 ≤ H.size from hW.2.2) (by omega)) ho_1) (by decide +kernel) q77 q43 q76 rfl hdX1_init ⟨Nat.le_of_ble_eq_true rfl, Nat.le_of_ble_eq_true rfl⟩ hl.1 rfl (Nat.le_of_ble_eq_true rfl) dX0_init_9 ⟨by show 1 + 4 ≤ 9; omega, by show 5 + 12 ≤ 42; omega⟩) hS_1 (fun q9 h9 => Or.inr (h9.elim (fun h => by have h7 : q9 = H.size := h; omega) (fun h => by have h7 : H_1.size ≤ q9 := h; omega))) (fun H_2 locs hp_2 hc_2 hS_2 => ?_)
  obtain ⟨c, L, M, b, hgN, hcxN, halN, hblN, i1, i2, i3, i4⟩ := hp_2
  have hz_H_2 := hc_2.1
  have hbN := hblN.lt
  have hW_H_2 := hW_H_1.kept hc_2 (fun q9 h1 h2 => h2.elim (fun h => h ▸ (show E.2.2.1 ≤ H.size from Nat.le_trans (show E.2.2.1 ≤ H.size from hW.2.2) (by omega))) (fun h => absurd h1 (Nat.not_lt.mpr h)))
  have hq_H_2 := hq_H_1.kept hc_2 (fun h9 => h9.elim (fun h8 => by have h7 : x = H.size := h8; omega) (fun h8 => by have h7 : H_1.size ≤ x := h8; omega))
  refine xput (ref := "LayeredCharters") (ci := 0) (v := .ref H.size) (C := RX0) (T := TX0) (N := 6) F in_X0 tyX0 tyX0_ok nmX0 hW_H_2 hq_H_2 hS_2 (Or.inl rfl) rfl 0 (by decide) q177 (fun _ h9 => h9) rfl rfl rfl (Nat.le_of_ble_eq_true rfl) dX0_init_12 (fun H_3 locs ho_3 hu_3 hS_3 => ?_)
  have ho_3 : oat E x 0 [.ref H.size, .null, .null, .null, .int 0, .int 0] H_3 := ho_3
  have hz_H_3 : H_3.size = H_2.size := hu_3.1
  have hW_H_3 := hW_H_2.kept hu_3.chg (fun q _ hq => hq ▸ hq0)
  have hgN_H_3 := hgN.kept hu_3.chg (fun h9 => by have h8 : H.size = x := h9; omega)
  have hcxN_H_3 := hcxN.kept hu_3.chg ⟨(fun h9 => by have h8 : c = x := h9; omega), (fun h9 => by have h8 : L = x := h9; omega), (fun h8 => absurd h8 (Nat.not_le.mpr hW.b0))⟩
  have halN_H_3 := halN.kept hu_3.chg ⟨(fun h9 => by have h8 : M = x := h9; omega), (fun h8 => absurd h8 (Nat.not_le.mpr hW.b0))⟩
  have hblN_H_3 := hblN.kept hu_3.chg (fun h9 => by have h8 : b = x := h9; omega)
  refine lv_aload_n hx hb dX0_init_15 rfl (lv_at hl 0 rfl) ?_
  refine xnew (ci := 6) (fs := [.int 0, .null, .int 0]) (C := RJ2) (T := TJ2) (N := 3) F in_J2 tyJ2 tyJ2_ok q141 q86 q47 hW_H_3 hS_3 rfl (fun j hj => by rcases (show j = 0 ∨ j = 1 ∨ j = 2 by omega) with rfl | rfl | rfl <;> rfl) (by show 5 + 1 ≤ 9; omega) (by show 17 + 3 ≤ 42; omega) dX0_init_16 (fun H_4 ho_4 hp_4 hS_4 => ?_)
  have hz_H_4 : H_4.size = H_3.size + 1 := hp_4.1
  have hW_H_4 := hW_H_3.kept (hp_4.chg (A := fun _ => False)) (fun _ _ h9 => h9.elim)
  have hx3_H_4 := ho_3.kept (hp_4.chg (A := fun _ => False)) (fun h9 => h9)
  have hgN_H_4 := hgN_H_3.kept (hp_4.chg (A := fun _ => False)) (fun h9 => h9)
  have hcxN_H_4 := hcxN_H_3.kept (hp_4.chg (A := fun _ => False)) ⟨fun h9 => h9, fun h9 => h9, fun _ h9 => h9⟩
  have halN_H_4 := halN_H_3.kept (hp_4.chg (A := fun _ => False)) ⟨fun h9 => h9, fun _ h9 => h9⟩
  have hblN_H_4 := hblN_H_3.kept (hp_4.chg (A := fun _ => False)) (fun h9 => h9)
  refine lv_dup hx hb dX0_init_19 rfl ?_
  refine run_chN (rest := [.ref H_3.size, .ref x]) (kI F hW_H_4 (metJ2_init l E H_4 H_3.size (show E.2.2.1 ≤ H_3.size from Nat.le_trans (show E.2.2.1 ≤ H.size from hW.2.2) (by omega)) ho_4) q89 q47 q142 q88 rfl hdJ2_init ⟨Nat.le_of_ble_eq_true rfl, Nat.le_of_ble_eq_true rfl⟩ hl.1 rfl (Nat.le_of_ble_eq_true rfl) dX0_init_20 ⟨by show 6 + 0 ≤ 9; omega, by show 20 + 0 ≤ 42; omega⟩) hS_4 (fun q9 h9 => Or.inr (by have h7 : q9 = H_3.size := h9; omega)) (fun H_5 locs hp_5 hc_5 hS_5 => ?_)
  have hz_H_5 := hc_5.1
  have hW_H_5 := hW_H_4.kept hc_5 (fun q9 _ h9 => h9 ▸ (show E.2.2.1 ≤ H_3.size from Nat.le_trans (show E.2.2.1 ≤ H.size from hW.2.2) (by omega)))
  have hx3_H_5 := hx3_H_4.kept hc_5 (fun h9 => by have h8 : x = H_3.size := h9; omega)
  have hgN_H_5 := hgN_H_4.kept hc_5 (fun h9 => by have h8 : H.size = H_3.size := h9; omega)
  have hcxN_H_5 := hcxN_H_4.kept hc_5 ⟨(fun h9 => by have h8 : c = H_3.size := h9; omega), (fun h9 => by have h8 : L = H_3.size := h9; omega), (fun h8 => absurd h8 (Nat.not_le.mpr hW.b0))⟩
  have halN_H_5 := halN_H_4.kept hc_5 ⟨(fun h9 => by have h8 : M = H_3.size := h9; omega), (fun h8 => absurd h8 (Nat.not_le.mpr hW.b0))⟩
  have hblN_H_5 := hblN_H_4.kept hc_5 (fun h9 => by have h8 : b = H_3.size := h9; omega)
  have hhl_l := hp_5.1.lt
  refine xputF (ref := "LayeredCharters") (ci := 0) (v := .ref H_3.size) (C := RX0) (T := TX0) (N := 6) F in_X0 tyX0 tyX0_ok nmX0 hW_H_5 hx3_H_5 hS_5 (Or.inl rfl) rfl 1 (by decide) q178 (fun _ h9 => h9) rfl hin rfl rfl rfl (Nat.le_of_ble_eq_true rfl) dX0_init_23 (fun H_6 locs ho_6 hu_6 hS_6 => ?_)
  have ho_6 : oat E x 0 [.ref H.size, .ref H_3.size, .null, .null, .int 0, .int 0] H_6 := ho_6
  have hz_H_6 : H_6.size = H_5.size := hu_6.1
  have hW_H_6 := hW_H_5.kept hu_6.chg (fun q _ hq => hq ▸ hq0)
  have hgN_H_6 := hgN_H_5.kept hu_6.chg (fun h9 => by have h8 : H.size = x := h9; omega)
  have hcxN_H_6 := hcxN_H_5.kept hu_6.chg ⟨(fun h9 => by have h8 : c = x := h9; omega), (fun h9 => by have h8 : L = x := h9; omega), (fun h8 => absurd h8 (Nat.not_le.mpr hW.b0))⟩
  have halN_H_6 := halN_H_5.kept hu_6.chg ⟨(fun h9 => by have h8 : M = x := h9; omega), (fun h8 => absurd h8 (Nat.not_le.mpr hW.b0))⟩
  have hblN_H_6 := hblN_H_5.kept hu_6.chg (fun h9 => by have h8 : b = x := h9; omega)
  have hp_H_6 := hp_5.kept hu_6.chg ⟨(fun h9 => by have h8 : H_3.size = x := h9; omega), (fun h8 => absurd h8 (Nat.not_le.mpr hW.b0))⟩
  refine lv_aload_n hx hb dX0_init_26 rfl (lv_at hl 0 rfl) ?_
  refine lv_iconst (v := 2) hx hb dX0_init_27 (by decide) ?_
  refine xnewq (C := "LayeredCharters$Guild") F q73 (by decide +kernel) hW_H_6 hS_6 4 rfl (N' := 2) (by rw [show (2 : Int32) = nI (2) from (rfl : (2 : Int32) = nI 2)]; exact nI_pos (by omega)) (cl_eq (n := 2) (rfl : (2 : Int32) = nI 2) (by omega)) (by show 2 * 4 ≤ 536870912; omega) (by show 6 + 1 ≤ 9; omega) (by show 20 + 2 ≤ 42; omega) dX0_init_28 (fun H_7 ho_7 hp_7 hS_7 => ?_)
  have hz_H_7 : H_7.size = H_6.size + 1 := hp_7.1
  have hW_H_7 := hW_H_6.kept (hp_7.chg (A := fun _ => False)) (fun _ _ h9 => h9.elim)
  have hx6_H_7 := ho_6.kept (hp_7.chg (A := fun _ => False)) (fun h9 => h9)
  have hgN_H_7 := hgN_H_6.kept (hp_7.chg (A := fun _ => False)) (fun h9 => h9)
  have hcxN_H_7 := hcxN_H_6.kept (hp_7.chg (A := fun _ => False)) ⟨fun h9 => h9, fun h9 => h9, fun _ h9 => h9⟩
  have halN_H_7 := halN_H_6.kept (hp_7.chg (A := fun _ => False)) ⟨fun h9 => h9, fun _ h9 => h9⟩
  have hblN_H_7 := hblN_H_6.kept (hp_7.chg (A := fun _ => False)) (fun h9 => h9)
  have hp_H_7 := hp_H_6.kept (hp_7.chg (A := fun _ => False)) ⟨fun h9 => h9, fun _ h9 => h9⟩
  refine xputF (ref := "LayeredCharters") (ci := 0) (v := .ref H_6.size) (C := RX0) (T := TX0) (N := 6) F in_X0 tyX0 tyX0_ok nmX0 hW_H_7 hx6_H_7 hS_7 (Or.inl rfl) rfl 2 (by decide) q179 (fun _ h9 => h9) rfl hin rfl rfl rfl (Nat.le_of_ble_eq_true rfl) dX0_init_31 (fun H_8 locs ho_8 hu_8 hS_8 => ?_)
  have ho_8 : oat E x 0 [.ref H.size, .ref H_3.size, .ref H_6.size, .null, .int 0, .int 0] H_8 := ho_8
  have hz_H_8 : H_8.size = H_7.size := hu_8.1
  have hW_H_8 := hW_H_7.kept hu_8.chg (fun q _ hq => hq ▸ hq0)
  have hgN_H_8 := hgN_H_7.kept hu_8.chg (fun h9 => by have h8 : H.size = x := h9; omega)
  have hcxN_H_8 := hcxN_H_7.kept hu_8.chg ⟨(fun h9 => by have h8 : c = x := h9; omega), (fun h9 => by have h8 : L = x := h9; omega), (fun h8 => absurd h8 (Nat.not_le.mpr hW.b0))⟩
  have halN_H_8 := halN_H_7.kept hu_8.chg ⟨(fun h9 => by have h8 : M = x := h9; omega), (fun h8 => absurd h8 (Nat.not_le.mpr hW.b0))⟩
  have hblN_H_8 := hblN_H_7.kept hu_8.chg (fun h9 => by have h8 : b = x := h9; omega)
  have hp_H_8 := hp_H_7.kept hu_8.chg ⟨(fun h9 => by have h8 : H_3.size = x := h9; omega), (fun h8 => absurd h8 (Nat.not_le.mpr hW.b0))⟩
  have hx7_H_8 := ho_7.kept hu_8.chg (fun h9 => by have h8 : H_6.size = x := h9; omega)
  refine lv_aload_n hx hb dX0_init_34 rfl (lv_at hl 0 rfl) ?_
  refine xnew (ci := 7) (fs := [.null, .int 0, .int 0, .int 0]) (C := RJ4) (T := TJ4) (N := 4) F in_J4 tyJ4 tyJ4_ok q144 q145 q49 hW_H_8 hS_8 rfl (fun j hj => by rcases (show j = 0 ∨ j = 1 ∨ j = 2 ∨ j = 3 by omega) with rfl | rfl | rfl | rfl <;> rfl) (by show 7 + 1 ≤ 9; omega) (by show 22 + 4 ≤ 42; omega) dX0_init_35 (fun H_9 ho_9 hp_9 hS_9 => ?_)
  have hz_H_9 : H_9.size = H_8.size + 1 := hp_9.1
  have hW_H_9 := hW_H_8.kept (hp_9.chg (A := fun _ => False)) (fun _ _ h9 => h9.elim)
  have hx8_H_9 := ho_8.kept (hp_9.chg (A := fun _ => False)) (fun h9 => h9)
  have hgN_H_9 := hgN_H_8.kept (hp_9.chg (A := fun _ => False)) (fun h9 => h9)
  have hcxN_H_9 := hcxN_H_8.kept (hp_9.chg (A := fun _ => False)) ⟨fun h9 => h9, fun h9 => h9, fun _ h9 => h9⟩
  have halN_H_9 := halN_H_8.kept (hp_9.chg (A := fun _ => False)) ⟨fun h9 => h9, fun _ h9 => h9⟩
  have hblN_H_9 := hblN_H_8.kept (hp_9.chg (A := fun _ => False)) (fun h9 => h9)
  have hp_H_9 := hp_H_8.kept (hp_9.chg (A := fun _ => False)) ⟨fun h9 => h9, fun _ h9 => h9⟩
  have hx7_H_9 := hx7_H_8.kept (hp_9.chg (A := fun _ => False)) (fun h9 => h9)
  refine lv_dup hx hb dX0_init_38 rfl ?_
  refine run_chN (rest := [.ref H_8.size, .ref x]) (kI F hW_H_9 (metJ4_init l E H_9 H_8.size (show E.2.2.1 ≤ H_8.size from Nat.le_trans (show E.2.2.1 ≤ H.size from hW.2.2) (by omega)) ho_9) q148 q49 q146 q147 rfl hdJ4_init ⟨Nat.le_of_ble_eq_true rfl, Nat.le_of_ble_eq_true rfl⟩ hl.1 rfl (Nat.le_of_ble_eq_true rfl) dX0_init_39 ⟨by show 8 + 1 ≤ 9; omega, by show 26 + 16 ≤ 42; omega⟩) hS_9 (fun q9 h9 => Or.inr (h9.elim (fun h => by have h7 : q9 = H_8.size := h; omega) (fun h => by have h7 : H_9.size ≤ q9 := h; omega))) (fun H_10 locs hp_10 hc_10 hS_10 => ?_)
  have hz_H_10 := hc_10.1
  obtain ⟨hsb1, hsb2, -, -⟩ := hp_10
  have hpv_l := hsb2.lt
  have hW_H_10 := hW_H_9.kept hc_10 (fun q9 h1 h2 => h2.elim (fun h => h ▸ (show E.2.2.1 ≤ H_8.size from Nat.le_trans (show E.2.2.1 ≤ H.size from hW.2.2) (by omega))) (fun h => absurd h1 (Nat.not_lt.mpr h)))
  have hx8_H_10 := hx8_H_9.kept hc_10 (fun h9 => h9.elim (fun h8 => by have h7 : x = H_8.size := h8; omega) (fun h8 => by have h7 : H_9.size ≤ x := h8; omega))
  have hgN_H_10 := hgN_H_9.kept hc_10 (fun h9 => h9.elim (fun h8 => by have h7 : H.size = H_8.size := h8; omega) (fun h8 => by have h7 : H_9.size ≤ H.size := h8; omega))
  have hcxN_H_10 := hcxN_H_9.kept hc_10 ⟨(fun h9 => h9.elim (fun h8 => by have h7 : c = H_8.size := h8; omega) (fun h8 => by have h7 : H_9.size ≤ c := h8; omega)), (fun h9 => h9.elim (fun h8 => by have h7 : L = H_8.size := h8; omega) (fun h8 => by have h7 : H_9.size ≤ L := h8; omega)), (fun h8 => absurd h8 (Nat.not_le.mpr hW.b0))⟩
  have halN_H_10 := halN_H_9.kept hc_10 ⟨(fun h9 => h9.elim (fun h8 => by have h7 : M = H_8.size := h8; omega) (fun h8 => by have h7 : H_9.size ≤ M := h8; omega)), (fun h8 => absurd h8 (Nat.not_le.mpr hW.b0))⟩
  have hblN_H_10 := hblN_H_9.kept hc_10 (fun h9 => h9.elim (fun h8 => by have h7 : b = H_8.size := h8; omega) (fun h8 => by have h7 : H_9.size ≤ b := h8; omega))
  have hp_H_10 := hp_H_9.kept hc_10 ⟨(fun h9 => h9.elim (fun h8 => by have h7 : H_3.size = H_8.size := h8; omega) (fun h8 => by have h7 : H_9.size ≤ H_3.size := h8; omega)), (fun h8 => absurd h8 (Nat.not_le.mpr hW.b0))⟩
  have hx7_H_10 := hx7_H_9.kept hc_10 (fun h9 => h9.elim (fun h8 => by have h7 : H_6.size = H_8.size := h8; omega) (fun h8 => by have h7 : H_9.size ≤ H_6.size := h8; omega))
  refine xputF (ref := "LayeredCharters") (ci := 0) (v := .ref H_8.size) (C := RX0) (T := TX0) (N := 6) F in_X0 tyX0 tyX0_ok nmX0 hW_H_10 hx8_H_10 hS_10 (Or.inl rfl) rfl 3 (by decide) q180 (fun _ h9 => h9) rfl hin rfl rfl rfl (Nat.le_of_ble_eq_true rfl) dX0_init_42 (fun H_11 locs ho_11 hu_11 hS_11 => ?_)
  have ho_11 : oat E x 0 [.ref H.size, .ref H_3.size, .ref H_6.size, .ref H_8.size, .int 0, .int 0] H_11 := ho_11
  have hz_H_11 : H_11.size = H_10.size := hu_11.1
  have hW_H_11 := hW_H_10.kept hu_11.chg (fun q _ hq => hq ▸ hq0)
  have hgN_H_11 := hgN_H_10.kept hu_11.chg (fun h9 => by have h8 : H.size = x := h9; omega)
  have hcxN_H_11 := hcxN_H_10.kept hu_11.chg ⟨(fun h9 => by have h8 : c = x := h9; omega), (fun h9 => by have h8 : L = x := h9; omega), (fun h8 => absurd h8 (Nat.not_le.mpr hW.b0))⟩
  have halN_H_11 := halN_H_10.kept hu_11.chg ⟨(fun h9 => by have h8 : M = x := h9; omega), (fun h8 => absurd h8 (Nat.not_le.mpr hW.b0))⟩
  have hblN_H_11 := hblN_H_10.kept hu_11.chg (fun h9 => by have h8 : b = x := h9; omega)
  have hp_H_11 := hp_H_10.kept hu_11.chg ⟨(fun h9 => by have h8 : H_3.size = x := h9; omega), (fun h8 => absurd h8 (Nat.not_le.mpr hW.b0))⟩
  have hx7_H_11 := hx7_H_10.kept hu_11.chg (fun h9 => by have h8 : H_6.size = x := h9; omega)
  have hsb1_H_11 := hsb1.kept hu_11.chg (fun h9 => by have h8 : H_8.size = x := h9; omega)
  have hsb2_H_11 := hsb2.kept hu_11.chg (fun h9 => by have h8 : H_9.size = x := h9; omega)
  exact hend _ _ _ _ _ _ dX0_init_45 (⟨rfl, XR.fresh hW_H_11 (show x < H.size by omega) (show H.size < c by omega) (by omega) (by omega) (by omega) (show b < H_3.size by omega) (show H_3.size < H_6.size by omega) (show H_6.size < H_8.size by omega) (show H_8.size < H_9.size by omega) hq0 ho_11 hgN_H_11 hcxN_H_11 halN_H_11 hblN_H_11 hp_H_11 hx7_H_11 ⟨hsb1_H_11, hsb2_H_11, by decide, by decide⟩⟩) hS_11 (by first | exact Nat.le_refl _ | (show (9 : Nat) ≤ 9; omega)) (by first | exact Nat.le_refl _ | (show (42 : Nat) ≤ 42; omega))

