/-! TEXTS 6: fault, read -/
set_option maxRecDepth 100000
theorem XR.read {E : EV} {tg : TG} {x g hl sa pb gl ln n k : Nat} {pl' wr' : Int32} {f hist sl z pd : Nat → Int32} {H H1 : Heap} (hb : E.2.2.2 0 < E.2.2.1) (hxo : oat E x 0 [.ref g, .ref hl, .ref sa, .ref pb, .int pl', .int wr'] H1) (hxt : Own E tg x 10 x) (hxl : x < H.size) (hgs : GS E tg g f n k H) (hrs : RS E tg x g hl sa pb hist gl sl z pd ln H) (hPD : PD E tg x pb pd ln H) (hc : Chg (fun q => q = x ∨ H.size ≤ q) H H1) : XR E (tg1A tg H.size 0 9) x f n k hist sl z pd gl ln H1 :=
  XR.pad hb hxo hxt hxl hgs hrs tg1A_ext hc (fun q hq h => h.elim (fun e => Or.inl (by rw [e, hxt.2])) (fun h => absurd hq (Nat.not_lt.mpr h))) ((hPD.ext tg1A_ext (Nat.le_refl _)).kept hc (fun q hq h => h.elim (fun e => by rw [tg1A_ext q hq, e, hxt.2]; exact ⟨(show ¬ (10 : Nat) = 14 by decide), (show ¬ (10 : Nat) = 15 by decide)⟩) (fun h => absurd hq (Nat.not_lt.mpr h))))
theorem XN.xa {E : EV} {tg : TG} {x N : Nat} (hxt : Own E tg x 10 x) : ∀ q, (q = x ∨ N ≤ q) → XA E tg N q := fun q h => h.elim (fun e => e ▸ XA.of hxt (by decide) (by decide)) Or.inr
def PX5 (E : EV) (tg : TG) (N x : Nat) (sl z pd : Nat → Int32) (T : T5) (r : Int32) (H1 : Heap) : Prop := r = T.1 ∧ ∃ n' k' : Nat, XE E tg N x T.2.1 n' k' T.2.2.1 sl z pd T.2.2.2.1 T.2.2.2.2 H1
theorem PX5.of {E : EV} {tg : TG} {N x n' k' : Nat} {sl z pd : Nat → Int32} {T T' : T5} {H1 : Heap} (h : T = T') (k : XE E tg N x T'.2.1 n' k' T'.2.2.1 sl z pd T'.2.2.2.1 T'.2.2.2.2 H1) : PX5 E tg N x sl z pd T T'.1 H1 := by
  subst h; exact ⟨rfl, n', k', k⟩
theorem hdX0_fault : Hd yX0_fault 0 := by decide +kernel
set_option maxHeartbeats 1000000 in
set_option maxRecDepth 100000 in
theorem metX0_fault (l : Launch) (E : EV) (H : Heap) (tg : TG) (x : Nat) (f : Nat → Int32) (n k : Nat) (hist sl z pd : Nat → Int32) (gl ln : Nat) (hx : XR E tg x f n k hist sl z pd gl ln H) : Ct l yX0_fault cX0_fault 1 (some .int) 11 465 (30) (640) [.ref x] E H (XA E tg H.size) (pI (fun r9 H1 => r9 = WR (nxM pd ln) ln ∧ XE E tg H.size x f n k hist sl z pd gl ln H1)) := by
  have hx0 := hx
  obtain ⟨g, hL, sa, pb, pl, wr, hxo, hxt, hgs, hrs⟩ := hx
  have hgs0 := hgs
  obtain ⟨c, L, arr, cap, M, arr2, cap2, b, md, md2, xs, ys, hgx, hgt, hvk⟩ := hgs
  have hgx0 := hgx
  have hvk0 := hvk
  obtain ⟨hg, hcx, hrl, hal, hmb, hbl⟩ := hgx
  obtain ⟨hn0, hn24, hk0, hk10, hrok, hmok⟩ := hvk
  have hc0 := hcx.1
  have hcr : CR E c n (ruA f) H := ⟨L, md, arr, cap, xs, hcx.1, hcx.2, hrl⟩
  have hrs0 := hrs
  obtain ⟨hmd, harr, hcap, hs, sf, hAL, hlen, hgl7, hHI, hsa, hSL, hPD, ht11, ht12, ht13⟩ := hrs
  have hPD0 := hPD
  obtain ⟨pv, pcap, pmb, pf, hsb, hln60, hpd, ht14, ht15⟩ := hPD
  have hpv : pb ≠ pv := tne ht14.2 ht15.2 (by decide)
  have hxpb : x ≠ pb := tne hxt.2 ht14.2 (by decide)
  have hxpv : x ≠ pv := tne hxt.2 ht15.2 (by decide)
  refine Ct.ofZ (by decide) (Nat.le_of_ble_eq_true rfl) ?_
  intro p e s m bl mt cd ls Q hF hW hH hl hend
  obtain ⟨F, hin⟩ := hF
  have hx := F.1
  have hb := F.2.1
  have hts := F.2.2.2.2
  have hl : lv_has ls 1 [(0, .ref x)] := hl
  have hS : va_S (XA E tg H.size) H H [] := va_S.rf
  refine lv_aload_n hx hb dX0_fault_0 rfl (lv_at hl 0 rfl) ?_
  refine run_chA (rest := []) (kV F hW (metX0_readRules l E H x g hL sa pb pv pcap pl wr pmb pf pd ln hxo hsb hln60 hpd.2 hxt.1 hxpb hxpv) (lw_V q455 q457 qs6 q42 q458) hdX0_readRules ⟨Nat.le_of_ble_eq_true rfl, Nat.le_of_ble_eq_true rfl⟩ (recv hW hxo rfl) hl.1 rfl (Nat.le_of_ble_eq_true rfl) dX0_fault_1 ⟨by show 0 + 30 ≤ 30; omega, by show 0 + 640 ≤ 640; omega⟩) hS (XN.xa hxt) (fun r_1 H_1 locs hp_1 hc_1 hS_1 => ?_)
  obtain ⟨p', w', hRD, hp', hor⟩ := hp_1
  have hb9 := hW.b0
  have hW1 := hW.kept hc_1 (fun q h1 h2 => h2.elim (fun h => h ▸ hxt.1) (fun h => absurd h1 (Nat.not_lt.mpr h)))
  have hz1 := hc_1.1
  obtain ⟨pcap', pmb', pf', hx1, -⟩ := hRD
  have hX1 := XR.read hb9 hx1 hxt hxo.lt hgs0 hrs0 hPD0 hc_1
  have hE1 : Ext tg (tg1A tg H.size 0 9) H.size := tg1A_ext
  refine lv_pop hx hb dX0_fault_4 rfl ?_
  refine lv_aload_n hx hb dX0_fault_5 rfl (lv_at hl 0 rfl) ?_
  refine xget (ref := "LayeredCharters") (ci := 0) (v := .int (b2i w')) (C := RX0) (T := TX0) (N := 6) F in_X0 hW1 hx1 rfl 5 (by decide) q182 (fun _ h9 => h9) rfl dX0_fault_6 ?_
  refine lv_if_eq (tgt := 19) hx hb dX0_fault_9 (by decide) (fun c_2 => ?_) (fun c_2 => ?_)
  · skip
    have bc_2 := c_2
    have c_2 := b2i_f c_2
    refine lv_bipush (v := (-6)) hx hb dX0_fault_19 (by decide) ?_
    exact hend _ _ _ _ _ _ _ rfl dX0_fault_21 (⟨_, rfl, hor.elim (fun h => by rw [h.1] at c_2; exact absurd c_2 (by decide)) (fun h => h.2.1.symm), _, hE1, hX1⟩) hS_1 (by first | exact Nat.le_refl _ | (show (30 : Nat) ≤ 30; omega)) (by first | exact Nat.le_refl _ | (show (640 : Nat) ≤ 640; omega))
  · skip
    have bc_2 := c_2
    have c_2 := b2i_t c_2
    refine lv_aload_n hx hb dX0_fault_12 rfl (lv_at hl 0 rfl) ?_
    refine xget (ref := "LayeredCharters") (ci := 0) (v := .int (nI p')) (C := RX0) (T := TX0) (N := 6) F in_X0 hW1 hx1 rfl 4 (by decide) q181 (fun _ h9 => h9) rfl dX0_fault_13 ?_
    refine lv_goto (tgt := 21) hx hb dX0_fault_16 (by decide) ?_
    exact hend _ _ _ _ _ _ _ rfl dX0_fault_21 (⟨_, rfl, hor.elim (fun h => h.2.2.symm) (fun h => by rw [h.1] at c_2; exact absurd c_2 (by decide)), _, hE1, hX1⟩) hS_1 (by first | exact Nat.le_refl _ | (show (30 : Nat) ≤ 30; omega)) (by first | exact Nat.le_refl _ | (show (640 : Nat) ≤ 640; omega))

theorem hdX0_read : Hd yX0_read 0 := by decide +kernel
set_option maxHeartbeats 1000000 in
set_option maxRecDepth 100000 in
theorem metX0_read (l : Launch) (E : EV) (H : Heap) (tg : TG) (x : Nat) (f : Nat → Int32) (n k : Nat) (hist sl z pd : Nat → Int32) (gl ln : Nat) (hx : XR E tg x f n k hist sl z pd gl ln H) (hgl6 : gl ≤ 6) : Ct l yX0_read cX0_read 2 (some .int) 14 588 (62) (1301) [.ref x] E H (XA E tg H.size) (pI (fun r9 H1 => PX5 E tg H.size x sl z pd (readT f hist pd gl n ln) r9 H1)) := by
  have hx0 := hx
  obtain ⟨g, hL, sa, pb, pl, wr, hxo, hxt, hgs, hrs⟩ := hx
  have hgs0 := hgs
  obtain ⟨c, L, arr, cap, M, arr2, cap2, b, md, md2, xs, ys, hgx, hgt, hvk⟩ := hgs
  have hgx0 := hgx
  have hvk0 := hvk
  obtain ⟨hg, hcx, hrl, hal, hmb, hbl⟩ := hgx
  obtain ⟨hn0, hn24, hk0, hk10, hrok, hmok⟩ := hvk
  have hc0 := hcx.1
  have hcr : CR E c n (ruA f) H := ⟨L, md, arr, cap, xs, hcx.1, hcx.2, hrl⟩
  have hrs0 := hrs
  obtain ⟨hmd, harr, hcap, hs, sf, hAL, hlen, hgl7, hHI, hsa, hSL, hPD, ht11, ht12, ht13⟩ := hrs
  have hPD0 := hPD
  obtain ⟨pv, pcap, pmb, pf, hsb, hln60, hpd, ht14, ht15⟩ := hPD
  have hpv : pb ≠ pv := tne ht14.2 ht15.2 (by decide)
  have hxpb : x ≠ pb := tne hxt.2 ht14.2 (by decide)
  have hxpv : x ≠ pv := tne hxt.2 ht15.2 (by decide)
  refine Ct.ofZ (by decide) (Nat.le_of_ble_eq_true rfl) ?_
  intro p e s m bl mt cd ls Q hF hW hH hl hend
  obtain ⟨F, hin⟩ := hF
  have hx := F.1
  have hb := F.2.1
  have hts := F.2.2.2.2
  have hl : lv_has ls 2 [(0, .ref x)] := hl
  have hS : va_S (XA E tg H.size) H H [] := va_S.rf
  obtain ⟨cC, hat⟩ := cat (ci := 6) hW rfl
  refine lv_aload_n hx hb dX0_read_0 rfl (lv_at hl 0 rfl) ?_
  refine run_chA (rest := []) (kV F hW (metX0_readRules l E H x g hL sa pb pv pcap pl wr pmb pf pd ln hxo hsb hln60 hpd.2 hxt.1 hxpb hxpv) (lw_V q455 q457 qs6 q42 q458) hdX0_readRules ⟨Nat.le_of_ble_eq_true rfl, Nat.le_of_ble_eq_true rfl⟩ (recv hW hxo rfl) hl.1 rfl (Nat.le_of_ble_eq_true rfl) dX0_read_1 ⟨by show 0 + 30 ≤ 62; omega, by show 0 + 640 ≤ 1301; omega⟩) hS (XN.xa hxt) (fun r_1 H_1 locs hp_1 hc_1 hS_1 => ?_)
  obtain ⟨p', w', hRD, hp', hor⟩ := hp_1
  have hb9 := hW.b0
  have hW1 := hW.kept hc_1 (fun q h1 h2 => h2.elim (fun h => h ▸ hxt.1) (fun h => absurd h1 (Nat.not_lt.mpr h)))
  have hz1 := hc_1.1
  obtain ⟨pcap', pmb', pf', hx1, -⟩ := hRD
  have hX1 := XR.read hb9 hx1 hxt hxo.lt hgs0 hrs0 hPD0 hc_1
  have hE1 : Ext tg (tg1A tg H.size 0 9) H.size := tg1A_ext
  rcases hor with ⟨ew, er, eW⟩ | ⟨ew, eW, LT, mdT, arrT, capT, vsT, hro, hALT, hRlT, hokT, hNr, hNL, hNa, hNv⟩
  · skip
    subst er
    refine lv_astore_n (lv' := [(1, .ref (E.2.2.2 1)), (0, .ref x)]) hx hb dX0_read_4 rfl hl (by decide) rfl (fun ls hl => ?_)
    refine lv_aload_n hx hb dX0_read_5 rfl (lv_at hl 0 rfl) ?_
    refine run_ro (w := .int (b2i false)) (rest := []) (kV F hW1 (metJ14_isPresentE l E H_1) (lw_V q598 q599 q600 q64 q601) hdJ14_isPresent ⟨Nat.le_of_ble_eq_true rfl, Nat.le_of_ble_eq_true rfl⟩ (orecv hW1.2.1.2.2.2.2.2.1) hl.1 rfl (Nat.le_of_ble_eq_true rfl) dX0_read_6 ⟨Nat.le_of_ble_eq_true rfl, Nat.le_of_ble_eq_true rfl⟩) ?_
    refine lv_if_ne (tgt := 15) hx hb dX0_read_9 (by decide) (fun c9 => absurd (show b2i false = 0 by decide) c9) (fun _ => ?_)
    refine lv_bipush (v := (-3)) hx hb dX0_read_12 (by decide) ?_
    exact hend _ _ _ _ _ _ _ rfl dX0_read_14 (⟨_, rfl, PX5.of (T := readT f hist pd gl n ln) (T' := ((-3), f, hist, gl, ln)) (by unfold readT; rw [if_neg (show ¬ (wrI (nxM pd ln) ln (ln + 1) 0 0).1 = -6 from fun h => nI_ne6 (q := p') (by omega) (eW.symm.trans h))]) ⟨_, hE1, hX1⟩⟩) hS_1 (by first | exact Nat.le_refl _ | (show (30 : Nat) ≤ 62; omega)) (by first | exact Nat.le_refl _ | (show (640 : Nat) ≤ 1301; omega))
  · skip
    obtain ⟨nT, hnT⟩ : ∃ a : Nat, a = (PS (nxM pd ln) ln).length := ⟨_, rfl⟩
    have hnT9 : nT ≤ ln := by rw [hnT]; exact psL_len _ _
    have hnT8 : (psL (nxM pd ln) ln (ln + 1) 0).length = nT := hnT.symm
    have hX1' := hX1
    generalize htg1 : tg1A tg H.size 0 9 = tg1 at hX1 hX1' hE1
    have h9 : ∀ q, H.size ≤ q → (tg1 q).2 = 9 := fun q hq => by rw [← htg1, tg1A_new hq]
    obtain ⟨g1, hL1, sa1, pb1, pl1, wr1, hxo1, hxt1, hgs1, hrs1⟩ := hX1
    have hgs01 := hgs1
    obtain ⟨c1, L1, arr1, cap1, M1, arr21, cap21, b1, md1, md21, xs1, ys1, hgx1, hgt1, hvk1⟩ := hgs1
    have hgx01 := hgx1
    have hvk01 := hvk1
    obtain ⟨hg1, hcx1, hrl1, hal1, hmb1, hbl1⟩ := hgx1
    obtain ⟨hn01, hn241, hk01, hk101, hrok1, hmok1⟩ := hvk1
    have hc01 := hcx1.1
    have hcr1 : CR E c1 n (ruA f) H_1 := ⟨L1, md1, arr1, cap1, xs1, hcx1.1, hcx1.2, hrl1⟩
    have lx1 := hxo1.lt; have lg1 := hg1.lt; have lc1 := hc01.lt; have lL1 := hcx1.2.1.lt; have lM1 := hal1.1.lt
    have hLo := hALT.1
    refine lv_astore_n (lv' := [(1, .ref r_1), (0, .ref x)]) hx hb dX0_read_4 rfl hl (by decide) rfl (fun ls hl => ?_)
    refine lv_aload_n hx hb dX0_read_5 rfl (lv_at hl 0 rfl) ?_
    refine run_ro (w := .int (b2i true)) (rest := []) (kV F hW1 (metJ14_isPresentT l E H_1 r_1 LT hro) (lw_V q598 q599 q600 q64 q601) hdJ14_isPresent ⟨Nat.le_of_ble_eq_true rfl, Nat.le_of_ble_eq_true rfl⟩ (recv hW1 hro rfl) hl.1 rfl (Nat.le_of_ble_eq_true rfl) dX0_read_6 ⟨Nat.le_of_ble_eq_true rfl, Nat.le_of_ble_eq_true rfl⟩) ?_
    refine lv_if_ne (tgt := 15) hx hb dX0_read_9 (by decide) (fun _ => ?_) (fun c9 => absurd c9 (show ¬ b2i true = 0 by decide))
    refine lv_aload_n hx hb dX0_read_15 rfl (lv_at hl 1 rfl) ?_
    refine xget (ref := "LayeredCharters") (ci := 0) (v := .ref g1) (C := RX0) (T := TX0) (N := 6) F in_X0 hW1 hxo1 rfl 0 (by decide) q177 (fun _ h9 => h9) rfl dX0_read_16 ?_
    refine xget (ref := "LayeredCharters$Guild") (ci := 1) (v := .ref c1) (C := RX1) (T := TX1) (N := 5) F in_X1 hW1 hg1 rfl 0 (by decide) q120 (fun _ h9 => h9) rfl dX0_read_19 ?_
    refine xget (ref := "LayeredCharters$Charter") (ci := 2) (v := .ref L1) (C := RX2) (T := TX2) (N := 1) F in_X2 hW1 hc01 rfl 0 (by decide) q112 (fun _ h9 => h9) rfl dX0_read_22 ?_
    refine run_ro5 (w := .int (nI n)) (rest := []) (kF (x := ⟨"java/util/List", "size", "()I"⟩) F hW1 (metJ2_size l E H_1 L1 arr1 md1 (nI n) (by have h9 := hcx1.2.1; rw [hrl1.1] at h9; exact h9)) (by decide +kernel) hat q211 q215 q217 q47 q219 hdJ2_sizeF ⟨Nat.le_of_ble_eq_true rfl, Nat.le_of_ble_eq_true rfl⟩ (recv hW1 hcx1.2.1 rfl) hl.1 rfl (Nat.le_of_ble_eq_true rfl) dX0_read_25 ⟨Nat.le_of_ble_eq_true rfl, Nat.le_of_ble_eq_true rfl⟩) ?_
    refine lv_aload_n hx hb dX0_read_30 rfl (lv_at hl 0 rfl) ?_
    refine run_ro (w := .ref LT) (rest := [.int (nI n)]) (kV F hW1 (metJ14_get l E H_1 r_1 LT hro) (lw_V q602 q603 q604 q64 q605) hdJ14_get ⟨Nat.le_of_ble_eq_true rfl, Nat.le_of_ble_eq_true rfl⟩ (recv hW1 hro rfl) hl.1 rfl (Nat.le_of_ble_eq_true rfl) dX0_read_31 ⟨Nat.le_of_ble_eq_true rfl, Nat.le_of_ble_eq_true rfl⟩) ?_
    refine xcastI (ci := 6) F hW1 hLo rfl (by decide +kernel) q606 dX0_read_34 ?_
    refine run_ro5 (w := .int (nI nT)) (rest := [.int (nI n)]) (kF (x := ⟨"java/util/List", "size", "()I"⟩) F hW1 (metJ2_size l E H_1 LT arrT mdT (nI nT) (by have h8 := hLo; rw [hRlT.1, ← hnT] at h8; exact h8)) (by decide +kernel) hat q211 q215 q217 q47 q219 hdJ2_sizeF ⟨Nat.le_of_ble_eq_true rfl, Nat.le_of_ble_eq_true rfl⟩ (recv hW1 hLo rfl) hl.1 rfl (Nat.le_of_ble_eq_true rfl) dX0_read_37 ⟨Nat.le_of_ble_eq_true rfl, Nat.le_of_ble_eq_true rfl⟩) ?_
    refine lv_iadd hx hb dX0_read_42 ?_
    refine lv_val (y := nI (n + nT)) ((nI_add (n) (nT))) ?_
    refine lv_bipush (v := 24) hx hb dX0_read_43 (by decide) ?_
    refine lv_icmp_le (tgt := 51) hx hb dX0_read_45 (by decide) (fun c_2 => ?_) (fun c_2 => ?_)
    · skip
      have nc_2 := (nI_leI (a := (n + nT)) (b := 24) (by omega) (by omega)).mp c_2
      refine lv_aload_n hx hb dX0_read_51 rfl (lv_at hl 1 rfl) ?_
      refine run_chN (rest := []) (kV F hW1 (metX0_record l E H_1 tg1 x f n k hist sl z pd gl ln hX1' hgl6) (lw_V q220 q222 qs0 q42 q223) hdX0_record ⟨Nat.le_of_ble_eq_true rfl, Nat.le_of_ble_eq_true rfl⟩ (recv hW1 hxo1 rfl) hl.1 rfl (Nat.le_of_ble_eq_true rfl) dX0_read_52 ⟨by show 30 + 30 ≤ 62; omega, by show 640 + 581 ≤ 1301; omega⟩) hS_1 (fun q9 h9 => XA.ext hE1 hz1 q9 h9) (fun H_3 locs hp_3 hc_3 hS_3 => ?_)
      obtain ⟨tg2, hE2, hX2⟩ := hp_3
      have hz2 := hc_3.1
      have hW2 := hW1.kept hc_3 (XA.old (Nat.le_refl _))
      have no9 : ∀ {q : Nat}, q < H_1.size → H.size ≤ q → ¬ XA E tg1 H_1.size q := fun h1 h2 => XA.no9 h1 (h9 _ h2)
      have hro2 := hro.kept hc_3 (no9 hro.lt hNr)
      have hALT2 := hALT.kept hc_3 ⟨no9 hALT.1.lt hNL, fun ho => no9 (hALT.2.lt ho) (hNa ho)⟩
      have hRlT2 := hRlT.kept hc_3 (fun v hv => no9 (hRlT.lt hv) (hNv v hv))
      have h92 : ∀ v ∈ vsT, (tg2 v).2 = 9 := fun v hv => by rw [hE2 _ (hRlT.lt hv)]; exact h9 v (hNv v hv)
      have hE02 := hE1.trans hE2 hz1
      have hLo2 := hALT2.1
      have hT2 : (tg2 LT).2 = 9 := by rw [hE2 _ hALT.1.lt]; exact h9 LT hNL
      obtain ⟨g2, hL2, sa2, pb2, pl2, wr2, hxo2, hxt2, hgs2, hrs2⟩ := hX2
      have hgs02 := hgs2
      obtain ⟨c2, L2, arr2, cap2, M2, arr22, cap22, b2, md2, md22, xs2, ys2, hgx2, hgt2, hvk2⟩ := hgs2
      have hgx02 := hgx2
      have hvk02 := hvk2
      obtain ⟨hg2, hcx2, hrl2, hal2, hmb2, hbl2⟩ := hgx2
      obtain ⟨hn02, hn242, hk02, hk102, hrok2, hmok2⟩ := hvk2
      have hc02 := hcx2.1
      have hcr2 : CR E c2 n (ruA f) H_3 := ⟨L2, md2, arr2, cap2, xs2, hcx2.1, hcx2.2, hrl2⟩
      have lx2 := hxo2.lt; have lg2 := hg2.lt; have lc2 := hc02.lt; have lL2 := hcx2.2.1.lt; have lM2 := hal2.1.lt
      refine lv_aload_n hx hb dX0_read_55 rfl (lv_at hl 1 rfl) ?_
      refine xget (ref := "LayeredCharters") (ci := 0) (v := .ref g2) (C := RX0) (T := TX0) (N := 6) F in_X0 hW2 hxo2 rfl 0 (by decide) q177 (fun _ h9 => h9) rfl dX0_read_56 ?_
      refine xget (ref := "LayeredCharters$Guild") (ci := 1) (v := .ref c2) (C := RX1) (T := TX1) (N := 5) F in_X1 hW2 hg2 rfl 0 (by decide) q120 (fun _ h9 => h9) rfl dX0_read_59 ?_
      refine xget (ref := "LayeredCharters$Charter") (ci := 2) (v := .ref L2) (C := RX2) (T := TX2) (N := 1) F in_X2 hW2 hc02 rfl 0 (by decide) q112 (fun _ h9 => h9) rfl dX0_read_62 ?_
      refine lv_aload_n hx hb dX0_read_65 rfl (lv_at hl 0 rfl) ?_
      refine run_ro (w := .ref LT) (rest := [.ref L2]) (kV F hW2 (metJ14_get l E H_3 r_1 LT hro2) (lw_V q602 q603 q604 q64 q605) hdJ14_get ⟨Nat.le_of_ble_eq_true rfl, Nat.le_of_ble_eq_true rfl⟩ (recv hW2 hro2 rfl) hl.1 rfl (Nat.le_of_ble_eq_true rfl) dX0_read_66 ⟨Nat.le_of_ble_eq_true rfl, Nat.le_of_ble_eq_true rfl⟩) ?_
      refine xcastI (ci := 6) F hW2 hLo2 rfl (by decide +kernel) q607 dX0_read_69 ?_
      refine run_ch5I (rest := []) (kF (x := ⟨"java/util/List", "addAll", "(Ljava/util/Collection;)Z"⟩) F hW2 (metJ2_addAll l E H_3 L2 arr2 cap2 LT arrT capT xs2 vsT md2 mdT hgt2.2.2.1.1 hcx2.2 hALT2 (fun y hy => ⟨rls_elt hrl2 y hy, tne9 (hgt2.2.2.2.2.2.2.2.2 y hy) hgt2.2.2.1.2 (by decide)⟩) (fun y hy => ⟨rls_elt hRlT2 y hy, tne9 (h92 y hy) hgt2.2.2.1.2 (by decide)⟩) (by rw [hrl2.1, hRlT2.1]; omega)) (by decide +kernel) hat q609 q240 q242 q47 q244 hdJ2_addAllF ⟨Nat.le_of_ble_eq_true rfl, Nat.le_of_ble_eq_true rfl⟩ (recv hW2 hcx2.2.1 rfl) hl.1 rfl (Nat.le_of_ble_eq_true rfl) dX0_read_72 ⟨by show 60 + 2 ≤ 62; omega, by show 1221 + 80 ≤ 1301; omega⟩) hS_3 (fun q9 h9 => XA.ext hE02 (Nat.le_trans hz1 hz2) q9 ((TgA.la hgt2.2.2.1.2 hgt2.2.2.2.2.2.1).xa (LA.old (n := 0) hW2 hgt2.2.2.1.1) (by decide) q9 h9)) (fun r_4 H_4 locs hp_4 hc_4 hS_4 => ?_)
      obtain ⟨arr', cap', hAL3, hor3⟩ := hp_4
      have hW3 := hW2.kept hc_4 (LA.old (n := 0) hW2 hgt2.2.2.1.1)
      have hz3 := Nat.le_trans hz2 hc_4.1
      have hX3 := XR.addRules (R := PS (nxM pd ln) ln) hW2 hxo2 hxt2 hgx02 hgt2 hvk02 hrs2 hc_4 hAL3 hor3 hRlT2 h92 (by omega) hokT
      have hE3 : Ext tg2 (tg1A tg2 H_3.size g2 5) H_3.size := tg1A_ext
      generalize tg1A tg2 H_3.size g2 5 = tg3 at hX3 hE3
      have hE03 := hE02.trans hE3 (Nat.le_trans hz1 hz2)
      obtain ⟨g3, hL3, sa3, pb3, pl3, wr3, hxo3, hxt3, hgs3, hrs3⟩ := hX3
      have hgs03 := hgs3
      obtain ⟨c3, L3, arr3, cap3, M3, arr23, cap23, b3, md3, md23, xs3, ys3, hgx3, hgt3, hvk3⟩ := hgs3
      have hgx03 := hgx3
      have hvk03 := hvk3
      obtain ⟨hg3, hcx3, hrl3, hal3, hmb3, hbl3⟩ := hgx3
      obtain ⟨hn03, hn243, hk03, hk103, hrok3, hmok3⟩ := hvk3
      have hc03 := hcx3.1
      have hcr3 : CR E c3 (n + (PS (nxM pd ln) ln).length) (ruA (addsF f n (PS (nxM pd ln) ln))) H_4 := ⟨L3, md3, arr3, cap3, xs3, hcx3.1, hcx3.2, hrl3⟩
      have lx3 := hxo3.lt; have lg3 := hg3.lt; have lc3 := hc03.lt; have lL3 := hcx3.2.1.lt; have lM3 := hal3.1.lt
      have hrs03 := hrs3
      obtain ⟨hmd3, harr3, hcap3, hs3, sf3, hAL93, hlen3, hgl73, hHI3, hsa3, hSL3, hPD3, w11, w12, w13⟩ := hrs3
      obtain ⟨pv3, pcap3, pmb3, pf3, hsb3, hln3, hpd3, w14, w15⟩ := hPD3
      refine lv_pop hx hb dX0_read_77 rfl ?_
      refine lv_aload_n hx hb dX0_read_78 rfl (lv_at hl 1 rfl) ?_
      refine xget (ref := "LayeredCharters") (ci := 0) (v := .ref pb3) (C := RX0) (T := TX0) (N := 6) F in_X0 hW3 hxo3 rfl 3 (by decide) q180 (fun _ h9 => h9) rfl dX0_read_79 ?_
      refine lv_iconst (v := 0) hx hb dX0_read_82 (by decide) ?_
      refine run_chN (rest := []) (kV F hW3 (metJ4_setLength l E H_4 pb3 pv3 pcap3 ln pmb3 pf3 hsb3 w14.1 (tne w14.2 w15.2 (by decide))) (lw_V q610 q611 q612 q49 q613) hdJ4_setLength ⟨Nat.le_of_ble_eq_true rfl, Nat.le_of_ble_eq_true rfl⟩ (recv hW3 hsb3.1 rfl) hl.1 rfl (Nat.le_of_ble_eq_true rfl) dX0_read_83 ⟨by show 62 + 0 ≤ 62; omega, by show 1301 + 0 ≤ 1301; omega⟩) hS_4 (fun q9 h9 => XA.ext hE03 (Nat.le_trans hz1 hz3) q9 ((show q9 = pb3 from h9) ▸ XA.of w14 (by decide) (by decide))) (fun H_5 locs hp_5 hc_5 hS_5 => ?_)
      obtain ⟨mb', hsb'⟩ := hp_5
      have hxo4 := hxo3.kept hc_5 (fun h9 => tne hxt3.2 w14.2 (by decide) (show x = pb3 from h9))
      have hW4 := hW3.kept hc_5 (fun q h1 h2 => (show q = pb3 from h2) ▸ w14.1)
      have hX4 := XR.pad (pd' := pd) (ln' := 0) hW3.b0 hxo4 hxt3 hxo3.lt hgs03 hrs03 Ext.rf hc_5 (fun q hq e => Or.inr (Or.inl (by rw [show q = pb3 from e, w14.2]))) ⟨pv3, pcap3, mb', pf3, hsb', by decide, ⟨hpd3.1, fun i hi => absurd hi (Nat.not_lt_zero _)⟩, w14, w15⟩
      have hX4' := hX4
      obtain ⟨g4, hL4, sa4, pb4, pl4, wr4, hxo4, hxt4, hgs4, hrs4⟩ := hX4
      have hgs04 := hgs4
      obtain ⟨c4, L4, arr4, cap4, M4, arr24, cap24, b4, md4, md24, xs4, ys4, hgx4, hgt4, hvk4⟩ := hgs4
      have hgx04 := hgx4
      have hvk04 := hvk4
      obtain ⟨hg4, hcx4, hrl4, hal4, hmb4, hbl4⟩ := hgx4
      obtain ⟨hn04, hn244, hk04, hk104, hrok4, hmok4⟩ := hvk4
      have hc04 := hcx4.1
      have hcr4 : CR E c4 (n + (PS (nxM pd ln) ln).length) (ruA (addsF f n (PS (nxM pd ln) ln))) H_5 := ⟨L4, md4, arr4, cap4, xs4, hcx4.1, hcx4.2, hrl4⟩
      have lx4 := hxo4.lt; have lg4 := hg4.lt; have lc4 := hc04.lt; have lL4 := hcx4.2.1.lt; have lM4 := hal4.1.lt
      refine lv_aload_n hx hb dX0_read_86 rfl (lv_at hl 1 rfl) ?_
      refine xget (ref := "LayeredCharters") (ci := 0) (v := .ref g4) (C := RX0) (T := TX0) (N := 6) F in_X0 hW4 hxo4 rfl 0 (by decide) q177 (fun _ h9 => h9) rfl dX0_read_87 ?_
      refine xget (ref := "LayeredCharters$Guild") (ci := 1) (v := .ref c4) (C := RX1) (T := TX1) (N := 5) F in_X1 hW4 hg4 rfl 0 (by decide) q120 (fun _ h9 => h9) rfl dX0_read_90 ?_
      refine xget (ref := "LayeredCharters$Charter") (ci := 2) (v := .ref L4) (C := RX2) (T := TX2) (N := 1) F in_X2 hW4 hc04 rfl 0 (by decide) q112 (fun _ h9 => h9) rfl dX0_read_93 ?_
      refine run_ro5 (w := .int (nI (n + (PS (nxM pd ln) ln).length))) (rest := []) (kF (x := ⟨"java/util/List", "size", "()I"⟩) F hW4 (metJ2_size l E H_5 L4 arr4 md4 (nI (n + (PS (nxM pd ln) ln).length)) (by have h9 := hcx4.2.1; rw [hrl4.1] at h9; exact h9)) (by decide +kernel) hat q211 q215 q217 q47 q219 hdJ2_sizeF ⟨Nat.le_of_ble_eq_true rfl, Nat.le_of_ble_eq_true rfl⟩ (recv hW4 hcx4.2.1 rfl) hl.1 rfl (Nat.le_of_ble_eq_true rfl) dX0_read_96 ⟨Nat.le_of_ble_eq_true rfl, Nat.le_of_ble_eq_true rfl⟩) ?_
      exact hend _ _ _ _ _ _ _ rfl dX0_read_101 (⟨_, rfl, PX5.of (T := readT f hist pd gl n ln) (T' := (nI (n + (PS (nxM pd ln) ln).length), addsF f n (PS (nxM pd ln) ln), recH f hist gl, recK gl, 0)) (by unfold readT; rw [if_pos (show (wrI (nxM pd ln) ln (ln + 1) 0 0).1 = -6 from eW), if_pos (show n + (psL (nxM pd ln) ln (ln + 1) 0).length ≤ 24 from by rw [hnT8]; exact nc_2)]; rfl) ⟨_, hE03, hX4'⟩⟩) hS_5 (by first | exact Nat.le_refl _ | (show (62 : Nat) ≤ 62; omega)) (by first | exact Nat.le_refl _ | (show (1301 : Nat) ≤ 1301; omega))
    · skip
      have nc_2 := Nat.not_le.mp (fun h9 => c_2 ((nI_leI (a := (n + nT)) (b := 24) (by omega) (by omega)).mpr h9))
      refine lv_bipush (v := (-4)) hx hb dX0_read_48 (by decide) ?_
      exact hend _ _ _ _ _ _ _ rfl dX0_read_50 (⟨_, rfl, PX5.of (T := readT f hist pd gl n ln) (T' := ((-4), f, hist, gl, ln)) (by unfold readT; rw [if_pos (show (wrI (nxM pd ln) ln (ln + 1) 0 0).1 = -6 from eW), if_neg (show ¬ n + (psL (nxM pd ln) ln (ln + 1) 0).length ≤ 24 from by rw [hnT8]; omega)]) ⟨_, hE1, hX1'⟩⟩) hS_1 (by first | exact Nat.le_refl _ | (show (30 : Nat) ≤ 62; omega)) (by first | exact Nat.le_refl _ | (show (640 : Nat) ≤ 1301; omega))

