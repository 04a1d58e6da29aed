/-! TEXTS 2: sign, accept, digitOrStar, readRule -/
set_option maxRecDepth 100000
/-- a digit up to mo, or a star -/
def dsV (c : Int32) (mo : Nat) : Int32 := if c = 42 then nI mo + 1 else c - 48
def dsC (c : Int32) (mo : Nat) : Bool := decide (c = 42) || inR (dsV c mo) 0 (nI mo)
def kdX (c : Int32) : Int32 := if c ≤ 0 then -6 else ioX c
def kcX (K L : Int32) : Bool := !decide (K ≤ 0) || (decide (K = 0) && decide (L = 0))
/-- a rule is read at p: the place behind it, whether it is wrong, the rule -/
def rrX (x : Nat → Int32) (p : Nat) : Nat × Bool × RV :=
  let b1 := inR (x p - 48) 0 4
  let p1 := acP false p b1
  let w1 := acW false b1
  let b2 := kcX (kdX (x p1)) (x p - 48)
  let p2 := acP w1 p1 b2
  let w2 := acW w1 b2
  let b3 := dsC (x p2) 4
  let p3 := acP w2 p2 b3
  let w3 := acW w2 b3
  let b4 := dsC (x p3) 5
  let p4 := acP w3 p3 b4
  let w4 := acW w3 b4
  if w4 = true then (p4, true, (x p - 48, kdX (x p1), dsV (x p2) 4, dsV (x p3) 5, 1))
  else if kdX (x p1) = 0 then (p4, false, (x p - 48, kdX (x p1), dsV (x p2) 4, dsV (x p3) 5, 1))
  else (acP w4 p4 (inR (x p4 - 48) 1 9), acW w4 (inR (x p4 - 48) 1 9), (x p - 48, kdX (x p1), dsV (x p2) 4, dsV (x p3) 5, x p4 - 48))
theorem acP_le {w : Bool} {p : Nat} {c : Bool} : acP w p c ≤ p + 1 ∧ p ≤ acP w p c := by unfold acP; split <;> omega
theorem hdX0_sign : Hd yX0_sign 0 := by decide +kernel
set_option maxHeartbeats 1000000 in
set_option maxRecDepth 100000 in
theorem metX0_sign (l : Launch) (E : EV) (H : Heap) (x g hL sa pb pv pl : Nat) (wr : Bool) (pd : Nat → Int32) (ln : Nat) (hrd : RD E x g hL sa pb pv pl wr pd ln H) (hpl : pl ≤ 100) : Ro l yX0_sign cX0_sign 1 (some .char) 4 88 [.ref x] E H (some (.int (nxM pd ln pl))) := by
  have hrd0 := hrd
  obtain ⟨pcap, pmb, pf, hxo, hsb, hln, hpd, hxold, hxpb, hxpv⟩ := hrd
  refine Ct.ofZ (by decide) (Nat.le_of_ble_eq_true rfl) ?_
  intro p e s m bl mt cd ls Q hF hW hH hl hend
  obtain ⟨F, hin⟩ := hF
  have hx := F.1
  have hb := F.2.1
  have hts := F.2.2.2.2
  have hl : lv_has ls 1 [(0, .ref x)] := hl
  have hS : va_S (fun _ => False) H H [] := va_S.rf
  refine lv_aload_n hx hb dX0_sign_0 rfl (lv_at hl 0 rfl) ?_
  refine xget (ref := "LayeredCharters") (ci := 0) (v := .int (nI pl)) (C := RX0) (T := TX0) (N := 6) F in_X0 hW hxo rfl 4 (by decide) q181 (fun _ h9 => h9) rfl dX0_sign_1 ?_
  refine lv_aload_n hx hb dX0_sign_4 rfl (lv_at hl 0 rfl) ?_
  refine xget (ref := "LayeredCharters") (ci := 0) (v := .ref pb) (C := RX0) (T := TX0) (N := 6) F in_X0 hW hxo rfl 3 (by decide) q180 (fun _ h9 => h9) rfl dX0_sign_5 ?_
  refine run_ro (w := .int (nI ln)) (rest := [.int (nI pl)]) (kV F hW (metJ4_length l E H pb pv pcap ln pmb pf hsb) (lw_V q467 q468 q469 q49 q470) hdJ4_length ⟨Nat.le_of_ble_eq_true rfl, Nat.le_of_ble_eq_true rfl⟩ (recv hW hsb.1 rfl) hl.1 rfl (Nat.le_of_ble_eq_true rfl) dX0_sign_8 ⟨Nat.le_of_ble_eq_true rfl, Nat.le_of_ble_eq_true rfl⟩) ?_
  refine lv_icmp_ge (tgt := 28) hx hb dX0_sign_11 (by decide) (fun c_1 => ?_) (fun c_1 => ?_)
  · skip
    have nc_1 := (nI_leI (a := ln) (b := pl) (by omega) (by omega)).mp c_1
    refine lv_iconst (v := 0) hx hb dX0_sign_28 (by decide) ?_
    exact hend _ _ _ _ _ _ _ rfl dX0_sign_29 (⟨congrArg (fun z : Int32 => some (Value.int z)) (by unfold nxM; rw [if_neg (by omega)]), rfl⟩) hS (Nat.zero_le _) (Nat.zero_le _)
  · skip
    have nc_1 := Nat.not_le.mp (fun h9 => c_1 ((nI_leI (a := ln) (b := pl) (by omega) (by omega)).mpr h9))
    refine lv_aload_n hx hb dX0_sign_14 rfl (lv_at hl 0 rfl) ?_
    refine xget (ref := "LayeredCharters") (ci := 0) (v := .ref pb) (C := RX0) (T := TX0) (N := 6) F in_X0 hW hxo rfl 3 (by decide) q180 (fun _ h9 => h9) rfl dX0_sign_15 ?_
    refine lv_aload_n hx hb dX0_sign_18 rfl (lv_at hl 0 rfl) ?_
    refine xget (ref := "LayeredCharters") (ci := 0) (v := .int (nI pl)) (C := RX0) (T := TX0) (N := 6) F in_X0 hW hxo rfl 4 (by decide) q181 (fun _ h9 => h9) rfl dX0_sign_19 ?_
    obtain ⟨epf, ch, ech, h33, h127⟩ := hpd pl nc_1
    refine run_ro (w := .int (nI ch)) (rest := []) (kV F hW (metJ4_charAt l E H pb pv pcap ln pmb pf hsb pl ch nc_1 (epf.trans ech) (by omega)) (lw_V q474 q475 q476 q49 q477) hdJ4_charAt ⟨Nat.le_of_ble_eq_true rfl, Nat.le_of_ble_eq_true rfl⟩ (recv hW hsb.1 rfl) hl.1 rfl (Nat.le_of_ble_eq_true rfl) dX0_sign_22 ⟨Nat.le_of_ble_eq_true rfl, Nat.le_of_ble_eq_true rfl⟩) ?_
    refine lv_goto (tgt := 29) hx hb dX0_sign_25 (by decide) ?_
    exact hend _ _ _ _ _ _ _ (chr_nar (by omega)) dX0_sign_29 (⟨congrArg (fun z : Int32 => some (Value.int z)) (by unfold nxM; rw [if_pos nc_1]; exact ech.symm), rfl⟩) hS (Nat.zero_le _) (Nat.zero_le _)

theorem hdX0_accept : Hd yX0_accept 1 := by decide +kernel
set_option maxHeartbeats 1000000 in
set_option maxRecDepth 100000 in
theorem metX0_accept (l : Launch) (E : EV) (H : Heap) (x g hL sa pb pv pl : Nat) (wr : Bool) (pd : Nat → Int32) (ln : Nat) (hrd : RD E x g hL sa pb pv pl wr pd ln H) (hpl : pl ≤ 100) (can : Bool) : Ct l yX0_accept cX0_accept 2 none 0 0 (0) (0) [.ref x, .int (b2i can)] E H (fun q => q = x) (pN (fun H1 => RD E x g hL sa pb pv (acP wr pl can) (acW wr can) pd ln H1)) := by
  have hrd0 := hrd
  obtain ⟨pcap, pmb, pf, hxo, hsb, hln, hpd, hxold, hxpb, hxpv⟩ := hrd
  have hsb1 := hsb.1
  have hsb2 := hsb.2.1
  refine Ct.ofV (by decide) (Nat.le_of_ble_eq_true rfl) ?_
  intro p e s m bl mt cd ls Q hF hW hH hl hend
  obtain ⟨F, hin⟩ := hF
  have hx := F.1
  have hb := F.2.1
  have hts := F.2.2.2.2
  have hl : lv_has ls 2 [(0, .ref x), (1, .int (b2i can))] := hl
  have hS : va_S (fun q => q = x) H H [] := va_S.rf
  refine lv_aload_n hx hb dX0_accept_0 rfl (lv_at hl 0 rfl) ?_
  refine lv_dup hx hb dX0_accept_1 rfl ?_
  refine xget (ref := "LayeredCharters") (ci := 0) (v := .int (b2i wr)) (C := RX0) (T := TX0) (N := 6) F in_X0 hW hxo rfl 5 (by decide) q182 (fun _ h9 => h9) rfl dX0_accept_2 ?_
  refine lv_iload_n hx hb dX0_accept_5 rfl (lv_at hl 1 rfl) ?_
  refine lv_if_ne (tgt := 13) hx hb dX0_accept_6 (by decide) (fun c_1 => ?_) (fun c_1 => ?_)
  · skip
    have bc_1 := c_1
    have c_1 := b2i_t c_1
    refine lv_iconst (v := 0) hx hb dX0_accept_13 (by decide) ?_
    refine lv_ior hx hb dX0_accept_14 ?_
    refine lv_val (y := b2i wr) (b2i_or0 _) ?_
    refine xput (ref := "LayeredCharters") (ci := 0) (v := .int (b2i wr)) (C := RX0) (T := TX0) (N := 6) F in_X0 tyX0 tyX0_ok nmX0 hW hxo hS rfl rfl 5 (by decide) q182 (fun _ h9 => h9) rfl (b2i_nar _) (b2i_fit _) (Nat.le_of_ble_eq_true rfl) dX0_accept_15 (fun H_2 locs ho_2 hu_2 hS_2 => ?_)
    have ho_2 : oat E x 0 [.ref g, .ref hL, .ref sa, .ref pb, .int (nI pl), .int (b2i wr)] H_2 := ho_2
    have hz_H_2 : H_2.size = H.size := hu_2.1
    have hW_H_2 := hW.kept hu_2.chg (fun q _ hq => hq ▸ hxold)
    have hsb1_H_2 := hsb1.kept hu_2.chg (fun h9 => hxpb (show pb = x from h9).symm)
    have hsb2_H_2 := hsb2.kept hu_2.chg (fun h9 => hxpv (show pv = x from h9).symm)
    refine lv_aload_n hx hb dX0_accept_18 rfl (lv_at hl 0 rfl) ?_
    refine lv_dup hx hb dX0_accept_19 rfl ?_
    refine xget (ref := "LayeredCharters") (ci := 0) (v := .int (nI pl)) (C := RX0) (T := TX0) (N := 6) F in_X0 hW_H_2 ho_2 rfl 4 (by decide) q181 (fun _ h9 => h9) rfl dX0_accept_20 ?_
    refine lv_aload_n hx hb dX0_accept_23 rfl (lv_at hl 0 rfl) ?_
    refine xget (ref := "LayeredCharters") (ci := 0) (v := .int (b2i wr)) (C := RX0) (T := TX0) (N := 6) F in_X0 hW_H_2 ho_2 rfl 5 (by decide) q182 (fun _ h9 => h9) rfl dX0_accept_24 ?_
    refine lv_if_eq (tgt := 34) hx hb dX0_accept_27 (by decide) (fun c_3 => ?_) (fun c_3 => ?_)
    · skip
      have bc_3 := c_3
      have c_3 := b2i_f c_3
      refine lv_iconst (v := 1) hx hb dX0_accept_34 (by decide) ?_
      refine lv_iadd hx hb dX0_accept_35 ?_
      refine lv_val (y := nI (pl + 1)) ((nI_add (pl) (1))) ?_
      refine xput (ref := "LayeredCharters") (ci := 0) (v := .int (nI (pl + 1))) (C := RX0) (T := TX0) (N := 6) F in_X0 tyX0 tyX0_ok nmX0 hW_H_2 ho_2 hS_2 rfl rfl 4 (by decide) q181 (fun _ h9 => h9) rfl rfl rfl (Nat.le_of_ble_eq_true rfl) dX0_accept_36 (fun H_4 locs ho_4 hu_4 hS_4 => ?_)
      have ho_4 : oat E x 0 [.ref g, .ref hL, .ref sa, .ref pb, .int (nI (pl + 1)), .int (b2i wr)] H_4 := ho_4
      have hz_H_4 : H_4.size = H_2.size := hu_4.1
      have hW_H_4 := hW_H_2.kept hu_4.chg (fun q _ hq => hq ▸ hxold)
      have hsb1_H_4 := hsb1_H_2.kept hu_4.chg (fun h9 => hxpb (show pb = x from h9).symm)
      have hsb2_H_4 := hsb2_H_2.kept hu_4.chg (fun h9 => hxpv (show pv = x from h9).symm)
      exact hend _ _ _ _ _ _ dX0_accept_39 (⟨rfl, pcap, pmb, pf, (by have h9 := ho_4; have e1 : nI (acP wr pl can) = nI (pl + 1) := (by simp [acP, acW, c_1, c_3]); have e2 : b2i (acW wr can) = b2i wr := (by simp [acW, b2i_tt, b2i_ff, c_1, c_3]); rw [e1, e2]; exact h9), ⟨hsb1_H_4, hsb2_H_4, hsb.2.2⟩, hln, hpd, hxold, hxpb, hxpv⟩) hS_4 (Nat.zero_le _) (Nat.zero_le _)
    · skip
      have bc_3 := c_3
      have c_3 := b2i_t c_3
      refine lv_iconst (v := 0) hx hb dX0_accept_30 (by decide) ?_
      refine lv_goto (tgt := 35) hx hb dX0_accept_31 (by decide) ?_
      refine lv_iadd hx hb dX0_accept_35 ?_
      refine lv_val (y := nI (pl + 0)) ((nI_add (pl) (0))) ?_
      refine lv_val (y := nI pl) (rfl) ?_
      refine xput (ref := "LayeredCharters") (ci := 0) (v := .int (nI pl)) (C := RX0) (T := TX0) (N := 6) F in_X0 tyX0 tyX0_ok nmX0 hW_H_2 ho_2 hS_2 rfl rfl 4 (by decide) q181 (fun _ h9 => h9) rfl rfl rfl (Nat.le_of_ble_eq_true rfl) dX0_accept_36 (fun H_5 locs ho_5 hu_5 hS_5 => ?_)
      have ho_5 : oat E x 0 [.ref g, .ref hL, .ref sa, .ref pb, .int (nI pl), .int (b2i wr)] H_5 := ho_5
      have hz_H_5 : H_5.size = H_2.size := hu_5.1
      have hW_H_5 := hW_H_2.kept hu_5.chg (fun q _ hq => hq ▸ hxold)
      have hsb1_H_5 := hsb1_H_2.kept hu_5.chg (fun h9 => hxpb (show pb = x from h9).symm)
      have hsb2_H_5 := hsb2_H_2.kept hu_5.chg (fun h9 => hxpv (show pv = x from h9).symm)
      exact hend _ _ _ _ _ _ dX0_accept_39 (⟨rfl, pcap, pmb, pf, (by have h9 := ho_5; have e1 : nI (acP wr pl can) = nI pl := (by simp [acP, acW, c_1, c_3]); have e2 : b2i (acW wr can) = b2i wr := (by simp [acW, b2i_tt, b2i_ff, c_1, c_3]); rw [e1, e2]; exact h9), ⟨hsb1_H_5, hsb2_H_5, hsb.2.2⟩, hln, hpd, hxold, hxpb, hxpv⟩) hS_5 (Nat.zero_le _) (Nat.zero_le _)
  · skip
    have bc_1 := c_1
    have c_1 := b2i_f c_1
    refine lv_iconst (v := 1) hx hb dX0_accept_9 (by decide) ?_
    refine lv_goto (tgt := 14) hx hb dX0_accept_10 (by decide) ?_
    refine lv_ior hx hb dX0_accept_14 ?_
    refine lv_val (y := 1) (b2i_or1 _) ?_
    refine xput (ref := "LayeredCharters") (ci := 0) (v := .int 1) (C := RX0) (T := TX0) (N := 6) F in_X0 tyX0 tyX0_ok nmX0 hW hxo hS rfl rfl 5 (by decide) q182 (fun _ h9 => h9) rfl rfl rfl (Nat.le_of_ble_eq_true rfl) dX0_accept_15 (fun H_6 locs ho_6 hu_6 hS_6 => ?_)
    have ho_6 : oat E x 0 [.ref g, .ref hL, .ref sa, .ref pb, .int (nI pl), .int 1] H_6 := ho_6
    have hz_H_6 : H_6.size = H.size := hu_6.1
    have hW_H_6 := hW.kept hu_6.chg (fun q _ hq => hq ▸ hxold)
    have hsb1_H_6 := hsb1.kept hu_6.chg (fun h9 => hxpb (show pb = x from h9).symm)
    have hsb2_H_6 := hsb2.kept hu_6.chg (fun h9 => hxpv (show pv = x from h9).symm)
    refine lv_aload_n hx hb dX0_accept_18 rfl (lv_at hl 0 rfl) ?_
    refine lv_dup hx hb dX0_accept_19 rfl ?_
    refine xget (ref := "LayeredCharters") (ci := 0) (v := .int (nI pl)) (C := RX0) (T := TX0) (N := 6) F in_X0 hW_H_6 ho_6 rfl 4 (by decide) q181 (fun _ h9 => h9) rfl dX0_accept_20 ?_
    refine lv_aload_n hx hb dX0_accept_23 rfl (lv_at hl 0 rfl) ?_
    refine xget (ref := "LayeredCharters") (ci := 0) (v := .int 1) (C := RX0) (T := TX0) (N := 6) F in_X0 hW_H_6 ho_6 rfl 5 (by decide) q182 (fun _ h9 => h9) rfl dX0_accept_24 ?_
    refine lv_if_eq (tgt := 34) hx hb dX0_accept_27 (by decide) (fun c9 => absurd c9 (by decide)) (fun _ => ?_)
    refine lv_iconst (v := 0) hx hb dX0_accept_30 (by decide) ?_
    refine lv_goto (tgt := 35) hx hb dX0_accept_31 (by decide) ?_
    refine lv_iadd hx hb dX0_accept_35 ?_
    refine lv_val (y := nI (pl + 0)) ((nI_add (pl) (0))) ?_
    refine lv_val (y := nI pl) (rfl) ?_
    refine xput (ref := "LayeredCharters") (ci := 0) (v := .int (nI pl)) (C := RX0) (T := TX0) (N := 6) F in_X0 tyX0 tyX0_ok nmX0 hW_H_6 ho_6 hS_6 rfl rfl 4 (by decide) q181 (fun _ h9 => h9) rfl rfl rfl (Nat.le_of_ble_eq_true rfl) dX0_accept_36 (fun H_7 locs ho_7 hu_7 hS_7 => ?_)
    have ho_7 : oat E x 0 [.ref g, .ref hL, .ref sa, .ref pb, .int (nI pl), .int 1] H_7 := ho_7
    have hz_H_7 : H_7.size = H_6.size := hu_7.1
    have hW_H_7 := hW_H_6.kept hu_7.chg (fun q _ hq => hq ▸ hxold)
    have hsb1_H_7 := hsb1_H_6.kept hu_7.chg (fun h9 => hxpb (show pb = x from h9).symm)
    have hsb2_H_7 := hsb2_H_6.kept hu_7.chg (fun h9 => hxpv (show pv = x from h9).symm)
    exact hend _ _ _ _ _ _ dX0_accept_39 (⟨rfl, pcap, pmb, pf, (by have h9 := ho_7; have e1 : nI (acP wr pl can) = nI pl := (by simp [acP, acW, c_1]); have e2 : b2i (acW wr can) = 1 := (by simp [acW, b2i_tt, b2i_ff, c_1]); rw [e1, e2]; exact h9), ⟨hsb1_H_7, hsb2_H_7, hsb.2.2⟩, hln, hpd, hxold, hxpb, hxpv⟩) hS_7 (Nat.zero_le _) (Nat.zero_le _)

theorem hdX0_digitOrStar : Hd yX0_digitOrStar 1 := by decide +kernel
set_option maxHeartbeats 1000000 in
set_option maxRecDepth 100000 in
theorem metX0_digitOrStar (l : Launch) (E : EV) (H : Heap) (x g hL sa pb pv pl : Nat) (wr : Bool) (pd : Nat → Int32) (ln : Nat) (hrd : RD E x g hL sa pb pv pl wr pd ln H) (hpl : pl ≤ 100) (mo : Nat) (hmo : mo ≤ 9) : Ct l yX0_digitOrStar cX0_digitOrStar 3 (some .int) 5 108 (0) (0) [.ref x, .int (nI mo)] E H (fun q => q = x) (pI (fun r H1 => r = dsV (nxM pd ln pl) mo ∧ RD E x g hL sa pb pv (acP wr pl (dsC (nxM pd ln pl) mo)) (acW wr (dsC (nxM pd ln pl) mo)) pd ln H1)) := by
  have hrd0 := hrd
  obtain ⟨pcap, pmb, pf, hxo, hsb, hln, hpd, hxold, hxpb, hxpv⟩ := hrd
  refine Ct.ofZ (by decide) (Nat.le_of_ble_eq_true rfl) ?_
  intro p e s m bl mt cd ls Q hF hW hH hl hend
  obtain ⟨F, hin⟩ := hF
  have hx := F.1
  have hb := F.2.1
  have hts := F.2.2.2.2
  have hl : lv_has ls 3 [(0, .ref x), (1, .int (nI mo))] := hl
  have hS : va_S (fun q => q = x) H H [] := va_S.rf
  refine lv_aload_n hx hb dX0_digitOrStar_0 rfl (lv_at hl 0 rfl) ?_
  refine run_ro (w := .int (nxM pd ln pl)) (rest := []) (kV F hW (metX0_sign l E H x g hL sa pb pv pl wr pd ln hrd0 (by omega)) (lw_V q463 q465 qs8 q42 q466) hdX0_sign ⟨Nat.le_of_ble_eq_true rfl, Nat.le_of_ble_eq_true rfl⟩ (recv hW hxo rfl) hl.1 rfl (Nat.le_of_ble_eq_true rfl) dX0_digitOrStar_1 ⟨Nat.le_of_ble_eq_true rfl, Nat.le_of_ble_eq_true rfl⟩) ?_
  refine lv_bipush (v := 42) hx hb dX0_digitOrStar_4 (by decide) ?_
  refine lv_icmp_ne (tgt := 15) hx hb dX0_digitOrStar_6 (by decide) (fun c_1 => ?_) (fun c_1 => ?_)
  · skip
    refine lv_aload_n hx hb dX0_digitOrStar_15 rfl (lv_at hl 0 rfl) ?_
    refine run_ro (w := .int (nxM pd ln pl)) (rest := []) (kV F hW (metX0_sign l E H x g hL sa pb pv pl wr pd ln hrd0 (by omega)) (lw_V q463 q465 qs8 q42 q466) hdX0_sign ⟨Nat.le_of_ble_eq_true rfl, Nat.le_of_ble_eq_true rfl⟩ (recv hW hxo rfl) hl.1 rfl (Nat.le_of_ble_eq_true rfl) dX0_digitOrStar_16 ⟨Nat.le_of_ble_eq_true rfl, Nat.le_of_ble_eq_true rfl⟩) ?_
    refine lv_bipush (v := 48) hx hb dX0_digitOrStar_19 (by decide) ?_
    refine lv_isub hx hb dX0_digitOrStar_21 ?_
    refine lv_istore_n (lv' := [(2, .int ((nxM pd ln pl) - 48)), (0, .ref x), (1, .int (nI mo))]) hx hb dX0_digitOrStar_22 rfl hl (by decide) rfl (fun ls hl => ?_)
    refine lv_aload_n hx hb dX0_digitOrStar_23 rfl (lv_at hl 1 rfl) ?_
    refine lv_aload_n hx hb dX0_digitOrStar_24 rfl (lv_at hl 1 rfl) ?_
    refine run_ro (w := .int (nxM pd ln pl)) (rest := [.ref x]) (kV F hW (metX0_sign l E H x g hL sa pb pv pl wr pd ln hrd0 (by omega)) (lw_V q463 q465 qs8 q42 q466) hdX0_sign ⟨Nat.le_of_ble_eq_true rfl, Nat.le_of_ble_eq_true rfl⟩ (recv hW hxo rfl) hl.1 rfl (Nat.le_of_ble_eq_true rfl) dX0_digitOrStar_25 ⟨Nat.le_of_ble_eq_true rfl, Nat.le_of_ble_eq_true rfl⟩) ?_
    refine lv_bipush (v := 42) hx hb dX0_digitOrStar_28 (by decide) ?_
    refine lv_icmp_eq (tgt := 42) hx hb dX0_digitOrStar_30 (by decide) (fun c9 => absurd c9 c_1) (fun _ => ?_)
    refine lv_iload_n hx hb dX0_digitOrStar_33 rfl (lv_at hl 0 rfl) ?_
    refine lv_iconst (v := 0) hx hb dX0_digitOrStar_34 (by decide) ?_
    refine lv_iload_n hx hb dX0_digitOrStar_35 rfl (lv_at hl 2 rfl) ?_
    refine run_ro (w := .int (b2i (inR ((nxM pd ln pl) - 48) 0 (nI mo)))) (rest := [.ref x]) (kS F hW (metX4_holds l E H ((nxM pd ln pl) - 48) 0 (nI mo)) (lw_S q206 q204 q53 q205) hdX4_holds ⟨Nat.le_of_ble_eq_true rfl, Nat.le_of_ble_eq_true rfl⟩ hl.1 rfl (Nat.le_of_ble_eq_true rfl) dX0_digitOrStar_36 ⟨Nat.le_of_ble_eq_true rfl, Nat.le_of_ble_eq_true rfl⟩) ?_
    refine lv_if_eq (tgt := 46) hx hb dX0_digitOrStar_39 (by decide) (fun c_2 => ?_) (fun c_2 => ?_)
    · skip
      have bc_2 := c_2
      have c_2 := b2i_f c_2
      refine lv_iconst (v := 0) hx hb dX0_digitOrStar_46 (by decide) ?_
      refine run_chN (rest := []) (kV F hW (metX0_accept l E H x g hL sa pb pv pl wr pd ln hrd0 (by omega) false) (lw_V q500 q502 qs9 q42 q503) hdX0_accept ⟨Nat.le_of_ble_eq_true rfl, Nat.le_of_ble_eq_true rfl⟩ (recv hW hxo rfl) hl.1 rfl (Nat.le_of_ble_eq_true rfl) dX0_digitOrStar_47 ⟨by show 0 + 0 ≤ 0; omega, by show 0 + 0 ≤ 0; omega⟩) hS (fun _ h => h) (fun H_3 locs hp_3 hc_3 hS_3 => ?_)
      have hW_H_3 := hW.kept hc_3 (fun q9 h1 h2 => (show q9 = x from h2) ▸ hxold)
      have hz_H_3 := hc_3.1
      have hrA1 : RD E x g hL sa pb pv (acP wr pl false) (acW wr false) pd ln H_3 := hp_3
      have hple1 := acP_le (w := wr) (p := pl) (c := false)
      generalize ep1 : acP wr pl false = p1 at hrA1 hple1
      generalize ew1 : acW wr false = w1 at hrA1
      have hrB1 := hrA1
      obtain ⟨pcap1, pmb1, pf1, hxo1, -⟩ := hrB1
      refine lv_iload_n hx hb dX0_digitOrStar_50 rfl (lv_at hl 0 rfl) ?_
      exact hend _ _ _ _ _ _ _ rfl dX0_digitOrStar_51 (⟨_, rfl, (by simp [dsV, nI_1, c_1, c_2]), (by have e : dsC (nxM pd ln pl) mo = false := (by simp [dsC, dsV, nI_1, c_1, c_2]); rw [e, ep1, ew1]; exact hrA1)⟩) hS_3 (Nat.zero_le _) (Nat.zero_le _)
    · skip
      have bc_2 := c_2
      have c_2 := b2i_t c_2
      refine lv_iconst (v := 1) hx hb dX0_digitOrStar_42 (by decide) ?_
      refine lv_goto (tgt := 47) hx hb dX0_digitOrStar_43 (by decide) ?_
      refine run_chN (rest := []) (kV F hW (metX0_accept l E H x g hL sa pb pv pl wr pd ln hrd0 (by omega) true) (lw_V q500 q502 qs9 q42 q503) hdX0_accept ⟨Nat.le_of_ble_eq_true rfl, Nat.le_of_ble_eq_true rfl⟩ (recv hW hxo rfl) hl.1 rfl (Nat.le_of_ble_eq_true rfl) dX0_digitOrStar_47 ⟨by show 0 + 0 ≤ 0; omega, by show 0 + 0 ≤ 0; omega⟩) hS (fun _ h => h) (fun H_4 locs hp_4 hc_4 hS_4 => ?_)
      have hW_H_4 := hW.kept hc_4 (fun q9 h1 h2 => (show q9 = x from h2) ▸ hxold)
      have hz_H_4 := hc_4.1
      have hrA2 : RD E x g hL sa pb pv (acP wr pl true) (acW wr true) pd ln H_4 := hp_4
      have hple2 := acP_le (w := wr) (p := pl) (c := true)
      generalize ep2 : acP wr pl true = p2 at hrA2 hple2
      generalize ew2 : acW wr true = w2 at hrA2
      have hrB2 := hrA2
      obtain ⟨pcap2, pmb2, pf2, hxo2, -⟩ := hrB2
      refine lv_iload_n hx hb dX0_digitOrStar_50 rfl (lv_at hl 0 rfl) ?_
      exact hend _ _ _ _ _ _ _ rfl dX0_digitOrStar_51 (⟨_, rfl, (by simp [dsV, nI_1, c_1, c_2]), (by have e : dsC (nxM pd ln pl) mo = true := (by simp [dsC, dsV, nI_1, c_1, c_2]); rw [e, ep2, ew2]; exact hrA2)⟩) hS_4 (Nat.zero_le _) (Nat.zero_le _)
  · skip
    refine lv_iload_n hx hb dX0_digitOrStar_9 rfl (lv_at hl 1 rfl) ?_
    refine lv_iconst (v := 1) hx hb dX0_digitOrStar_10 (by decide) ?_
    refine lv_iadd hx hb dX0_digitOrStar_11 ?_
    refine lv_val (y := nI (mo + 1)) ((nI_add (mo) (1))) ?_
    refine lv_goto (tgt := 22) hx hb dX0_digitOrStar_12 (by decide) ?_
    refine lv_istore_n (lv' := [(2, .int (nI (mo + 1))), (0, .ref x), (1, .int (nI mo))]) hx hb dX0_digitOrStar_22 rfl hl (by decide) rfl (fun ls hl => ?_)
    refine lv_aload_n hx hb dX0_digitOrStar_23 rfl (lv_at hl 1 rfl) ?_
    refine lv_aload_n hx hb dX0_digitOrStar_24 rfl (lv_at hl 1 rfl) ?_
    refine run_ro (w := .int (nxM pd ln pl)) (rest := [.ref x]) (kV F hW (metX0_sign l E H x g hL sa pb pv pl wr pd ln hrd0 (by omega)) (lw_V q463 q465 qs8 q42 q466) hdX0_sign ⟨Nat.le_of_ble_eq_true rfl, Nat.le_of_ble_eq_true rfl⟩ (recv hW hxo rfl) hl.1 rfl (Nat.le_of_ble_eq_true rfl) dX0_digitOrStar_25 ⟨Nat.le_of_ble_eq_true rfl, Nat.le_of_ble_eq_true rfl⟩) ?_
    refine lv_bipush (v := 42) hx hb dX0_digitOrStar_28 (by decide) ?_
    refine lv_icmp_eq (tgt := 42) hx hb dX0_digitOrStar_30 (by decide) (fun _ => ?_) (fun c9 => absurd c_1 c9)
    refine lv_iconst (v := 1) hx hb dX0_digitOrStar_42 (by decide) ?_
    refine lv_goto (tgt := 47) hx hb dX0_digitOrStar_43 (by decide) ?_
    refine run_chN (rest := []) (kV F hW (metX0_accept l E H x g hL sa pb pv pl wr pd ln hrd0 (by omega) true) (lw_V q500 q502 qs9 q42 q503) hdX0_accept ⟨Nat.le_of_ble_eq_true rfl, Nat.le_of_ble_eq_true rfl⟩ (recv hW hxo rfl) hl.1 rfl (Nat.le_of_ble_eq_true rfl) dX0_digitOrStar_47 ⟨by show 0 + 0 ≤ 0; omega, by show 0 + 0 ≤ 0; omega⟩) hS (fun _ h => h) (fun H_5 locs hp_5 hc_5 hS_5 => ?_)
    have hW_H_5 := hW.kept hc_5 (fun q9 h1 h2 => (show q9 = x from h2) ▸ hxold)
    have hz_H_5 := hc_5.1
    have hrA3 : RD E x g hL sa pb pv (acP wr pl true) (acW wr true) pd ln H_5 := hp_5
    have hple3 := acP_le (w := wr) (p := pl) (c := true)
    generalize ep3 : acP wr pl true = p3 at hrA3 hple3
    generalize ew3 : acW wr true = w3 at hrA3
    have hrB3 := hrA3
    obtain ⟨pcap3, pmb3, pf3, hxo3, -⟩ := hrB3
    refine lv_iload_n hx hb dX0_digitOrStar_50 rfl (lv_at hl 0 rfl) ?_
    exact hend _ _ _ _ _ _ _ rfl dX0_digitOrStar_51 (⟨_, rfl, (by simp [dsV, nI_1, c_1]), (by have e : dsC (nxM pd ln pl) mo = true := (by simp [dsC, dsV, nI_1, c_1]); rw [e, ep3, ew3]; exact hrA3)⟩) hS_5 (Nat.zero_le _) (Nat.zero_le _)

theorem hdX0_readRule : Hd yX0_readRule 0 := by decide +kernel
set_option maxHeartbeats 1000000 in
set_option maxRecDepth 100000 in
theorem metX0_readRule (l : Launch) (E : EV) (H : Heap) (x g hL sa pb pv pl : Nat) (pd : Nat → Int32) (ln : Nat) (hrd : RD E x g hL sa pb pv pl false pd ln H) (hpl : pl ≤ 61) : Ct l yX0_readRule cX0_readRule 6 (some (.object "LayeredCharters$Rule")) 6 130 (1) (5) [.ref x] E H (fun q => q = x ∨ H.size ≤ q) (pA (fun r H1 => H.size ≤ r ∧ oat E r 5 (rvF (rrX (nxM pd ln) pl).2.2) H1 ∧ RD E x g hL sa pb pv (rrX (nxM pd ln) pl).1 (rrX (nxM pd ln) pl).2.1 pd ln H1)) := by
  have hrd0 := hrd
  obtain ⟨pcap, pmb, pf, hxo, hsb, hln, hpd, hxold, hxpb, hxpv⟩ := hrd
  refine Ct.ofA (Or.inl ⟨_, rfl⟩) (by decide) (Nat.le_of_ble_eq_true rfl) ?_
  intro p e s m bl mt cd ls Q hF hW hH hl hend
  obtain ⟨F, hin⟩ := hF
  have hx := F.1
  have hb := F.2.1
  have hts := F.2.2.2.2
  have hl : lv_has ls 6 [(0, .ref x)] := hl
  have hS : va_S (fun q => q = x ∨ H.size ≤ q) H H [] := va_S.rf
  have lx := hxo.lt
  refine lv_aload_n hx hb dX0_readRule_0 rfl (lv_at hl 0 rfl) ?_
  refine run_ro (w := .int (nxM pd ln pl)) (rest := []) (kV F hW (metX0_sign l E H x g hL sa pb pv pl false pd ln hrd0 (by omega)) (lw_V q463 q465 qs8 q42 q466) hdX0_sign ⟨Nat.le_of_ble_eq_true rfl, Nat.le_of_ble_eq_true rfl⟩ (recv hW hxo rfl) hl.1 rfl (Nat.le_of_ble_eq_true rfl) dX0_readRule_1 ⟨Nat.le_of_ble_eq_true rfl, Nat.le_of_ble_eq_true rfl⟩) ?_
  refine lv_bipush (v := 48) hx hb dX0_readRule_4 (by decide) ?_
  refine lv_isub hx hb dX0_readRule_6 ?_
  refine lv_istore_n (lv' := [(1, .int ((nxM pd ln pl) - 48)), (0, .ref x)]) hx hb dX0_readRule_7 rfl hl (by decide) rfl (fun ls hl => ?_)
  refine lv_aload_n hx hb dX0_readRule_8 rfl (lv_at hl 1 rfl) ?_
  refine lv_iload_n hx hb dX0_readRule_9 rfl (lv_at hl 0 rfl) ?_
  refine run_ro (w := .int (b2i (inR ((nxM pd ln pl) - 48) 0 4))) (rest := [.ref x]) (kS F hW (metX4_isLayer l E H ((nxM pd ln pl) - 48)) (lw_S q200 q201 q53 q202) hdX4_isLayer ⟨Nat.le_of_ble_eq_true rfl, Nat.le_of_ble_eq_true rfl⟩ hl.1 rfl (Nat.le_of_ble_eq_true rfl) dX0_readRule_10 ⟨Nat.le_of_ble_eq_true rfl, Nat.le_of_ble_eq_true rfl⟩) ?_
  refine run_chN (rest := []) (kV F hW (metX0_accept l E H x g hL sa pb pv pl false pd ln hrd0 (by omega) (inR ((nxM pd ln pl) - 48) 0 4)) (lw_V q500 q502 qs9 q42 q503) hdX0_accept ⟨Nat.le_of_ble_eq_true rfl, Nat.le_of_ble_eq_true rfl⟩ (recv hW hxo rfl) hl.1 rfl (Nat.le_of_ble_eq_true rfl) dX0_readRule_13 ⟨by show 0 + 0 ≤ 1; omega, by show 0 + 0 ≤ 5; omega⟩) hS (fun q9 h => Or.inl h) (fun H_1 locs hp_1 hc_1 hS_1 => ?_)
  have hW_H_1 := hW.kept hc_1 (fun q9 h1 h2 => (show q9 = x from h2) ▸ hxold)
  have hz_H_1 := hc_1.1
  have hrA1 : RD E x g hL sa pb pv (acP false pl (inR ((nxM pd ln pl) - 48) 0 4)) (acW false (inR ((nxM pd ln pl) - 48) 0 4)) pd ln H_1 := hp_1
  have hple1 := acP_le (w := false) (p := pl) (c := (inR ((nxM pd ln pl) - 48) 0 4))
  generalize ep1 : acP false pl (inR ((nxM pd ln pl) - 48) 0 4) = p1 at hrA1 hple1
  generalize ew1 : acW false (inR ((nxM pd ln pl) - 48) 0 4) = w1 at hrA1
  have hrB1 := hrA1
  obtain ⟨pcap1, pmb1, pf1, hxo1, -⟩ := hrB1
  have join38 : ∀ (kd : Int32), kd = kdX (nxM pd ln p1) → ∀ ls : Array Slot, lv_has ls 6 [(0, .ref x), (1, .int ((nxM pd ln pl) - 48))] → W p l e ({ frames := 6, cells := 1, slots := 5, locals := 130 } : Room) s m ([.ref x] : List Value).toArray bl mt cd H_1 locs 0 0 Q (F0 m 38 ls [.int kd]) := by
    intro kd ej ls hl
    subst ej
    refine lv_istore_n (lv' := [(2, .int (kdX (nxM pd ln p1))), (0, .ref x), (1, .int ((nxM pd ln pl) - 48))]) hx hb dX0_readRule_38 rfl hl (by decide) rfl (fun ls hl => ?_)
    refine lv_aload_n hx hb dX0_readRule_39 rfl (lv_at hl 1 rfl) ?_
    have join57 : ∀ (kc : Int32), kc = b2i (kcX (kdX (nxM pd ln p1)) ((nxM pd ln pl) - 48)) → ∀ ls : Array Slot, lv_has ls 6 [(0, .ref x), (1, .int ((nxM pd ln pl) - 48)), (2, .int (kdX (nxM pd ln p1)))] → W p l e ({ frames := 6, cells := 1, slots := 5, locals := 130 } : Room) s m ([.ref x] : List Value).toArray bl mt cd H_1 locs 0 0 Q (F0 m 57 ls [.int kc, .ref x]) := by
      intro kc ej ls hl
      subst ej
      refine run_chN (rest := []) (kV F hW_H_1 (metX0_accept l E H_1 x g hL sa pb pv p1 w1 pd ln hrA1 (by omega) (kcX (kdX (nxM pd ln p1)) ((nxM pd ln pl) - 48))) (lw_V q500 q502 qs9 q42 q503) hdX0_accept ⟨Nat.le_of_ble_eq_true rfl, Nat.le_of_ble_eq_true rfl⟩ (recv hW_H_1 hxo1 rfl) hl.1 rfl (Nat.le_of_ble_eq_true rfl) dX0_readRule_57 ⟨by show 0 + 0 ≤ 1; omega, by show 0 + 0 ≤ 5; omega⟩) hS_1 (fun q9 h => Or.inl h) (fun H_2 locs hp_2 hc_2 hS_2 => ?_)
      have hW_H_2 := hW_H_1.kept hc_2 (fun q9 h1 h2 => (show q9 = x from h2) ▸ hxold)
      have hz_H_2 := hc_2.1
      have hrA2 : RD E x g hL sa pb pv (acP w1 p1 (kcX (kdX (nxM pd ln p1)) ((nxM pd ln pl) - 48))) (acW w1 (kcX (kdX (nxM pd ln p1)) ((nxM pd ln pl) - 48))) pd ln H_2 := hp_2
      have hple2 := acP_le (w := w1) (p := p1) (c := (kcX (kdX (nxM pd ln p1)) ((nxM pd ln pl) - 48)))
      generalize ep2 : acP w1 p1 (kcX (kdX (nxM pd ln p1)) ((nxM pd ln pl) - 48)) = p2 at hrA2 hple2
      generalize ew2 : acW w1 (kcX (kdX (nxM pd ln p1)) ((nxM pd ln pl) - 48)) = w2 at hrA2
      have hrB2 := hrA2
      obtain ⟨pcap2, pmb2, pf2, hxo2, -⟩ := hrB2
      refine lv_aload_n hx hb dX0_readRule_60 rfl (lv_at hl 0 rfl) ?_
      refine lv_iconst (v := 4) hx hb dX0_readRule_61 (by decide) ?_
      refine run_chI (rest := []) (kV F hW_H_2 (metX0_digitOrStar l E H_2 x g hL sa pb pv p2 w2 pd ln hrA2 (by omega) 4 (by decide)) (lw_V q573 q575 qs10 q42 q576) hdX0_digitOrStar ⟨Nat.le_of_ble_eq_true rfl, Nat.le_of_ble_eq_true rfl⟩ (recv hW_H_2 hxo2 rfl) hl.1 rfl (Nat.le_of_ble_eq_true rfl) dX0_readRule_62 ⟨by show 0 + 0 ≤ 1; omega, by show 0 + 0 ≤ 5; omega⟩) hS_2 (fun q9 h => Or.inl h) (fun r_3 H_3 locs hp_3 hc_3 hS_3 => ?_)
      obtain ⟨er3, hrA3⟩ := hp_3
      have hW_H_3 := hW_H_2.kept hc_3 (fun q9 h1 h2 => (show q9 = x from h2) ▸ hxold)
      have hz_H_3 := hc_3.1
      have hple3 := acP_le (w := w2) (p := p2) (c := dsC (nxM pd ln p2) 4)
      generalize ep3 : acP w2 p2 (dsC (nxM pd ln p2) 4) = p3 at hrA3 hple3
      generalize ew3 : acW w2 (dsC (nxM pd ln p2) 4) = w3 at hrA3
      have hrB3 := hrA3
      obtain ⟨pcap3, pmb3, pf3, hxo3, -⟩ := hrB3
      refine lv_val (y := dsV (nxM pd ln p2) 4) (er3) ?_
      refine lv_istore_n (lv' := [(3, .int (dsV (nxM pd ln p2) 4)), (0, .ref x), (1, .int ((nxM pd ln pl) - 48)), (2, .int (kdX (nxM pd ln p1)))]) hx hb dX0_readRule_65 rfl hl (by decide) rfl (fun ls hl => ?_)
      refine lv_aload_n hx hb dX0_readRule_66 rfl (lv_at hl 1 rfl) ?_
      refine lv_iconst (v := 5) hx hb dX0_readRule_67 (by decide) ?_
      refine run_chI (rest := []) (kV F hW_H_3 (metX0_digitOrStar l E H_3 x g hL sa pb pv p3 w3 pd ln hrA3 (by omega) 5 (by decide)) (lw_V q573 q575 qs10 q42 q576) hdX0_digitOrStar ⟨Nat.le_of_ble_eq_true rfl, Nat.le_of_ble_eq_true rfl⟩ (recv hW_H_3 hxo3 rfl) hl.1 rfl (Nat.le_of_ble_eq_true rfl) dX0_readRule_68 ⟨by show 0 + 0 ≤ 1; omega, by show 0 + 0 ≤ 5; omega⟩) hS_3 (fun q9 h => Or.inl h) (fun r_4 H_4 locs hp_4 hc_4 hS_4 => ?_)
      obtain ⟨er4, hrA4⟩ := hp_4
      have hW_H_4 := hW_H_3.kept hc_4 (fun q9 h1 h2 => (show q9 = x from h2) ▸ hxold)
      have hz_H_4 := hc_4.1
      have hple4 := acP_le (w := w3) (p := p3) (c := dsC (nxM pd ln p3) 5)
      generalize ep4 : acP w3 p3 (dsC (nxM pd ln p3) 5) = p4 at hrA4 hple4
      generalize ew4 : acW w3 (dsC (nxM pd ln p3) 5) = w4 at hrA4
      have hrB4 := hrA4
      obtain ⟨pcap4, pmb4, pf4, hxo4, -⟩ := hrB4
      refine lv_val (y := dsV (nxM pd ln p3) 5) (er4) ?_
      refine lv_istore (lv' := [(4, .int (dsV (nxM pd ln p3) 5)), (3, .int (dsV (nxM pd ln p2) 4)), (0, .ref x), (1, .int ((nxM pd ln pl) - 48)), (2, .int (kdX (nxM pd ln p1)))]) hx hb dX0_readRule_71 hl (by decide) rfl (fun ls hl => ?_)
      refine lv_iconst (v := 1) hx hb dX0_readRule_73 (by decide) ?_
      refine lv_istore (lv' := [(5, .int 1), (4, .int (dsV (nxM pd ln p3) 5)), (3, .int (dsV (nxM pd ln p2) 4)), (0, .ref x), (1, .int ((nxM pd ln pl) - 48)), (2, .int (kdX (nxM pd ln p1)))]) hx hb dX0_readRule_74 hl (by decide) rfl (fun ls hl => ?_)
      refine lv_aload_n hx hb dX0_readRule_76 rfl (lv_at hl 3 rfl) ?_
      refine xget (ref := "LayeredCharters") (ci := 0) (v := .int (b2i w4)) (C := RX0) (T := TX0) (N := 6) F in_X0 hW_H_4 hxo4 rfl 5 (by decide) q182 (fun _ h9 => h9) rfl dX0_readRule_77 ?_
      refine lv_if_ne (tgt := 105) hx hb dX0_readRule_80 (by decide) (fun c_5 => ?_) (fun c_5 => ?_)
      · skip
        have bc_5 := c_5
        have c_5 := b2i_t c_5
        refine xnew (ci := 5) (fs := [.int 0, .int 0, .int 0, .int 0, .int 0]) (C := RX6) (T := TX6) (N := 5) F in_X6 tyX6 tyX6_ok q386 q387 q61 hW_H_4 hS_4 rfl (fun j hj => by rcases (show j = 0 ∨ j = 1 ∨ j = 2 ∨ j = 3 ∨ j = 4 by omega) with rfl | rfl | rfl | rfl | rfl <;> rfl) (by show 0 + 1 ≤ 1; omega) (by show 0 + 5 ≤ 5; omega) dX0_readRule_105 (fun H_6 ho_6 hp_6 hS_6 => ?_)
        have hz_H_6 : H_6.size = H_4.size + 1 := hp_6.1
        have hW_H_6 := hW_H_4.kept (hp_6.chg (A := fun _ => False)) (fun _ _ h9 => h9.elim)
        have hxo4_H_6 := hxo4.kept (hp_6.chg (A := fun _ => False)) (fun h9 => h9)
        refine lv_dup hx hb dX0_readRule_108 rfl ?_
        refine lv_iload_n hx hb dX0_readRule_109 rfl (lv_at hl 4 rfl) ?_
        refine lv_iload_n hx hb dX0_readRule_110 rfl (lv_at hl 5 rfl) ?_
        refine lv_iload_n hx hb dX0_readRule_111 rfl (lv_at hl 2 rfl) ?_
        refine lv_iload hx hb dX0_readRule_112 (lv_at hl 1 rfl) ?_
        refine lv_iload hx hb dX0_readRule_114 (lv_at hl 0 rfl) ?_
        refine run_chN (rest := [.ref H_4.size]) (kI F hW_H_6 (metX6_init l E H_6 H_4.size (Nat.le_trans (show E.2.2.1 ≤ H.size from hW.2.2) (by omega)) ((nxM pd ln pl) - 48, kdX (nxM pd ln p1), dsV (nxM pd ln p2) 4, dsV (nxM pd ln p3) 5, 1) ho_6) q390 q61 q388 q389 rfl hdX6_init ⟨Nat.le_of_ble_eq_true rfl, Nat.le_of_ble_eq_true rfl⟩ hl.1 rfl (Nat.le_of_ble_eq_true rfl) dX0_readRule_116 ⟨by show 1 + 0 ≤ 1; omega, by show 5 + 0 ≤ 5; omega⟩) hS_6 (fun q9 h9 => Or.inr (by have h8 : q9 = H_4.size := h9; omega)) (fun H_7 locs hp_7 hc_7 hS_7 => ?_)
        have hv9 := hp_7
        have hcT : Chg (fun q => H_4.size ≤ q) H_4 H_7 := ((hp_6.chg (A := fun q => H_4.size ≤ q))).trans2 hc_7 (fun q h1 h2 => by have h3 : q = H_4.size := h2; show H_4.size ≤ q; omega)
        have hRD9 := hrA4.ext hcT
        have erx : rrX (nxM pd ln) pl = (p4, w4, ((nxM pd ln pl) - 48, kdX (nxM pd ln p1), dsV (nxM pd ln p2) 4, dsV (nxM pd ln p3) 5, 1)) := by unfold rrX; simp only [ep1, ew1, ep2, ew2, ep3, ew3, ep4, ew4]; rw [if_pos c_5, c_5]
        exact hend _ _ _ _ _ _ _ (Or.inr ⟨_, rfl⟩) dX0_readRule_119 (⟨_, rfl, by omega, (by rw [erx]; exact hv9), (by rw [erx]; exact hRD9)⟩) hS_7 (by first | exact Nat.le_refl _ | (show (1 : Nat) ≤ 1; omega)) (by first | exact Nat.le_refl _ | (show (5 : Nat) ≤ 5; omega))
      · skip
        have bc_5 := c_5
        have c_5 := b2i_f c_5
        refine lv_iload_n hx hb dX0_readRule_83 rfl (lv_at hl 5 rfl) ?_
        refine lv_if_eq (tgt := 105) hx hb dX0_readRule_84 (by decide) (fun c_8 => ?_) (fun c_8 => ?_)
        · skip
          refine xnew (ci := 5) (fs := [.int 0, .int 0, .int 0, .int 0, .int 0]) (C := RX6) (T := TX6) (N := 5) F in_X6 tyX6 tyX6_ok q386 q387 q61 hW_H_4 hS_4 rfl (fun j hj => by rcases (show j = 0 ∨ j = 1 ∨ j = 2 ∨ j = 3 ∨ j = 4 by omega) with rfl | rfl | rfl | rfl | rfl <;> rfl) (by show 0 + 1 ≤ 1; omega) (by show 0 + 5 ≤ 5; omega) dX0_readRule_105 (fun H_9 ho_9 hp_9 hS_9 => ?_)
          have hz_H_9 : H_9.size = H_4.size + 1 := hp_9.1
          have hW_H_9 := hW_H_4.kept (hp_9.chg (A := fun _ => False)) (fun _ _ h9 => h9.elim)
          have hxo4_H_9 := hxo4.kept (hp_9.chg (A := fun _ => False)) (fun h9 => h9)
          refine lv_dup hx hb dX0_readRule_108 rfl ?_
          refine lv_iload_n hx hb dX0_readRule_109 rfl (lv_at hl 4 rfl) ?_
          refine lv_iload_n hx hb dX0_readRule_110 rfl (lv_at hl 5 rfl) ?_
          refine lv_iload_n hx hb dX0_readRule_111 rfl (lv_at hl 2 rfl) ?_
          refine lv_iload hx hb dX0_readRule_112 (lv_at hl 1 rfl) ?_
          refine lv_iload hx hb dX0_readRule_114 (lv_at hl 0 rfl) ?_
          refine run_chN (rest := [.ref H_4.size]) (kI F hW_H_9 (metX6_init l E H_9 H_4.size (Nat.le_trans (show E.2.2.1 ≤ H.size from hW.2.2) (by omega)) ((nxM pd ln pl) - 48, kdX (nxM pd ln p1), dsV (nxM pd ln p2) 4, dsV (nxM pd ln p3) 5, 1) ho_9) q390 q61 q388 q389 rfl hdX6_init ⟨Nat.le_of_ble_eq_true rfl, Nat.le_of_ble_eq_true rfl⟩ hl.1 rfl (Nat.le_of_ble_eq_true rfl) dX0_readRule_116 ⟨by show 1 + 0 ≤ 1; omega, by show 5 + 0 ≤ 5; omega⟩) hS_9 (fun q9 h9 => Or.inr (by have h8 : q9 = H_4.size := h9; omega)) (fun H_10 locs hp_10 hc_10 hS_10 => ?_)
          have hv9 := hp_10
          have hcT : Chg (fun q => H_4.size ≤ q) H_4 H_10 := ((hp_9.chg (A := fun q => H_4.size ≤ q))).trans2 hc_10 (fun q h1 h2 => by have h3 : q = H_4.size := h2; show H_4.size ≤ q; omega)
          have hRD9 := hrA4.ext hcT
          have erx : rrX (nxM pd ln) pl = (p4, w4, ((nxM pd ln pl) - 48, kdX (nxM pd ln p1), dsV (nxM pd ln p2) 4, dsV (nxM pd ln p3) 5, 1)) := by unfold rrX; simp only [ep1, ew1, ep2, ew2, ep3, ew3, ep4, ew4]; rw [if_neg (by rw [c_5]; decide), if_pos c_8, c_5]
          exact hend _ _ _ _ _ _ _ (Or.inr ⟨_, rfl⟩) dX0_readRule_119 (⟨_, rfl, by omega, (by rw [erx]; exact hv9), (by rw [erx]; exact hRD9)⟩) hS_10 (by first | exact Nat.le_refl _ | (show (1 : Nat) ≤ 1; omega)) (by first | exact Nat.le_refl _ | (show (5 : Nat) ≤ 5; omega))
        · skip
          refine lv_aload_n hx hb dX0_readRule_87 rfl (lv_at hl 3 rfl) ?_
          refine run_ro (w := .int (nxM pd ln p4)) (rest := []) (kV F hW_H_4 (metX0_sign l E H_4 x g hL sa pb pv p4 w4 pd ln hrA4 (by omega)) (lw_V q463 q465 qs8 q42 q466) hdX0_sign ⟨Nat.le_of_ble_eq_true rfl, Nat.le_of_ble_eq_true rfl⟩ (recv hW_H_4 hxo4 rfl) hl.1 rfl (Nat.le_of_ble_eq_true rfl) dX0_readRule_88 ⟨Nat.le_of_ble_eq_true rfl, Nat.le_of_ble_eq_true rfl⟩) ?_
          refine lv_bipush (v := 48) hx hb dX0_readRule_91 (by decide) ?_
          refine lv_isub hx hb dX0_readRule_93 ?_
          refine lv_istore (lv' := [(5, .int ((nxM pd ln p4) - 48)), (4, .int (dsV (nxM pd ln p3) 5)), (3, .int (dsV (nxM pd ln p2) 4)), (0, .ref x), (1, .int ((nxM pd ln pl) - 48)), (2, .int (kdX (nxM pd ln p1)))]) hx hb dX0_readRule_94 hl (by decide) rfl (fun ls hl => ?_)
          refine lv_aload_n hx hb dX0_readRule_96 rfl (lv_at hl 3 rfl) ?_
          refine lv_iload hx hb dX0_readRule_97 (lv_at hl 0 rfl) ?_
          refine run_ro (w := .int (b2i (inR ((nxM pd ln p4) - 48) 1 9))) (rest := [.ref x]) (kS F hW_H_4 (metX4_isSeal l E H_4 ((nxM pd ln p4) - 48)) (lw_S q207 q208 q53 q209) hdX4_isSeal ⟨Nat.le_of_ble_eq_true rfl, Nat.le_of_ble_eq_true rfl⟩ hl.1 rfl (Nat.le_of_ble_eq_true rfl) dX0_readRule_99 ⟨Nat.le_of_ble_eq_true rfl, Nat.le_of_ble_eq_true rfl⟩) ?_
          refine run_chN (rest := []) (kV F hW_H_4 (metX0_accept l E H_4 x g hL sa pb pv p4 w4 pd ln hrA4 (by omega) (inR ((nxM pd ln p4) - 48) 1 9)) (lw_V q500 q502 qs9 q42 q503) hdX0_accept ⟨Nat.le_of_ble_eq_true rfl, Nat.le_of_ble_eq_true rfl⟩ (recv hW_H_4 hxo4 rfl) hl.1 rfl (Nat.le_of_ble_eq_true rfl) dX0_readRule_102 ⟨by show 0 + 0 ≤ 1; omega, by show 0 + 0 ≤ 5; omega⟩) hS_4 (fun q9 h => Or.inl h) (fun H_11 locs hp_11 hc_11 hS_11 => ?_)
          have hW_H_11 := hW_H_4.kept hc_11 (fun q9 h1 h2 => (show q9 = x from h2) ▸ hxold)
          have hz_H_11 := hc_11.1
          have hrA5 : RD E x g hL sa pb pv (acP w4 p4 (inR ((nxM pd ln p4) - 48) 1 9)) (acW w4 (inR ((nxM pd ln p4) - 48) 1 9)) pd ln H_11 := hp_11
          have hple5 := acP_le (w := w4) (p := p4) (c := (inR ((nxM pd ln p4) - 48) 1 9))
          generalize ep5 : acP w4 p4 (inR ((nxM pd ln p4) - 48) 1 9) = p5 at hrA5 hple5
          generalize ew5 : acW w4 (inR ((nxM pd ln p4) - 48) 1 9) = w5 at hrA5
          have hrB5 := hrA5
          obtain ⟨pcap5, pmb5, pf5, hxo5, -⟩ := hrB5
          refine xnew (ci := 5) (fs := [.int 0, .int 0, .int 0, .int 0, .int 0]) (C := RX6) (T := TX6) (N := 5) F in_X6 tyX6 tyX6_ok q386 q387 q61 hW_H_11 hS_11 rfl (fun j hj => by rcases (show j = 0 ∨ j = 1 ∨ j = 2 ∨ j = 3 ∨ j = 4 by omega) with rfl | rfl | rfl | rfl | rfl <;> rfl) (by show 0 + 1 ≤ 1; omega) (by show 0 + 5 ≤ 5; omega) dX0_readRule_105 (fun H_12 ho_12 hp_12 hS_12 => ?_)
          have hz_H_12 : H_12.size = H_11.size + 1 := hp_12.1
          have hW_H_12 := hW_H_11.kept (hp_12.chg (A := fun _ => False)) (fun _ _ h9 => h9.elim)
          have hxo5_H_12 := hxo5.kept (hp_12.chg (A := fun _ => False)) (fun h9 => h9)
          refine lv_dup hx hb dX0_readRule_108 rfl ?_
          refine lv_iload_n hx hb dX0_readRule_109 rfl (lv_at hl 4 rfl) ?_
          refine lv_iload_n hx hb dX0_readRule_110 rfl (lv_at hl 5 rfl) ?_
          refine lv_iload_n hx hb dX0_readRule_111 rfl (lv_at hl 2 rfl) ?_
          refine lv_iload hx hb dX0_readRule_112 (lv_at hl 1 rfl) ?_
          refine lv_iload hx hb dX0_readRule_114 (lv_at hl 0 rfl) ?_
          refine run_chN (rest := [.ref H_11.size]) (kI F hW_H_12 (metX6_init l E H_12 H_11.size (Nat.le_trans (show E.2.2.1 ≤ H.size from hW.2.2) (by omega)) ((nxM pd ln pl) - 48, kdX (nxM pd ln p1), dsV (nxM pd ln p2) 4, dsV (nxM pd ln p3) 5, (nxM pd ln p4) - 48) ho_12) q390 q61 q388 q389 rfl hdX6_init ⟨Nat.le_of_ble_eq_true rfl, Nat.le_of_ble_eq_true rfl⟩ hl.1 rfl (Nat.le_of_ble_eq_true rfl) dX0_readRule_116 ⟨by show 1 + 0 ≤ 1; omega, by show 5 + 0 ≤ 5; omega⟩) hS_12 (fun q9 h9 => Or.inr (by have h8 : q9 = H_11.size := h9; omega)) (fun H_13 locs hp_13 hc_13 hS_13 => ?_)
          have hv9 := hp_13
          have hcT : Chg (fun q => H_11.size ≤ q) H_11 H_13 := ((hp_12.chg (A := fun q => H_11.size ≤ q))).trans2 hc_13 (fun q h1 h2 => by have h3 : q = H_11.size := h2; show H_11.size ≤ q; omega)
          have hRD9 := hrA5.ext hcT
          have erx : rrX (nxM pd ln) pl = (p5, w5, ((nxM pd ln pl) - 48, kdX (nxM pd ln p1), dsV (nxM pd ln p2) 4, dsV (nxM pd ln p3) 5, (nxM pd ln p4) - 48)) := by unfold rrX; simp only [ep1, ew1, ep2, ew2, ep3, ew3, ep4, ew4, ep5, ew5]; rw [if_neg (by rw [c_5]; decide), if_neg c_8]
          exact hend _ _ _ _ _ _ _ (Or.inr ⟨_, rfl⟩) dX0_readRule_119 (⟨_, rfl, by omega, (by rw [erx]; exact hv9), (by rw [erx]; exact hRD9)⟩) hS_13 (by first | exact Nat.le_refl _ | (show (1 : Nat) ≤ 1; omega)) (by first | exact Nat.le_refl _ | (show (5 : Nat) ≤ 5; omega))
    refine lv_iload_n hx hb dX0_readRule_40 rfl (lv_at hl 0 rfl) ?_
    refine lv_if_gt (tgt := 52) hx hb dX0_readRule_41 (by decide) (fun c_14 => ?_) (fun c_14 => ?_)
    · skip
      refine lv_iconst (v := 1) hx hb dX0_readRule_52 (by decide) ?_
      refine lv_goto (tgt := 57) hx hb dX0_readRule_53 (by decide) ?_
      exact join57 _ (by unfold kcX; rw [decide_eq_false (inle.mpr c_14)]; rfl) ls (lv_sub hl [1, 2, 0] rfl)
    · skip
      refine lv_iload_n hx hb dX0_readRule_44 rfl (lv_at hl 0 rfl) ?_
      refine lv_if_ne (tgt := 56) hx hb dX0_readRule_45 (by decide) (fun c_15 => ?_) (fun c_15 => ?_)
      · skip
        refine lv_iconst (v := 0) hx hb dX0_readRule_56 (by decide) ?_
        exact join57 _ (by unfold kcX; rw [decide_eq_true (inlt.mp c_14), decide_eq_false c_15]; rfl) ls (lv_sub hl [1, 2, 0] rfl)
      · skip
        refine lv_iload_n hx hb dX0_readRule_48 rfl (lv_at hl 2 rfl) ?_
        refine lv_if_ne (tgt := 56) hx hb dX0_readRule_49 (by decide) (fun c_16 => ?_) (fun c_16 => ?_)
        · skip
          refine lv_iconst (v := 0) hx hb dX0_readRule_56 (by decide) ?_
          exact join57 _ (by unfold kcX; rw [decide_eq_true (inlt.mp c_14), decide_eq_true c_15, decide_eq_false c_16]; rfl) ls (lv_sub hl [1, 2, 0] rfl)
        · skip
          refine lv_iconst (v := 1) hx hb dX0_readRule_52 (by decide) ?_
          refine lv_goto (tgt := 57) hx hb dX0_readRule_53 (by decide) ?_
          exact join57 _ (by unfold kcX; rw [decide_eq_true (inlt.mp c_14), decide_eq_true c_15, decide_eq_true c_16]; rfl) ls (lv_sub hl [1, 2, 0] rfl)
  refine lv_aload_n hx hb dX0_readRule_16 rfl (lv_at hl 1 rfl) ?_
  refine run_ro (w := .int (nxM pd ln p1)) (rest := []) (kV F hW_H_1 (metX0_sign l E H_1 x g hL sa pb pv p1 w1 pd ln hrA1 (by omega)) (lw_V q463 q465 qs8 q42 q466) hdX0_sign ⟨Nat.le_of_ble_eq_true rfl, Nat.le_of_ble_eq_true rfl⟩ (recv hW_H_1 hxo1 rfl) hl.1 rfl (Nat.le_of_ble_eq_true rfl) dX0_readRule_17 ⟨Nat.le_of_ble_eq_true rfl, Nat.le_of_ble_eq_true rfl⟩) ?_
  refine lv_if_le (tgt := 36) hx hb dX0_readRule_20 (by decide) (fun c_17 => ?_) (fun c_17 => ?_)
  · skip
    refine lv_bipush (v := (-6)) hx hb dX0_readRule_36 (by decide) ?_
    exact join38 _ (by unfold kdX; rw [if_pos c_17]) ls (lv_sub hl [1, 0] rfl)
  · skip
    refine xldcw F hW_H_1.1.2.2.2.2.2.2.2.1 dX0_readRule_23 ?_
    refine lv_aload_n hx hb dX0_readRule_26 rfl (lv_at hl 1 rfl) ?_
    refine run_ro (w := .int (nxM pd ln p1)) (rest := [.ref (E.2.2.2 3)]) (kV F hW_H_1 (metX0_sign l E H_1 x g hL sa pb pv p1 w1 pd ln hrA1 (by omega)) (lw_V q463 q465 qs8 q42 q466) hdX0_sign ⟨Nat.le_of_ble_eq_true rfl, Nat.le_of_ble_eq_true rfl⟩ (recv hW_H_1 hxo1 rfl) hl.1 rfl (Nat.le_of_ble_eq_true rfl) dX0_readRule_27 ⟨Nat.le_of_ble_eq_true rfl, Nat.le_of_ble_eq_true rfl⟩) ?_
    obtain ⟨ch, ech, hch, -⟩ := nx_ch (p := p1) (fun i hi => (hpd i hi).2)
    refine lv_val (y := nI ch) ech ?_
    refine run_ro (w := .int (ioX (nI ch))) (rest := []) (kV F hW_H_1 (metJ5_indexOf l E H_1 ch (by omega)) (lw_V q505 q506 q507 q50 q508) hdJ5_indexOf ⟨Nat.le_of_ble_eq_true rfl, Nat.le_of_ble_eq_true rfl⟩ (orecv (hW_H_1.2.1.2.2.2.2.2.2.2.2.1 0 (by decide)).1) hl.1 rfl (Nat.le_of_ble_eq_true rfl) dX0_readRule_30 ⟨Nat.le_of_ble_eq_true rfl, Nat.le_of_ble_eq_true rfl⟩) ?_
    refine lv_val (y := ioX (nxM pd ln p1)) (by rw [ech]) ?_
    refine lv_goto (tgt := 38) hx hb dX0_readRule_33 (by decide) ?_
    exact join38 _ (by unfold kdX; rw [if_neg c_17]) ls (lv_sub hl [1, 0] rfl)

