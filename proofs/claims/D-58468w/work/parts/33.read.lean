/-! LAYEREDCHARTERS: what only reads -/
set_option maxRecDepth 100000
theorem qM_in {f : Nat → Int32} {n : Nat} (hn : n ≤ 25) (hok : ∀ r, r < n → RVok (ruA f r)) (c d : Int32) : ∃ q, q ≤ 10 ∧ leastM (ruA f) n c d (-6) (-6) 0 = nI q := by
  obtain ⟨q, h1, h2⟩ := leX_in (c := c) (d := d) hok
  exact ⟨q, h1, (now_eq hn hok c d).symm.trans h2⟩
theorem rk_nat {r : Int32} (h : inR r 0 9 = true) : ∃ q : Nat, q ≤ 9 ∧ r = nI q := rng_of (b := 9) h (by decide)
theorem hdX0_why : Hd yX0_why 3 := by decide +kernel
set_option maxHeartbeats 1000000 in
set_option maxRecDepth 100000 in
theorem metX0_why (l : Launch) (E : EV) (H : Heap) (tg : TG) (x : Nat) (f : Nat → Int32) (n k : Nat) (hist sl z pd : Nat → Int32) (gl ln : Nat) (hx : XR E tg x f n k hist sl z pd gl ln H) (cr d rank : Int32) : Ro l yX0_why cX0_why 4 (some .int) 7 162 [.ref x, .int cr, .int d, .int rank] E H (some (.int (whyM f n cr d rank))) := by
  have hx0 := hx
  obtain ⟨g, hL, sa, pb, pl, wr, hxo, hxt, hgs, hrs⟩ := hx
  have hgs0 := hgs
  obtain ⟨c, L, arr, cap, M, arr2, cap2, b, md, md2, xs, ys, hgx, hgt, hvk⟩ := hgs
  have hgx0 := hgx
  have hvk0 := hvk
  obtain ⟨hg, hcx, hrl, hal, hmb, hbl⟩ := hgx
  obtain ⟨hn0, hn24, hk0, hk10, hrok, hmok⟩ := hvk
  have hc0 := hcx.1
  have hcr : CR E c n (ruA f) H := ⟨L, md, arr, cap, xs, hcx.1, hcx.2, hrl⟩
  refine Ct.ofZ (by decide) (Nat.le_of_ble_eq_true rfl) ?_
  intro p e s m bl mt cd ls Q hF hW hH hl hend
  obtain ⟨F, hin⟩ := hF
  have hx := F.1
  have hb := F.2.1
  have hts := F.2.2.2.2
  have hl : lv_has ls 4 [(0, .ref x), (1, .int cr), (2, .int d), (3, .int rank)] := hl
  have hS : va_S (fun _ => False) H H [] := va_S.rf
  refine lv_iload_n hx hb dX0_why_0 rfl (lv_at hl 1 rfl) ?_
  refine run_ro (w := .int (b2i (inR cr 0 4))) (rest := []) (kS F hW (metX4_isCraft l E H cr) (lw_S q702 q703 q53 q704) hdX4_isCraft ⟨Nat.le_of_ble_eq_true rfl, Nat.le_of_ble_eq_true rfl⟩ hl.1 rfl (Nat.le_of_ble_eq_true rfl) dX0_why_1 ⟨Nat.le_of_ble_eq_true rfl, Nat.le_of_ble_eq_true rfl⟩) ?_
  refine lv_if_eq (tgt := 14) hx hb dX0_why_4 (by decide) (fun c_1 => ?_) (fun c_1 => ?_)
  · skip
    have bc_1 := c_1
    have c_1 := b2i_f c_1
    refine lv_iconst (v := (-1)) hx hb dX0_why_14 (by decide) ?_
    exact hend _ _ _ _ _ _ _ rfl dX0_why_15 (⟨congrArg (fun z : Int32 => some (Value.int z)) (by simp [whyM, c_1]), rfl⟩) hS (Nat.zero_le _) (Nat.zero_le _)
  · skip
    have bc_1 := c_1
    have c_1 := b2i_t c_1
    refine lv_iload_n hx hb dX0_why_7 rfl (lv_at hl 2 rfl) ?_
    refine run_ro (w := .int (b2i (inR d 0 5))) (rest := []) (kS F hW (metX4_isDeed l E H d) (lw_S q727 q728 q53 q729) hdX4_isDeed ⟨Nat.le_of_ble_eq_true rfl, Nat.le_of_ble_eq_true rfl⟩ hl.1 rfl (Nat.le_of_ble_eq_true rfl) dX0_why_8 ⟨Nat.le_of_ble_eq_true rfl, Nat.le_of_ble_eq_true rfl⟩) ?_
    refine lv_if_ne (tgt := 16) hx hb dX0_why_11 (by decide) (fun c_2 => ?_) (fun c_2 => ?_)
    · skip
      have bc_2 := c_2
      have c_2 := b2i_t c_2
      refine lv_iload_n hx hb dX0_why_16 rfl (lv_at hl 3 rfl) ?_
      refine run_ro (w := .int (b2i (inR rank 0 9))) (rest := []) (kS F hW (metX4_isRank l E H rank) (lw_S q705 q706 q53 q707) hdX4_isRank ⟨Nat.le_of_ble_eq_true rfl, Nat.le_of_ble_eq_true rfl⟩ hl.1 rfl (Nat.le_of_ble_eq_true rfl) dX0_why_17 ⟨Nat.le_of_ble_eq_true rfl, Nat.le_of_ble_eq_true rfl⟩) ?_
      refine lv_if_eq (tgt := 39) hx hb dX0_why_20 (by decide) (fun c_3 => ?_) (fun c_3 => ?_)
      · skip
        have bc_3 := c_3
        have c_3 := b2i_f c_3
        refine lv_bipush (v := (-2)) hx hb dX0_why_39 (by decide) ?_
        exact hend _ _ _ _ _ _ _ rfl dX0_why_41 (⟨congrArg (fun z : Int32 => some (Value.int z)) (by simp [whyM, c_1, c_2, c_3]), rfl⟩) hS (Nat.zero_le _) (Nat.zero_le _)
      · skip
        have bc_3 := c_3
        have c_3 := b2i_t c_3
        refine lv_aload_n hx hb dX0_why_23 rfl (lv_at hl 0 rfl) ?_
        refine xget (ref := "LayeredCharters") (ci := 0) (v := .ref g) (C := RX0) (T := TX0) (N := 6) F in_X0 hW hxo rfl 0 (by decide) q177 (fun _ h9 => h9) rfl dX0_why_24 ?_
        refine xget (ref := "LayeredCharters$Guild") (ci := 1) (v := .ref c) (C := RX1) (T := TX1) (N := 5) F in_X1 hW hg rfl 0 (by decide) q120 (fun _ h9 => h9) rfl dX0_why_27 ?_
        refine lv_iload_n hx hb dX0_why_30 rfl (lv_at hl 1 rfl) ?_
        refine lv_iload_n hx hb dX0_why_31 rfl (lv_at hl 2 rfl) ?_
        refine lv_iload_n hx hb dX0_why_32 rfl (lv_at hl 3 rfl) ?_
        refine run_ro (w := .int (rsX (ruA f) n cr d rank)) (rest := []) (kV F hW (metX2_reason l E H c n (ruA f) hcr cr d rank) (lw_V q806 q735 q736 q44 q737) hdX2_reason ⟨Nat.le_of_ble_eq_true rfl, Nat.le_of_ble_eq_true rfl⟩ (recv hW hc0 rfl) hl.1 rfl (Nat.le_of_ble_eq_true rfl) dX0_why_33 ⟨Nat.le_of_ble_eq_true rfl, Nat.le_of_ble_eq_true rfl⟩) ?_
        refine lv_val (y := reasonM (ruA f) n cr d rank) (reason_eq (by omega) hrok) ?_
        refine lv_goto (tgt := 41) hx hb dX0_why_36 (by decide) ?_
        exact hend _ _ _ _ _ _ _ rfl dX0_why_41 (⟨congrArg (fun z : Int32 => some (Value.int z)) (by simp [whyM, c_1, c_2, c_3]), rfl⟩) hS (Nat.zero_le _) (Nat.zero_le _)
    · skip
      have bc_2 := c_2
      have c_2 := b2i_f c_2
      refine lv_iconst (v := (-1)) hx hb dX0_why_14 (by decide) ?_
      exact hend _ _ _ _ _ _ _ rfl dX0_why_15 (⟨congrArg (fun z : Int32 => some (Value.int z)) (by simp [whyM, c_1, c_2]), rfl⟩) hS (Nat.zero_le _) (Nat.zero_le _)

theorem hdX0_leastRank : Hd yX0_leastRank 2 := by decide +kernel
set_option maxHeartbeats 1000000 in
set_option maxRecDepth 100000 in
theorem metX0_leastRank (l : Launch) (E : EV) (H : Heap) (tg : TG) (x : Nat) (f : Nat → Int32) (n k : Nat) (hist sl z pd : Nat → Int32) (gl ln : Nat) (hx : XR E tg x f n k hist sl z pd gl ln H) (cr d : Int32) : Ro l yX0_leastRank cX0_leastRank 4 (some .int) 5 117 [.ref x, .int cr, .int d] E H (some (.int (leastRankM f n cr d))) := by
  have hx0 := hx
  obtain ⟨g, hL, sa, pb, pl, wr, hxo, hxt, hgs, hrs⟩ := hx
  have hgs0 := hgs
  obtain ⟨c, L, arr, cap, M, arr2, cap2, b, md, md2, xs, ys, hgx, hgt, hvk⟩ := hgs
  have hgx0 := hgx
  have hvk0 := hvk
  obtain ⟨hg, hcx, hrl, hal, hmb, hbl⟩ := hgx
  obtain ⟨hn0, hn24, hk0, hk10, hrok, hmok⟩ := hvk
  have hc0 := hcx.1
  have hcr : CR E c n (ruA f) H := ⟨L, md, arr, cap, xs, hcx.1, hcx.2, hrl⟩
  refine Ct.ofZ (by decide) (Nat.le_of_ble_eq_true rfl) ?_
  intro p e s m bl mt cd ls Q hF hW hH hl hend
  obtain ⟨F, hin⟩ := hF
  have hx := F.1
  have hb := F.2.1
  have hts := F.2.2.2.2
  have hl : lv_has ls 4 [(0, .ref x), (1, .int cr), (2, .int d)] := hl
  have hS : va_S (fun _ => False) H H [] := va_S.rf
  refine lv_iload_n hx hb dX0_leastRank_0 rfl (lv_at hl 1 rfl) ?_
  refine run_ro (w := .int (b2i (inR cr 0 4))) (rest := []) (kS F hW (metX4_isCraft l E H cr) (lw_S q702 q703 q53 q704) hdX4_isCraft ⟨Nat.le_of_ble_eq_true rfl, Nat.le_of_ble_eq_true rfl⟩ hl.1 rfl (Nat.le_of_ble_eq_true rfl) dX0_leastRank_1 ⟨Nat.le_of_ble_eq_true rfl, Nat.le_of_ble_eq_true rfl⟩) ?_
  refine lv_if_eq (tgt := 14) hx hb dX0_leastRank_4 (by decide) (fun c_1 => ?_) (fun c_1 => ?_)
  · skip
    have bc_1 := c_1
    have c_1 := b2i_f c_1
    refine lv_iconst (v := (-1)) hx hb dX0_leastRank_14 (by decide) ?_
    exact hend _ _ _ _ _ _ _ rfl dX0_leastRank_15 (⟨congrArg (fun z : Int32 => some (Value.int z)) (by simp [leastRankM, c_1]), rfl⟩) hS (Nat.zero_le _) (Nat.zero_le _)
  · skip
    have bc_1 := c_1
    have c_1 := b2i_t c_1
    refine lv_iload_n hx hb dX0_leastRank_7 rfl (lv_at hl 2 rfl) ?_
    refine run_ro (w := .int (b2i (inR d 0 5))) (rest := []) (kS F hW (metX4_isDeed l E H d) (lw_S q727 q728 q53 q729) hdX4_isDeed ⟨Nat.le_of_ble_eq_true rfl, Nat.le_of_ble_eq_true rfl⟩ hl.1 rfl (Nat.le_of_ble_eq_true rfl) dX0_leastRank_8 ⟨Nat.le_of_ble_eq_true rfl, Nat.le_of_ble_eq_true rfl⟩) ?_
    refine lv_if_ne (tgt := 16) hx hb dX0_leastRank_11 (by decide) (fun c_2 => ?_) (fun c_2 => ?_)
    · skip
      have bc_2 := c_2
      have c_2 := b2i_t c_2
      refine lv_aload_n hx hb dX0_leastRank_16 rfl (lv_at hl 0 rfl) ?_
      refine xget (ref := "LayeredCharters") (ci := 0) (v := .ref g) (C := RX0) (T := TX0) (N := 6) F in_X0 hW hxo rfl 0 (by decide) q177 (fun _ h9 => h9) rfl dX0_leastRank_17 ?_
      refine xget (ref := "LayeredCharters$Guild") (ci := 1) (v := .ref c) (C := RX1) (T := TX1) (N := 5) F in_X1 hW hg rfl 0 (by decide) q120 (fun _ h9 => h9) rfl dX0_leastRank_20 ?_
      refine lv_iload_n hx hb dX0_leastRank_23 rfl (lv_at hl 1 rfl) ?_
      refine lv_iload_n hx hb dX0_leastRank_24 rfl (lv_at hl 2 rfl) ?_
      refine run_ro (w := .int (leX (ruA f) n cr d 5)) (rest := []) (kV F hW (metX2_least l E H c n (ruA f) hcr cr d) (lw_V q797 q679 q680 q44 q681) hdX2_least ⟨Nat.le_of_ble_eq_true rfl, Nat.le_of_ble_eq_true rfl⟩ (recv hW hc0 rfl) hl.1 rfl (Nat.le_of_ble_eq_true rfl) dX0_leastRank_25 ⟨Nat.le_of_ble_eq_true rfl, Nat.le_of_ble_eq_true rfl⟩) ?_
      refine lv_val (y := leastM (ruA f) n cr d (-6) (-6) 0) (now_eq (by omega) hrok _ _) ?_
      obtain ⟨q9, hq9, eq9⟩ := qM_in (by omega) hrok cr d
      refine lv_val (y := nI q9) (eq9) ?_
      refine lv_istore_n (lv' := [(3, .int (nI q9)), (0, .ref x), (1, .int cr), (2, .int d)]) hx hb dX0_leastRank_28 rfl hl (by decide) rfl (fun ls hl => ?_)
      refine lv_iload_n hx hb dX0_leastRank_29 rfl (lv_at hl 0 rfl) ?_
      refine lv_bipush (v := 10) hx hb dX0_leastRank_30 (by decide) ?_
      refine lv_icmp_ge (tgt := 39) hx hb dX0_leastRank_32 (by decide) (fun c_3 => ?_) (fun c_3 => ?_)
      · skip
        have nc_3 := (nI_leI (a := 10) (b := q9) (by omega) (by omega)).mp c_3
        refine lv_bipush (v := (-6)) hx hb dX0_leastRank_39 (by decide) ?_
        exact hend _ _ _ _ _ _ _ rfl dX0_leastRank_41 (⟨congrArg (fun z : Int32 => some (Value.int z)) (by have h10 : q9 = 10 := (by omega); subst h10; simp [leastRankM, eq9, show nI 10 = 10 from rfl, c_1, c_2, c_3]), rfl⟩) hS (Nat.zero_le _) (Nat.zero_le _)
      · skip
        have nc_3 := Nat.not_le.mp (fun h9 => c_3 ((nI_leI (a := 10) (b := q9) (by omega) (by omega)).mpr h9))
        refine lv_iload_n hx hb dX0_leastRank_35 rfl (lv_at hl 0 rfl) ?_
        refine lv_goto (tgt := 41) hx hb dX0_leastRank_36 (by decide) ?_
        exact hend _ _ _ _ _ _ _ rfl dX0_leastRank_41 (⟨congrArg (fun z : Int32 => some (Value.int z)) (by have e10 : (nI q9 = 10) ↔ q9 = 10 := nI_eq (a := q9) (b := 10) (by omega) (by omega); have h10 : ¬ q9 = 10 := (by omega); simp [leastRankM, eq9, e10, h10, c_1, c_2, c_3]), rfl⟩) hS (Nat.zero_le _) (Nat.zero_le _)
    · skip
      have bc_2 := c_2
      have c_2 := b2i_f c_2
      refine lv_iconst (v := (-1)) hx hb dX0_leastRank_14 (by decide) ?_
      exact hend _ _ _ _ _ _ _ rfl dX0_leastRank_15 (⟨congrArg (fun z : Int32 => some (Value.int z)) (by simp [leastRankM, c_1, c_2]), rfl⟩) hS (Nat.zero_le _) (Nat.zero_le _)

theorem hdX0_allowed : Hd yX0_allowed 4 := by decide +kernel
set_option maxHeartbeats 1000000 in
set_option maxRecDepth 100000 in
theorem metX0_allowed (l : Launch) (E : EV) (H : Heap) (tg : TG) (x : Nat) (f : Nat → Int32) (n k : Nat) (hist sl z pd : Nat → Int32) (gl ln : Nat) (hx : XR E tg x f n k hist sl z pd gl ln H) (cr d rank way : Int32) : Ro l yX0_allowed cX0_allowed 7 (some .int) 7 162 [.ref x, .int cr, .int d, .int rank, .int way] E H (some (.int (allowedM f n cr d rank way))) := by
  have hx0 := hx
  obtain ⟨g, hL, sa, pb, pl, wr, hxo, hxt, hgs, hrs⟩ := hx
  have hgs0 := hgs
  obtain ⟨c, L, arr, cap, M, arr2, cap2, b, md, md2, xs, ys, hgx, hgt, hvk⟩ := hgs
  have hgx0 := hgx
  have hvk0 := hvk
  obtain ⟨hg, hcx, hrl, hal, hmb, hbl⟩ := hgx
  obtain ⟨hn0, hn24, hk0, hk10, hrok, hmok⟩ := hvk
  have hc0 := hcx.1
  have hcr : CR E c n (ruA f) H := ⟨L, md, arr, cap, xs, hcx.1, hcx.2, hrl⟩
  refine Ct.ofZ (by decide) (Nat.le_of_ble_eq_true rfl) ?_
  intro p e s m bl mt cd ls Q hF hW hH hl hend
  obtain ⟨F, hin⟩ := hF
  have hx := F.1
  have hb := F.2.1
  have hts := F.2.2.2.2
  have hl : lv_has ls 7 [(0, .ref x), (1, .int cr), (2, .int d), (3, .int rank), (4, .int way)] := hl
  have hS : va_S (fun _ => False) H H [] := va_S.rf
  refine lv_iload_n hx hb dX0_allowed_0 rfl (lv_at hl 1 rfl) ?_
  refine run_ro (w := .int (b2i (inR cr 0 4))) (rest := []) (kS F hW (metX4_isCraft l E H cr) (lw_S q702 q703 q53 q704) hdX4_isCraft ⟨Nat.le_of_ble_eq_true rfl, Nat.le_of_ble_eq_true rfl⟩ hl.1 rfl (Nat.le_of_ble_eq_true rfl) dX0_allowed_1 ⟨Nat.le_of_ble_eq_true rfl, Nat.le_of_ble_eq_true rfl⟩) ?_
  refine lv_if_eq (tgt := 14) hx hb dX0_allowed_4 (by decide) (fun c_1 => ?_) (fun c_1 => ?_)
  · skip
    have bc_1 := c_1
    have c_1 := b2i_f c_1
    refine lv_iconst (v := (-1)) hx hb dX0_allowed_14 (by decide) ?_
    exact hend _ _ _ _ _ _ _ rfl dX0_allowed_15 (⟨congrArg (fun z : Int32 => some (Value.int z)) (by simp [allowedM, c_1]), rfl⟩) hS (Nat.zero_le _) (Nat.zero_le _)
  · skip
    have bc_1 := c_1
    have c_1 := b2i_t c_1
    refine lv_iload_n hx hb dX0_allowed_7 rfl (lv_at hl 2 rfl) ?_
    refine run_ro (w := .int (b2i (inR d 0 5))) (rest := []) (kS F hW (metX4_isDeed l E H d) (lw_S q727 q728 q53 q729) hdX4_isDeed ⟨Nat.le_of_ble_eq_true rfl, Nat.le_of_ble_eq_true rfl⟩ hl.1 rfl (Nat.le_of_ble_eq_true rfl) dX0_allowed_8 ⟨Nat.le_of_ble_eq_true rfl, Nat.le_of_ble_eq_true rfl⟩) ?_
    refine lv_if_ne (tgt := 16) hx hb dX0_allowed_11 (by decide) (fun c_2 => ?_) (fun c_2 => ?_)
    · skip
      have bc_2 := c_2
      have c_2 := b2i_t c_2
      refine lv_iload_n hx hb dX0_allowed_16 rfl (lv_at hl 3 rfl) ?_
      refine run_ro (w := .int (b2i (inR rank 0 9))) (rest := []) (kS F hW (metX4_isRank l E H rank) (lw_S q705 q706 q53 q707) hdX4_isRank ⟨Nat.le_of_ble_eq_true rfl, Nat.le_of_ble_eq_true rfl⟩ hl.1 rfl (Nat.le_of_ble_eq_true rfl) dX0_allowed_17 ⟨Nat.le_of_ble_eq_true rfl, Nat.le_of_ble_eq_true rfl⟩) ?_
      refine lv_if_eq (tgt := 33) hx hb dX0_allowed_20 (by decide) (fun c_3 => ?_) (fun c_3 => ?_)
      · skip
        have bc_3 := c_3
        have c_3 := b2i_f c_3
        refine lv_bipush (v := (-2)) hx hb dX0_allowed_33 (by decide) ?_
        exact hend _ _ _ _ _ _ _ rfl dX0_allowed_35 (⟨congrArg (fun z : Int32 => some (Value.int z)) (by simp [allowedM, c_1, c_2, c_3]), rfl⟩) hS (Nat.zero_le _) (Nat.zero_le _)
      · skip
        have bc_3 := c_3
        have c_3 := b2i_t c_3
        refine lv_iload hx hb dX0_allowed_23 (lv_at hl 4 rfl) ?_
        refine lv_iconst (v := 0) hx hb dX0_allowed_25 (by decide) ?_
        refine lv_iconst (v := 1) hx hb dX0_allowed_26 (by decide) ?_
        refine run_ro (w := .int (b2i (inR way 0 1))) (rest := []) (kS F hW (metX4_holds l E H way 0 1) (lw_S q206 q204 q53 q205) hdX4_holds ⟨Nat.le_of_ble_eq_true rfl, Nat.le_of_ble_eq_true rfl⟩ hl.1 rfl (Nat.le_of_ble_eq_true rfl) dX0_allowed_27 ⟨Nat.le_of_ble_eq_true rfl, Nat.le_of_ble_eq_true rfl⟩) ?_
        refine lv_if_ne (tgt := 36) hx hb dX0_allowed_30 (by decide) (fun c_4 => ?_) (fun c_4 => ?_)
        · skip
          have bc_4 := c_4
          have c_4 := b2i_t c_4
          refine lv_aload_n hx hb dX0_allowed_36 rfl (lv_at hl 0 rfl) ?_
          refine xget (ref := "LayeredCharters") (ci := 0) (v := .ref g) (C := RX0) (T := TX0) (N := 6) F in_X0 hW hxo rfl 0 (by decide) q177 (fun _ h9 => h9) rfl dX0_allowed_37 ?_
          refine xget (ref := "LayeredCharters$Guild") (ci := 1) (v := .ref c) (C := RX1) (T := TX1) (N := 5) F in_X1 hW hg rfl 0 (by decide) q120 (fun _ h9 => h9) rfl dX0_allowed_40 ?_
          refine lv_astore (lv' := [(5, .ref c), (0, .ref x), (1, .int cr), (2, .int d), (3, .int rank), (4, .int way)]) hx hb dX0_allowed_43 hl (by decide) rfl (fun ls hl => ?_)
          refine lv_iload hx hb dX0_allowed_45 (lv_at hl 5 rfl) ?_
          refine lv_if_ne (tgt := 61) hx hb dX0_allowed_47 (by decide) (fun c_5 => ?_) (fun c_5 => ?_)
          · skip
            refine lv_aload hx hb dX0_allowed_61 (lv_at hl 0 rfl) ?_
            refine lv_iload_n hx hb dX0_allowed_63 rfl (lv_at hl 2 rfl) ?_
            refine lv_iload_n hx hb dX0_allowed_64 rfl (lv_at hl 3 rfl) ?_
            refine lv_iload_n hx hb dX0_allowed_65 rfl (lv_at hl 4 rfl) ?_
            refine run_ro (w := .int (rsX (ruA f) n cr d rank)) (rest := []) (kV F hW (metX2_reason l E H c n (ruA f) hcr cr d rank) (lw_V q806 q735 q736 q44 q737) hdX2_reason ⟨Nat.le_of_ble_eq_true rfl, Nat.le_of_ble_eq_true rfl⟩ (recv hW hc0 rfl) hl.1 rfl (Nat.le_of_ble_eq_true rfl) dX0_allowed_66 ⟨Nat.le_of_ble_eq_true rfl, Nat.le_of_ble_eq_true rfl⟩) ?_
            refine lv_val (y := reasonM (ruA f) n cr d rank) (reason_eq (by omega) hrok) ?_
            obtain ⟨rk, hrk, erk⟩ := rk_nat c_3
            have hrn := reason_neg (ru := ruA f) (n := n) (c := cr) (d := d) (rank := rank) (by omega) hrok (by rw [erk]; exact nI_pos' (by omega)) (by rw [erk]; exact (nI_leI (b := 9) (by omega) (by omega)).mpr (by omega))
            refine lv_if_ge (tgt := 76) hx hb dX0_allowed_69 (by decide) (fun c_6 => ?_) (fun c_6 => ?_)
            · skip
              refine lv_iconst (v := 0) hx hb dX0_allowed_76 (by decide) ?_
              refine lv_istore (lv' := [(6, .int 0), (5, .ref c), (0, .ref x), (1, .int cr), (2, .int d), (3, .int rank), (4, .int way)]) hx hb dX0_allowed_77 hl (by decide) rfl (fun ls hl => ?_)
              refine lv_iload hx hb dX0_allowed_79 (lv_at hl 0 rfl) ?_
              refine lv_if_eq (tgt := 88) hx hb dX0_allowed_81 (by decide) (fun _ => ?_) (fun c9 => absurd (by decide) c9)
              refine lv_iconst (v := 0) hx hb dX0_allowed_88 (by decide) ?_
              have hle : ¬ leastM (ruA f) n cr d (-6) (-6) 0 ≤ rank := fun h9 => absurd (hrn.mpr h9) (inlt.mpr c_6)
              exact hend _ _ _ _ _ _ _ rfl dX0_allowed_89 (⟨congrArg (fun z : Int32 => some (Value.int z)) (by have hlt := inle.mp hle; simp [allowedM, hlt, c_1, c_2, c_3, c_4]), rfl⟩) hS (Nat.zero_le _) (Nat.zero_le _)
            · skip
              refine lv_iconst (v := 1) hx hb dX0_allowed_72 (by decide) ?_
              refine lv_goto (tgt := 77) hx hb dX0_allowed_73 (by decide) ?_
              refine lv_istore (lv' := [(6, .int 1), (5, .ref c), (0, .ref x), (1, .int cr), (2, .int d), (3, .int rank), (4, .int way)]) hx hb dX0_allowed_77 hl (by decide) rfl (fun ls hl => ?_)
              refine lv_iload hx hb dX0_allowed_79 (lv_at hl 0 rfl) ?_
              refine lv_if_eq (tgt := 88) hx hb dX0_allowed_81 (by decide) (fun c9 => absurd c9 (by decide)) (fun _ => ?_)
              refine lv_iconst (v := 1) hx hb dX0_allowed_84 (by decide) ?_
              refine lv_goto (tgt := 89) hx hb dX0_allowed_85 (by decide) ?_
              have hle : leastM (ruA f) n cr d (-6) (-6) 0 ≤ rank := hrn.mp (inle.mp c_6)
              exact hend _ _ _ _ _ _ _ rfl dX0_allowed_89 (⟨congrArg (fun z : Int32 => some (Value.int z)) (by have hlt := inlt.mpr hle; simp [allowedM, hlt, c_1, c_2, c_3, c_4]), rfl⟩) hS (Nat.zero_le _) (Nat.zero_le _)
          · skip
            refine lv_aload hx hb dX0_allowed_50 (lv_at hl 0 rfl) ?_
            refine lv_iload_n hx hb dX0_allowed_52 rfl (lv_at hl 2 rfl) ?_
            refine lv_iload_n hx hb dX0_allowed_53 rfl (lv_at hl 3 rfl) ?_
            refine lv_iload_n hx hb dX0_allowed_54 rfl (lv_at hl 4 rfl) ?_
            refine run_ro (w := .int (b2i (alX (ruA f) n cr d rank 5))) (rest := []) (kV F hW (metX2_isAllowedByLayers l E H c n (ruA f) hcr cr d rank) (lw_V q802 q803 q804 q44 q805) hdX2_isAllowedByLayers ⟨Nat.le_of_ble_eq_true rfl, Nat.le_of_ble_eq_true rfl⟩ (recv hW hc0 rfl) hl.1 rfl (Nat.le_of_ble_eq_true rfl) dX0_allowed_55 ⟨Nat.le_of_ble_eq_true rfl, Nat.le_of_ble_eq_true rfl⟩) ?_
            obtain ⟨rk, hrk, erk⟩ := rk_nat c_3
            have hal9 : alX (ruA f) n cr d rank 5 = decide (leastM (ruA f) n cr d (-6) (-6) 0 ≤ rank) := by have h9 := al_le (ru := ruA f) (n := n) (c := cr) (d := d) (rank := rank) (by rw [erk]; exact nI_pos' (by omega)) (by rw [erk]; exact (nI_leI (b := 9) (by omega) (by omega)).mpr (by omega)); rw [now_eq (by omega) hrok] at h9; by_cases h8 : leastM (ruA f) n cr d (-6) (-6) 0 ≤ rank; rw [decide_eq_true h8]; exact h9.mpr h8; rw [decide_eq_false h8]; cases h7 : alX (ruA f) n cr d rank 5; rfl; exact absurd (h9.mp h7) h8
            refine lv_val (y := b2i (decide (leastM (ruA f) n cr d (-6) (-6) 0 ≤ rank))) (congrArg b2i hal9) ?_
            refine lv_goto (tgt := 77) hx hb dX0_allowed_58 (by decide) ?_
            refine lv_istore (lv' := [(6, .int (b2i (decide (leastM (ruA f) n cr d (-6) (-6) 0 ≤ rank)))), (5, .ref c), (0, .ref x), (1, .int cr), (2, .int d), (3, .int rank), (4, .int way)]) hx hb dX0_allowed_77 hl (by decide) rfl (fun ls hl => ?_)
            refine lv_iload hx hb dX0_allowed_79 (lv_at hl 0 rfl) ?_
            refine lv_if_eq (tgt := 88) hx hb dX0_allowed_81 (by decide) (fun c_7 => ?_) (fun c_7 => ?_)
            · skip
              have bc_7 := c_7
              have c_7 := b2i_f c_7
              refine lv_iconst (v := 0) hx hb dX0_allowed_88 (by decide) ?_
              have hle : ¬ leastM (ruA f) n cr d (-6) (-6) 0 ≤ rank := by simpa using c_7
              exact hend _ _ _ _ _ _ _ rfl dX0_allowed_89 (⟨congrArg (fun z : Int32 => some (Value.int z)) (by have hlt := inle.mp hle; simp [allowedM, hlt, c_1, c_2, c_3, c_4]), rfl⟩) hS (Nat.zero_le _) (Nat.zero_le _)
            · skip
              have bc_7 := c_7
              have c_7 := b2i_t c_7
              refine lv_iconst (v := 1) hx hb dX0_allowed_84 (by decide) ?_
              refine lv_goto (tgt := 89) hx hb dX0_allowed_85 (by decide) ?_
              have hle : leastM (ruA f) n cr d (-6) (-6) 0 ≤ rank := by simpa using c_7
              exact hend _ _ _ _ _ _ _ rfl dX0_allowed_89 (⟨congrArg (fun z : Int32 => some (Value.int z)) (by have hlt := inlt.mpr hle; simp [allowedM, hlt, c_1, c_2, c_3, c_4]), rfl⟩) hS (Nat.zero_le _) (Nat.zero_le _)
        · skip
          have bc_4 := c_4
          have c_4 := b2i_f c_4
          refine lv_bipush (v := (-2)) hx hb dX0_allowed_33 (by decide) ?_
          exact hend _ _ _ _ _ _ _ rfl dX0_allowed_35 (⟨congrArg (fun z : Int32 => some (Value.int z)) (by simp [allowedM, c_1, c_2, c_3, c_4]), rfl⟩) hS (Nat.zero_le _) (Nat.zero_le _)
    · skip
      have bc_2 := c_2
      have c_2 := b2i_f c_2
      refine lv_iconst (v := (-1)) hx hb dX0_allowed_14 (by decide) ?_
      exact hend _ _ _ _ _ _ _ rfl dX0_allowed_15 (⟨congrArg (fun z : Int32 => some (Value.int z)) (by simp [allowedM, c_1, c_2]), rfl⟩) hS (Nat.zero_le _) (Nat.zero_le _)

theorem hdX0_allowedTo : Hd yX0_allowedTo 1 := by decide +kernel
set_option maxHeartbeats 1000000 in
set_option maxRecDepth 100000 in
theorem metX0_allowedTo (l : Launch) (E : EV) (H : Heap) (tg : TG) (x : Nat) (f : Nat → Int32) (n k : Nat) (hist sl z pd : Nat → Int32) (gl ln : Nat) (hx : XR E tg x f n k hist sl z pd gl ln H) (y : Nat) (v : MV) (hy : oat E y 4 (mvF v) H) : Ro l yX0_allowedTo cX0_allowedTo 4 (some .int) 5 117 [.ref x, .ref y] E H (some (.int (mdM (ruA f) n v.1 v.2.1 6))) := by
  have hx0 := hx
  obtain ⟨g, hL, sa, pb, pl, wr, hxo, hxt, hgs, hrs⟩ := hx
  have hgs0 := hgs
  obtain ⟨c, L, arr, cap, M, arr2, cap2, b, md, md2, xs, ys, hgx, hgt, hvk⟩ := hgs
  have hgx0 := hgx
  have hvk0 := hvk
  obtain ⟨hg, hcx, hrl, hal, hmb, hbl⟩ := hgx
  obtain ⟨hn0, hn24, hk0, hk10, hrok, hmok⟩ := hvk
  have hc0 := hcx.1
  have hcr : CR E c n (ruA f) H := ⟨L, md, arr, cap, xs, hcx.1, hcx.2, hrl⟩
  refine Ct.ofZ (by decide) (Nat.le_of_ble_eq_true rfl) ?_
  intro p e s m bl mt cd ls Q hF hW hH hl hend
  obtain ⟨F, hin⟩ := hF
  have hx := F.1
  have hb := F.2.1
  have hts := F.2.2.2.2
  have hl : lv_has ls 4 [(0, .ref x), (1, .ref y)] := hl
  have hS : va_S (fun _ => False) H H [] := va_S.rf
  refine lv_iconst (v := 0) hx hb dX0_allowedTo_0 (by decide) ?_
  refine lv_istore_n (lv' := [(2, .int 0), (0, .ref x), (1, .ref y)]) hx hb dX0_allowedTo_1 rfl hl (by decide) rfl (fun ls hl => ?_)
  refine lv_iconst (v := 0) hx hb dX0_allowedTo_2 (by decide) ?_
  refine lv_istore_n (lv' := [(3, .int 0), (2, .int 0), (0, .ref x), (1, .ref y)]) hx hb dX0_allowedTo_3 rfl hl (by decide) rfl (fun ls hl => ?_)
  have loop4 : ∀ (nn i : Nat) (x3 a2 : Int32), i + nn = 6 → a2 = mdM (ruA f) n v.1 v.2.1 i → x3 = nI i → ∀ ls : Array Slot, lv_has ls 4 [(3, .int x3), (2, .int a2), (0, .ref x), (1, .ref y)] → W p l e ({ frames := 5, cells := 0, slots := 0, locals := 117 } : Room) s m ([.ref x, .ref y] : List Value).toArray bl mt cd H [] 0 0 Q (F0 m 4 ls []) := by
    intro nn
    induction nn with
    | zero =>
      intro i x3 a2 hn e2 e3  ls hl
      have hiN : i = 6 := by omega
      rw [hiN] at e3
      try rw [hiN] at e2
      rw [e3, e2] at hl
      clear e3 e2
      refine lv_iload_n hx hb dX0_allowedTo_4 rfl (lv_at hl 0 rfl) ?_
      refine lv_bipush (v := 6) hx hb dX0_allowedTo_5 (by decide) ?_
      refine lv_icmp_ge (tgt := 48) hx hb dX0_allowedTo_7 (by decide) (fun _ => ?_) (fun c9 => absurd (nI_le (a := 6) (b := 6) (by decide) (by decide)) c9)
      refine lv_iload_n hx hb dX0_allowedTo_48 rfl (lv_at hl 1 rfl) ?_
      exact hend _ _ _ _ _ _ _ rfl dX0_allowedTo_49 (⟨congrArg (fun z : Int32 => some (Value.int z)) (rfl), rfl⟩) hS (Nat.zero_le _) (Nat.zero_le _)
    | succ nn ih4 =>
      intro i x3 a2 hn e2 e3  ls hl
      rw [e3, e2] at hl
      clear e3 e2
      refine lv_iload_n hx hb dX0_allowedTo_4 rfl (lv_at hl 0 rfl) ?_
      refine lv_bipush (v := 6) hx hb dX0_allowedTo_5 (by decide) ?_
      refine lv_icmp_ge (tgt := 48) hx hb dX0_allowedTo_7 (by decide) (fun c9 => absurd c9 (nI_ge (a := i) (b := 6) (by omega) (by decide))) (fun _ => ?_)
      refine lv_iload_n hx hb dX0_allowedTo_10 rfl (lv_at hl 1 rfl) ?_
      refine lv_aload_n hx hb dX0_allowedTo_11 rfl (lv_at hl 3 rfl) ?_
      refine xget (ref := "LayeredCharters$Member") (ci := 4) (v := .int v.2.1) (C := RX5) (T := TX5) (N := 4) F in_X5 hW hy rfl 1 (by decide) q338 (fun _ h9 => h9) rfl dX0_allowedTo_12 ?_
      refine lv_aload_n hx hb dX0_allowedTo_15 rfl (lv_at hl 2 rfl) ?_
      refine xget (ref := "LayeredCharters") (ci := 0) (v := .ref g) (C := RX0) (T := TX0) (N := 6) F in_X0 hW hxo rfl 0 (by decide) q177 (fun _ h9 => h9) rfl dX0_allowedTo_16 ?_
      refine xget (ref := "LayeredCharters$Guild") (ci := 1) (v := .ref c) (C := RX1) (T := TX1) (N := 5) F in_X1 hW hg rfl 0 (by decide) q120 (fun _ h9 => h9) rfl dX0_allowedTo_19 ?_
      refine lv_aload_n hx hb dX0_allowedTo_22 rfl (lv_at hl 3 rfl) ?_
      refine xget (ref := "LayeredCharters$Member") (ci := 4) (v := .int v.1) (C := RX5) (T := TX5) (N := 4) F in_X5 hW hy rfl 0 (by decide) q335 (fun _ h9 => h9) rfl dX0_allowedTo_23 ?_
      refine lv_iload_n hx hb dX0_allowedTo_26 rfl (lv_at hl 0 rfl) ?_
      refine run_ro (w := .int (leX (ruA f) n v.1 (nI i) 5)) (rest := [.int v.2.1, .int (mdM (ruA f) n v.1 v.2.1 i)]) (kV F hW (metX2_least l E H c n (ruA f) hcr v.1 (nI i)) (lw_V q797 q679 q680 q44 q681) hdX2_least ⟨Nat.le_of_ble_eq_true rfl, Nat.le_of_ble_eq_true rfl⟩ (recv hW hc0 rfl) hl.1 rfl (Nat.le_of_ble_eq_true rfl) dX0_allowedTo_27 ⟨Nat.le_of_ble_eq_true rfl, Nat.le_of_ble_eq_true rfl⟩) ?_
      refine lv_val (y := leastM (ruA f) n v.1 (nI i) (-6) (-6) 0) (now_eq (by omega) hrok _ _) ?_
      refine lv_icmp_lt (tgt := 39) hx hb dX0_allowedTo_30 (by decide) (fun c_1 => ?_) (fun c_1 => ?_)
      · skip
        refine lv_iconst (v := 0) hx hb dX0_allowedTo_39 (by decide) ?_
        refine lv_ior hx hb dX0_allowedTo_40 ?_
        refine lv_istore_n (lv' := [(2, .int ((mdM (ruA f) n v.1 v.2.1 i) ||| 0)), (3, .int (nI i)), (0, .ref x), (1, .ref y)]) hx hb dX0_allowedTo_41 rfl hl (by decide) rfl (fun ls hl => ?_)
        refine lv_iinc (v := nI (i + 1)) (lv' := [(3, .int (nI (i + 1))), (2, .int ((mdM (ruA f) n v.1 v.2.1 i) ||| 0)), (0, .ref x), (1, .ref y)]) hx hb dX0_allowedTo_42 hl (k := 1) rfl (nI_1 _) (by decide) rfl (fun ls hl => ?_)
        refine lv_goto (tgt := 4) hx hb dX0_allowedTo_45 (by decide) ?_
        exact ih4 (i + 1) _ _ (by omega) (by rw [mdM_s]; simp [c_1]) rfl ls (lv_sub hl [0, 1, 2, 3] rfl)
      · skip
        refine lv_iconst (v := 1) hx hb dX0_allowedTo_33 (by decide) ?_
        refine lv_iload_n hx hb dX0_allowedTo_34 rfl (lv_at hl 0 rfl) ?_
        refine lv_ishl hx hb dX0_allowedTo_35 ?_
        refine lv_goto (tgt := 40) hx hb dX0_allowedTo_36 (by decide) ?_
        refine lv_ior hx hb dX0_allowedTo_40 ?_
        refine lv_istore_n (lv' := [(2, .int ((mdM (ruA f) n v.1 v.2.1 i) ||| (1 <<< ((nI i) &&& 31)))), (3, .int (nI i)), (0, .ref x), (1, .ref y)]) hx hb dX0_allowedTo_41 rfl hl (by decide) rfl (fun ls hl => ?_)
        refine lv_iinc (v := nI (i + 1)) (lv' := [(3, .int (nI (i + 1))), (2, .int ((mdM (ruA f) n v.1 v.2.1 i) ||| (1 <<< ((nI i) &&& 31)))), (0, .ref x), (1, .ref y)]) hx hb dX0_allowedTo_42 hl (k := 1) rfl (nI_1 _) (by decide) rfl (fun ls hl => ?_)
        refine lv_goto (tgt := 4) hx hb dX0_allowedTo_45 (by decide) ?_
        exact ih4 (i + 1) _ _ (by omega) (by rw [mdM_s]; simp [c_1]) rfl ls (lv_sub hl [0, 1, 2, 3] rfl)
  exact loop4 (6 - 0) 0 _ _ (by omega) rfl rfl  ls (lv_sub hl [0, 1, 2, 3] rfl)

theorem hdX0_member : Hd yX0_member 2 := by decide +kernel
set_option maxHeartbeats 1000000 in
set_option maxRecDepth 100000 in
theorem metX0_member (l : Launch) (E : EV) (H : Heap) (tg : TG) (x : Nat) (f : Nat → Int32) (n k : Nat) (hist sl z pd : Nat → Int32) (gl ln : Nat) (hx : XR E tg x f n k hist sl z pd gl ln H) (j w : Int32) : Ro l yX0_member cX0_member 4 (some .int) 6 140 [.ref x, .int j, .int w] E H (some (.int (memberM f n k j w))) := by
  have hx0 := hx
  obtain ⟨g, hL, sa, pb, pl, wr, hxo, hxt, hgs, hrs⟩ := hx
  have hgs0 := hgs
  obtain ⟨c, L, arr, cap, M, arr2, cap2, b, md, md2, xs, ys, hgx, hgt, hvk⟩ := hgs
  have hgx0 := hgx
  have hvk0 := hvk
  obtain ⟨hg, hcx, hrl, hal, hmb, hbl⟩ := hgx
  obtain ⟨hn0, hn24, hk0, hk10, hrok, hmok⟩ := hvk
  have hc0 := hcx.1
  have hcr : CR E c n (ruA f) H := ⟨L, md, arr, cap, xs, hcx.1, hcx.2, hrl⟩
  refine Ct.ofZ (by decide) (Nat.le_of_ble_eq_true rfl) ?_
  intro p e s m bl mt cd ls Q hF hW hH hl hend
  obtain ⟨F, hin⟩ := hF
  have hx := F.1
  have hb := F.2.1
  have hts := F.2.2.2.2
  have hl : lv_has ls 4 [(0, .ref x), (1, .int j), (2, .int w)] := hl
  have hS : va_S (fun _ => False) H H [] := va_S.rf
  obtain ⟨cC, hat⟩ := cat (ci := 6) hW rfl
  refine lv_aload_n hx hb dX0_member_0 rfl (lv_at hl 0 rfl) ?_
  refine xget (ref := "LayeredCharters") (ci := 0) (v := .ref g) (C := RX0) (T := TX0) (N := 6) F in_X0 hW hxo rfl 0 (by decide) q177 (fun _ h9 => h9) rfl dX0_member_1 ?_
  refine lv_iload_n hx hb dX0_member_4 rfl (lv_at hl 1 rfl) ?_
  refine run_ro (w := .int (b2i (inR j 0 (nI k - 1)))) (rest := []) (kV F hW (metX1_hasMember l E H g c L arr cap M arr2 cap2 b md md2 xs ys n (ruA f) k (mbA f) (f 2) (fun j => f (3 + j)) (f 8) hgx0 j) (lw_V q714 q715 q716 q43 q717) hdX1_hasMember ⟨Nat.le_of_ble_eq_true rfl, Nat.le_of_ble_eq_true rfl⟩ (recv hW hg rfl) hl.1 rfl (Nat.le_of_ble_eq_true rfl) dX0_member_5 ⟨Nat.le_of_ble_eq_true rfl, Nat.le_of_ble_eq_true rfl⟩) ?_
  refine lv_if_ne (tgt := 13) hx hb dX0_member_8 (by decide) (fun c_1 => ?_) (fun c_1 => ?_)
  · skip
    have bc_1 := c_1
    have c_1 := b2i_t c_1
    refine lv_aload_n hx hb dX0_member_13 rfl (lv_at hl 0 rfl) ?_
    refine xget (ref := "LayeredCharters") (ci := 0) (v := .ref g) (C := RX0) (T := TX0) (N := 6) F in_X0 hW hxo rfl 0 (by decide) q177 (fun _ h9 => h9) rfl dX0_member_14 ?_
    refine xget (ref := "LayeredCharters$Guild") (ci := 1) (v := .ref M) (C := RX1) (T := TX1) (N := 5) F in_X1 hW hg rfl 1 (by decide) q122 (fun _ h9 => h9) rfl dX0_member_17 ?_
    refine lv_iload_n hx hb dX0_member_20 rfl (lv_at hl 1 rfl) ?_
    obtain ⟨i, hi, eri⟩ := idx_of c_1 (by omega)
    obtain ⟨y_i, hgy⟩ : ∃ y, ys[i]? = some y := ⟨_, List.getElem?_eq_getElem (show i < ys.length by rw [hmb.1]; exact hi)⟩
    have hyi := hmb.2.2.2 i y_i hgy
    refine lv_val (y := nI i) eri ?_
    refine run_ro5 (w := .ref y_i) (rest := []) (kF (x := ⟨"java/util/List", "get", "(I)Ljava/lang/Object;"⟩) F hW (metJ2_get l E H M arr2 cap2 i y_i ys md2 hal hgy) (by decide +kernel) hat q433 q307 q309 q47 q311 hdJ2_getF ⟨Nat.le_of_ble_eq_true rfl, Nat.le_of_ble_eq_true rfl⟩ (recv hW hal.1 rfl) hl.1 rfl (Nat.le_of_ble_eq_true rfl) dX0_member_21 ⟨Nat.le_of_ble_eq_true rfl, Nat.le_of_ble_eq_true rfl⟩) ?_
    refine xcast (ci := 4) F hW hyi rfl q708 dX0_member_26 ?_
    refine lv_astore_n (lv' := [(3, .ref y_i), (0, .ref x), (1, .int j), (2, .int w)]) hx hb dX0_member_29 rfl hl (by decide) rfl (fun ls hl => ?_)
    refine lv_iload_n hx hb dX0_member_30 rfl (lv_at hl 3 rfl) ?_
    by_cases c_2 : w = 0
    · skip
      refine lv_tableIn (off := 33) (tgt := 64) hx hb dX0_member_31 (by rw [c_2]; decide) (by rw [c_2]; decide) (by rw [c_2]; rfl) (by decide) ?_
      refine lv_aload_n hx hb dX0_member_64 rfl (lv_at hl 0 rfl) ?_
      refine xget (ref := "LayeredCharters$Member") (ci := 4) (v := .int ((mbA f i).1)) (C := RX5) (T := TX5) (N := 4) F in_X5 hW hyi rfl 0 (by decide) q335 (fun _ h9 => h9) rfl dX0_member_65 ?_
      exact hend _ _ _ _ _ _ _ rfl dX0_member_68 (⟨congrArg (fun z : Int32 => some (Value.int z)) (by subst eri; simp [memberM, mbA, ix_nI (show i < 2 ^ 31 by omega), c_1, c_2]), rfl⟩) hS (Nat.zero_le _) (Nat.zero_le _)
    by_cases c_3 : w = 1
    · skip
      refine lv_tableIn (off := 38) (tgt := 69) hx hb dX0_member_31 (by rw [c_3]; decide) (by rw [c_3]; decide) (by rw [c_3]; rfl) (by decide) ?_
      refine lv_aload_n hx hb dX0_member_69 rfl (lv_at hl 0 rfl) ?_
      refine xget (ref := "LayeredCharters$Member") (ci := 4) (v := .int ((mbA f i).2.1)) (C := RX5) (T := TX5) (N := 4) F in_X5 hW hyi rfl 1 (by decide) q338 (fun _ h9 => h9) rfl dX0_member_70 ?_
      exact hend _ _ _ _ _ _ _ rfl dX0_member_73 (⟨congrArg (fun z : Int32 => some (Value.int z)) (by subst eri; simp [memberM, mbA, ix_nI (show i < 2 ^ 31 by omega), c_1, c_2, c_3]), rfl⟩) hS (Nat.zero_le _) (Nat.zero_le _)
    by_cases c_4 : w = 2
    · skip
      refine lv_tableIn (off := 43) (tgt := 74) hx hb dX0_member_31 (by rw [c_4]; decide) (by rw [c_4]; decide) (by rw [c_4]; rfl) (by decide) ?_
      refine lv_aload_n hx hb dX0_member_74 rfl (lv_at hl 1 rfl) ?_
      refine lv_aload_n hx hb dX0_member_75 rfl (lv_at hl 0 rfl) ?_
      refine run_ro (w := .int (mdM (ruA f) n (mbA f i).1 (mbA f i).2.1 6)) (rest := []) (kV F hW (metX0_allowedTo l E H tg x f n k hist sl z pd gl ln hx0 y_i (mbA f i) hyi) (lw_V q793 q795 qs13 q42 q796) hdX0_allowedTo ⟨Nat.le_of_ble_eq_true rfl, Nat.le_of_ble_eq_true rfl⟩ (recv hW hxo rfl) hl.1 rfl (Nat.le_of_ble_eq_true rfl) dX0_member_76 ⟨Nat.le_of_ble_eq_true rfl, Nat.le_of_ble_eq_true rfl⟩) ?_
      exact hend _ _ _ _ _ _ _ rfl dX0_member_79 (⟨congrArg (fun z : Int32 => some (Value.int z)) (by subst eri; simp [memberM, mbA, ix_nI (show i < 2 ^ 31 by omega), c_1, c_2, c_3, c_4]), rfl⟩) hS (Nat.zero_le _) (Nat.zero_le _)
    by_cases c_5 : w = 3
    · skip
      refine lv_tableIn (off := 49) (tgt := 80) hx hb dX0_member_31 (by rw [c_5]; decide) (by rw [c_5]; decide) (by rw [c_5]; rfl) (by decide) ?_
      refine lv_aload_n hx hb dX0_member_80 rfl (lv_at hl 0 rfl) ?_
      refine xget (ref := "LayeredCharters$Member") (ci := 4) (v := .int ((mbA f i).2.2.1)) (C := RX5) (T := TX5) (N := 4) F in_X5 hW hyi rfl 2 (by decide) q341 (fun _ h9 => h9) rfl dX0_member_81 ?_
      exact hend _ _ _ _ _ _ _ rfl dX0_member_84 (⟨congrArg (fun z : Int32 => some (Value.int z)) (by subst eri; simp [memberM, mbA, ix_nI (show i < 2 ^ 31 by omega), c_1, c_2, c_3, c_4, c_5]), rfl⟩) hS (Nat.zero_le _) (Nat.zero_le _)
    by_cases c_6 : w = 4
    · skip
      refine lv_tableIn (off := 54) (tgt := 85) hx hb dX0_member_31 (by rw [c_6]; decide) (by rw [c_6]; decide) (by rw [c_6]; rfl) (by decide) ?_
      refine lv_aload_n hx hb dX0_member_85 rfl (lv_at hl 0 rfl) ?_
      refine xget (ref := "LayeredCharters$Member") (ci := 4) (v := .int ((mbA f i).2.2.2)) (C := RX5) (T := TX5) (N := 4) F in_X5 hW hyi rfl 3 (by decide) q344 (fun _ h9 => h9) rfl dX0_member_86 ?_
      exact hend _ _ _ _ _ _ _ rfl dX0_member_89 (⟨congrArg (fun z : Int32 => some (Value.int z)) (by subst eri; simp [memberM, mbA, ix_nI (show i < 2 ^ 31 by omega), c_1, c_2, c_3, c_4, c_5, c_6]), rfl⟩) hS (Nat.zero_le _) (Nat.zero_le _)
    refine lv_tableOut (tgt := 90) hx hb dX0_member_31 (by have h0 := lv_neT (a := 0) c_2 rfl; have h1 := lv_neT (a := 1) c_3 rfl; have h2 := lv_neT (a := 2) c_4 rfl; have h3 := lv_neT (a := 3) c_5 rfl; have h4 := lv_neT (a := 4) c_6 rfl; omega) (by decide) ?_
    refine lv_bipush (v := (-2)) hx hb dX0_member_90 (by decide) ?_
    exact hend _ _ _ _ _ _ _ rfl dX0_member_92 (⟨congrArg (fun z : Int32 => some (Value.int z)) (by subst eri; simp [memberM, mbA, ix_nI (show i < 2 ^ 31 by omega), c_1, c_2, c_3, c_4, c_5, c_6]), rfl⟩) hS (Nat.zero_le _) (Nat.zero_le _)
  · skip
    have bc_1 := c_1
    have c_1 := b2i_f c_1
    refine lv_iconst (v := (-1)) hx hb dX0_member_11 (by decide) ?_
    exact hend _ _ _ _ _ _ _ rfl dX0_member_12 (⟨congrArg (fun z : Int32 => some (Value.int z)) (by simp [memberM, c_1]), rfl⟩) hS (Nat.zero_le _) (Nat.zero_le _)

