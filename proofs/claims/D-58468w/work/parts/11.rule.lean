/-! RANGES, RULE: contracts -/
set_option maxRecDepth 100000
def inR (v a b : Int32) : Bool := !decide (v < a) && !decide (b < v)
def fitsV (v : RV) (c d : Int32) : Bool := (v.2.2.1 == 5 || v.2.2.1 == c) && (v.2.2.2.1 == 6 || v.2.2.2.1 == d)
def meetsV (v w : RV) : Bool := (v.2.2.1 == 5 || w.2.2.1 == 5 || v.2.2.1 == w.2.2.1) && (v.2.2.2.1 == 6 || w.2.2.2.1 == 6 || v.2.2.2.1 == w.2.2.2.1)
def oddsV (v w : RV) : Bool := (decide (v.2.1 = 1) != decide (w.2.1 = 1)) && meetsV v w
def liftsV (v ban : RV) (c d : Int32) : Bool := v.2.1 == 2 && (fitsV v c d && (!decide (ban.1 < v.1) && !decide (v.2.2.2.2 < ban.2.2.2.2)))
def pairsV (v : RV) : Int32 := (if v.2.2.1 = 5 then 5 else 1) * (if v.2.2.2.1 = 6 then 6 else 1)
theorem inR_iff {v a b : Int32} : inR v a b = true ↔ a.toInt ≤ v.toInt ∧ v.toInt ≤ b.toInt := by
  unfold inR
  simp only [Bool.and_eq_true, Bool.not_eq_true', decide_eq_false_iff_not, Int32.not_lt, Int32.le_iff_toInt_le]
theorem nat_of {x : Int32} {b : Nat} (h0 : 0 ≤ x.toInt) (h1 : x.toInt ≤ b) (hb : b < 2 ^ 31) : ∃ i : Nat, i ≤ b ∧ x = nI i := by
  refine ⟨x.toInt.toNat, by omega, ?_⟩
  apply Int32.toInt_inj.mp
  rw [nI_toInt (by omega)]
  omega
theorem idx_of {r : Int32} {n : Nat} (h : inR r 0 (nI n - 1) = true) (hn : n ≤ 100000) : ∃ i : Nat, i < n ∧ r = nI i := by
  obtain ⟨h0, h1⟩ := inR_iff.mp h
  rw [show nI n - 1 = nI n - nI 1 from rfl, pk_sub_toInt (by omega) (by decide)] at h1
  have h0 : (0 : Int) ≤ r.toInt := h0
  obtain ⟨i, hi, e⟩ := nat_of (x := r) (b := n) h0 (by omega) (by omega)
  refine ⟨i, ?_, e⟩
  rw [e, nI_toInt (by omega)] at h1
  omega
theorem idx_in {n i : Nat} (hi : i < n) (hn : n ≤ 100000) : inR (nI i) 0 (nI n - 1) = true := by
  refine inR_iff.mpr ⟨?_, ?_⟩
  · rw [nI_toInt (by omega)]; exact Int.natCast_nonneg i
  · rw [show nI n - 1 = nI n - nI 1 from rfl, pk_sub_toInt (by omega) (by decide), nI_toInt (by omega)]; omega
theorem rng_of {v : Int32} {b : Nat} (h : inR v 0 (nI b) = true) (hb : b < 2 ^ 31) : ∃ i : Nat, i ≤ b ∧ v = nI i := by
  obtain ⟨h0, h1⟩ := inR_iff.mp h
  rw [nI_toInt hb] at h1
  exact nat_of h0 h1 hb
theorem hdX4_holds : Hd yX4_holds 3 := by decide +kernel
set_option maxHeartbeats 1000000 in
set_option maxRecDepth 100000 in
theorem metX4_holds (l : Launch) (E : EV) (H : Heap) (v a b : Int32) : Ro l yX4_holds cX4_holds 3 (some .boolean) 0 0 [.int v, .int a, .int b] E H (some (.int (b2i (inR v a b)))) := by
  refine Ct.ofZ (by decide) (Nat.le_of_ble_eq_true rfl) ?_
  intro p e s m bl mt cd ls Q hF hW hH hl hend
  obtain ⟨F, hin⟩ := hF
  have hx := F.1
  have hb := F.2.1
  have hts := F.2.2.2.2
  have hl : lv_has ls 3 [(0, .int v), (1, .int a), (2, .int b)] := hl
  have hS : va_S (fun _ => False) H H [] := va_S.rf
  refine lv_iload_n hx hb dX4_holds_0 rfl (lv_at hl 0 rfl) ?_
  refine lv_iload_n hx hb dX4_holds_1 rfl (lv_at hl 1 rfl) ?_
  refine lv_icmp_lt (tgt := 14) hx hb dX4_holds_2 (by decide) (fun c_1 => ?_) (fun c_1 => ?_)
  · skip
    refine lv_iconst (v := 0) hx hb dX4_holds_14 (by decide) ?_
    exact hend _ _ _ _ _ _ _ rfl dX4_holds_15 (⟨congrArg (fun z : Int32 => some (Value.int z)) (by simp [b2i, inR, c_1]), rfl⟩) hS (Nat.zero_le _) (Nat.zero_le _)
  · skip
    refine lv_iload_n hx hb dX4_holds_5 rfl (lv_at hl 0 rfl) ?_
    refine lv_iload_n hx hb dX4_holds_6 rfl (lv_at hl 2 rfl) ?_
    refine lv_icmp_gt (tgt := 14) hx hb dX4_holds_7 (by decide) (fun c_2 => ?_) (fun c_2 => ?_)
    · skip
      refine lv_iconst (v := 0) hx hb dX4_holds_14 (by decide) ?_
      exact hend _ _ _ _ _ _ _ rfl dX4_holds_15 (⟨congrArg (fun z : Int32 => some (Value.int z)) (by simp [b2i, inR, c_1, c_2]), rfl⟩) hS (Nat.zero_le _) (Nat.zero_le _)
    · skip
      refine lv_iconst (v := 1) hx hb dX4_holds_10 (by decide) ?_
      refine lv_goto (tgt := 15) hx hb dX4_holds_11 (by decide) ?_
      exact hend _ _ _ _ _ _ _ rfl dX4_holds_15 (⟨congrArg (fun z : Int32 => some (Value.int z)) (by simp [b2i, inR, c_1, c_2]), rfl⟩) hS (Nat.zero_le _) (Nat.zero_le _)

theorem hdX4_isLayer : Hd yX4_isLayer 1 := by decide +kernel
set_option maxHeartbeats 1000000 in
set_option maxRecDepth 100000 in
theorem metX4_isLayer (l : Launch) (E : EV) (H : Heap) (v : Int32) : Ro l yX4_isLayer cX4_isLayer 1 (some .boolean) 1 22 [.int v] E H (some (.int (b2i (inR v 0 4)))) := by
  refine Ct.ofZ (by decide) (Nat.le_of_ble_eq_true rfl) ?_
  intro p e s m bl mt cd ls Q hF hW hH hl hend
  obtain ⟨F, hin⟩ := hF
  have hx := F.1
  have hb := F.2.1
  have hts := F.2.2.2.2
  have hl : lv_has ls 1 [(0, .int v)] := hl
  have hS : va_S (fun _ => False) H H [] := va_S.rf
  refine lv_iload_n hx hb dX4_isLayer_0 rfl (lv_at hl 0 rfl) ?_
  refine lv_iconst (v := 0) hx hb dX4_isLayer_1 (by decide) ?_
  refine lv_iconst (v := 4) hx hb dX4_isLayer_2 (by decide) ?_
  refine run_ro (w := .int (b2i (inR v 0 4))) (rest := []) (kS F hW (metX4_holds l E H v 0 4) (lw_S q203 q204 q53 q205) hdX4_holds ⟨Nat.le_of_ble_eq_true rfl, Nat.le_of_ble_eq_true rfl⟩ hl.1 rfl (Nat.le_of_ble_eq_true rfl) dX4_isLayer_3 ⟨Nat.le_of_ble_eq_true rfl, Nat.le_of_ble_eq_true rfl⟩) ?_
  exact hend _ _ _ _ _ _ _ (b2i_nar _) dX4_isLayer_6 (⟨congrArg (fun z : Int32 => some (Value.int z)) (rfl), rfl⟩) hS (Nat.zero_le _) (Nat.zero_le _)

theorem hdX4_isCraft : Hd yX4_isCraft 1 := by decide +kernel
set_option maxHeartbeats 1000000 in
set_option maxRecDepth 100000 in
theorem metX4_isCraft (l : Launch) (E : EV) (H : Heap) (v : Int32) : Ro l yX4_isCraft cX4_isCraft 1 (some .boolean) 1 22 [.int v] E H (some (.int (b2i (inR v 0 4)))) := by
  refine Ct.ofZ (by decide) (Nat.le_of_ble_eq_true rfl) ?_
  intro p e s m bl mt cd ls Q hF hW hH hl hend
  obtain ⟨F, hin⟩ := hF
  have hx := F.1
  have hb := F.2.1
  have hts := F.2.2.2.2
  have hl : lv_has ls 1 [(0, .int v)] := hl
  have hS : va_S (fun _ => False) H H [] := va_S.rf
  refine lv_iload_n hx hb dX4_isCraft_0 rfl (lv_at hl 0 rfl) ?_
  refine lv_iconst (v := 0) hx hb dX4_isCraft_1 (by decide) ?_
  refine lv_iconst (v := 4) hx hb dX4_isCraft_2 (by decide) ?_
  refine run_ro (w := .int (b2i (inR v 0 4))) (rest := []) (kS F hW (metX4_holds l E H v 0 4) (lw_S q203 q204 q53 q205) hdX4_holds ⟨Nat.le_of_ble_eq_true rfl, Nat.le_of_ble_eq_true rfl⟩ hl.1 rfl (Nat.le_of_ble_eq_true rfl) dX4_isCraft_3 ⟨Nat.le_of_ble_eq_true rfl, Nat.le_of_ble_eq_true rfl⟩) ?_
  exact hend _ _ _ _ _ _ _ (b2i_nar _) dX4_isCraft_6 (⟨congrArg (fun z : Int32 => some (Value.int z)) (rfl), rfl⟩) hS (Nat.zero_le _) (Nat.zero_le _)

theorem hdX4_isDeed : Hd yX4_isDeed 1 := by decide +kernel
set_option maxHeartbeats 1000000 in
set_option maxRecDepth 100000 in
theorem metX4_isDeed (l : Launch) (E : EV) (H : Heap) (v : Int32) : Ro l yX4_isDeed cX4_isDeed 1 (some .boolean) 1 22 [.int v] E H (some (.int (b2i (inR v 0 5)))) := by
  refine Ct.ofZ (by decide) (Nat.le_of_ble_eq_true rfl) ?_
  intro p e s m bl mt cd ls Q hF hW hH hl hend
  obtain ⟨F, hin⟩ := hF
  have hx := F.1
  have hb := F.2.1
  have hts := F.2.2.2.2
  have hl : lv_has ls 1 [(0, .int v)] := hl
  have hS : va_S (fun _ => False) H H [] := va_S.rf
  refine lv_iload_n hx hb dX4_isDeed_0 rfl (lv_at hl 0 rfl) ?_
  refine lv_iconst (v := 0) hx hb dX4_isDeed_1 (by decide) ?_
  refine lv_iconst (v := 5) hx hb dX4_isDeed_2 (by decide) ?_
  refine run_ro (w := .int (b2i (inR v 0 5))) (rest := []) (kS F hW (metX4_holds l E H v 0 5) (lw_S q203 q204 q53 q205) hdX4_holds ⟨Nat.le_of_ble_eq_true rfl, Nat.le_of_ble_eq_true rfl⟩ hl.1 rfl (Nat.le_of_ble_eq_true rfl) dX4_isDeed_3 ⟨Nat.le_of_ble_eq_true rfl, Nat.le_of_ble_eq_true rfl⟩) ?_
  exact hend _ _ _ _ _ _ _ (b2i_nar _) dX4_isDeed_6 (⟨congrArg (fun z : Int32 => some (Value.int z)) (rfl), rfl⟩) hS (Nat.zero_le _) (Nat.zero_le _)

theorem hdX4_isSeal : Hd yX4_isSeal 1 := by decide +kernel
set_option maxHeartbeats 1000000 in
set_option maxRecDepth 100000 in
theorem metX4_isSeal (l : Launch) (E : EV) (H : Heap) (v : Int32) : Ro l yX4_isSeal cX4_isSeal 1 (some .boolean) 1 22 [.int v] E H (some (.int (b2i (inR v 1 9)))) := by
  refine Ct.ofZ (by decide) (Nat.le_of_ble_eq_true rfl) ?_
  intro p e s m bl mt cd ls Q hF hW hH hl hend
  obtain ⟨F, hin⟩ := hF
  have hx := F.1
  have hb := F.2.1
  have hts := F.2.2.2.2
  have hl : lv_has ls 1 [(0, .int v)] := hl
  have hS : va_S (fun _ => False) H H [] := va_S.rf
  refine lv_iload_n hx hb dX4_isSeal_0 rfl (lv_at hl 0 rfl) ?_
  refine lv_iconst (v := 1) hx hb dX4_isSeal_1 (by decide) ?_
  refine lv_bipush (v := 9) hx hb dX4_isSeal_2 (by decide) ?_
  refine run_ro (w := .int (b2i (inR v 1 9))) (rest := []) (kS F hW (metX4_holds l E H v 1 9) (lw_S q203 q204 q53 q205) hdX4_holds ⟨Nat.le_of_ble_eq_true rfl, Nat.le_of_ble_eq_true rfl⟩ hl.1 rfl (Nat.le_of_ble_eq_true rfl) dX4_isSeal_4 ⟨Nat.le_of_ble_eq_true rfl, Nat.le_of_ble_eq_true rfl⟩) ?_
  exact hend _ _ _ _ _ _ _ (b2i_nar _) dX4_isSeal_7 (⟨congrArg (fun z : Int32 => some (Value.int z)) (rfl), rfl⟩) hS (Nat.zero_le _) (Nat.zero_le _)

theorem hdX4_isRank : Hd yX4_isRank 1 := by decide +kernel
set_option maxHeartbeats 1000000 in
set_option maxRecDepth 100000 in
theorem metX4_isRank (l : Launch) (E : EV) (H : Heap) (v : Int32) : Ro l yX4_isRank cX4_isRank 1 (some .boolean) 1 22 [.int v] E H (some (.int (b2i (inR v 0 9)))) := by
  refine Ct.ofZ (by decide) (Nat.le_of_ble_eq_true rfl) ?_
  intro p e s m bl mt cd ls Q hF hW hH hl hend
  obtain ⟨F, hin⟩ := hF
  have hx := F.1
  have hb := F.2.1
  have hts := F.2.2.2.2
  have hl : lv_has ls 1 [(0, .int v)] := hl
  have hS : va_S (fun _ => False) H H [] := va_S.rf
  refine lv_iload_n hx hb dX4_isRank_0 rfl (lv_at hl 0 rfl) ?_
  refine lv_iconst (v := 0) hx hb dX4_isRank_1 (by decide) ?_
  refine lv_bipush (v := 9) hx hb dX4_isRank_2 (by decide) ?_
  refine run_ro (w := .int (b2i (inR v 0 9))) (rest := []) (kS F hW (metX4_holds l E H v 0 9) (lw_S q203 q204 q53 q205) hdX4_holds ⟨Nat.le_of_ble_eq_true rfl, Nat.le_of_ble_eq_true rfl⟩ hl.1 rfl (Nat.le_of_ble_eq_true rfl) dX4_isRank_4 ⟨Nat.le_of_ble_eq_true rfl, Nat.le_of_ble_eq_true rfl⟩) ?_
  exact hend _ _ _ _ _ _ _ (b2i_nar _) dX4_isRank_7 (⟨congrArg (fun z : Int32 => some (Value.int z)) (rfl), rfl⟩) hS (Nat.zero_le _) (Nat.zero_le _)

theorem hdX6_fits : Hd yX6_fits 2 := by decide +kernel
set_option maxHeartbeats 1000000 in
set_option maxRecDepth 100000 in
theorem metX6_fits (l : Launch) (E : EV) (H : Heap) (r : Nat) (v : RV) (h : oat E r 5 (rvF v) H) (c d : Int32) : Ro l yX6_fits cX6_fits 3 (some .boolean) 0 0 [.ref r, .int c, .int d] E H (some (.int (b2i (fitsV v c d)))) := by
  refine Ct.ofZ (by decide) (Nat.le_of_ble_eq_true rfl) ?_
  intro p e s m bl mt cd ls Q hF hW hH hl hend
  obtain ⟨F, hin⟩ := hF
  have hx := F.1
  have hb := F.2.1
  have hts := F.2.2.2.2
  have hl : lv_has ls 3 [(0, .ref r), (1, .int c), (2, .int d)] := hl
  have hS : va_S (fun _ => False) H H [] := va_S.rf
  refine lv_aload_n hx hb dX6_fits_0 rfl (lv_at hl 0 rfl) ?_
  refine xget (ref := "LayeredCharters$Rule") (ci := 5) (v := .int v.2.2.1) (C := RX6) (T := TX6) (N := 5) F in_X6 hW h rfl 2 (by decide) q399 (fun _ h9 => h9) rfl dX6_fits_1 ?_
  refine lv_iconst (v := 5) hx hb dX6_fits_4 (by decide) ?_
  refine lv_icmp_eq (tgt := 16) hx hb dX6_fits_5 (by decide) (fun c_1 => ?_) (fun c_1 => ?_)
  · skip
    refine lv_aload_n hx hb dX6_fits_16 rfl (lv_at hl 0 rfl) ?_
    refine xget (ref := "LayeredCharters$Rule") (ci := 5) (v := .int v.2.2.2.1) (C := RX6) (T := TX6) (N := 5) F in_X6 hW h rfl 3 (by decide) q401 (fun _ h9 => h9) rfl dX6_fits_17 ?_
    refine lv_bipush (v := 6) hx hb dX6_fits_20 (by decide) ?_
    refine lv_icmp_eq (tgt := 33) hx hb dX6_fits_22 (by decide) (fun c_2 => ?_) (fun c_2 => ?_)
    · skip
      refine lv_iconst (v := 1) hx hb dX6_fits_33 (by decide) ?_
      refine lv_goto (tgt := 38) hx hb dX6_fits_34 (by decide) ?_
      exact hend _ _ _ _ _ _ _ rfl dX6_fits_38 (⟨congrArg (fun z : Int32 => some (Value.int z)) (by simp [b2i, fitsV, c_1, c_2]), rfl⟩) hS (Nat.zero_le _) (Nat.zero_le _)
    · skip
      refine lv_aload_n hx hb dX6_fits_25 rfl (lv_at hl 0 rfl) ?_
      refine xget (ref := "LayeredCharters$Rule") (ci := 5) (v := .int v.2.2.2.1) (C := RX6) (T := TX6) (N := 5) F in_X6 hW h rfl 3 (by decide) q401 (fun _ h9 => h9) rfl dX6_fits_26 ?_
      refine lv_iload_n hx hb dX6_fits_29 rfl (lv_at hl 2 rfl) ?_
      refine lv_icmp_ne (tgt := 37) hx hb dX6_fits_30 (by decide) (fun c_3 => ?_) (fun c_3 => ?_)
      · skip
        refine lv_iconst (v := 0) hx hb dX6_fits_37 (by decide) ?_
        exact hend _ _ _ _ _ _ _ rfl dX6_fits_38 (⟨congrArg (fun z : Int32 => some (Value.int z)) (by simp [b2i, fitsV, c_1, c_2, c_3]), rfl⟩) hS (Nat.zero_le _) (Nat.zero_le _)
      · skip
        refine lv_iconst (v := 1) hx hb dX6_fits_33 (by decide) ?_
        refine lv_goto (tgt := 38) hx hb dX6_fits_34 (by decide) ?_
        exact hend _ _ _ _ _ _ _ rfl dX6_fits_38 (⟨congrArg (fun z : Int32 => some (Value.int z)) (by simp [b2i, fitsV, c_1, c_2, c_3]), rfl⟩) hS (Nat.zero_le _) (Nat.zero_le _)
  · skip
    refine lv_aload_n hx hb dX6_fits_8 rfl (lv_at hl 0 rfl) ?_
    refine xget (ref := "LayeredCharters$Rule") (ci := 5) (v := .int v.2.2.1) (C := RX6) (T := TX6) (N := 5) F in_X6 hW h rfl 2 (by decide) q399 (fun _ h9 => h9) rfl dX6_fits_9 ?_
    refine lv_iload_n hx hb dX6_fits_12 rfl (lv_at hl 1 rfl) ?_
    refine lv_icmp_ne (tgt := 37) hx hb dX6_fits_13 (by decide) (fun c_4 => ?_) (fun c_4 => ?_)
    · skip
      refine lv_iconst (v := 0) hx hb dX6_fits_37 (by decide) ?_
      exact hend _ _ _ _ _ _ _ rfl dX6_fits_38 (⟨congrArg (fun z : Int32 => some (Value.int z)) (by simp [b2i, fitsV, c_1, c_4]), rfl⟩) hS (Nat.zero_le _) (Nat.zero_le _)
    · skip
      refine lv_aload_n hx hb dX6_fits_16 rfl (lv_at hl 0 rfl) ?_
      refine xget (ref := "LayeredCharters$Rule") (ci := 5) (v := .int v.2.2.2.1) (C := RX6) (T := TX6) (N := 5) F in_X6 hW h rfl 3 (by decide) q401 (fun _ h9 => h9) rfl dX6_fits_17 ?_
      refine lv_bipush (v := 6) hx hb dX6_fits_20 (by decide) ?_
      refine lv_icmp_eq (tgt := 33) hx hb dX6_fits_22 (by decide) (fun c_5 => ?_) (fun c_5 => ?_)
      · skip
        refine lv_iconst (v := 1) hx hb dX6_fits_33 (by decide) ?_
        refine lv_goto (tgt := 38) hx hb dX6_fits_34 (by decide) ?_
        exact hend _ _ _ _ _ _ _ rfl dX6_fits_38 (⟨congrArg (fun z : Int32 => some (Value.int z)) (by simp [b2i, fitsV, c_1, c_4, c_5]), rfl⟩) hS (Nat.zero_le _) (Nat.zero_le _)
      · skip
        refine lv_aload_n hx hb dX6_fits_25 rfl (lv_at hl 0 rfl) ?_
        refine xget (ref := "LayeredCharters$Rule") (ci := 5) (v := .int v.2.2.2.1) (C := RX6) (T := TX6) (N := 5) F in_X6 hW h rfl 3 (by decide) q401 (fun _ h9 => h9) rfl dX6_fits_26 ?_
        refine lv_iload_n hx hb dX6_fits_29 rfl (lv_at hl 2 rfl) ?_
        refine lv_icmp_ne (tgt := 37) hx hb dX6_fits_30 (by decide) (fun c_6 => ?_) (fun c_6 => ?_)
        · skip
          refine lv_iconst (v := 0) hx hb dX6_fits_37 (by decide) ?_
          exact hend _ _ _ _ _ _ _ rfl dX6_fits_38 (⟨congrArg (fun z : Int32 => some (Value.int z)) (by simp [b2i, fitsV, c_1, c_4, c_5, c_6]), rfl⟩) hS (Nat.zero_le _) (Nat.zero_le _)
        · skip
          refine lv_iconst (v := 1) hx hb dX6_fits_33 (by decide) ?_
          refine lv_goto (tgt := 38) hx hb dX6_fits_34 (by decide) ?_
          exact hend _ _ _ _ _ _ _ rfl dX6_fits_38 (⟨congrArg (fun z : Int32 => some (Value.int z)) (by simp [b2i, fitsV, c_1, c_4, c_5, c_6]), rfl⟩) hS (Nat.zero_le _) (Nat.zero_le _)

theorem hdX6_meets : Hd yX6_meets 1 := by decide +kernel
set_option maxHeartbeats 1000000 in
set_option maxRecDepth 100000 in
theorem metX6_meets (l : Launch) (E : EV) (H : Heap) (r : Nat) (v : RV) (h : oat E r 5 (rvF v) H) (r2 : Nat) (v2 : RV) (h2 : oat E r2 5 (rvF v2) H) : Ro l yX6_meets cX6_meets 3 (some .boolean) 0 0 [.ref r, .ref r2] E H (some (.int (b2i (meetsV v v2)))) := by
  refine Ct.ofZ (by decide) (Nat.le_of_ble_eq_true rfl) ?_
  intro p e s m bl mt cd ls Q hF hW hH hl hend
  obtain ⟨F, hin⟩ := hF
  have hx := F.1
  have hb := F.2.1
  have hts := F.2.2.2.2
  have hl : lv_has ls 3 [(0, .ref r), (1, .ref r2)] := hl
  have hS : va_S (fun _ => False) H H [] := va_S.rf
  refine lv_aload_n hx hb dX6_meets_0 rfl (lv_at hl 0 rfl) ?_
  refine xget (ref := "LayeredCharters$Rule") (ci := 5) (v := .int v.2.2.1) (C := RX6) (T := TX6) (N := 5) F in_X6 hW h rfl 2 (by decide) q399 (fun _ h9 => h9) rfl dX6_meets_1 ?_
  refine lv_iconst (v := 5) hx hb dX6_meets_4 (by decide) ?_
  refine lv_icmp_eq (tgt := 27) hx hb dX6_meets_5 (by decide) (fun c_1 => ?_) (fun c_1 => ?_)
  · skip
    refine lv_iconst (v := 1) hx hb dX6_meets_27 (by decide) ?_
    refine lv_goto (tgt := 32) hx hb dX6_meets_28 (by decide) ?_
    refine lv_istore_n (lv' := [(2, .int 1), (0, .ref r), (1, .ref r2)]) hx hb dX6_meets_32 rfl hl (by decide) rfl (fun ls hl => ?_)
    refine lv_iload_n hx hb dX6_meets_33 rfl (lv_at hl 0 rfl) ?_
    refine lv_if_eq (tgt := 70) hx hb dX6_meets_34 (by decide) (fun c9 => absurd c9 (by decide)) (fun _ => ?_)
    refine lv_aload_n hx hb dX6_meets_37 rfl (lv_at hl 1 rfl) ?_
    refine xget (ref := "LayeredCharters$Rule") (ci := 5) (v := .int v.2.2.2.1) (C := RX6) (T := TX6) (N := 5) F in_X6 hW h rfl 3 (by decide) q401 (fun _ h9 => h9) rfl dX6_meets_38 ?_
    refine lv_bipush (v := 6) hx hb dX6_meets_41 (by decide) ?_
    refine lv_icmp_eq (tgt := 66) hx hb dX6_meets_43 (by decide) (fun c_2 => ?_) (fun c_2 => ?_)
    · skip
      refine lv_iconst (v := 1) hx hb dX6_meets_66 (by decide) ?_
      refine lv_goto (tgt := 71) hx hb dX6_meets_67 (by decide) ?_
      exact hend _ _ _ _ _ _ _ rfl dX6_meets_71 (⟨congrArg (fun z : Int32 => some (Value.int z)) (by simp [b2i, meetsV, c_1, c_2]), rfl⟩) hS (Nat.zero_le _) (Nat.zero_le _)
    · skip
      refine lv_aload_n hx hb dX6_meets_46 rfl (lv_at hl 2 rfl) ?_
      refine xget (ref := "LayeredCharters$Rule") (ci := 5) (v := .int v2.2.2.2.1) (C := RX6) (T := TX6) (N := 5) F in_X6 hW h2 rfl 3 (by decide) q401 (fun _ h9 => h9) rfl dX6_meets_47 ?_
      refine lv_bipush (v := 6) hx hb dX6_meets_50 (by decide) ?_
      refine lv_icmp_eq (tgt := 66) hx hb dX6_meets_52 (by decide) (fun c_3 => ?_) (fun c_3 => ?_)
      · skip
        refine lv_iconst (v := 1) hx hb dX6_meets_66 (by decide) ?_
        refine lv_goto (tgt := 71) hx hb dX6_meets_67 (by decide) ?_
        exact hend _ _ _ _ _ _ _ rfl dX6_meets_71 (⟨congrArg (fun z : Int32 => some (Value.int z)) (by simp [b2i, meetsV, c_1, c_2, c_3]), rfl⟩) hS (Nat.zero_le _) (Nat.zero_le _)
      · skip
        refine lv_aload_n hx hb dX6_meets_55 rfl (lv_at hl 1 rfl) ?_
        refine xget (ref := "LayeredCharters$Rule") (ci := 5) (v := .int v.2.2.2.1) (C := RX6) (T := TX6) (N := 5) F in_X6 hW h rfl 3 (by decide) q401 (fun _ h9 => h9) rfl dX6_meets_56 ?_
        refine lv_aload_n hx hb dX6_meets_59 rfl (lv_at hl 2 rfl) ?_
        refine xget (ref := "LayeredCharters$Rule") (ci := 5) (v := .int v2.2.2.2.1) (C := RX6) (T := TX6) (N := 5) F in_X6 hW h2 rfl 3 (by decide) q401 (fun _ h9 => h9) rfl dX6_meets_60 ?_
        refine lv_icmp_ne (tgt := 70) hx hb dX6_meets_63 (by decide) (fun c_4 => ?_) (fun c_4 => ?_)
        · skip
          refine lv_iconst (v := 0) hx hb dX6_meets_70 (by decide) ?_
          exact hend _ _ _ _ _ _ _ rfl dX6_meets_71 (⟨congrArg (fun z : Int32 => some (Value.int z)) (by simp [b2i, meetsV, c_1, c_2, c_3, c_4]), rfl⟩) hS (Nat.zero_le _) (Nat.zero_le _)
        · skip
          refine lv_iconst (v := 1) hx hb dX6_meets_66 (by decide) ?_
          refine lv_goto (tgt := 71) hx hb dX6_meets_67 (by decide) ?_
          exact hend _ _ _ _ _ _ _ rfl dX6_meets_71 (⟨congrArg (fun z : Int32 => some (Value.int z)) (by simp [b2i, meetsV, c_1, c_2, c_3, c_4]), rfl⟩) hS (Nat.zero_le _) (Nat.zero_le _)
  · skip
    refine lv_aload_n hx hb dX6_meets_8 rfl (lv_at hl 1 rfl) ?_
    refine xget (ref := "LayeredCharters$Rule") (ci := 5) (v := .int v2.2.2.1) (C := RX6) (T := TX6) (N := 5) F in_X6 hW h2 rfl 2 (by decide) q399 (fun _ h9 => h9) rfl dX6_meets_9 ?_
    refine lv_iconst (v := 5) hx hb dX6_meets_12 (by decide) ?_
    refine lv_icmp_eq (tgt := 27) hx hb dX6_meets_13 (by decide) (fun c_5 => ?_) (fun c_5 => ?_)
    · skip
      refine lv_iconst (v := 1) hx hb dX6_meets_27 (by decide) ?_
      refine lv_goto (tgt := 32) hx hb dX6_meets_28 (by decide) ?_
      refine lv_istore_n (lv' := [(2, .int 1), (0, .ref r), (1, .ref r2)]) hx hb dX6_meets_32 rfl hl (by decide) rfl (fun ls hl => ?_)
      refine lv_iload_n hx hb dX6_meets_33 rfl (lv_at hl 0 rfl) ?_
      refine lv_if_eq (tgt := 70) hx hb dX6_meets_34 (by decide) (fun c9 => absurd c9 (by decide)) (fun _ => ?_)
      refine lv_aload_n hx hb dX6_meets_37 rfl (lv_at hl 1 rfl) ?_
      refine xget (ref := "LayeredCharters$Rule") (ci := 5) (v := .int v.2.2.2.1) (C := RX6) (T := TX6) (N := 5) F in_X6 hW h rfl 3 (by decide) q401 (fun _ h9 => h9) rfl dX6_meets_38 ?_
      refine lv_bipush (v := 6) hx hb dX6_meets_41 (by decide) ?_
      refine lv_icmp_eq (tgt := 66) hx hb dX6_meets_43 (by decide) (fun c_6 => ?_) (fun c_6 => ?_)
      · skip
        refine lv_iconst (v := 1) hx hb dX6_meets_66 (by decide) ?_
        refine lv_goto (tgt := 71) hx hb dX6_meets_67 (by decide) ?_
        exact hend _ _ _ _ _ _ _ rfl dX6_meets_71 (⟨congrArg (fun z : Int32 => some (Value.int z)) (by simp [b2i, meetsV, c_1, c_5, c_6]), rfl⟩) hS (Nat.zero_le _) (Nat.zero_le _)
      · skip
        refine lv_aload_n hx hb dX6_meets_46 rfl (lv_at hl 2 rfl) ?_
        refine xget (ref := "LayeredCharters$Rule") (ci := 5) (v := .int v2.2.2.2.1) (C := RX6) (T := TX6) (N := 5) F in_X6 hW h2 rfl 3 (by decide) q401 (fun _ h9 => h9) rfl dX6_meets_47 ?_
        refine lv_bipush (v := 6) hx hb dX6_meets_50 (by decide) ?_
        refine lv_icmp_eq (tgt := 66) hx hb dX6_meets_52 (by decide) (fun c_7 => ?_) (fun c_7 => ?_)
        · skip
          refine lv_iconst (v := 1) hx hb dX6_meets_66 (by decide) ?_
          refine lv_goto (tgt := 71) hx hb dX6_meets_67 (by decide) ?_
          exact hend _ _ _ _ _ _ _ rfl dX6_meets_71 (⟨congrArg (fun z : Int32 => some (Value.int z)) (by simp [b2i, meetsV, c_1, c_5, c_6, c_7]), rfl⟩) hS (Nat.zero_le _) (Nat.zero_le _)
        · skip
          refine lv_aload_n hx hb dX6_meets_55 rfl (lv_at hl 1 rfl) ?_
          refine xget (ref := "LayeredCharters$Rule") (ci := 5) (v := .int v.2.2.2.1) (C := RX6) (T := TX6) (N := 5) F in_X6 hW h rfl 3 (by decide) q401 (fun _ h9 => h9) rfl dX6_meets_56 ?_
          refine lv_aload_n hx hb dX6_meets_59 rfl (lv_at hl 2 rfl) ?_
          refine xget (ref := "LayeredCharters$Rule") (ci := 5) (v := .int v2.2.2.2.1) (C := RX6) (T := TX6) (N := 5) F in_X6 hW h2 rfl 3 (by decide) q401 (fun _ h9 => h9) rfl dX6_meets_60 ?_
          refine lv_icmp_ne (tgt := 70) hx hb dX6_meets_63 (by decide) (fun c_8 => ?_) (fun c_8 => ?_)
          · skip
            refine lv_iconst (v := 0) hx hb dX6_meets_70 (by decide) ?_
            exact hend _ _ _ _ _ _ _ rfl dX6_meets_71 (⟨congrArg (fun z : Int32 => some (Value.int z)) (by simp [b2i, meetsV, c_1, c_5, c_6, c_7, c_8]), rfl⟩) hS (Nat.zero_le _) (Nat.zero_le _)
          · skip
            refine lv_iconst (v := 1) hx hb dX6_meets_66 (by decide) ?_
            refine lv_goto (tgt := 71) hx hb dX6_meets_67 (by decide) ?_
            exact hend _ _ _ _ _ _ _ rfl dX6_meets_71 (⟨congrArg (fun z : Int32 => some (Value.int z)) (by simp [b2i, meetsV, c_1, c_5, c_6, c_7, c_8]), rfl⟩) hS (Nat.zero_le _) (Nat.zero_le _)
    · skip
      refine lv_aload_n hx hb dX6_meets_16 rfl (lv_at hl 0 rfl) ?_
      refine xget (ref := "LayeredCharters$Rule") (ci := 5) (v := .int v.2.2.1) (C := RX6) (T := TX6) (N := 5) F in_X6 hW h rfl 2 (by decide) q399 (fun _ h9 => h9) rfl dX6_meets_17 ?_
      refine lv_aload_n hx hb dX6_meets_20 rfl (lv_at hl 1 rfl) ?_
      refine xget (ref := "LayeredCharters$Rule") (ci := 5) (v := .int v2.2.2.1) (C := RX6) (T := TX6) (N := 5) F in_X6 hW h2 rfl 2 (by decide) q399 (fun _ h9 => h9) rfl dX6_meets_21 ?_
      refine lv_icmp_ne (tgt := 31) hx hb dX6_meets_24 (by decide) (fun c_9 => ?_) (fun c_9 => ?_)
      · skip
        refine lv_iconst (v := 0) hx hb dX6_meets_31 (by decide) ?_
        refine lv_istore_n (lv' := [(2, .int 0), (0, .ref r), (1, .ref r2)]) hx hb dX6_meets_32 rfl hl (by decide) rfl (fun ls hl => ?_)
        refine lv_iload_n hx hb dX6_meets_33 rfl (lv_at hl 0 rfl) ?_
        refine lv_if_eq (tgt := 70) hx hb dX6_meets_34 (by decide) (fun _ => ?_) (fun c9 => absurd (by decide) c9)
        refine lv_iconst (v := 0) hx hb dX6_meets_70 (by decide) ?_
        exact hend _ _ _ _ _ _ _ rfl dX6_meets_71 (⟨congrArg (fun z : Int32 => some (Value.int z)) (by simp [b2i, meetsV, c_1, c_5, c_9]), rfl⟩) hS (Nat.zero_le _) (Nat.zero_le _)
      · skip
        refine lv_iconst (v := 1) hx hb dX6_meets_27 (by decide) ?_
        refine lv_goto (tgt := 32) hx hb dX6_meets_28 (by decide) ?_
        refine lv_istore_n (lv' := [(2, .int 1), (0, .ref r), (1, .ref r2)]) hx hb dX6_meets_32 rfl hl (by decide) rfl (fun ls hl => ?_)
        refine lv_iload_n hx hb dX6_meets_33 rfl (lv_at hl 0 rfl) ?_
        refine lv_if_eq (tgt := 70) hx hb dX6_meets_34 (by decide) (fun c9 => absurd c9 (by decide)) (fun _ => ?_)
        refine lv_aload_n hx hb dX6_meets_37 rfl (lv_at hl 1 rfl) ?_
        refine xget (ref := "LayeredCharters$Rule") (ci := 5) (v := .int v.2.2.2.1) (C := RX6) (T := TX6) (N := 5) F in_X6 hW h rfl 3 (by decide) q401 (fun _ h9 => h9) rfl dX6_meets_38 ?_
        refine lv_bipush (v := 6) hx hb dX6_meets_41 (by decide) ?_
        refine lv_icmp_eq (tgt := 66) hx hb dX6_meets_43 (by decide) (fun c_10 => ?_) (fun c_10 => ?_)
        · skip
          refine lv_iconst (v := 1) hx hb dX6_meets_66 (by decide) ?_
          refine lv_goto (tgt := 71) hx hb dX6_meets_67 (by decide) ?_
          exact hend _ _ _ _ _ _ _ rfl dX6_meets_71 (⟨congrArg (fun z : Int32 => some (Value.int z)) (by simp [b2i, meetsV, c_1, c_5, c_9, c_10]), rfl⟩) hS (Nat.zero_le _) (Nat.zero_le _)
        · skip
          refine lv_aload_n hx hb dX6_meets_46 rfl (lv_at hl 2 rfl) ?_
          refine xget (ref := "LayeredCharters$Rule") (ci := 5) (v := .int v2.2.2.2.1) (C := RX6) (T := TX6) (N := 5) F in_X6 hW h2 rfl 3 (by decide) q401 (fun _ h9 => h9) rfl dX6_meets_47 ?_
          refine lv_bipush (v := 6) hx hb dX6_meets_50 (by decide) ?_
          refine lv_icmp_eq (tgt := 66) hx hb dX6_meets_52 (by decide) (fun c_11 => ?_) (fun c_11 => ?_)
          · skip
            refine lv_iconst (v := 1) hx hb dX6_meets_66 (by decide) ?_
            refine lv_goto (tgt := 71) hx hb dX6_meets_67 (by decide) ?_
            exact hend _ _ _ _ _ _ _ rfl dX6_meets_71 (⟨congrArg (fun z : Int32 => some (Value.int z)) (by simp [b2i, meetsV, c_1, c_5, c_9, c_10, c_11]), rfl⟩) hS (Nat.zero_le _) (Nat.zero_le _)
          · skip
            refine lv_aload_n hx hb dX6_meets_55 rfl (lv_at hl 1 rfl) ?_
            refine xget (ref := "LayeredCharters$Rule") (ci := 5) (v := .int v.2.2.2.1) (C := RX6) (T := TX6) (N := 5) F in_X6 hW h rfl 3 (by decide) q401 (fun _ h9 => h9) rfl dX6_meets_56 ?_
            refine lv_aload_n hx hb dX6_meets_59 rfl (lv_at hl 2 rfl) ?_
            refine xget (ref := "LayeredCharters$Rule") (ci := 5) (v := .int v2.2.2.2.1) (C := RX6) (T := TX6) (N := 5) F in_X6 hW h2 rfl 3 (by decide) q401 (fun _ h9 => h9) rfl dX6_meets_60 ?_
            refine lv_icmp_ne (tgt := 70) hx hb dX6_meets_63 (by decide) (fun c_12 => ?_) (fun c_12 => ?_)
            · skip
              refine lv_iconst (v := 0) hx hb dX6_meets_70 (by decide) ?_
              exact hend _ _ _ _ _ _ _ rfl dX6_meets_71 (⟨congrArg (fun z : Int32 => some (Value.int z)) (by simp [b2i, meetsV, c_1, c_5, c_9, c_10, c_11, c_12]), rfl⟩) hS (Nat.zero_le _) (Nat.zero_le _)
            · skip
              refine lv_iconst (v := 1) hx hb dX6_meets_66 (by decide) ?_
              refine lv_goto (tgt := 71) hx hb dX6_meets_67 (by decide) ?_
              exact hend _ _ _ _ _ _ _ rfl dX6_meets_71 (⟨congrArg (fun z : Int32 => some (Value.int z)) (by simp [b2i, meetsV, c_1, c_5, c_9, c_10, c_11, c_12]), rfl⟩) hS (Nat.zero_le _) (Nat.zero_le _)

theorem hdX6_isAtOdds : Hd yX6_isAtOdds 1 := by decide +kernel
set_option maxHeartbeats 1000000 in
set_option maxRecDepth 100000 in
theorem metX6_isAtOdds (l : Launch) (E : EV) (H : Heap) (r : Nat) (v : RV) (h : oat E r 5 (rvF v) H) (r2 : Nat) (v2 : RV) (h2 : oat E r2 5 (rvF v2) H) : Ro l yX6_isAtOdds cX6_isAtOdds 2 (some .boolean) 1 22 [.ref r, .ref r2] E H (some (.int (b2i (oddsV v v2)))) := by
  refine Ct.ofZ (by decide) (Nat.le_of_ble_eq_true rfl) ?_
  intro p e s m bl mt cd ls Q hF hW hH hl hend
  obtain ⟨F, hin⟩ := hF
  have hx := F.1
  have hb := F.2.1
  have hts := F.2.2.2.2
  have hl : lv_has ls 2 [(0, .ref r), (1, .ref r2)] := hl
  have hS : va_S (fun _ => False) H H [] := va_S.rf
  refine lv_aload_n hx hb dX6_isAtOdds_0 rfl (lv_at hl 0 rfl) ?_
  refine xget (ref := "LayeredCharters$Rule") (ci := 5) (v := .int v.2.1) (C := RX6) (T := TX6) (N := 5) F in_X6 hW h rfl 1 (by decide) q396 (fun _ h9 => h9) rfl dX6_isAtOdds_1 ?_
  refine lv_iconst (v := 1) hx hb dX6_isAtOdds_4 (by decide) ?_
  refine lv_icmp_ne (tgt := 12) hx hb dX6_isAtOdds_5 (by decide) (fun c_1 => ?_) (fun c_1 => ?_)
  · skip
    refine lv_iconst (v := 0) hx hb dX6_isAtOdds_12 (by decide) ?_
    refine lv_aload_n hx hb dX6_isAtOdds_13 rfl (lv_at hl 1 rfl) ?_
    refine xget (ref := "LayeredCharters$Rule") (ci := 5) (v := .int v2.2.1) (C := RX6) (T := TX6) (N := 5) F in_X6 hW h2 rfl 1 (by decide) q396 (fun _ h9 => h9) rfl dX6_isAtOdds_14 ?_
    refine lv_iconst (v := 1) hx hb dX6_isAtOdds_17 (by decide) ?_
    refine lv_icmp_ne (tgt := 25) hx hb dX6_isAtOdds_18 (by decide) (fun c_2 => ?_) (fun c_2 => ?_)
    · skip
      refine lv_iconst (v := 0) hx hb dX6_isAtOdds_25 (by decide) ?_
      refine lv_icmp_eq (tgt := 41) hx hb dX6_isAtOdds_26 (by decide) (fun _ => ?_) (fun c9 => absurd (by decide) c9)
      refine lv_iconst (v := 0) hx hb dX6_isAtOdds_41 (by decide) ?_
      exact hend _ _ _ _ _ _ _ rfl dX6_isAtOdds_42 (⟨congrArg (fun z : Int32 => some (Value.int z)) (by simp [b2i, oddsV, c_1, c_2]), rfl⟩) hS (Nat.zero_le _) (Nat.zero_le _)
    · skip
      refine lv_iconst (v := 1) hx hb dX6_isAtOdds_21 (by decide) ?_
      refine lv_goto (tgt := 26) hx hb dX6_isAtOdds_22 (by decide) ?_
      refine lv_icmp_eq (tgt := 41) hx hb dX6_isAtOdds_26 (by decide) (fun c9 => absurd c9 (by decide)) (fun _ => ?_)
      refine lv_aload_n hx hb dX6_isAtOdds_29 rfl (lv_at hl 0 rfl) ?_
      refine lv_aload_n hx hb dX6_isAtOdds_30 rfl (lv_at hl 1 rfl) ?_
      refine run_ro (w := .int (b2i (meetsV v v2))) (rest := []) (kV F hW (metX6_meets l E H r v h r2 v2 h2) (lw_V q773 q774 q775 q61 q776) hdX6_meets ⟨Nat.le_of_ble_eq_true rfl, Nat.le_of_ble_eq_true rfl⟩ (recv hW h rfl) hl.1 rfl (Nat.le_of_ble_eq_true rfl) dX6_isAtOdds_31 ⟨Nat.le_of_ble_eq_true rfl, Nat.le_of_ble_eq_true rfl⟩) ?_
      refine lv_if_eq (tgt := 41) hx hb dX6_isAtOdds_34 (by decide) (fun c_3 => ?_) (fun c_3 => ?_)
      · skip
        have bc_3 := c_3
        have c_3 := b2i_f c_3
        refine lv_iconst (v := 0) hx hb dX6_isAtOdds_41 (by decide) ?_
        exact hend _ _ _ _ _ _ _ rfl dX6_isAtOdds_42 (⟨congrArg (fun z : Int32 => some (Value.int z)) (by simp [b2i, oddsV, c_1, c_2, c_3]), rfl⟩) hS (Nat.zero_le _) (Nat.zero_le _)
      · skip
        have bc_3 := c_3
        have c_3 := b2i_t c_3
        refine lv_iconst (v := 1) hx hb dX6_isAtOdds_37 (by decide) ?_
        refine lv_goto (tgt := 42) hx hb dX6_isAtOdds_38 (by decide) ?_
        exact hend _ _ _ _ _ _ _ rfl dX6_isAtOdds_42 (⟨congrArg (fun z : Int32 => some (Value.int z)) (by simp [b2i, oddsV, c_1, c_2, c_3]), rfl⟩) hS (Nat.zero_le _) (Nat.zero_le _)
  · skip
    refine lv_iconst (v := 1) hx hb dX6_isAtOdds_8 (by decide) ?_
    refine lv_goto (tgt := 13) hx hb dX6_isAtOdds_9 (by decide) ?_
    refine lv_aload_n hx hb dX6_isAtOdds_13 rfl (lv_at hl 1 rfl) ?_
    refine xget (ref := "LayeredCharters$Rule") (ci := 5) (v := .int v2.2.1) (C := RX6) (T := TX6) (N := 5) F in_X6 hW h2 rfl 1 (by decide) q396 (fun _ h9 => h9) rfl dX6_isAtOdds_14 ?_
    refine lv_iconst (v := 1) hx hb dX6_isAtOdds_17 (by decide) ?_
    refine lv_icmp_ne (tgt := 25) hx hb dX6_isAtOdds_18 (by decide) (fun c_4 => ?_) (fun c_4 => ?_)
    · skip
      refine lv_iconst (v := 0) hx hb dX6_isAtOdds_25 (by decide) ?_
      refine lv_icmp_eq (tgt := 41) hx hb dX6_isAtOdds_26 (by decide) (fun c9 => absurd c9 (by decide)) (fun _ => ?_)
      refine lv_aload_n hx hb dX6_isAtOdds_29 rfl (lv_at hl 0 rfl) ?_
      refine lv_aload_n hx hb dX6_isAtOdds_30 rfl (lv_at hl 1 rfl) ?_
      refine run_ro (w := .int (b2i (meetsV v v2))) (rest := []) (kV F hW (metX6_meets l E H r v h r2 v2 h2) (lw_V q773 q774 q775 q61 q776) hdX6_meets ⟨Nat.le_of_ble_eq_true rfl, Nat.le_of_ble_eq_true rfl⟩ (recv hW h rfl) hl.1 rfl (Nat.le_of_ble_eq_true rfl) dX6_isAtOdds_31 ⟨Nat.le_of_ble_eq_true rfl, Nat.le_of_ble_eq_true rfl⟩) ?_
      refine lv_if_eq (tgt := 41) hx hb dX6_isAtOdds_34 (by decide) (fun c_5 => ?_) (fun c_5 => ?_)
      · skip
        have bc_5 := c_5
        have c_5 := b2i_f c_5
        refine lv_iconst (v := 0) hx hb dX6_isAtOdds_41 (by decide) ?_
        exact hend _ _ _ _ _ _ _ rfl dX6_isAtOdds_42 (⟨congrArg (fun z : Int32 => some (Value.int z)) (by simp [b2i, oddsV, c_1, c_4, c_5]), rfl⟩) hS (Nat.zero_le _) (Nat.zero_le _)
      · skip
        have bc_5 := c_5
        have c_5 := b2i_t c_5
        refine lv_iconst (v := 1) hx hb dX6_isAtOdds_37 (by decide) ?_
        refine lv_goto (tgt := 42) hx hb dX6_isAtOdds_38 (by decide) ?_
        exact hend _ _ _ _ _ _ _ rfl dX6_isAtOdds_42 (⟨congrArg (fun z : Int32 => some (Value.int z)) (by simp [b2i, oddsV, c_1, c_4, c_5]), rfl⟩) hS (Nat.zero_le _) (Nat.zero_le _)
    · skip
      refine lv_iconst (v := 1) hx hb dX6_isAtOdds_21 (by decide) ?_
      refine lv_goto (tgt := 26) hx hb dX6_isAtOdds_22 (by decide) ?_
      refine lv_icmp_eq (tgt := 41) hx hb dX6_isAtOdds_26 (by decide) (fun _ => ?_) (fun c9 => absurd (by decide) c9)
      refine lv_iconst (v := 0) hx hb dX6_isAtOdds_41 (by decide) ?_
      exact hend _ _ _ _ _ _ _ rfl dX6_isAtOdds_42 (⟨congrArg (fun z : Int32 => some (Value.int z)) (by simp [b2i, oddsV, c_1, c_4]), rfl⟩) hS (Nat.zero_le _) (Nat.zero_le _)

theorem hdX6_lifts : Hd yX6_lifts 3 := by decide +kernel
set_option maxHeartbeats 1000000 in
set_option maxRecDepth 100000 in
theorem metX6_lifts (l : Launch) (E : EV) (H : Heap) (r : Nat) (v : RV) (h : oat E r 5 (rvF v) H) (r2 : Nat) (v2 : RV) (h2 : oat E r2 5 (rvF v2) H) (c d : Int32) : Ro l yX6_lifts cX6_lifts 4 (some .boolean) 1 22 [.ref r, .ref r2, .int c, .int d] E H (some (.int (b2i (liftsV v v2 c d)))) := by
  refine Ct.ofZ (by decide) (Nat.le_of_ble_eq_true rfl) ?_
  intro p e s m bl mt cd ls Q hF hW hH hl hend
  obtain ⟨F, hin⟩ := hF
  have hx := F.1
  have hb := F.2.1
  have hts := F.2.2.2.2
  have hl : lv_has ls 4 [(0, .ref r), (1, .ref r2), (2, .int c), (3, .int d)] := hl
  have hS : va_S (fun _ => False) H H [] := va_S.rf
  refine lv_aload_n hx hb dX6_lifts_0 rfl (lv_at hl 0 rfl) ?_
  refine xget (ref := "LayeredCharters$Rule") (ci := 5) (v := .int v.2.1) (C := RX6) (T := TX6) (N := 5) F in_X6 hW h rfl 1 (by decide) q396 (fun _ h9 => h9) rfl dX6_lifts_1 ?_
  refine lv_iconst (v := 2) hx hb dX6_lifts_4 (by decide) ?_
  refine lv_icmp_ne (tgt := 43) hx hb dX6_lifts_5 (by decide) (fun c_1 => ?_) (fun c_1 => ?_)
  · skip
    refine lv_iconst (v := 0) hx hb dX6_lifts_43 (by decide) ?_
    exact hend _ _ _ _ _ _ _ rfl dX6_lifts_44 (⟨congrArg (fun z : Int32 => some (Value.int z)) (by simp [b2i, liftsV, c_1]), rfl⟩) hS (Nat.zero_le _) (Nat.zero_le _)
  · skip
    refine lv_aload_n hx hb dX6_lifts_8 rfl (lv_at hl 0 rfl) ?_
    refine lv_iload_n hx hb dX6_lifts_9 rfl (lv_at hl 2 rfl) ?_
    refine lv_iload_n hx hb dX6_lifts_10 rfl (lv_at hl 3 rfl) ?_
    refine run_ro (w := .int (b2i (fitsV v c d))) (rest := []) (kV F hW (metX6_fits l E H r v h c d) (lw_V q754 q690 q691 q61 q692) hdX6_fits ⟨Nat.le_of_ble_eq_true rfl, Nat.le_of_ble_eq_true rfl⟩ (recv hW h rfl) hl.1 rfl (Nat.le_of_ble_eq_true rfl) dX6_lifts_11 ⟨Nat.le_of_ble_eq_true rfl, Nat.le_of_ble_eq_true rfl⟩) ?_
    refine lv_if_eq (tgt := 43) hx hb dX6_lifts_14 (by decide) (fun c_2 => ?_) (fun c_2 => ?_)
    · skip
      have bc_2 := c_2
      have c_2 := b2i_f c_2
      refine lv_iconst (v := 0) hx hb dX6_lifts_43 (by decide) ?_
      exact hend _ _ _ _ _ _ _ rfl dX6_lifts_44 (⟨congrArg (fun z : Int32 => some (Value.int z)) (by simp [b2i, liftsV, c_1, c_2]), rfl⟩) hS (Nat.zero_le _) (Nat.zero_le _)
    · skip
      have bc_2 := c_2
      have c_2 := b2i_t c_2
      refine lv_aload_n hx hb dX6_lifts_17 rfl (lv_at hl 0 rfl) ?_
      refine xget (ref := "LayeredCharters$Rule") (ci := 5) (v := .int v.1) (C := RX6) (T := TX6) (N := 5) F in_X6 hW h rfl 0 (by decide) q392 (fun _ h9 => h9) rfl dX6_lifts_18 ?_
      refine lv_aload_n hx hb dX6_lifts_21 rfl (lv_at hl 1 rfl) ?_
      refine xget (ref := "LayeredCharters$Rule") (ci := 5) (v := .int v2.1) (C := RX6) (T := TX6) (N := 5) F in_X6 hW h2 rfl 0 (by decide) q392 (fun _ h9 => h9) rfl dX6_lifts_22 ?_
      refine lv_icmp_gt (tgt := 43) hx hb dX6_lifts_25 (by decide) (fun c_3 => ?_) (fun c_3 => ?_)
      · skip
        refine lv_iconst (v := 0) hx hb dX6_lifts_43 (by decide) ?_
        exact hend _ _ _ _ _ _ _ rfl dX6_lifts_44 (⟨congrArg (fun z : Int32 => some (Value.int z)) (by simp [b2i, liftsV, c_1, c_2, c_3]), rfl⟩) hS (Nat.zero_le _) (Nat.zero_le _)
      · skip
        refine lv_aload_n hx hb dX6_lifts_28 rfl (lv_at hl 0 rfl) ?_
        refine xget (ref := "LayeredCharters$Rule") (ci := 5) (v := .int v.2.2.2.2) (C := RX6) (T := TX6) (N := 5) F in_X6 hW h rfl 4 (by decide) q403 (fun _ h9 => h9) rfl dX6_lifts_29 ?_
        refine lv_aload_n hx hb dX6_lifts_32 rfl (lv_at hl 1 rfl) ?_
        refine xget (ref := "LayeredCharters$Rule") (ci := 5) (v := .int v2.2.2.2.2) (C := RX6) (T := TX6) (N := 5) F in_X6 hW h2 rfl 4 (by decide) q403 (fun _ h9 => h9) rfl dX6_lifts_33 ?_
        refine lv_icmp_lt (tgt := 43) hx hb dX6_lifts_36 (by decide) (fun c_4 => ?_) (fun c_4 => ?_)
        · skip
          refine lv_iconst (v := 0) hx hb dX6_lifts_43 (by decide) ?_
          exact hend _ _ _ _ _ _ _ rfl dX6_lifts_44 (⟨congrArg (fun z : Int32 => some (Value.int z)) (by simp [b2i, liftsV, c_1, c_2, c_3, c_4]), rfl⟩) hS (Nat.zero_le _) (Nat.zero_le _)
        · skip
          refine lv_iconst (v := 1) hx hb dX6_lifts_39 (by decide) ?_
          refine lv_goto (tgt := 44) hx hb dX6_lifts_40 (by decide) ?_
          exact hend _ _ _ _ _ _ _ rfl dX6_lifts_44 (⟨congrArg (fun z : Int32 => some (Value.int z)) (by simp [b2i, liftsV, c_1, c_2, c_3, c_4]), rfl⟩) hS (Nat.zero_le _) (Nat.zero_le _)

theorem hdX6_pairs : Hd yX6_pairs 0 := by decide +kernel
set_option maxHeartbeats 1000000 in
set_option maxRecDepth 100000 in
theorem metX6_pairs (l : Launch) (E : EV) (H : Heap) (r : Nat) (v : RV) (h : oat E r 5 (rvF v) H) : Ro l yX6_pairs cX6_pairs 1 (some .int) 0 0 [.ref r] E H (some (.int (pairsV v))) := by
  refine Ct.ofZ (by decide) (Nat.le_of_ble_eq_true rfl) ?_
  intro p e s m bl mt cd ls Q hF hW hH hl hend
  obtain ⟨F, hin⟩ := hF
  have hx := F.1
  have hb := F.2.1
  have hts := F.2.2.2.2
  have hl : lv_has ls 1 [(0, .ref r)] := hl
  have hS : va_S (fun _ => False) H H [] := va_S.rf
  refine lv_aload_n hx hb dX6_pairs_0 rfl (lv_at hl 0 rfl) ?_
  refine xget (ref := "LayeredCharters$Rule") (ci := 5) (v := .int v.2.2.1) (C := RX6) (T := TX6) (N := 5) F in_X6 hW h rfl 2 (by decide) q399 (fun _ h9 => h9) rfl dX6_pairs_1 ?_
  refine lv_iconst (v := 5) hx hb dX6_pairs_4 (by decide) ?_
  refine lv_icmp_ne (tgt := 12) hx hb dX6_pairs_5 (by decide) (fun c_1 => ?_) (fun c_1 => ?_)
  · skip
    refine lv_iconst (v := 1) hx hb dX6_pairs_12 (by decide) ?_
    refine lv_aload_n hx hb dX6_pairs_13 rfl (lv_at hl 0 rfl) ?_
    refine xget (ref := "LayeredCharters$Rule") (ci := 5) (v := .int v.2.2.2.1) (C := RX6) (T := TX6) (N := 5) F in_X6 hW h rfl 3 (by decide) q401 (fun _ h9 => h9) rfl dX6_pairs_14 ?_
    refine lv_bipush (v := 6) hx hb dX6_pairs_17 (by decide) ?_
    refine lv_icmp_ne (tgt := 27) hx hb dX6_pairs_19 (by decide) (fun c_2 => ?_) (fun c_2 => ?_)
    · skip
      refine lv_iconst (v := 1) hx hb dX6_pairs_27 (by decide) ?_
      refine lv_imul hx hb dX6_pairs_28 ?_
      refine lv_val (y := 1) (by decide) ?_
      exact hend _ _ _ _ _ _ _ rfl dX6_pairs_29 (⟨congrArg (fun z : Int32 => some (Value.int z)) (by simp [b2i, pairsV, c_1, c_2]), rfl⟩) hS (Nat.zero_le _) (Nat.zero_le _)
    · skip
      refine lv_bipush (v := 6) hx hb dX6_pairs_22 (by decide) ?_
      refine lv_goto (tgt := 28) hx hb dX6_pairs_24 (by decide) ?_
      refine lv_imul hx hb dX6_pairs_28 ?_
      refine lv_val (y := 6) (by decide) ?_
      exact hend _ _ _ _ _ _ _ rfl dX6_pairs_29 (⟨congrArg (fun z : Int32 => some (Value.int z)) (by simp [b2i, pairsV, c_1, c_2]), rfl⟩) hS (Nat.zero_le _) (Nat.zero_le _)
  · skip
    refine lv_iconst (v := 5) hx hb dX6_pairs_8 (by decide) ?_
    refine lv_goto (tgt := 13) hx hb dX6_pairs_9 (by decide) ?_
    refine lv_aload_n hx hb dX6_pairs_13 rfl (lv_at hl 0 rfl) ?_
    refine xget (ref := "LayeredCharters$Rule") (ci := 5) (v := .int v.2.2.2.1) (C := RX6) (T := TX6) (N := 5) F in_X6 hW h rfl 3 (by decide) q401 (fun _ h9 => h9) rfl dX6_pairs_14 ?_
    refine lv_bipush (v := 6) hx hb dX6_pairs_17 (by decide) ?_
    refine lv_icmp_ne (tgt := 27) hx hb dX6_pairs_19 (by decide) (fun c_3 => ?_) (fun c_3 => ?_)
    · skip
      refine lv_iconst (v := 1) hx hb dX6_pairs_27 (by decide) ?_
      refine lv_imul hx hb dX6_pairs_28 ?_
      refine lv_val (y := 5) (by decide) ?_
      exact hend _ _ _ _ _ _ _ rfl dX6_pairs_29 (⟨congrArg (fun z : Int32 => some (Value.int z)) (by simp [b2i, pairsV, c_1, c_3]), rfl⟩) hS (Nat.zero_le _) (Nat.zero_le _)
    · skip
      refine lv_bipush (v := 6) hx hb dX6_pairs_22 (by decide) ?_
      refine lv_goto (tgt := 28) hx hb dX6_pairs_24 (by decide) ?_
      refine lv_imul hx hb dX6_pairs_28 ?_
      refine lv_val (y := 30) (by decide) ?_
      exact hend _ _ _ _ _ _ _ rfl dX6_pairs_29 (⟨congrArg (fun z : Int32 => some (Value.int z)) (by simp [b2i, pairsV, c_1, c_3]), rfl⟩) hS (Nat.zero_le _) (Nat.zero_le _)

