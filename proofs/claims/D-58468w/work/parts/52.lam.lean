/-! LAMBDAS 1: the methods behind them -/
set_option maxRecDepth 100000
theorem hdX2_lambda_odds_0 : Hd yX2_lambda_odds_0 2 := by decide +kernel
set_option maxHeartbeats 1000000 in
set_option maxRecDepth 100000 in
theorem metX2_lambda_odds_0 (l : Launch) (E : EV) (H : Heap) (c n : Nat) (ru : Nat → RV) (hcr : CR E c n ru H) (i j : Nat) (hi : i < n) (hj : j < n) : Ro l yX2_lambda_odds_0 cX2_lambda_odds_0 3 (some .boolean) 3 64 [.ref c, .int (nI i), .int (nI j)] E H (some (.int (b2i (oddsV (ru j) (ru i))))) := by
  have hcr0 := hcr
  obtain ⟨L, md, arr, cap, xs, hc, hal, rfl, h25, hru⟩ := hcr
  refine Ct.ofZ (by decide) (Nat.le_of_ble_eq_true rfl) ?_
  intro p e s m bl mt cd ls Q hF hW hH hl hend
  obtain ⟨F, hin⟩ := hF
  have hx := F.1
  have hb := F.2.1
  have hts := F.2.2.2.2
  have hl : lv_has ls 3 [(0, .ref c), (1, .int (nI i)), (2, .int (nI j))] := hl
  have hS : va_S (fun _ => False) H H [] := va_S.rf
  obtain ⟨x_i, hg_i⟩ : ∃ x, xs[i]? = some x := ⟨_, List.getElem?_eq_getElem (show i < xs.length by omega)⟩
  have hr_i := hru i x_i hg_i
  obtain ⟨x_j, hg_j⟩ : ∃ x, xs[j]? = some x := ⟨_, List.getElem?_eq_getElem (show j < xs.length by omega)⟩
  have hr_j := hru j x_j hg_j
  obtain ⟨cC, hat⟩ := cat (ci := 6) hW rfl
  refine lv_aload_n hx hb dX2_lambda_odds_0_0 rfl (lv_at hl 0 rfl) ?_
  refine xget (ref := "LayeredCharters$Charter") (ci := 2) (v := .ref L) (C := RX2) (T := TX2) (N := 1) F in_X2 hW hc rfl 0 (by decide) q111 (fun _ h9 => h9) rfl dX2_lambda_odds_0_1 ?_
  refine lv_iload_n hx hb dX2_lambda_odds_0_4 rfl (lv_at hl 2 rfl) ?_
  refine run_ro5 (w := .ref x_j) (rest := []) (kF (x := ⟨"java/util/List", "get", "(I)Ljava/lang/Object;"⟩) F hW (metJ2_get l E H L arr cap j x_j xs md hal hg_j) (by decide +kernel) hat q687 q307 q309 q47 q311 hdJ2_getF ⟨Nat.le_of_ble_eq_true rfl, Nat.le_of_ble_eq_true rfl⟩ (recv hW hal.1 rfl) hl.1 rfl (Nat.le_of_ble_eq_true rfl) dX2_lambda_odds_0_5 ⟨Nat.le_of_ble_eq_true rfl, Nat.le_of_ble_eq_true rfl⟩) ?_
  refine xcast (ci := 5) F hW hr_j rfl q688 dX2_lambda_odds_0_10 ?_
  refine lv_aload_n hx hb dX2_lambda_odds_0_13 rfl (lv_at hl 0 rfl) ?_
  refine xget (ref := "LayeredCharters$Charter") (ci := 2) (v := .ref L) (C := RX2) (T := TX2) (N := 1) F in_X2 hW hc rfl 0 (by decide) q111 (fun _ h9 => h9) rfl dX2_lambda_odds_0_14 ?_
  refine lv_iload_n hx hb dX2_lambda_odds_0_17 rfl (lv_at hl 1 rfl) ?_
  refine run_ro5 (w := .ref x_i) (rest := [.ref x_j]) (kF (x := ⟨"java/util/List", "get", "(I)Ljava/lang/Object;"⟩) F hW (metJ2_get l E H L arr cap i x_i xs md hal hg_i) (by decide +kernel) hat q687 q307 q309 q47 q311 hdJ2_getF ⟨Nat.le_of_ble_eq_true rfl, Nat.le_of_ble_eq_true rfl⟩ (recv hW hal.1 rfl) hl.1 rfl (Nat.le_of_ble_eq_true rfl) dX2_lambda_odds_0_18 ⟨Nat.le_of_ble_eq_true rfl, Nat.le_of_ble_eq_true rfl⟩) ?_
  refine xcast (ci := 5) F hW hr_i rfl q688 dX2_lambda_odds_0_23 ?_
  refine run_ro (w := .int (b2i (oddsV (ru j) (ru i)))) (rest := []) (kV F hW (metX6_isAtOdds l E H x_j (ru j) hr_j x_i (ru i) hr_i) (lw_V q769 q770 q771 q61 q772) hdX6_isAtOdds ⟨Nat.le_of_ble_eq_true rfl, Nat.le_of_ble_eq_true rfl⟩ (recv hW hr_j rfl) hl.1 rfl (Nat.le_of_ble_eq_true rfl) dX2_lambda_odds_0_26 ⟨Nat.le_of_ble_eq_true rfl, Nat.le_of_ble_eq_true rfl⟩) ?_
  exact hend _ _ _ _ _ _ _ (b2i_nar _) dX2_lambda_odds_0_29 (⟨congrArg (fun z : Int32 => some (Value.int z)) (rfl), rfl⟩) hS (Nat.zero_le _) (Nat.zero_le _)

theorem hdX0_lambda_count_0 : Hd yX0_lambda_count_0 3 := by decide +kernel
set_option maxHeartbeats 1000000 in
set_option maxRecDepth 100000 in
theorem metX0_lambda_count_0 (l : Launch) (E : EV) (H : Heap) (c n : Nat) (ru : Nat → RV) (hcr : CR E c n ru H) (a0 : Int32) (k : Nat) (hk : k < n) : Ro l yX0_lambda_count_0 cX0_lambda_count_0 3 (some .boolean) 3 64 [.ref c, .int a0, .int (nI k)] E H (some (.int (b2i (decide ((ru k).2.1 = a0 - 1))))) := by
  have hcr0 := hcr
  obtain ⟨L, md, arr, cap, xs, hc, hal, rfl, h25, hru⟩ := hcr
  refine Ct.ofZ (by decide) (Nat.le_of_ble_eq_true rfl) ?_
  intro p e s m bl mt cd ls Q hF hW hH hl hend
  obtain ⟨F, hin⟩ := hF
  have hx := F.1
  have hb := F.2.1
  have hts := F.2.2.2.2
  have hl : lv_has ls 3 [(0, .ref c), (1, .int a0), (2, .int (nI k))] := hl
  have hS : va_S (fun _ => False) H H [] := va_S.rf
  obtain ⟨x_k, hg_k⟩ : ∃ x, xs[k]? = some x := ⟨_, List.getElem?_eq_getElem (show k < xs.length by omega)⟩
  have hr_k := hru k x_k hg_k
  obtain ⟨cC, hat⟩ := cat (ci := 6) hW rfl
  refine lv_aload_n hx hb dX0_lambda_count_0_0 rfl (lv_at hl 0 rfl) ?_
  refine xget (ref := "LayeredCharters$Charter") (ci := 2) (v := .ref L) (C := RX2) (T := TX2) (N := 1) F in_X2 hW hc rfl 0 (by decide) q112 (fun _ h9 => h9) rfl dX0_lambda_count_0_1 ?_
  refine lv_iload_n hx hb dX0_lambda_count_0_4 rfl (lv_at hl 2 rfl) ?_
  refine run_ro5 (w := .ref x_k) (rest := []) (kF (x := ⟨"java/util/List", "get", "(I)Ljava/lang/Object;"⟩) F hW (metJ2_get l E H L arr cap k x_k xs md hal hg_k) (by decide +kernel) hat q433 q307 q309 q47 q311 hdJ2_getF ⟨Nat.le_of_ble_eq_true rfl, Nat.le_of_ble_eq_true rfl⟩ (recv hW hal.1 rfl) hl.1 rfl (Nat.le_of_ble_eq_true rfl) dX0_lambda_count_0_5 ⟨Nat.le_of_ble_eq_true rfl, Nat.le_of_ble_eq_true rfl⟩) ?_
  refine xcast (ci := 5) F hW hr_k rfl q386 dX0_lambda_count_0_10 ?_
  refine xget (ref := "LayeredCharters$Rule") (ci := 5) (v := .int ((ru k).2.1)) (C := RX6) (T := TX6) (N := 5) F in_X6 hW hr_k rfl 1 (by decide) q398 (fun _ h9 => h9) rfl dX0_lambda_count_0_13 ?_
  refine lv_iload_n hx hb dX0_lambda_count_0_16 rfl (lv_at hl 1 rfl) ?_
  refine lv_iconst (v := 1) hx hb dX0_lambda_count_0_17 (by decide) ?_
  refine lv_isub hx hb dX0_lambda_count_0_18 ?_
  refine lv_icmp_ne (tgt := 26) hx hb dX0_lambda_count_0_19 (by decide) (fun c_1 => ?_) (fun c_1 => ?_)
  · skip
    refine lv_iconst (v := 0) hx hb dX0_lambda_count_0_26 (by decide) ?_
    exact hend _ _ _ _ _ _ _ rfl dX0_lambda_count_0_27 (⟨congrArg (fun z : Int32 => some (Value.int z)) (by have h8 := c_1; simp [b2i, h8]), rfl⟩) hS (Nat.zero_le _) (Nat.zero_le _)
  · skip
    refine lv_iconst (v := 1) hx hb dX0_lambda_count_0_22 (by decide) ?_
    refine lv_goto (tgt := 27) hx hb dX0_lambda_count_0_23 (by decide) ?_
    exact hend _ _ _ _ _ _ _ rfl dX0_lambda_count_0_27 (⟨congrArg (fun z : Int32 => some (Value.int z)) (by have h8 := c_1; simp [b2i, h8]), rfl⟩) hS (Nat.zero_le _) (Nat.zero_le _)

theorem hdX0_lambda_count_1 : Hd yX0_lambda_count_1 2 := by decide +kernel
set_option maxHeartbeats 1000000 in
set_option maxRecDepth 100000 in
theorem metX0_lambda_count_1 (l : Launch) (E : EV) (H : Heap) (c n : Nat) (ru : Nat → RV) (hcr : CR E c n ru H) (k : Nat) (hk : k < n) : Ct l yX0_lambda_count_1 cX0_lambda_count_1 2 (some .boolean) 14 589 (4) (84) [.ref c, .int (nI k)] E H (fun q => H.size ≤ q) (pI (fun r H1 => r = b2i (idX ru n k))) := by
  have hcr0 := hcr
  obtain ⟨L, md, arr, cap, xs, hc, hal, hrl⟩ := hcr
  refine Ct.ofZ (by decide) (Nat.le_of_ble_eq_true rfl) ?_
  intro p e s m bl mt cd ls Q hF hW hH hl hend
  obtain ⟨F, hin⟩ := hF
  have hx := F.1
  have hb := F.2.1
  have hts := F.2.2.2.2
  have hl : lv_has ls 2 [(0, .ref c), (1, .int (nI k))] := hl
  have hS : va_S (fun q => H.size ≤ q) H H [] := va_S.rf
  refine lv_aload_n hx hb dX0_lambda_count_1_0 rfl (lv_at hl 0 rfl) ?_
  refine lv_iload_n hx hb dX0_lambda_count_1_1 rfl (lv_at hl 1 rfl) ?_
  refine run_chI (rest := []) (kV F hW (metX2_isIdle l E H c n ru hcr0 k hk) (lw_V q761 q664 q665 q44 q666) hdX2_isIdle ⟨Nat.le_of_ble_eq_true rfl, Nat.le_of_ble_eq_true rfl⟩ (recv hW hc rfl) hl.1 rfl (Nat.le_of_ble_eq_true rfl) dX0_lambda_count_1_2 ⟨by show 0 + 4 ≤ 4; omega, by show 0 + 84 ≤ 84; omega⟩) hS (fun _ h => h) (fun r_1 H_1 locs hp_1 hc_1 hS_1 => ?_)
  refine lv_val (y := b2i (idX ru n k)) hp_1 ?_
  exact hend _ _ _ _ _ _ _ (b2i_nar _) dX0_lambda_count_1_5 (⟨_, rfl, rfl⟩) hS_1 (by first | exact Nat.le_refl _ | (show (4 : Nat) ≤ 4; omega)) (by first | exact Nat.le_refl _ | (show (84 : Nat) ≤ 84; omega))

