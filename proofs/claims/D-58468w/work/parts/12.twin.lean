/-! THE TWIN: what only reads -/
set_option maxRecDepth 100000
theorem at0 (i : Nat) : (9 : Int32) + 5 * nI i + 0 = nI (9 + 5 * i) := by show nI 9 + nI 5 * nI i + nI 0 = _; rw [pk_mul, nI_add, nI_add, Nat.add_zero]
theorem at1 (i : Nat) : (9 : Int32) + 5 * nI i + 1 = nI (9 + 5 * i + 1) := by show nI 9 + nI 5 * nI i + nI 1 = _; rw [pk_mul, nI_add, nI_add]
theorem at2 (i : Nat) : (9 : Int32) + 5 * nI i + 2 = nI (9 + 5 * i + 2) := by show nI 9 + nI 5 * nI i + nI 2 = _; rw [pk_mul, nI_add, nI_add]
theorem at3 (i : Nat) : (9 : Int32) + 5 * nI i + 3 = nI (9 + 5 * i + 3) := by show nI 9 + nI 5 * nI i + nI 3 = _; rw [pk_mul, nI_add, nI_add]
theorem at4 (i : Nat) : (9 : Int32) + 5 * nI i + 4 = nI (9 + 5 * i + 4) := by show nI 9 + nI 5 * nI i + nI 4 = _; rw [pk_mul, nI_add, nI_add]
/-- the twin's fields; ad: its cells' addresses -/
abbrev mfs (ad : Nat → Nat) (kept len told : Int32) : List Value := [.ref (ad 1), .ref (ad 2), .int kept, .ref (ad 3), .ref (ad 4), .ref (ad 5), .int len, .ref (ad 6), .int told]
/-- the r-th rule in the flat array -/
def ruA (f : Nat → Int32) (r : Nat) : RV := (f (9 + 5 * r), f (9 + 5 * r + 1), f (9 + 5 * r + 2), f (9 + 5 * r + 3), f (9 + 5 * r + 4))
/-- a permit that fits, but for one rule -/
def pmStep (ru : Nat → RV) (c d but : Int32) (r : Nat) (is : Bool) : Bool := is || (!decide (nI r = but) && (decide ((ru r).2.1 = 0) && fitsV (ru r) c d))
def pmM (ru : Nat → RV) (c d but : Int32) (n : Nat) : Bool := foldN (pmStep ru c d but) false n
theorem pmM_s {ru : Nat → RV} {c d but : Int32} {i : Nat} : pmM ru c d but (i + 1) = pmStep ru c d but i (pmM ru c d but i) := rfl
theorem hdX3_in : Hd yX3_in 3 := by decide +kernel
set_option maxHeartbeats 1000000 in
set_option maxRecDepth 100000 in
theorem metX3_in (l : Launch) (E : EV) (H : Heap) (v a b : Int32) : Ro l yX3_in cX3_in 3 (some .boolean) 0 0 [.int v, .int a, .int b] E H (some (.int (b2i (inR v a b)))) := by
  refine Ct.ofZ (by decide) (Nat.le_of_ble_eq_true rfl) ?_
  intro p e s m bl mt cd ls Q hF hW hH hl hend
  obtain ⟨F, hin⟩ := hF
  have hx := F.1
  have hb := F.2.1
  have hts := F.2.2.2.2
  have hl : lv_has ls 3 [(0, .int v), (1, .int a), (2, .int b)] := hl
  have hS : va_S (fun _ => False) H H [] := va_S.rf
  refine lv_iload_n hx hb dX3_in_0 rfl (lv_at hl 0 rfl) ?_
  refine lv_iload_n hx hb dX3_in_1 rfl (lv_at hl 1 rfl) ?_
  refine lv_icmp_lt (tgt := 14) hx hb dX3_in_2 (by decide) (fun c_1 => ?_) (fun c_1 => ?_)
  · skip
    refine lv_iconst (v := 0) hx hb dX3_in_14 (by decide) ?_
    exact hend _ _ _ _ _ _ _ rfl dX3_in_15 (⟨congrArg (fun z : Int32 => some (Value.int z)) (by simp [b2i, inR, c_1]), rfl⟩) hS (Nat.zero_le _) (Nat.zero_le _)
  · skip
    refine lv_iload_n hx hb dX3_in_5 rfl (lv_at hl 0 rfl) ?_
    refine lv_iload_n hx hb dX3_in_6 rfl (lv_at hl 2 rfl) ?_
    refine lv_icmp_gt (tgt := 14) hx hb dX3_in_7 (by decide) (fun c_2 => ?_) (fun c_2 => ?_)
    · skip
      refine lv_iconst (v := 0) hx hb dX3_in_14 (by decide) ?_
      exact hend _ _ _ _ _ _ _ rfl dX3_in_15 (⟨congrArg (fun z : Int32 => some (Value.int z)) (by simp [b2i, inR, c_1, c_2]), rfl⟩) hS (Nat.zero_le _) (Nat.zero_le _)
    · skip
      refine lv_iconst (v := 1) hx hb dX3_in_10 (by decide) ?_
      refine lv_goto (tgt := 15) hx hb dX3_in_11 (by decide) ?_
      exact hend _ _ _ _ _ _ _ rfl dX3_in_15 (⟨congrArg (fun z : Int32 => some (Value.int z)) (by simp [b2i, inR, c_1, c_2]), rfl⟩) hS (Nat.zero_le _) (Nat.zero_le _)

theorem hdX3_at : Hd yX3_at 2 := by decide +kernel
set_option maxHeartbeats 1000000 in
set_option maxRecDepth 100000 in
theorem metX3_at (l : Launch) (E : EV) (H : Heap) (v a : Int32) : Ro l yX3_at cX3_at 2 (some .int) 0 0 [.int v, .int a] E H (some (.int (9 + 5 * v + a))) := by
  refine Ct.ofZ (by decide) (Nat.le_of_ble_eq_true rfl) ?_
  intro p e s m bl mt cd ls Q hF hW hH hl hend
  obtain ⟨F, hin⟩ := hF
  have hx := F.1
  have hb := F.2.1
  have hts := F.2.2.2.2
  have hl : lv_has ls 2 [(0, .int v), (1, .int a)] := hl
  have hS : va_S (fun _ => False) H H [] := va_S.rf
  refine lv_bipush (v := 9) hx hb dX3_at_0 (by decide) ?_
  refine lv_iconst (v := 5) hx hb dX3_at_2 (by decide) ?_
  refine lv_iload_n hx hb dX3_at_3 rfl (lv_at hl 0 rfl) ?_
  refine lv_imul hx hb dX3_at_4 ?_
  refine lv_iadd hx hb dX3_at_5 ?_
  refine lv_iload_n hx hb dX3_at_6 rfl (lv_at hl 1 rfl) ?_
  refine lv_iadd hx hb dX3_at_7 ?_
  exact hend _ _ _ _ _ _ _ rfl dX3_at_8 (⟨congrArg (fun z : Int32 => some (Value.int z)) (rfl), rfl⟩) hS (Nat.zero_le _) (Nat.zero_le _)

theorem hdX3_ofGuild : Hd yX3_ofGuild 2 := by decide +kernel
set_option maxHeartbeats 1000000 in
set_option maxRecDepth 100000 in
theorem metX3_ofGuild (l : Launch) (E : EV) (H : Heap) (v a : Int32) : Ro l yX3_ofGuild cX3_ofGuild 2 (some .int) 0 0 [.int v, .int a] E H (some (.int (129 + 4 * v + a))) := by
  refine Ct.ofZ (by decide) (Nat.le_of_ble_eq_true rfl) ?_
  intro p e s m bl mt cd ls Q hF hW hH hl hend
  obtain ⟨F, hin⟩ := hF
  have hx := F.1
  have hb := F.2.1
  have hts := F.2.2.2.2
  have hl : lv_has ls 2 [(0, .int v), (1, .int a)] := hl
  have hS : va_S (fun _ => False) H H [] := va_S.rf
  refine lv_sipush (v := 129) hx hb dX3_ofGuild_0 (by decide) ?_
  refine lv_iconst (v := 4) hx hb dX3_ofGuild_3 (by decide) ?_
  refine lv_iload_n hx hb dX3_ofGuild_4 rfl (lv_at hl 0 rfl) ?_
  refine lv_imul hx hb dX3_ofGuild_5 ?_
  refine lv_iadd hx hb dX3_ofGuild_6 ?_
  refine lv_iload_n hx hb dX3_ofGuild_7 rfl (lv_at hl 1 rfl) ?_
  refine lv_iadd hx hb dX3_ofGuild_8 ?_
  exact hend _ _ _ _ _ _ _ rfl dX3_ofGuild_9 (⟨congrArg (fun z : Int32 => some (Value.int z)) (rfl), rfl⟩) hS (Nat.zero_le _) (Nat.zero_le _)

theorem hdX3_isAsked : Hd yX3_isAsked 2 := by decide +kernel
set_option maxHeartbeats 1000000 in
set_option maxRecDepth 100000 in
theorem metX3_isAsked (l : Launch) (E : EV) (H : Heap) (c d : Int32) : Ro l yX3_isAsked cX3_isAsked 2 (some .boolean) 1 22 [.int c, .int d] E H (some (.int (b2i (inR c 0 4 && inR d 0 5)))) := by
  refine Ct.ofZ (by decide) (Nat.le_of_ble_eq_true rfl) ?_
  intro p e s m bl mt cd ls Q hF hW hH hl hend
  obtain ⟨F, hin⟩ := hF
  have hx := F.1
  have hb := F.2.1
  have hts := F.2.2.2.2
  have hl : lv_has ls 2 [(0, .int c), (1, .int d)] := hl
  have hS : va_S (fun _ => False) H H [] := va_S.rf
  refine lv_iload_n hx hb dX3_isAsked_0 rfl (lv_at hl 0 rfl) ?_
  refine lv_iconst (v := 0) hx hb dX3_isAsked_1 (by decide) ?_
  refine lv_iconst (v := 4) hx hb dX3_isAsked_2 (by decide) ?_
  refine run_ro (w := .int (b2i (inR c 0 4))) (rest := []) (kS F hW (metX3_in l E H c 0 4) (lw_S q1049 q1050 q52 q1051) hdX3_in ⟨Nat.le_of_ble_eq_true rfl, Nat.le_of_ble_eq_true rfl⟩ hl.1 rfl (Nat.le_of_ble_eq_true rfl) dX3_isAsked_3 ⟨Nat.le_of_ble_eq_true rfl, Nat.le_of_ble_eq_true rfl⟩) ?_
  refine lv_if_eq (tgt := 22) hx hb dX3_isAsked_6 (by decide) (fun c_1 => ?_) (fun c_1 => ?_)
  · skip
    have bc_1 := c_1
    have c_1 := b2i_f c_1
    refine lv_iconst (v := 0) hx hb dX3_isAsked_22 (by decide) ?_
    exact hend _ _ _ _ _ _ _ rfl dX3_isAsked_23 (⟨congrArg (fun z : Int32 => some (Value.int z)) (by simp [b2i, c_1]), rfl⟩) hS (Nat.zero_le _) (Nat.zero_le _)
  · skip
    have bc_1 := c_1
    have c_1 := b2i_t c_1
    refine lv_iload_n hx hb dX3_isAsked_9 rfl (lv_at hl 1 rfl) ?_
    refine lv_iconst (v := 0) hx hb dX3_isAsked_10 (by decide) ?_
    refine lv_iconst (v := 5) hx hb dX3_isAsked_11 (by decide) ?_
    refine run_ro (w := .int (b2i (inR d 0 5))) (rest := []) (kS F hW (metX3_in l E H d 0 5) (lw_S q1049 q1050 q52 q1051) hdX3_in ⟨Nat.le_of_ble_eq_true rfl, Nat.le_of_ble_eq_true rfl⟩ hl.1 rfl (Nat.le_of_ble_eq_true rfl) dX3_isAsked_12 ⟨Nat.le_of_ble_eq_true rfl, Nat.le_of_ble_eq_true rfl⟩) ?_
    refine lv_if_eq (tgt := 22) hx hb dX3_isAsked_15 (by decide) (fun c_2 => ?_) (fun c_2 => ?_)
    · skip
      have bc_2 := c_2
      have c_2 := b2i_f c_2
      refine lv_iconst (v := 0) hx hb dX3_isAsked_22 (by decide) ?_
      exact hend _ _ _ _ _ _ _ rfl dX3_isAsked_23 (⟨congrArg (fun z : Int32 => some (Value.int z)) (by simp [b2i, c_1, c_2]), rfl⟩) hS (Nat.zero_le _) (Nat.zero_le _)
    · skip
      have bc_2 := c_2
      have c_2 := b2i_t c_2
      refine lv_iconst (v := 1) hx hb dX3_isAsked_18 (by decide) ?_
      refine lv_goto (tgt := 23) hx hb dX3_isAsked_19 (by decide) ?_
      exact hend _ _ _ _ _ _ _ rfl dX3_isAsked_23 (⟨congrArg (fun z : Int32 => some (Value.int z)) (by simp [b2i, c_1, c_2]), rfl⟩) hS (Nat.zero_le _) (Nat.zero_le _)

theorem hdX3_of : Hd yX3_of 2 := by decide +kernel
set_option maxHeartbeats 1000000 in
set_option maxRecDepth 100000 in
theorem metX3_of (l : Launch) (E : EV) (H : Heap) (ad : Nat → Nat) (kept len told : Int32) (hm : oat E (ad 0) 3 (mfs ad kept len told) H) (f : Nat → Int32) (hs : iat E (ad 1) 0 169 f H) (r w : Int32) (k : Nat) (hk : 9 + 5 * r + w = nI k) (hk2 : k < 169) : Ro l yX3_of cX3_of 3 (some .int) 1 21 [.ref (ad 0), .int r, .int w] E H (some (.int (f k))) := by
  refine Ct.ofZ (by decide) (Nat.le_of_ble_eq_true rfl) ?_
  intro p e s m bl mt cd ls Q hF hW hH hl hend
  obtain ⟨F, hin⟩ := hF
  have hx := F.1
  have hb := F.2.1
  have hts := F.2.2.2.2
  have hl : lv_has ls 3 [(0, .ref (ad 0)), (1, .int r), (2, .int w)] := hl
  have hS : va_S (fun _ => False) H H [] := va_S.rf
  refine lv_aload_n hx hb dX3_of_0 rfl (lv_at hl 0 rfl) ?_
  refine xget (ref := "LayeredChartersModel") (ci := 3) (v := .ref (ad 1)) (C := RX3) (T := TX3) (N := 9) F in_X3 hW hm rfl 0 (by decide) q1016 (fun _ h9 => h9) rfl dX3_of_1 ?_
  refine lv_iload_n hx hb dX3_of_4 rfl (lv_at hl 1 rfl) ?_
  refine lv_iload_n hx hb dX3_of_5 rfl (lv_at hl 2 rfl) ?_
  refine run_ro (w := .int (9 + 5 * r + w)) (rest := [.ref (ad 1)]) (kS F hW (metX3_at l E H r w) (lw_S q1060 q1061 q52 q1062) hdX3_at ⟨Nat.le_of_ble_eq_true rfl, Nat.le_of_ble_eq_true rfl⟩ hl.1 rfl (Nat.le_of_ble_eq_true rfl) dX3_of_6 ⟨Nat.le_of_ble_eq_true rfl, Nat.le_of_ble_eq_true rfl⟩) ?_
  refine xild F hW hs (by rw [hk]; exact vp_in_nI hk2 (by omega)) dX3_of_9 ?_
  refine lv_val (y := f k) (by rw [hk, nI_clamp (by omega)]) ?_
  exact hend _ _ _ _ _ _ _ rfl dX3_of_10 (⟨congrArg (fun z : Int32 => some (Value.int z)) (rfl), rfl⟩) hS (Nat.zero_le _) (Nat.zero_le _)

theorem hdX3_isRule : Hd yX3_isRule 1 := by decide +kernel
set_option maxHeartbeats 1000000 in
set_option maxRecDepth 100000 in
theorem metX3_isRule (l : Launch) (E : EV) (H : Heap) (ad : Nat → Nat) (kept len told : Int32) (hm : oat E (ad 0) 3 (mfs ad kept len told) H) (f : Nat → Int32) (hs : iat E (ad 1) 0 169 f H) (n : Nat) (hn0 : f 0 = nI n) (hn24 : n ≤ 24) (r : Int32) : Ro l yX3_isRule cX3_isRule 2 (some .boolean) 1 22 [.ref (ad 0), .int r] E H (some (.int (b2i (inR r 0 (nI n - 1))))) := by
  refine Ct.ofZ (by decide) (Nat.le_of_ble_eq_true rfl) ?_
  intro p e s m bl mt cd ls Q hF hW hH hl hend
  obtain ⟨F, hin⟩ := hF
  have hx := F.1
  have hb := F.2.1
  have hts := F.2.2.2.2
  have hl : lv_has ls 2 [(0, .ref (ad 0)), (1, .int r)] := hl
  have hS : va_S (fun _ => False) H H [] := va_S.rf
  refine lv_iload_n hx hb dX3_isRule_0 rfl (lv_at hl 1 rfl) ?_
  refine lv_iconst (v := 0) hx hb dX3_isRule_1 (by decide) ?_
  refine lv_aload_n hx hb dX3_isRule_2 rfl (lv_at hl 0 rfl) ?_
  refine xget (ref := "LayeredChartersModel") (ci := 3) (v := .ref (ad 1)) (C := RX3) (T := TX3) (N := 9) F in_X3 hW hm rfl 0 (by decide) q1016 (fun _ h9 => h9) rfl dX3_isRule_3 ?_
  refine lv_iconst (v := 0) hx hb dX3_isRule_6 (by decide) ?_
  refine xild F hW hs (vp_in_nI (n := 0) (by omega) (by omega)) dX3_isRule_7 ?_
  refine lv_val (y := nI n) (hn0) ?_
  refine lv_iconst (v := 1) hx hb dX3_isRule_8 (by decide) ?_
  refine lv_isub hx hb dX3_isRule_9 ?_
  refine run_ro (w := .int (b2i (inR r 0 ((nI n) - 1)))) (rest := []) (kS F hW (metX3_in l E H r 0 ((nI n) - 1)) (lw_S q1049 q1050 q52 q1051) hdX3_in ⟨Nat.le_of_ble_eq_true rfl, Nat.le_of_ble_eq_true rfl⟩ hl.1 rfl (Nat.le_of_ble_eq_true rfl) dX3_isRule_10 ⟨Nat.le_of_ble_eq_true rfl, Nat.le_of_ble_eq_true rfl⟩) ?_
  exact hend _ _ _ _ _ _ _ (b2i_nar _) dX3_isRule_13 (⟨congrArg (fun z : Int32 => some (Value.int z)) (rfl), rfl⟩) hS (Nat.zero_le _) (Nat.zero_le _)

theorem hdX3_fits : Hd yX3_fits 3 := by decide +kernel
set_option maxHeartbeats 1000000 in
set_option maxRecDepth 100000 in
theorem metX3_fits (l : Launch) (E : EV) (H : Heap) (ad : Nat → Nat) (kept len told : Int32) (hm : oat E (ad 0) 3 (mfs ad kept len told) H) (f : Nat → Int32) (hs : iat E (ad 1) 0 169 f H) (i : Nat) (hi : i < 24) (c d : Int32) : Ro l yX3_fits cX3_fits 4 (some .boolean) 2 43 [.ref (ad 0), .int (nI i), .int c, .int d] E H (some (.int (b2i (fitsV (ruA f i) c d)))) := by
  refine Ct.ofZ (by decide) (Nat.le_of_ble_eq_true rfl) ?_
  intro p e s m bl mt cd ls Q hF hW hH hl hend
  obtain ⟨F, hin⟩ := hF
  have hx := F.1
  have hb := F.2.1
  have hts := F.2.2.2.2
  have hl : lv_has ls 4 [(0, .ref (ad 0)), (1, .int (nI i)), (2, .int c), (3, .int d)] := hl
  have hS : va_S (fun _ => False) H H [] := va_S.rf
  refine lv_aload_n hx hb dX3_fits_0 rfl (lv_at hl 0 rfl) ?_
  refine lv_iload_n hx hb dX3_fits_1 rfl (lv_at hl 1 rfl) ?_
  refine lv_iconst (v := 2) hx hb dX3_fits_2 (by decide) ?_
  refine run_ro (w := .int ((ruA f i).2.2.1)) (rest := []) (kV F hW (metX3_of l E H ad kept len told hm f hs (nI i) 2 (9 + 5 * i + 2) (at2 _) (by omega)) (lw_V q1087 q1089 qs21 q52 q1090) hdX3_of ⟨Nat.le_of_ble_eq_true rfl, Nat.le_of_ble_eq_true rfl⟩ (recv hW hm rfl) hl.1 rfl (Nat.le_of_ble_eq_true rfl) dX3_fits_3 ⟨Nat.le_of_ble_eq_true rfl, Nat.le_of_ble_eq_true rfl⟩) ?_
  refine lv_iload_n hx hb dX3_fits_6 rfl (lv_at hl 2 rfl) ?_
  refine lv_icmp_eq (tgt := 20) hx hb dX3_fits_7 (by decide) (fun c_1 => ?_) (fun c_1 => ?_)
  · skip
    refine lv_aload_n hx hb dX3_fits_20 rfl (lv_at hl 0 rfl) ?_
    refine lv_iload_n hx hb dX3_fits_21 rfl (lv_at hl 1 rfl) ?_
    refine lv_iconst (v := 3) hx hb dX3_fits_22 (by decide) ?_
    refine run_ro (w := .int ((ruA f i).2.2.2.1)) (rest := []) (kV F hW (metX3_of l E H ad kept len told hm f hs (nI i) 3 (9 + 5 * i + 3) (at3 _) (by omega)) (lw_V q1087 q1089 qs21 q52 q1090) hdX3_of ⟨Nat.le_of_ble_eq_true rfl, Nat.le_of_ble_eq_true rfl⟩ (recv hW hm rfl) hl.1 rfl (Nat.le_of_ble_eq_true rfl) dX3_fits_23 ⟨Nat.le_of_ble_eq_true rfl, Nat.le_of_ble_eq_true rfl⟩) ?_
    refine lv_iload_n hx hb dX3_fits_26 rfl (lv_at hl 3 rfl) ?_
    refine lv_icmp_eq (tgt := 41) hx hb dX3_fits_27 (by decide) (fun c_2 => ?_) (fun c_2 => ?_)
    · skip
      refine lv_iconst (v := 1) hx hb dX3_fits_41 (by decide) ?_
      refine lv_goto (tgt := 46) hx hb dX3_fits_42 (by decide) ?_
      exact hend _ _ _ _ _ _ _ rfl dX3_fits_46 (⟨congrArg (fun z : Int32 => some (Value.int z)) (by simp [b2i, fitsV, c_1, c_2]), rfl⟩) hS (Nat.zero_le _) (Nat.zero_le _)
    · skip
      refine lv_aload_n hx hb dX3_fits_30 rfl (lv_at hl 0 rfl) ?_
      refine lv_iload_n hx hb dX3_fits_31 rfl (lv_at hl 1 rfl) ?_
      refine lv_iconst (v := 3) hx hb dX3_fits_32 (by decide) ?_
      refine run_ro (w := .int ((ruA f i).2.2.2.1)) (rest := []) (kV F hW (metX3_of l E H ad kept len told hm f hs (nI i) 3 (9 + 5 * i + 3) (at3 _) (by omega)) (lw_V q1087 q1089 qs21 q52 q1090) hdX3_of ⟨Nat.le_of_ble_eq_true rfl, Nat.le_of_ble_eq_true rfl⟩ (recv hW hm rfl) hl.1 rfl (Nat.le_of_ble_eq_true rfl) dX3_fits_33 ⟨Nat.le_of_ble_eq_true rfl, Nat.le_of_ble_eq_true rfl⟩) ?_
      refine lv_bipush (v := 6) hx hb dX3_fits_36 (by decide) ?_
      refine lv_icmp_ne (tgt := 45) hx hb dX3_fits_38 (by decide) (fun c_3 => ?_) (fun c_3 => ?_)
      · skip
        refine lv_iconst (v := 0) hx hb dX3_fits_45 (by decide) ?_
        exact hend _ _ _ _ _ _ _ rfl dX3_fits_46 (⟨congrArg (fun z : Int32 => some (Value.int z)) (by simp [b2i, fitsV, c_1, c_2, c_3]), rfl⟩) hS (Nat.zero_le _) (Nat.zero_le _)
      · skip
        refine lv_iconst (v := 1) hx hb dX3_fits_41 (by decide) ?_
        refine lv_goto (tgt := 46) hx hb dX3_fits_42 (by decide) ?_
        exact hend _ _ _ _ _ _ _ rfl dX3_fits_46 (⟨congrArg (fun z : Int32 => some (Value.int z)) (by simp [b2i, fitsV, c_1, c_2, c_3]), rfl⟩) hS (Nat.zero_le _) (Nat.zero_le _)
  · skip
    refine lv_aload_n hx hb dX3_fits_10 rfl (lv_at hl 0 rfl) ?_
    refine lv_iload_n hx hb dX3_fits_11 rfl (lv_at hl 1 rfl) ?_
    refine lv_iconst (v := 2) hx hb dX3_fits_12 (by decide) ?_
    refine run_ro (w := .int ((ruA f i).2.2.1)) (rest := []) (kV F hW (metX3_of l E H ad kept len told hm f hs (nI i) 2 (9 + 5 * i + 2) (at2 _) (by omega)) (lw_V q1087 q1089 qs21 q52 q1090) hdX3_of ⟨Nat.le_of_ble_eq_true rfl, Nat.le_of_ble_eq_true rfl⟩ (recv hW hm rfl) hl.1 rfl (Nat.le_of_ble_eq_true rfl) dX3_fits_13 ⟨Nat.le_of_ble_eq_true rfl, Nat.le_of_ble_eq_true rfl⟩) ?_
    refine lv_iconst (v := 5) hx hb dX3_fits_16 (by decide) ?_
    refine lv_icmp_ne (tgt := 45) hx hb dX3_fits_17 (by decide) (fun c_4 => ?_) (fun c_4 => ?_)
    · skip
      refine lv_iconst (v := 0) hx hb dX3_fits_45 (by decide) ?_
      exact hend _ _ _ _ _ _ _ rfl dX3_fits_46 (⟨congrArg (fun z : Int32 => some (Value.int z)) (by simp [b2i, fitsV, c_1, c_4]), rfl⟩) hS (Nat.zero_le _) (Nat.zero_le _)
    · skip
      refine lv_aload_n hx hb dX3_fits_20 rfl (lv_at hl 0 rfl) ?_
      refine lv_iload_n hx hb dX3_fits_21 rfl (lv_at hl 1 rfl) ?_
      refine lv_iconst (v := 3) hx hb dX3_fits_22 (by decide) ?_
      refine run_ro (w := .int ((ruA f i).2.2.2.1)) (rest := []) (kV F hW (metX3_of l E H ad kept len told hm f hs (nI i) 3 (9 + 5 * i + 3) (at3 _) (by omega)) (lw_V q1087 q1089 qs21 q52 q1090) hdX3_of ⟨Nat.le_of_ble_eq_true rfl, Nat.le_of_ble_eq_true rfl⟩ (recv hW hm rfl) hl.1 rfl (Nat.le_of_ble_eq_true rfl) dX3_fits_23 ⟨Nat.le_of_ble_eq_true rfl, Nat.le_of_ble_eq_true rfl⟩) ?_
      refine lv_iload_n hx hb dX3_fits_26 rfl (lv_at hl 3 rfl) ?_
      refine lv_icmp_eq (tgt := 41) hx hb dX3_fits_27 (by decide) (fun c_5 => ?_) (fun c_5 => ?_)
      · skip
        refine lv_iconst (v := 1) hx hb dX3_fits_41 (by decide) ?_
        refine lv_goto (tgt := 46) hx hb dX3_fits_42 (by decide) ?_
        exact hend _ _ _ _ _ _ _ rfl dX3_fits_46 (⟨congrArg (fun z : Int32 => some (Value.int z)) (by simp [b2i, fitsV, c_1, c_4, c_5]), rfl⟩) hS (Nat.zero_le _) (Nat.zero_le _)
      · skip
        refine lv_aload_n hx hb dX3_fits_30 rfl (lv_at hl 0 rfl) ?_
        refine lv_iload_n hx hb dX3_fits_31 rfl (lv_at hl 1 rfl) ?_
        refine lv_iconst (v := 3) hx hb dX3_fits_32 (by decide) ?_
        refine run_ro (w := .int ((ruA f i).2.2.2.1)) (rest := []) (kV F hW (metX3_of l E H ad kept len told hm f hs (nI i) 3 (9 + 5 * i + 3) (at3 _) (by omega)) (lw_V q1087 q1089 qs21 q52 q1090) hdX3_of ⟨Nat.le_of_ble_eq_true rfl, Nat.le_of_ble_eq_true rfl⟩ (recv hW hm rfl) hl.1 rfl (Nat.le_of_ble_eq_true rfl) dX3_fits_33 ⟨Nat.le_of_ble_eq_true rfl, Nat.le_of_ble_eq_true rfl⟩) ?_
        refine lv_bipush (v := 6) hx hb dX3_fits_36 (by decide) ?_
        refine lv_icmp_ne (tgt := 45) hx hb dX3_fits_38 (by decide) (fun c_6 => ?_) (fun c_6 => ?_)
        · skip
          refine lv_iconst (v := 0) hx hb dX3_fits_45 (by decide) ?_
          exact hend _ _ _ _ _ _ _ rfl dX3_fits_46 (⟨congrArg (fun z : Int32 => some (Value.int z)) (by simp [b2i, fitsV, c_1, c_4, c_5, c_6]), rfl⟩) hS (Nat.zero_le _) (Nat.zero_le _)
        · skip
          refine lv_iconst (v := 1) hx hb dX3_fits_41 (by decide) ?_
          refine lv_goto (tgt := 46) hx hb dX3_fits_42 (by decide) ?_
          exact hend _ _ _ _ _ _ _ rfl dX3_fits_46 (⟨congrArg (fun z : Int32 => some (Value.int z)) (by simp [b2i, fitsV, c_1, c_4, c_5, c_6]), rfl⟩) hS (Nat.zero_le _) (Nat.zero_le _)

theorem hdX3_isPermitted : Hd yX3_isPermitted 3 := by decide +kernel
set_option maxHeartbeats 1000000 in
set_option maxRecDepth 100000 in
theorem metX3_isPermitted (l : Launch) (E : EV) (H : Heap) (ad : Nat → Nat) (kept len told : Int32) (hm : oat E (ad 0) 3 (mfs ad kept len told) H) (f : Nat → Int32) (hs : iat E (ad 1) 0 169 f H) (n : Nat) (hn0 : f 0 = nI n) (hn24 : n ≤ 24) (c d but : Int32) : Ro l yX3_isPermitted cX3_isPermitted 6 (some .boolean) 3 66 [.ref (ad 0), .int c, .int d, .int but] E H (some (.int (b2i (pmM (ruA f) c d but n)))) := by
  refine Ct.ofZ (by decide) (Nat.le_of_ble_eq_true rfl) ?_
  intro p e s m bl mt cd ls Q hF hW hH hl hend
  obtain ⟨F, hin⟩ := hF
  have hx := F.1
  have hb := F.2.1
  have hts := F.2.2.2.2
  have hl : lv_has ls 6 [(0, .ref (ad 0)), (1, .int c), (2, .int d), (3, .int but)] := hl
  have hS : va_S (fun _ => False) H H [] := va_S.rf
  refine lv_iconst (v := 0) hx hb dX3_isPermitted_0 (by decide) ?_
  refine lv_istore (lv' := [(4, .int 0), (0, .ref (ad 0)), (1, .int c), (2, .int d), (3, .int but)]) hx hb dX3_isPermitted_1 hl (by decide) rfl (fun ls hl => ?_)
  refine lv_iconst (v := 0) hx hb dX3_isPermitted_3 (by decide) ?_
  refine lv_istore (lv' := [(5, .int 0), (4, .int 0), (0, .ref (ad 0)), (1, .int c), (2, .int d), (3, .int but)]) hx hb dX3_isPermitted_4 hl (by decide) rfl (fun ls hl => ?_)
  have loop6 : ∀ (nn i : Nat) (x5 x4 : Int32), i + nn = n → x4 = b2i (pmM (ruA f) c d but i) → x5 = nI i → ∀ ls : Array Slot, lv_has ls 6 [(5, .int x5), (4, .int x4), (0, .ref (ad 0)), (1, .int c), (2, .int d), (3, .int but)] → W p l e ({ frames := 3, cells := 0, slots := 0, locals := 66 } : Room) s m ([.ref (ad 0), .int c, .int d, .int but] : List Value).toArray bl mt cd H [] 0 0 Q (F0 m 6 ls []) := by
    intro nn
    induction nn with
    | zero =>
      intro i x5 x4 hn e4 e5  ls hl
      have hiN : i = n := by omega
      rw [hiN] at e5
      try rw [hiN] at e4
      rw [e5, e4] at hl
      clear e5 e4
      refine lv_iload hx hb dX3_isPermitted_6 (lv_at hl 0 rfl) ?_
      refine lv_aload_n hx hb dX3_isPermitted_8 rfl (lv_at hl 2 rfl) ?_
      refine xget (ref := "LayeredChartersModel") (ci := 3) (v := .ref (ad 1)) (C := RX3) (T := TX3) (N := 9) F in_X3 hW hm rfl 0 (by decide) q1016 (fun _ h9 => h9) rfl dX3_isPermitted_9 ?_
      refine lv_iconst (v := 0) hx hb dX3_isPermitted_12 (by decide) ?_
      refine xild F hW hs (vp_in_nI (n := 0) (by omega) (by omega)) dX3_isPermitted_13 ?_
      refine lv_val (y := nI n) (hn0) ?_
      refine lv_icmp_ge (tgt := 62) hx hb dX3_isPermitted_14 (by decide) (fun _ => ?_) (fun c9 => absurd (nI_le (by omega) (by omega)) c9)
      refine lv_iload hx hb dX3_isPermitted_62 (lv_at hl 1 rfl) ?_
      exact hend _ _ _ _ _ _ _ (b2i_nar _) dX3_isPermitted_64 (⟨congrArg (fun z : Int32 => some (Value.int z)) (rfl), rfl⟩) hS (Nat.zero_le _) (Nat.zero_le _)
    | succ nn ih6 =>
      intro i x5 x4 hn e4 e5  ls hl
      rw [e5, e4] at hl
      clear e5 e4
      refine lv_iload hx hb dX3_isPermitted_6 (lv_at hl 0 rfl) ?_
      refine lv_aload_n hx hb dX3_isPermitted_8 rfl (lv_at hl 2 rfl) ?_
      refine xget (ref := "LayeredChartersModel") (ci := 3) (v := .ref (ad 1)) (C := RX3) (T := TX3) (N := 9) F in_X3 hW hm rfl 0 (by decide) q1016 (fun _ h9 => h9) rfl dX3_isPermitted_9 ?_
      refine lv_iconst (v := 0) hx hb dX3_isPermitted_12 (by decide) ?_
      refine xild F hW hs (vp_in_nI (n := 0) (by omega) (by omega)) dX3_isPermitted_13 ?_
      refine lv_val (y := nI n) (hn0) ?_
      refine lv_icmp_ge (tgt := 62) hx hb dX3_isPermitted_14 (by decide) (fun c9 => absurd c9 (nI_ge (by omega) (by omega))) (fun _ => ?_)
      refine lv_iload hx hb dX3_isPermitted_17 (lv_at hl 1 rfl) ?_
      refine lv_if_ne (tgt := 49) hx hb dX3_isPermitted_19 (by decide) (fun c_1 => ?_) (fun c_1 => ?_)
      · skip
        have bc_1 := c_1
        have c_1 := b2i_t c_1
        refine lv_iconst (v := 1) hx hb dX3_isPermitted_49 (by decide) ?_
        refine lv_goto (tgt := 54) hx hb dX3_isPermitted_50 (by decide) ?_
        refine lv_istore (lv' := [(4, .int 1), (5, .int (nI i)), (0, .ref (ad 0)), (1, .int c), (2, .int d), (3, .int but)]) hx hb dX3_isPermitted_54 hl (by decide) rfl (fun ls hl => ?_)
        refine lv_iinc (v := nI (i + 1)) (lv' := [(5, .int (nI (i + 1))), (4, .int 1), (0, .ref (ad 0)), (1, .int c), (2, .int d), (3, .int but)]) hx hb dX3_isPermitted_56 hl (k := 1) rfl (nI_1 _) (by decide) rfl (fun ls hl => ?_)
        refine lv_goto (tgt := 6) hx hb dX3_isPermitted_59 (by decide) ?_
        exact ih6 (i + 1) _ _ (by omega) (by simp [b2i, pmM_s, pmStep, c_1]) rfl ls (lv_sub hl [0, 1, 2, 3, 4, 5] rfl)
      · skip
        have bc_1 := c_1
        have c_1 := b2i_f c_1
        refine lv_iload hx hb dX3_isPermitted_22 (lv_at hl 0 rfl) ?_
        refine lv_iload_n hx hb dX3_isPermitted_24 rfl (lv_at hl 5 rfl) ?_
        refine lv_icmp_eq (tgt := 53) hx hb dX3_isPermitted_25 (by decide) (fun c_2 => ?_) (fun c_2 => ?_)
        · skip
          refine lv_iconst (v := 0) hx hb dX3_isPermitted_53 (by decide) ?_
          refine lv_istore (lv' := [(4, .int 0), (5, .int (nI i)), (0, .ref (ad 0)), (1, .int c), (2, .int d), (3, .int but)]) hx hb dX3_isPermitted_54 hl (by decide) rfl (fun ls hl => ?_)
          refine lv_iinc (v := nI (i + 1)) (lv' := [(5, .int (nI (i + 1))), (4, .int 0), (0, .ref (ad 0)), (1, .int c), (2, .int d), (3, .int but)]) hx hb dX3_isPermitted_56 hl (k := 1) rfl (nI_1 _) (by decide) rfl (fun ls hl => ?_)
          refine lv_goto (tgt := 6) hx hb dX3_isPermitted_59 (by decide) ?_
          exact ih6 (i + 1) _ _ (by omega) (by simp [b2i, pmM_s, pmStep, c_1, c_2]) rfl ls (lv_sub hl [0, 1, 2, 3, 4, 5] rfl)
        · skip
          refine lv_aload_n hx hb dX3_isPermitted_28 rfl (lv_at hl 2 rfl) ?_
          refine lv_iload hx hb dX3_isPermitted_29 (lv_at hl 0 rfl) ?_
          refine lv_iconst (v := 1) hx hb dX3_isPermitted_31 (by decide) ?_
          refine run_ro (w := .int ((ruA f i).2.1)) (rest := []) (kV F hW (metX3_of l E H ad kept len told hm f hs (nI i) 1 (9 + 5 * i + 1) (at1 _) (by omega)) (lw_V q1087 q1089 qs21 q52 q1090) hdX3_of ⟨Nat.le_of_ble_eq_true rfl, Nat.le_of_ble_eq_true rfl⟩ (recv hW hm rfl) hl.1 rfl (Nat.le_of_ble_eq_true rfl) dX3_isPermitted_32 ⟨Nat.le_of_ble_eq_true rfl, Nat.le_of_ble_eq_true rfl⟩) ?_
          refine lv_if_ne (tgt := 53) hx hb dX3_isPermitted_35 (by decide) (fun c_3 => ?_) (fun c_3 => ?_)
          · skip
            refine lv_iconst (v := 0) hx hb dX3_isPermitted_53 (by decide) ?_
            refine lv_istore (lv' := [(4, .int 0), (5, .int (nI i)), (0, .ref (ad 0)), (1, .int c), (2, .int d), (3, .int but)]) hx hb dX3_isPermitted_54 hl (by decide) rfl (fun ls hl => ?_)
            refine lv_iinc (v := nI (i + 1)) (lv' := [(5, .int (nI (i + 1))), (4, .int 0), (0, .ref (ad 0)), (1, .int c), (2, .int d), (3, .int but)]) hx hb dX3_isPermitted_56 hl (k := 1) rfl (nI_1 _) (by decide) rfl (fun ls hl => ?_)
            refine lv_goto (tgt := 6) hx hb dX3_isPermitted_59 (by decide) ?_
            exact ih6 (i + 1) _ _ (by omega) (by simp [b2i, pmM_s, pmStep, c_1, c_2, c_3]) rfl ls (lv_sub hl [0, 1, 2, 3, 4, 5] rfl)
          · skip
            refine lv_aload_n hx hb dX3_isPermitted_38 rfl (lv_at hl 2 rfl) ?_
            refine lv_iload hx hb dX3_isPermitted_39 (lv_at hl 0 rfl) ?_
            refine lv_iload_n hx hb dX3_isPermitted_41 rfl (lv_at hl 3 rfl) ?_
            refine lv_iload_n hx hb dX3_isPermitted_42 rfl (lv_at hl 4 rfl) ?_
            refine run_ro (w := .int (b2i (fitsV (ruA f i) c d))) (rest := []) (kV F hW (metX3_fits l E H ad kept len told hm f hs i (by omega) c d) (lw_V q1115 q1117 qs27 q52 q1118) hdX3_fits ⟨Nat.le_of_ble_eq_true rfl, Nat.le_of_ble_eq_true rfl⟩ (recv hW hm rfl) hl.1 rfl (Nat.le_of_ble_eq_true rfl) dX3_isPermitted_43 ⟨Nat.le_of_ble_eq_true rfl, Nat.le_of_ble_eq_true rfl⟩) ?_
            refine lv_if_eq (tgt := 53) hx hb dX3_isPermitted_46 (by decide) (fun c_4 => ?_) (fun c_4 => ?_)
            · skip
              have bc_4 := c_4
              have c_4 := b2i_f c_4
              refine lv_iconst (v := 0) hx hb dX3_isPermitted_53 (by decide) ?_
              refine lv_istore (lv' := [(4, .int 0), (5, .int (nI i)), (0, .ref (ad 0)), (1, .int c), (2, .int d), (3, .int but)]) hx hb dX3_isPermitted_54 hl (by decide) rfl (fun ls hl => ?_)
              refine lv_iinc (v := nI (i + 1)) (lv' := [(5, .int (nI (i + 1))), (4, .int 0), (0, .ref (ad 0)), (1, .int c), (2, .int d), (3, .int but)]) hx hb dX3_isPermitted_56 hl (k := 1) rfl (nI_1 _) (by decide) rfl (fun ls hl => ?_)
              refine lv_goto (tgt := 6) hx hb dX3_isPermitted_59 (by decide) ?_
              exact ih6 (i + 1) _ _ (by omega) (by simp [b2i, pmM_s, pmStep, c_1, c_2, c_3, c_4]) rfl ls (lv_sub hl [0, 1, 2, 3, 4, 5] rfl)
            · skip
              have bc_4 := c_4
              have c_4 := b2i_t c_4
              refine lv_iconst (v := 1) hx hb dX3_isPermitted_49 (by decide) ?_
              refine lv_goto (tgt := 54) hx hb dX3_isPermitted_50 (by decide) ?_
              refine lv_istore (lv' := [(4, .int 1), (5, .int (nI i)), (0, .ref (ad 0)), (1, .int c), (2, .int d), (3, .int but)]) hx hb dX3_isPermitted_54 hl (by decide) rfl (fun ls hl => ?_)
              refine lv_iinc (v := nI (i + 1)) (lv' := [(5, .int (nI (i + 1))), (4, .int 1), (0, .ref (ad 0)), (1, .int c), (2, .int d), (3, .int but)]) hx hb dX3_isPermitted_56 hl (k := 1) rfl (nI_1 _) (by decide) rfl (fun ls hl => ?_)
              refine lv_goto (tgt := 6) hx hb dX3_isPermitted_59 (by decide) ?_
              exact ih6 (i + 1) _ _ (by omega) (by simp [b2i, pmM_s, pmStep, c_1, c_2, c_3, c_4]) rfl ls (lv_sub hl [0, 1, 2, 3, 4, 5] rfl)
  exact loop6 (n - 0) 0 _ _ (by omega) rfl rfl  ls (lv_sub hl [0, 1, 2, 3, 4, 5] rfl)

