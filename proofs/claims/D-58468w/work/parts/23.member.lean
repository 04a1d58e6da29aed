/-! MEMBER, RULE: constructors, copy -/
set_option maxRecDepth 100000
/-- a member: craft, rank, done, refused -/
abbrev MV : Type := Int32 × Int32 × Int32 × Int32
abbrev mvF (v : MV) : List Value := [.int v.1, .int v.2.1, .int v.2.2.1, .int v.2.2.2]
theorem hdX5_init : Hd yX5_init 2 := by decide +kernel
set_option maxHeartbeats 1000000 in
set_option maxRecDepth 100000 in
theorem metX5_init (l : Launch) (E : EV) (H : Heap) (q : Nat) (ho : Old E q) (craft rank : Int32) (hq : oat E q 4 [.int 0, .int 0, .int 0, .int 0] H) : Ct l yX5_init cX5_init 3 none 1 12 (0) (0) [.ref q, .int craft, .int rank] E H (fun x => x = q) (pN (fun H1 => oat E q 4 [.int craft, .int rank, .int 0, .int 0] H1)) := by
  refine Ct.ofV (by decide) (Nat.le_of_ble_eq_true rfl) ?_
  intro p e s m bl mt cd ls Q hF hW hH hl hend
  obtain ⟨F, hin⟩ := hF
  have hx := F.1
  have hb := F.2.1
  have hts := F.2.2.2.2
  have hl : lv_has ls 3 [(0, .ref q), (1, .int craft), (2, .int rank)] := hl
  have hS : va_S (fun x => x = q) H H [] := va_S.rf
  refine lv_aload_n hx hb dX5_init_0 rfl (lv_at hl 0 rfl) ?_
  refine W.objInit hx hb F.2.2.2.1 (hts _ q332) (hts _ q71) (hts _ q72) rfl (by rw [F.2.2.1]; exact hl.1) rfl dX5_init_1 (Nat.le_of_ble_eq_true rfl) (Nat.le_of_ble_eq_true rfl) ?_
  refine W.eq (g2 := F0 m 4 ls []) rfl ?_
  refine lv_aload_n hx hb dX5_init_4 rfl (lv_at hl 0 rfl) ?_
  refine lv_iload_n hx hb dX5_init_5 rfl (lv_at hl 1 rfl) ?_
  refine xputF (ref := "LayeredCharters$Member") (ci := 4) (v := .int craft) (C := RX5) (T := TX5) (N := 4) F in_X5 tyX5 tyX5_ok nmX5 hW hq hS rfl rfl 0 (by decide) q333 (fun _ h9 => h9) rfl hin rfl rfl rfl (Nat.le_of_ble_eq_true rfl) dX5_init_6 (fun H_1 locs ho_1 hu_1 hS_1 => ?_)
  have ho_1 : oat E q 4 [.int craft, .int 0, .int 0, .int 0] H_1 := ho_1
  have hz_H_1 : H_1.size = H.size := hu_1.1
  have hW_H_1 := hW.kept hu_1.chg (fun q _ hq => hq ▸ ho)
  refine lv_aload_n hx hb dX5_init_9 rfl (lv_at hl 0 rfl) ?_
  refine lv_iload_n hx hb dX5_init_10 rfl (lv_at hl 2 rfl) ?_
  refine xput (ref := "LayeredCharters$Member") (ci := 4) (v := .int rank) (C := RX5) (T := TX5) (N := 4) F in_X5 tyX5 tyX5_ok nmX5 hW_H_1 ho_1 hS_1 rfl rfl 1 (by decide) q336 (fun _ h9 => h9) rfl rfl rfl (Nat.le_of_ble_eq_true rfl) dX5_init_11 (fun H_2 locs ho_2 hu_2 hS_2 => ?_)
  have ho_2 : oat E q 4 [.int craft, .int rank, .int 0, .int 0] H_2 := ho_2
  have hz_H_2 : H_2.size = H_1.size := hu_2.1
  have hW_H_2 := hW_H_1.kept hu_2.chg (fun q _ hq => hq ▸ ho)
  exact hend _ _ _ _ _ _ dX5_init_14 (⟨rfl, ho_2⟩) hS_2 (Nat.zero_le _) (Nat.zero_le _)

theorem hdX6_init : Hd yX6_init 5 := by decide +kernel
set_option maxHeartbeats 1000000 in
set_option maxRecDepth 100000 in
theorem metX6_init (l : Launch) (E : EV) (H : Heap) (q : Nat) (ho : Old E q) (v : RV) (hq : oat E q 5 [.int 0, .int 0, .int 0, .int 0, .int 0] H) : Ct l yX6_init cX6_init 6 none 1 12 (0) (0) [.ref q, .int v.1, .int v.2.1, .int v.2.2.1, .int v.2.2.2.1, .int v.2.2.2.2] E H (fun x => x = q) (pN (fun H1 => oat E q 5 (rvF v) H1)) := by
  refine Ct.ofV (by decide) (Nat.le_of_ble_eq_true rfl) ?_
  intro p e s m bl mt cd ls Q hF hW hH hl hend
  obtain ⟨F, hin⟩ := hF
  have hx := F.1
  have hb := F.2.1
  have hts := F.2.2.2.2
  have hl : lv_has ls 6 [(0, .ref q), (1, .int v.1), (2, .int v.2.1), (3, .int v.2.2.1), (4, .int v.2.2.2.1), (5, .int v.2.2.2.2)] := hl
  have hS : va_S (fun x => x = q) H H [] := va_S.rf
  refine lv_aload_n hx hb dX6_init_0 rfl (lv_at hl 0 rfl) ?_
  refine W.objInit hx hb F.2.2.2.1 (hts _ q391) (hts _ q71) (hts _ q72) rfl (by rw [F.2.2.1]; exact hl.1) rfl dX6_init_1 (Nat.le_of_ble_eq_true rfl) (Nat.le_of_ble_eq_true rfl) ?_
  refine W.eq (g2 := F0 m 4 ls []) rfl ?_
  refine lv_aload_n hx hb dX6_init_4 rfl (lv_at hl 0 rfl) ?_
  refine lv_iload_n hx hb dX6_init_5 rfl (lv_at hl 1 rfl) ?_
  refine xputF (ref := "LayeredCharters$Rule") (ci := 5) (v := .int v.1) (C := RX6) (T := TX6) (N := 5) F in_X6 tyX6 tyX6_ok nmX6 hW hq hS rfl rfl 0 (by decide) q392 (fun _ h9 => h9) rfl hin rfl rfl rfl (Nat.le_of_ble_eq_true rfl) dX6_init_6 (fun H_1 locs ho_1 hu_1 hS_1 => ?_)
  have ho_1 : oat E q 5 [.int v.1, .int 0, .int 0, .int 0, .int 0] H_1 := ho_1
  have hz_H_1 : H_1.size = H.size := hu_1.1
  have hW_H_1 := hW.kept hu_1.chg (fun q _ hq => hq ▸ ho)
  refine lv_aload_n hx hb dX6_init_9 rfl (lv_at hl 0 rfl) ?_
  refine lv_iload_n hx hb dX6_init_10 rfl (lv_at hl 2 rfl) ?_
  refine xputF (ref := "LayeredCharters$Rule") (ci := 5) (v := .int v.2.1) (C := RX6) (T := TX6) (N := 5) F in_X6 tyX6 tyX6_ok nmX6 hW_H_1 ho_1 hS_1 rfl rfl 1 (by decide) q396 (fun _ h9 => h9) rfl hin rfl rfl rfl (Nat.le_of_ble_eq_true rfl) dX6_init_11 (fun H_2 locs ho_2 hu_2 hS_2 => ?_)
  have ho_2 : oat E q 5 [.int v.1, .int v.2.1, .int 0, .int 0, .int 0] H_2 := ho_2
  have hz_H_2 : H_2.size = H_1.size := hu_2.1
  have hW_H_2 := hW_H_1.kept hu_2.chg (fun q _ hq => hq ▸ ho)
  refine lv_aload_n hx hb dX6_init_14 rfl (lv_at hl 0 rfl) ?_
  refine lv_iload_n hx hb dX6_init_15 rfl (lv_at hl 3 rfl) ?_
  refine xputF (ref := "LayeredCharters$Rule") (ci := 5) (v := .int v.2.2.1) (C := RX6) (T := TX6) (N := 5) F in_X6 tyX6 tyX6_ok nmX6 hW_H_2 ho_2 hS_2 rfl rfl 2 (by decide) q399 (fun _ h9 => h9) rfl hin rfl rfl rfl (Nat.le_of_ble_eq_true rfl) dX6_init_16 (fun H_3 locs ho_3 hu_3 hS_3 => ?_)
  have ho_3 : oat E q 5 [.int v.1, .int v.2.1, .int v.2.2.1, .int 0, .int 0] H_3 := ho_3
  have hz_H_3 : H_3.size = H_2.size := hu_3.1
  have hW_H_3 := hW_H_2.kept hu_3.chg (fun q _ hq => hq ▸ ho)
  refine lv_aload_n hx hb dX6_init_19 rfl (lv_at hl 0 rfl) ?_
  refine lv_iload hx hb dX6_init_20 (lv_at hl 4 rfl) ?_
  refine xputF (ref := "LayeredCharters$Rule") (ci := 5) (v := .int v.2.2.2.1) (C := RX6) (T := TX6) (N := 5) F in_X6 tyX6 tyX6_ok nmX6 hW_H_3 ho_3 hS_3 rfl rfl 3 (by decide) q401 (fun _ h9 => h9) rfl hin rfl rfl rfl (Nat.le_of_ble_eq_true rfl) dX6_init_22 (fun H_4 locs ho_4 hu_4 hS_4 => ?_)
  have ho_4 : oat E q 5 [.int v.1, .int v.2.1, .int v.2.2.1, .int v.2.2.2.1, .int 0] H_4 := ho_4
  have hz_H_4 : H_4.size = H_3.size := hu_4.1
  have hW_H_4 := hW_H_3.kept hu_4.chg (fun q _ hq => hq ▸ ho)
  refine lv_aload_n hx hb dX6_init_25 rfl (lv_at hl 0 rfl) ?_
  refine lv_iload hx hb dX6_init_26 (lv_at hl 5 rfl) ?_
  refine xputF (ref := "LayeredCharters$Rule") (ci := 5) (v := .int v.2.2.2.2) (C := RX6) (T := TX6) (N := 5) F in_X6 tyX6 tyX6_ok nmX6 hW_H_4 ho_4 hS_4 rfl rfl 4 (by decide) q403 (fun _ h9 => h9) rfl hin rfl rfl rfl (Nat.le_of_ble_eq_true rfl) dX6_init_28 (fun H_5 locs ho_5 hu_5 hS_5 => ?_)
  have ho_5 : oat E q 5 [.int v.1, .int v.2.1, .int v.2.2.1, .int v.2.2.2.1, .int v.2.2.2.2] H_5 := ho_5
  have hz_H_5 : H_5.size = H_4.size := hu_5.1
  have hW_H_5 := hW_H_4.kept hu_5.chg (fun q _ hq => hq ▸ ho)
  exact hend _ _ _ _ _ _ dX6_init_31 (⟨rfl, ho_5⟩) hS_5 (Nat.zero_le _) (Nat.zero_le _)

theorem hdX5_copy : Hd yX5_copy 0 := by decide +kernel
set_option maxHeartbeats 1000000 in
set_option maxRecDepth 100000 in
theorem metX5_copy (l : Launch) (E : EV) (H : Heap) (q : Nat) (v : MV) (hq : oat E q 4 (mvF v) H) : Ct l yX5_copy cX5_copy 2 (some (.object "LayeredCharters$Member")) 2 34 (1) (4) [.ref q] E H (fun q => H.size ≤ q) (pA (fun r H1 => r = H.size ∧ oat E H.size 4 (mvF v) H1)) := by
  refine Ct.ofA (Or.inl ⟨_, rfl⟩) (by decide) (Nat.le_of_ble_eq_true rfl) ?_
  intro p e s m bl mt cd ls Q hF hW hH hl hend
  obtain ⟨F, hin⟩ := hF
  have hx := F.1
  have hb := F.2.1
  have hts := F.2.2.2.2
  have hl : lv_has ls 2 [(0, .ref q)] := hl
  have hS : va_S (fun q => H.size ≤ q) H H [] := va_S.rf
  refine xnew (ci := 4) (fs := [.int 0, .int 0, .int 0, .int 0]) (C := RX5) (T := TX5) (N := 4) F in_X5 tyX5 tyX5_ok q327 q328 q60 hW hS rfl (fun j hj => by rcases (show j = 0 ∨ j = 1 ∨ j = 2 ∨ j = 3 by omega) with rfl | rfl | rfl | rfl <;> rfl) (by show 0 + 1 ≤ 1; omega) (by show 0 + 4 ≤ 4; omega) dX5_copy_0 (fun H_1 ho_1 hp_1 hS_1 => ?_)
  have hz_H_1 : H_1.size = H.size + 1 := hp_1.1
  have hW_H_1 := hW.kept (hp_1.chg (A := fun _ => False)) (fun _ _ h9 => h9.elim)
  have hq_H_1 := hq.kept (hp_1.chg (A := fun _ => False)) (fun h9 => h9)
  refine lv_dup hx hb dX5_copy_3 rfl ?_
  refine lv_aload_n hx hb dX5_copy_4 rfl (lv_at hl 0 rfl) ?_
  refine xget (ref := "LayeredCharters$Member") (ci := 4) (v := .int v.1) (C := RX5) (T := TX5) (N := 4) F in_X5 hW_H_1 hq_H_1 rfl 0 (by decide) q333 (fun _ h9 => h9) rfl dX5_copy_5 ?_
  refine lv_aload_n hx hb dX5_copy_8 rfl (lv_at hl 0 rfl) ?_
  refine xget (ref := "LayeredCharters$Member") (ci := 4) (v := .int v.2.1) (C := RX5) (T := TX5) (N := 4) F in_X5 hW_H_1 hq_H_1 rfl 1 (by decide) q336 (fun _ h9 => h9) rfl dX5_copy_9 ?_
  refine run_chN (rest := [.ref H.size]) (kI F hW_H_1 (metX5_init l E H_1 H.size (show E.2.2.1 ≤ H.size from hW.2.2) v.1 v.2.1 ho_1) q331 q60 q329 q330 rfl hdX5_init ⟨Nat.le_of_ble_eq_true rfl, Nat.le_of_ble_eq_true rfl⟩ hl.1 rfl (Nat.le_of_ble_eq_true rfl) dX5_copy_12 ⟨by show 1 + 0 ≤ 1; omega, by show 4 + 0 ≤ 4; omega⟩) hS_1 (fun q9 h9 => h9 ▸ Nat.le_refl _) (fun H_2 locs hp_2 hc_2 hS_2 => ?_)
  have hW_H_2 := hW_H_1.kept hc_2 (fun q9 _ h9 => h9 ▸ (show E.2.2.1 ≤ H.size from hW.2.2))
  have hq_H_2 := hq_H_1.kept hc_2 (fun h9 => Nat.ne_of_lt hq.lt (show q = H.size from h9))
  refine lv_astore_n (lv' := [(1, .ref H.size), (0, .ref q)]) hx hb dX5_copy_15 rfl hl (by decide) rfl (fun ls hl => ?_)
  refine lv_aload_n hx hb dX5_copy_16 rfl (lv_at hl 0 rfl) ?_
  refine lv_aload_n hx hb dX5_copy_17 rfl (lv_at hl 1 rfl) ?_
  refine xget (ref := "LayeredCharters$Member") (ci := 4) (v := .int v.2.2.1) (C := RX5) (T := TX5) (N := 4) F in_X5 hW_H_2 hq_H_2 rfl 2 (by decide) q339 (fun _ h9 => h9) rfl dX5_copy_18 ?_
  refine xput (ref := "LayeredCharters$Member") (ci := 4) (v := .int v.2.2.1) (C := RX5) (T := TX5) (N := 4) F in_X5 tyX5 tyX5_ok nmX5 hW_H_2 hp_2 hS_2 (Nat.le_refl _) rfl 2 (by decide) q339 (fun _ h9 => h9) rfl rfl rfl (Nat.le_of_ble_eq_true rfl) dX5_copy_21 (fun H_3 locs ho_3 hu_3 hS_3 => ?_)
  have ho_3 : oat E H.size 4 [.int v.1, .int v.2.1, .int v.2.2.1, .int 0] H_3 := ho_3
  have hz_H_3 : H_3.size = H_2.size := hu_3.1
  have hW_H_3 := hW_H_2.kept hu_3.chg (fun q _ hq => hq ▸ (show E.2.2.1 ≤ H.size from hW.2.2))
  have hq_H_3 := hq_H_2.kept hu_3.chg (Nat.ne_of_lt hq.lt)
  refine lv_aload_n hx hb dX5_copy_24 rfl (lv_at hl 0 rfl) ?_
  refine lv_aload_n hx hb dX5_copy_25 rfl (lv_at hl 1 rfl) ?_
  refine xget (ref := "LayeredCharters$Member") (ci := 4) (v := .int v.2.2.2) (C := RX5) (T := TX5) (N := 4) F in_X5 hW_H_3 hq_H_3 rfl 3 (by decide) q342 (fun _ h9 => h9) rfl dX5_copy_26 ?_
  refine xput (ref := "LayeredCharters$Member") (ci := 4) (v := .int v.2.2.2) (C := RX5) (T := TX5) (N := 4) F in_X5 tyX5 tyX5_ok nmX5 hW_H_3 ho_3 hS_3 (Nat.le_refl _) rfl 3 (by decide) q342 (fun _ h9 => h9) rfl rfl rfl (Nat.le_of_ble_eq_true rfl) dX5_copy_29 (fun H_4 locs ho_4 hu_4 hS_4 => ?_)
  have ho_4 : oat E H.size 4 [.int v.1, .int v.2.1, .int v.2.2.1, .int v.2.2.2] H_4 := ho_4
  have hz_H_4 : H_4.size = H_3.size := hu_4.1
  have hW_H_4 := hW_H_3.kept hu_4.chg (fun q _ hq => hq ▸ (show E.2.2.1 ≤ H.size from hW.2.2))
  have hq_H_4 := hq_H_3.kept hu_4.chg (Nat.ne_of_lt hq.lt)
  refine lv_aload_n hx hb dX5_copy_32 rfl (lv_at hl 0 rfl) ?_
  exact hend _ _ _ _ _ _ _ (Or.inr ⟨_, rfl⟩) dX5_copy_33 (⟨_, rfl, rfl, ho_4⟩) hS_4 (by first | exact Nat.le_refl _ | (show (1 : Nat) ≤ 1; omega)) (by first | exact Nat.le_refl _ | (show (4 : Nat) ≤ 4; omega))

