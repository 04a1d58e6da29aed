/-! STRINGBUILDER: the constructor -/
set_option maxRecDepth 100000
theorem hdJ3_init : Hd yJ3_init 1 := by decide +kernel
set_option maxHeartbeats 1000000 in
set_option maxRecDepth 100000 in
theorem metJ3_init (l : Launch) (E : EV) (H : Heap) (q : Nat) (hqo : Old E q) (hq : oat E q 7 [.null, .int 0, .int 0, .int 0] H) : Ct l yJ3_init cJ3_init 2 none 1 12 (1) (16) [.ref q, .int 16] E H (fun x => x = q ∨ H.size ≤ x) (pN (fun H1 => SB E q H.size 16 0 0 (fun _ => 0) H1)) := by
  refine Ct.ofV (by decide) (Nat.le_of_ble_eq_true rfl) ?_
  intro p e s m bl mt cd ls Q hF hW hH hl hend
  obtain ⟨F, hin⟩ := hF
  have hx := F.1
  have hb := F.2.1
  have hts := F.2.2.2.2
  have hl : lv_has ls 2 [(0, .ref q), (1, .int 16)] := hl
  have hS : va_S (fun x => x = q ∨ H.size ≤ x) H H [] := va_S.rf
  refine lv_aload_n hx hb dJ3_init_0 rfl (lv_at hl 0 rfl) ?_
  refine W.objInit hx hb F.2.2.2.1 (hts _ q152) (hts _ q71) (hts _ q72) rfl (by rw [F.2.2.1]; exact hl.1) rfl dJ3_init_1 (Nat.le_of_ble_eq_true rfl) (Nat.le_of_ble_eq_true rfl) ?_
  refine W.eq (g2 := F0 m 4 ls []) rfl ?_
  refine xgets F hW.2.1.2.2.2.1 q153 dJ3_init_4 ?_
  refine lv_if_eq (tgt := 25) hx hb dJ3_init_7 (by decide) (fun c9 => absurd c9 (by decide)) (fun _ => ?_)
  refine lv_aload_n hx hb dJ3_init_10 rfl (lv_at hl 0 rfl) ?_
  refine lv_iload_n hx hb dJ3_init_11 rfl (lv_at hl 1 rfl) ?_
  refine xnewa (atype := .byte) F q176 rfl hW hS 1 rfl (fun _ h => h) rfl (N' := 16) (by rw [show (16 : Int32) = nI (16) from (rfl : (16 : Int32) = nI 16)]; exact nI_pos (by omega)) (cl_eq (n := 16) (rfl : (16 : Int32) = nI 16) (by omega)) (by show 16 * 1 ≤ 536870912; omega) (by show 0 + 1 ≤ 1; omega) (by show 0 + 16 ≤ 16; omega) dJ3_init_12 (fun H_1 ho_1 hp_1 hS_1 => ?_)
  have hz_H_1 : H_1.size = H.size + 1 := hp_1.1
  have hW_H_1 := hW.kept (hp_1.chg (A := fun _ => False)) (fun _ _ h9 => h9.elim)
  have hq_H_1 := hq.kept (hp_1.chg (A := fun _ => False)) (fun h9 => h9)
  refine xput (ref := "java/lang/AbstractStringBuilder") (ci := 7) (v := .ref H.size) (C := RJ4) (T := TJ4) (N := 4) F in_J4 tyJ4 tyJ4_ok nmJ4 hW_H_1 hq_H_1 hS_1 (Or.inl rfl) rfl 0 (by decide) q162 (fun _ h9 => h9) rfl rfl rfl (Nat.le_of_ble_eq_true rfl) dJ3_init_14 (fun H_2 locs ho_2 hu_2 hS_2 => ?_)
  have ho_2 : oat E q 7 [.ref H.size, .int 0, .int 0, .int 0] H_2 := ho_2
  have hz_H_2 : H_2.size = H_1.size := hu_2.1
  have hW_H_2 := hW_H_1.kept hu_2.chg (fun q _ hq => hq ▸ hqo)
  have hx1_H_2 := ho_1.kept hu_2.chg (Nat.ne_of_gt hq.lt)
  refine lv_aload_n hx hb dJ3_init_17 rfl (lv_at hl 0 rfl) ?_
  refine lv_iconst (v := 0) hx hb dJ3_init_18 (by decide) ?_
  refine xput (ref := "java/lang/AbstractStringBuilder") (ci := 7) (v := .int 0) (C := RJ4) (T := TJ4) (N := 4) F in_J4 tyJ4 tyJ4_ok nmJ4 hW_H_2 ho_2 hS_2 (Or.inl rfl) rfl 1 (by decide) q163 (fun _ h9 => h9) rfl rfl rfl (Nat.le_of_ble_eq_true rfl) dJ3_init_19 (fun H_3 locs ho_3 hu_3 hS_3 => ?_)
  have ho_3 : oat E q 7 [.ref H.size, .int 0, .int 0, .int 0] H_3 := ho_3
  have hz_H_3 : H_3.size = H_2.size := hu_3.1
  have hW_H_3 := hW_H_2.kept hu_3.chg (fun q _ hq => hq ▸ hqo)
  have hx1_H_3 := hx1_H_2.kept hu_3.chg (Nat.ne_of_gt hq.lt)
  refine lv_goto (tgt := 38) hx hb dJ3_init_22 (by decide) ?_
  exact hend _ _ _ _ _ _ dJ3_init_38 (⟨rfl, ho_3, hx1_H_3, Nat.zero_le _, by decide⟩) hS_3 (by first | exact Nat.le_refl _ | (show (1 : Nat) ≤ 1; omega)) (by first | exact Nat.le_refl _ | (show (16 : Nat) ≤ 16; omega))

theorem hdJ4_init : Hd yJ4_init 0 := by decide +kernel
set_option maxHeartbeats 1000000 in
set_option maxRecDepth 100000 in
theorem metJ4_init (l : Launch) (E : EV) (H : Heap) (q : Nat) (hqo : Old E q) (hq : oat E q 7 [.null, .int 0, .int 0, .int 0] H) : Ct l yJ4_init cJ4_init 1 none 2 33 (1) (16) [.ref q] E H (fun x => x = q ∨ H.size ≤ x) (pN (fun H1 => SB E q H.size 16 0 0 (fun _ => 0) H1)) := by
  refine Ct.ofV (by decide) (Nat.le_of_ble_eq_true rfl) ?_
  intro p e s m bl mt cd ls Q hF hW hH hl hend
  obtain ⟨F, hin⟩ := hF
  have hx := F.1
  have hb := F.2.1
  have hts := F.2.2.2.2
  have hl : lv_has ls 1 [(0, .ref q)] := hl
  have hS : va_S (fun x => x = q ∨ H.size ≤ x) H H [] := va_S.rf
  refine lv_aload_n hx hb dJ4_init_0 rfl (lv_at hl 0 rfl) ?_
  refine lv_bipush (v := 16) hx hb dJ4_init_1 (by decide) ?_
  refine run_chN (rest := []) (kI F hW (metJ3_init l E H q hqo hq) q151 q48 q149 q150 rfl hdJ3_init ⟨Nat.le_of_ble_eq_true rfl, Nat.le_of_ble_eq_true rfl⟩ hl.1 rfl (Nat.le_of_ble_eq_true rfl) dJ4_init_3 ⟨by show 0 + 1 ≤ 1; omega, by show 0 + 16 ≤ 16; omega⟩) hS (fun _ h => h) (fun H_1 locs hp_1 hc_1 hS_1 => ?_)
  exact hend _ _ _ _ _ _ dJ4_init_6 (⟨rfl, hp_1⟩) hS_1 (by first | exact Nat.le_refl _ | (show (1 : Nat) ≤ 1; omega)) (by first | exact Nat.le_refl _ | (show (16 : Nat) ≤ 16; omega))

