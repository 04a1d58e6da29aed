/-! OPTIONAL -/
set_option maxRecDepth 100000
section OPT
variable {p : Program} {l : Launch} {e : Env} {R : Room} {s : State} {m : MethodId} {args : Array Value} {below : List Frame} {meth : Method} {c : Code} {H : Heap} {locs : List Loc} {cells slots : Nat} {Q : State → Prop}
variable {cc : ByteArray} {pc nL index : Nat} {ls : Array Slot} {rest : List Value} {E : EV} {A : Nat → Prop} {a : Nat} {H0 : Heap} {own C ref : String}
/-- a field of a constant object -/
theorem xgetOF (F : CallFix p m c cc nL s args lw_all own) {n d : String} {v : Value} (hZ : va_OF C n d v a A s H) (hlink : Cond.fieldLink own index C n d ∈ lw_all) (hdg : decode cc pc = .ok (.getfield index, 3))
    (kk : W p l e R s m args below meth c H locs cells slots Q (F0 m (pc + 3) ls (v :: rest))) : W p l e R s m args below meth c H locs cells slots Q (F0 m pc ls (.ref a :: rest)) := by
  obtain ⟨cf, k, i, f, cell, h1, h2, h3, h4, h5, -⟩ := hZ
  exact W.getf F.1 F.2.1 F.2.2.2.1 (F.2.2.2.2 _ hlink) h1 h2 h3 h4 h5 rfl rfl hdg kk
/-- a cast to a supertype -/
theorem xcastI (F : CallFix p m c cc nL s args lw_all own) {ci : Nat} {fs : List Value} {r : vw_C} (hW : WK E s H) (ho : oat E a ci fs H) (hc : vwCl[ci]? = some r) (hq : (r.1, C) ∈ xwCast) (hlink : Cond.classLink own index C ∈ lw_all) (hdg : decode cc pc = .ok (.checkcast index, 3))
    (k : W p l e R s m args below meth c H locs cells slots Q (F0 m (pc + 3) ls (.ref a :: rest))) : W p l e R s m args below meth c H locs cells slots Q (F0 m pc ls (.ref a :: rest)) :=
  va_castY F.1 F.2.1 F.2.2.2.1 (F.2.2.2.2 _ hlink) (hW.1.2.2.2.1 _ hq) (recv hW ho hc) hdg k
end OPT
theorem hdJ10_requireNonNull : Hd yJ10_requireNonNull 1 := by decide +kernel
set_option maxHeartbeats 1000000 in
set_option maxRecDepth 100000 in
theorem metJ10_requireNonNull (l : Launch) (E : EV) (H : Heap) (v : Nat) : Ro l yJ10_requireNonNull cJ10_requireNonNull 1 (some (.object "java/lang/Object")) 0 0 [.ref v] E H (some ((Value.ref v))) := by
  refine Ct.ofA (Or.inl ⟨_, rfl⟩) (by decide) (Nat.le_of_ble_eq_true rfl) ?_
  intro p e s m bl mt cd ls Q hF hW hH hl hend
  obtain ⟨F, hin⟩ := hF
  have hx := F.1
  have hb := F.2.1
  have hts := F.2.2.2.2
  have hl : lv_has ls 1 [(0, .ref v)] := hl
  have hS : va_S (fun _ => False) H H [] := va_S.rf
  refine lv_aload_n hx hb dJ10_requireNonNull_0 rfl (lv_at hl 0 rfl) ?_
  refine lv_ifnonnull (tgt := 12) hx hb dJ10_requireNonNull_1 (by decide) ?_
  refine lv_aload_n hx hb dJ10_requireNonNull_12 rfl (lv_at hl 0 rfl) ?_
  exact hend _ _ _ _ _ _ _ (Or.inr ⟨_, rfl⟩) dJ10_requireNonNull_13 (⟨rfl, rfl⟩) hS (Nat.zero_le _) (Nat.zero_le _)

theorem hdJ14_init : Hd yJ14_init 1 := by decide +kernel
set_option maxHeartbeats 1000000 in
set_option maxRecDepth 100000 in
theorem metJ14_init (l : Launch) (E : EV) (H : Heap) (q : Nat) (ho : Old E q) (v : Nat) (hq : oat E q 9 [.null] H) : Ct l yJ14_init cJ14_init 2 none 1 12 (0) (0) [.ref q, .ref v] E H (fun x => x = q) (pN (fun H1 => oat E q 9 [.ref v] H1)) := by
  refine Ct.ofV (by decide) (Nat.le_of_ble_eq_true rfl) ?_
  intro p e s m bl mt cd ls Q hF hW hH hl hend
  obtain ⟨F, hin⟩ := hF
  have hx := F.1
  have hb := F.2.1
  have hts := F.2.2.2.2
  have hl : lv_has ls 2 [(0, .ref q), (1, .ref v)] := hl
  have hS : va_S (fun x => x = q) H H [] := va_S.rf
  refine lv_aload_n hx hb dJ14_init_0 rfl (lv_at hl 0 rfl) ?_
  refine W.objInit hx hb F.2.2.2.1 (hts _ q593) (hts _ q71) (hts _ q72) rfl (by rw [F.2.2.1]; exact hl.1) rfl dJ14_init_1 (Nat.le_of_ble_eq_true rfl) (Nat.le_of_ble_eq_true rfl) ?_
  refine W.eq (g2 := F0 m 4 ls []) rfl ?_
  refine lv_aload_n hx hb dJ14_init_4 rfl (lv_at hl 0 rfl) ?_
  refine lv_aload_n hx hb dJ14_init_5 rfl (lv_at hl 1 rfl) ?_
  refine xputF (ref := "java/util/Optional") (ci := 9) (v := .ref v) (C := RJ14) (T := TJ14) (N := 1) F in_J14 tyJ14 tyJ14_ok nmJ14 hW hq hS rfl rfl 0 (by decide) q594 (fun _ h9 => h9) rfl hin rfl rfl rfl (Nat.le_of_ble_eq_true rfl) dJ14_init_6 (fun H_1 locs ho_1 hu_1 hS_1 => ?_)
  have ho_1 : oat E q 9 [.ref v] H_1 := ho_1
  have hz_H_1 : H_1.size = H.size := hu_1.1
  have hW_H_1 := hW.kept hu_1.chg (fun q _ hq => hq ▸ ho)
  exact hend _ _ _ _ _ _ dJ14_init_9 (⟨rfl, ho_1⟩) hS_1 (Nat.zero_le _) (Nat.zero_le _)

theorem hdJ14_of : Hd yJ14_of 1 := by decide +kernel
set_option maxHeartbeats 1000000 in
set_option maxRecDepth 100000 in
theorem metJ14_of (l : Launch) (E : EV) (H : Heap) (v : Nat) : Ct l yJ14_of cJ14_of 1 (some (.object "java/util/Optional")) 2 33 (1) (1) [.ref v] E H (fun q => H.size ≤ q) (pA (fun r H1 => r = H.size ∧ oat E H.size 9 [.ref v] H1)) := by
  refine Ct.ofA (Or.inl ⟨_, rfl⟩) (by decide) (Nat.le_of_ble_eq_true rfl) ?_
  intro p e s m bl mt cd ls Q hF hW hH hl hend
  obtain ⟨F, hin⟩ := hF
  have hx := F.1
  have hb := F.2.1
  have hts := F.2.2.2.2
  have hl : lv_has ls 1 [(0, .ref v)] := hl
  have hS : va_S (fun q => H.size ≤ q) H H [] := va_S.rf
  refine xnew (ci := 9) (fs := [.null]) (C := RJ14) (T := TJ14) (N := 1) F in_J14 tyJ14 tyJ14_ok q585 q586 q64 hW hS rfl (fun j hj => by rcases (show j = 0 by omega) with rfl <;> rfl) (by show 0 + 1 ≤ 1; omega) (by show 0 + 1 ≤ 1; omega) dJ14_of_0 (fun H_1 ho_1 hp_1 hS_1 => ?_)
  have hz_H_1 : H_1.size = H.size + 1 := hp_1.1
  have hW_H_1 := hW.kept (hp_1.chg (A := fun _ => False)) (fun _ _ h9 => h9.elim)
  refine lv_dup hx hb dJ14_of_3 rfl ?_
  refine lv_aload_n hx hb dJ14_of_4 rfl (lv_at hl 0 rfl) ?_
  refine run_ro (w := .ref v) (rest := [.ref H.size, .ref H.size]) (kS F hW_H_1 (metJ10_requireNonNull l E H_1 v) (lw_S q587 q588 q58 q589) hdJ10_requireNonNull ⟨Nat.le_of_ble_eq_true rfl, Nat.le_of_ble_eq_true rfl⟩ hl.1 rfl (Nat.le_of_ble_eq_true rfl) dJ14_of_5 ⟨Nat.le_of_ble_eq_true rfl, Nat.le_of_ble_eq_true rfl⟩) ?_
  refine run_chN (rest := [.ref H.size]) (kI F hW_H_1 (metJ14_init l E H_1 H.size (show E.2.2.1 ≤ H.size from hW.2.2) v ho_1) q592 q64 q590 q591 rfl hdJ14_init ⟨Nat.le_of_ble_eq_true rfl, Nat.le_of_ble_eq_true rfl⟩ hl.1 rfl (Nat.le_of_ble_eq_true rfl) dJ14_of_8 ⟨by show 1 + 0 ≤ 1; omega, by show 1 + 0 ≤ 1; omega⟩) hS_1 (fun q9 h9 => h9 ▸ Nat.le_refl _) (fun H_2 locs hp_2 hc_2 hS_2 => ?_)
  have hW_H_2 := hW_H_1.kept hc_2 (fun q9 _ h9 => h9 ▸ (show E.2.2.1 ≤ H.size from hW.2.2))
  exact hend _ _ _ _ _ _ _ (Or.inr ⟨_, rfl⟩) dJ14_of_11 (⟨_, rfl, rfl, hp_2⟩) hS_2 (by first | exact Nat.le_refl _ | (show (1 : Nat) ≤ 1; omega)) (by first | exact Nat.le_refl _ | (show (1 : Nat) ≤ 1; omega))

theorem hdJ14_empty : Hd yJ14_empty 0 := by decide +kernel
set_option maxHeartbeats 1000000 in
set_option maxRecDepth 100000 in
theorem metJ14_empty (l : Launch) (E : EV) (H : Heap)  : Ro l yJ14_empty cJ14_empty 1 (some (.object "java/util/Optional")) 0 0 [] E H (some ((Value.ref (E.2.2.2 1)))) := by
  refine Ct.ofA (Or.inl ⟨_, rfl⟩) (by decide) (Nat.le_of_ble_eq_true rfl) ?_
  intro p e s m bl mt cd ls Q hF hW hH hl hend
  obtain ⟨F, hin⟩ := hF
  have hx := F.1
  have hb := F.2.1
  have hts := F.2.2.2.2
  have hl : lv_has ls 1 [] := hl
  have hS : va_S (fun _ => False) H H [] := va_S.rf
  refine xgets F hW.2.1.2.2.2.2.1 q580 dJ14_empty_0 ?_
  refine lv_astore_n (lv' := [(0, .ref (E.2.2.2 1))]) hx hb dJ14_empty_3 rfl hl (by decide) rfl (fun ls hl => ?_)
  refine lv_aload_n hx hb dJ14_empty_4 rfl (lv_at hl 0 rfl) ?_
  exact hend _ _ _ _ _ _ _ (Or.inr ⟨_, rfl⟩) dJ14_empty_5 (⟨rfl, rfl⟩) hS (Nat.zero_le _) (Nat.zero_le _)

theorem hdJ14_isPresent : Hd yJ14_isPresent 0 := by decide +kernel
set_option maxHeartbeats 1000000 in
set_option maxRecDepth 100000 in
theorem metJ14_isPresentE (l : Launch) (E : EV) (H : Heap)  : Ro l yJ14_isPresent cJ14_isPresent 1 (some .boolean) 0 0 [.ref (E.2.2.2 1)] E H (some (.int (b2i false))) := by
  refine Ct.ofZ (by decide) (Nat.le_of_ble_eq_true rfl) ?_
  intro p e s m bl mt cd ls Q hF hW hH hl hend
  obtain ⟨F, hin⟩ := hF
  have hx := F.1
  have hb := F.2.1
  have hts := F.2.2.2.2
  have hl : lv_has ls 1 [(0, .ref (E.2.2.2 1))] := hl
  have hS : va_S (fun _ => False) H H [] := va_S.rf
  refine lv_aload_n hx hb dJ14_isPresent_0 rfl (lv_at hl 0 rfl) ?_
  refine xgetOF F hW.2.1.2.2.2.2.2.2.1 q594 dJ14_isPresent_1 ?_
  refine lv_ifnullN (tgt := 11) hx hb dJ14_isPresent_4 (by decide) ?_
  refine lv_iconst (v := 0) hx hb dJ14_isPresent_11 (by decide) ?_
  exact hend _ _ _ _ _ _ _ rfl dJ14_isPresent_12 (⟨congrArg (fun z : Int32 => some (Value.int z)) (rfl), rfl⟩) hS (Nat.zero_le _) (Nat.zero_le _)

set_option maxHeartbeats 1000000 in
set_option maxRecDepth 100000 in
theorem metJ14_isPresentT (l : Launch) (E : EV) (H : Heap) (q v : Nat) (hq : oat E q 9 [.ref v] H) : Ro l yJ14_isPresent cJ14_isPresent 1 (some .boolean) 0 0 [.ref q] E H (some (.int (b2i true))) := by
  refine Ct.ofZ (by decide) (Nat.le_of_ble_eq_true rfl) ?_
  intro p e s m bl mt cd ls Q hF hW hH hl hend
  obtain ⟨F, hin⟩ := hF
  have hx := F.1
  have hb := F.2.1
  have hts := F.2.2.2.2
  have hl : lv_has ls 1 [(0, .ref q)] := hl
  have hS : va_S (fun _ => False) H H [] := va_S.rf
  refine lv_aload_n hx hb dJ14_isPresent_0 rfl (lv_at hl 0 rfl) ?_
  refine xget (ref := "java/util/Optional") (ci := 9) (v := .ref v) (C := RJ14) (T := TJ14) (N := 1) F in_J14 hW hq rfl 0 (by decide) q594 (fun _ h9 => h9) rfl dJ14_isPresent_1 ?_
  refine lv_ifnull hx hb dJ14_isPresent_4 ?_
  refine lv_iconst (v := 1) hx hb dJ14_isPresent_7 (by decide) ?_
  refine lv_goto (tgt := 12) hx hb dJ14_isPresent_8 (by decide) ?_
  exact hend _ _ _ _ _ _ _ rfl dJ14_isPresent_12 (⟨congrArg (fun z : Int32 => some (Value.int z)) (rfl), rfl⟩) hS (Nat.zero_le _) (Nat.zero_le _)

theorem hdJ14_get : Hd yJ14_get 0 := by decide +kernel
set_option maxHeartbeats 1000000 in
set_option maxRecDepth 100000 in
theorem metJ14_get (l : Launch) (E : EV) (H : Heap) (q v : Nat) (hq : oat E q 9 [.ref v] H) : Ro l yJ14_get cJ14_get 1 (some (.object "java/lang/Object")) 0 0 [.ref q] E H (some ((Value.ref v))) := by
  refine Ct.ofA (Or.inl ⟨_, rfl⟩) (by decide) (Nat.le_of_ble_eq_true rfl) ?_
  intro p e s m bl mt cd ls Q hF hW hH hl hend
  obtain ⟨F, hin⟩ := hF
  have hx := F.1
  have hb := F.2.1
  have hts := F.2.2.2.2
  have hl : lv_has ls 1 [(0, .ref q)] := hl
  have hS : va_S (fun _ => False) H H [] := va_S.rf
  refine lv_aload_n hx hb dJ14_get_0 rfl (lv_at hl 0 rfl) ?_
  refine xget (ref := "java/util/Optional") (ci := 9) (v := .ref v) (C := RJ14) (T := TJ14) (N := 1) F in_J14 hW hq rfl 0 (by decide) q594 (fun _ h9 => h9) rfl dJ14_get_1 ?_
  refine lv_ifnonnull (tgt := 17) hx hb dJ14_get_4 (by decide) ?_
  refine lv_aload_n hx hb dJ14_get_17 rfl (lv_at hl 0 rfl) ?_
  refine xget (ref := "java/util/Optional") (ci := 9) (v := .ref v) (C := RJ14) (T := TJ14) (N := 1) F in_J14 hW hq rfl 0 (by decide) q594 (fun _ h9 => h9) rfl dJ14_get_18 ?_
  exact hend _ _ _ _ _ _ _ (Or.inr ⟨_, rfl⟩) dJ14_get_21 (⟨rfl, rfl⟩) hS (Nat.zero_le _) (Nat.zero_le _)

