/-! STRINGBUILDER: what reads -/
set_option maxRecDepth 100000
theorem chr_all : ∀ c : Fin 128, (nI c.val &&& 255 = nI c.val) ∧ ((nI c.val).toUInt32 % 65536).toInt32 = nI c.val ∧ (nI c.val).toInt8.toInt32 = nI c.val ∧ narrow .char (.int (nI c.val)) = .int (nI c.val) ∧ vp_nar .byte (nI c.val) = nI c.val := by decide +kernel
theorem chr_and {c : Nat} (h : c < 128) : nI c &&& 255 = nI c := (chr_all ⟨c, h⟩).1
theorem chr_i2c {c : Nat} (h : c < 128) : ((nI c).toUInt32 % 65536).toInt32 = nI c := (chr_all ⟨c, h⟩).2.1
theorem chr_i2b {c : Nat} (h : c < 128) : (nI c).toInt8.toInt32 = nI c := (chr_all ⟨c, h⟩).2.2.1
theorem chr_nar {c : Nat} (h : c < 128) : narrow .char (.int (nI c)) = .int (nI c) := (chr_all ⟨c, h⟩).2.2.2.1
theorem chr_byte {c : Nat} (h : c < 128) : vp_nar .byte (nI c) = nI c := (chr_all ⟨c, h⟩).2.2.2.2
theorem sub_le0 {a b : Nat} (h : a ≤ b) (hb : b < 2 ^ 30) : nI a - nI b ≤ 0 := by
  rw [Int32.le_iff_toInt_le, pk_sub_toInt (a := a) (b := b) (by omega) hb, Int32.toInt_zero]
  omega
/-- a private method is the one that is run, whatever the receiver's class: x shows that the class is no interface -/
theorem selP {C : String} {x y : MethodName} {s : State} {args : Array Value} (hy : y.cls ≠ "java/lang/invoke/MethodHandle" ∧ y.cls ≠ "java/lang/invoke/VarHandle") (hx : (Cond.selects C x x).before args s = true) (hxc : x.cls = y.cls) (hpriv : (Cond.privateMethod y).before args s = true) (hinst : (Cond.instanceMethod y).before args s = true) : (Cond.selects C y y).before args s = true := by
  obtain ⟨mk, methM, hnamed, hmethM, -, -⟩ := Cond.instanceMethod_spec hinst
  have hfound : s.methodFound? y.cls y.name y.desc = some mk := State.methodFound?_of_named hnamed hy
  obtain ⟨c, r, m', hc, -, hn, -, mk', hk', hi'⟩ := Cond.selects_spec hx
  have hcl : mk.cls = m'.cls := Option.some.inj ((findClass_of_methodNamed hnamed).symm.trans (by rw [← hxc]; exact findClass_of_methodNamed hn))
  have hsel : selectMethod {} s.vm c mk = .method mk := selectMethod_private hmethM (Cond.privateMethod_at hpriv mk methM hnamed hmethM)
  simp only [Cond.before, Cond.holds, Cond.value, hc, hfound, hnamed, hsel, hcl, hk']
  simp [hi']
/-- a StringBuilder of Latin1: n bytes of f in v -/
def SB (E : EV) (q v cap n : Nat) (mb : Int32) (f : Nat → Int32) (H : Heap) : Prop := oat E q 7 [.ref v, .int 0, .int mb, .int (nI n)] H ∧ iat E v 1 cap f H ∧ n ≤ cap ∧ cap ≤ 400
theorem hdJ3_length : Hd yJ3_length 0 := by decide +kernel
set_option maxHeartbeats 1000000 in
set_option maxRecDepth 100000 in
theorem metJ3_length (l : Launch) (E : EV) (H : Heap) (q v cap n : Nat) (mb : Int32) (f : Nat → Int32) (hsb : SB E q v cap n mb f H) : Ro l yJ3_length cJ3_length 1 (some .int) 0 0 [.ref q] E H (some (.int (nI n))) := by
  have hsb0 := hsb
  obtain ⟨hq, hv, hnc, hcap⟩ := hsb
  refine Ct.ofZ (by decide) (Nat.le_of_ble_eq_true rfl) ?_
  intro p e s m bl mt cd ls Q hF hW hH hl hend
  obtain ⟨F, hin⟩ := hF
  have hx := F.1
  have hb := F.2.1
  have hts := F.2.2.2.2
  have hl : lv_has ls 1 [(0, .ref q)] := hl
  have hS : va_S (fun _ => False) H H [] := va_S.rf
  refine lv_aload_n hx hb dJ3_length_0 rfl (lv_at hl 0 rfl) ?_
  refine xget (ref := "java/lang/AbstractStringBuilder") (ci := 7) (v := .int (nI n)) (C := RJ4) (T := TJ4) (N := 4) F in_J4 hW hq rfl 3 (by decide) q166 (fun _ h9 => h9) rfl dJ3_length_1 ?_
  exact hend _ _ _ _ _ _ _ rfl dJ3_length_4 (⟨congrArg (fun z : Int32 => some (Value.int z)) (rfl), rfl⟩) hS (Nat.zero_le _) (Nat.zero_le _)

theorem hdJ4_length : Hd yJ4_length 0 := by decide +kernel
set_option maxHeartbeats 1000000 in
set_option maxRecDepth 100000 in
theorem metJ4_length (l : Launch) (E : EV) (H : Heap) (q v cap n : Nat) (mb : Int32) (f : Nat → Int32) (hsb : SB E q v cap n mb f H) : Ro l yJ4_length cJ4_length 1 (some .int) 1 20 [.ref q] E H (some (.int (nI n))) := by
  have hsb0 := hsb
  obtain ⟨hq, hv, hnc, hcap⟩ := hsb
  refine Ct.ofZ (by decide) (Nat.le_of_ble_eq_true rfl) ?_
  intro p e s m bl mt cd ls Q hF hW hH hl hend
  obtain ⟨F, hin⟩ := hF
  have hx := F.1
  have hb := F.2.1
  have hts := F.2.2.2.2
  have hl : lv_has ls 1 [(0, .ref q)] := hl
  have hS : va_S (fun _ => False) H H [] := va_S.rf
  obtain ⟨cC, hat⟩ := cat (ci := 7) hW rfl
  refine lv_aload_n hx hb dJ4_length_0 rfl (lv_at hl 0 rfl) ?_
  refine run_ro (w := .int (nI n)) (rest := []) (kSU hat F hW (metJ3_length l E H q v cap n mb f hsb0) q471 q1262 q175 q472 q48 q473 (by decide +kernel) hdJ3_length ⟨Nat.le_of_ble_eq_true rfl, Nat.le_of_ble_eq_true rfl⟩ (recv hW hq rfl) hl.1 rfl (Nat.le_of_ble_eq_true rfl) dJ4_length_1 ⟨Nat.le_of_ble_eq_true rfl, Nat.le_of_ble_eq_true rfl⟩) ?_
  exact hend _ _ _ _ _ _ _ rfl dJ4_length_4 (⟨congrArg (fun z : Int32 => some (Value.int z)) (rfl), rfl⟩) hS (Nat.zero_le _) (Nat.zero_le _)

theorem hdJ3_isLatin1 : Hd yJ3_isLatin1 0 := by decide +kernel
set_option maxHeartbeats 1000000 in
set_option maxRecDepth 100000 in
theorem metJ3_isLatin1 (l : Launch) (E : EV) (H : Heap) (q v cap n : Nat) (mb : Int32) (f : Nat → Int32) (hsb : SB E q v cap n mb f H) : Ro l yJ3_isLatin1 cJ3_isLatin1 1 (some .boolean) 0 0 [.ref q] E H (some (.int (b2i true))) := by
  have hsb0 := hsb
  obtain ⟨hq, hv, hnc, hcap⟩ := hsb
  refine Ct.ofZ (by decide) (Nat.le_of_ble_eq_true rfl) ?_
  intro p e s m bl mt cd ls Q hF hW hH hl hend
  obtain ⟨F, hin⟩ := hF
  have hx := F.1
  have hb := F.2.1
  have hts := F.2.2.2.2
  have hl : lv_has ls 1 [(0, .ref q)] := hl
  have hS : va_S (fun _ => False) H H [] := va_S.rf
  refine xgets F hW.2.1.2.2.2.1 q153 dJ3_isLatin1_0 ?_
  refine lv_if_eq (tgt := 17) hx hb dJ3_isLatin1_3 (by decide) (fun c9 => absurd c9 (by decide)) (fun _ => ?_)
  refine lv_aload_n hx hb dJ3_isLatin1_6 rfl (lv_at hl 0 rfl) ?_
  refine xget (ref := "java/lang/AbstractStringBuilder") (ci := 7) (v := .int 0) (C := RJ4) (T := TJ4) (N := 4) F in_J4 hW hq rfl 1 (by decide) q163 (fun _ h9 => h9) rfl dJ3_isLatin1_7 ?_
  refine lv_if_ne (tgt := 17) hx hb dJ3_isLatin1_10 (by decide) (fun c9 => absurd (by decide) c9) (fun _ => ?_)
  refine lv_iconst (v := 1) hx hb dJ3_isLatin1_13 (by decide) ?_
  refine lv_goto (tgt := 18) hx hb dJ3_isLatin1_14 (by decide) ?_
  exact hend _ _ _ _ _ _ _ rfl dJ3_isLatin1_18 (⟨congrArg (fun z : Int32 => some (Value.int z)) (rfl), rfl⟩) hS (Nat.zero_le _) (Nat.zero_le _)

set_option maxHeartbeats 1000000 in
set_option maxRecDepth 100000 in
theorem metJ11_checkIndexR (l : Launch) (E : EV) (H : Heap) (i n t : Nat) (h : i < n) (hn : n < 2 ^ 31) : Ro l yJ11_checkIndex cJ11_checkIndex 3 (some .int) 0 0 [.int (nI i), .int (nI n), .ref t] E H (some (.int (nI i))) := by
  refine Ct.ofZ (by decide) (Nat.le_of_ble_eq_true rfl) ?_
  intro p e s m bl mt cd ls Q hF hW hH hl hend
  obtain ⟨F, hin⟩ := hF
  have hx := F.1
  have hb := F.2.1
  have hts := F.2.2.2.2
  have hl : lv_has ls 3 [(0, .int (nI i)), (1, .int (nI n)), (2, .ref t)] := hl
  have hS : va_S (fun _ => False) H H [] := va_S.rf
  refine lv_iload_n hx hb dJ11_checkIndex_0 rfl (lv_at hl 0 rfl) ?_
  refine lv_if_lt (tgt := 9) hx hb dJ11_checkIndex_1 (by decide) (fun c9 => absurd c9 (nI_pos (show i < 2 ^ 31 by omega))) (fun _ => ?_)
  refine lv_iload_n hx hb dJ11_checkIndex_4 rfl (lv_at hl 0 rfl) ?_
  refine lv_iload_n hx hb dJ11_checkIndex_5 rfl (lv_at hl 1 rfl) ?_
  refine lv_icmp_lt (tgt := 16) hx hb dJ11_checkIndex_6 (by decide) (fun _ => ?_) (fun c9 => absurd ((nI_ltI (show i < 2 ^ 31 by omega) hn).mpr h) c9)
  refine lv_iload_n hx hb dJ11_checkIndex_16 rfl (lv_at hl 0 rfl) ?_
  exact hend _ _ _ _ _ _ _ rfl dJ11_checkIndex_17 (⟨congrArg (fun z : Int32 => some (Value.int z)) (rfl), rfl⟩) hS (Nat.zero_le _) (Nat.zero_le _)

theorem hdJ5_checkIndex : Hd yJ5_checkIndex 2 := by decide +kernel
set_option maxHeartbeats 1000000 in
set_option maxRecDepth 100000 in
theorem metJ5_checkIndex (l : Launch) (E : EV) (H : Heap) (i n : Nat) (h : i < n) (hn : n < 2 ^ 31) : Ro l yJ5_checkIndex cJ5_checkIndex 2 none 1 22 [.int (nI i), .int (nI n)] E H none := by
  refine Ct.ofV (by decide) (Nat.le_of_ble_eq_true rfl) ?_
  intro p e s m bl mt cd ls Q hF hW hH hl hend
  obtain ⟨F, hin⟩ := hF
  have hx := F.1
  have hb := F.2.1
  have hts := F.2.2.2.2
  have hl : lv_has ls 2 [(0, .int (nI i)), (1, .int (nI n))] := hl
  have hS : va_S (fun _ => False) H H [] := va_S.rf
  refine lv_iload_n hx hb dJ5_checkIndex_0 rfl (lv_at hl 0 rfl) ?_
  refine lv_iload_n hx hb dJ5_checkIndex_1 rfl (lv_at hl 1 rfl) ?_
  rcases hW.2.1.2.2.2.2.2.2.2.1 with hz | ⟨t, hz⟩
  · skip
    refine xgets F hz q485 dJ5_checkIndex_2 ?_
    refine run_ro (w := .int (nI i)) (rest := []) (kS F hW (metJ11_checkIndex l E H i n h hn) (lw_S q487 q316 q59 q317) hdJ11_checkIndex ⟨Nat.le_of_ble_eq_true rfl, Nat.le_of_ble_eq_true rfl⟩ hl.1 rfl (Nat.le_of_ble_eq_true rfl) dJ5_checkIndex_5 ⟨Nat.le_of_ble_eq_true rfl, Nat.le_of_ble_eq_true rfl⟩) ?_
    refine lv_pop hx hb dJ5_checkIndex_8 rfl ?_
    exact hend _ _ _ _ _ _ dJ5_checkIndex_9 (⟨rfl, rfl⟩) hS (Nat.zero_le _) (Nat.zero_le _)
  · skip
    refine xgets F hz q485 dJ5_checkIndex_2 ?_
    refine run_ro (w := .int (nI i)) (rest := []) (kS F hW (metJ11_checkIndexR l E H i n t h hn) (lw_S q487 q316 q59 q317) hdJ11_checkIndex ⟨Nat.le_of_ble_eq_true rfl, Nat.le_of_ble_eq_true rfl⟩ hl.1 rfl (Nat.le_of_ble_eq_true rfl) dJ5_checkIndex_5 ⟨Nat.le_of_ble_eq_true rfl, Nat.le_of_ble_eq_true rfl⟩) ?_
    refine lv_pop hx hb dJ5_checkIndex_8 rfl ?_
    exact hend _ _ _ _ _ _ dJ5_checkIndex_9 (⟨rfl, rfl⟩) hS (Nat.zero_le _) (Nat.zero_le _)

theorem hdJ3_charAt : Hd yJ3_charAt 1 := by decide +kernel
set_option maxHeartbeats 1000000 in
set_option maxRecDepth 100000 in
theorem metJ3_charAt (l : Launch) (E : EV) (H : Heap) (q v cap n : Nat) (mb : Int32) (f : Nat → Int32) (hsb : SB E q v cap n mb f H) (i ch : Nat) (hi : i < n) (hch : f i = nI ch) (hc128 : ch < 128) : Ro l yJ3_charAt cJ3_charAt 5 (some .char) 2 43 [.ref q, .int (nI i)] E H (some (.int (nI ch))) := by
  have hsb0 := hsb
  obtain ⟨hq, hv, hnc, hcap⟩ := hsb
  refine Ct.ofZ (by decide) (Nat.le_of_ble_eq_true rfl) ?_
  intro p e s m bl mt cd ls Q hF hW hH hl hend
  obtain ⟨F, hin⟩ := hF
  have hx := F.1
  have hb := F.2.1
  have hts := F.2.2.2.2
  have hl : lv_has ls 5 [(0, .ref q), (1, .int (nI i))] := hl
  have hS : va_S (fun _ => False) H H [] := va_S.rf
  refine lv_aload_n hx hb dJ3_charAt_0 rfl (lv_at hl 0 rfl) ?_
  refine xget (ref := "java/lang/AbstractStringBuilder") (ci := 7) (v := .int 0) (C := RJ4) (T := TJ4) (N := 4) F in_J4 hW hq rfl 1 (by decide) q163 (fun _ h9 => h9) rfl dJ3_charAt_1 ?_
  refine lv_istore_n (lv' := [(2, .int 0), (0, .ref q), (1, .int (nI i))]) hx hb dJ3_charAt_4 rfl hl (by decide) rfl (fun ls hl => ?_)
  refine lv_aload_n hx hb dJ3_charAt_5 rfl (lv_at hl 1 rfl) ?_
  refine xget (ref := "java/lang/AbstractStringBuilder") (ci := 7) (v := .ref v) (C := RJ4) (T := TJ4) (N := 4) F in_J4 hW hq rfl 0 (by decide) q162 (fun _ h9 => h9) rfl dJ3_charAt_6 ?_
  refine lv_astore_n (lv' := [(3, .ref v), (2, .int 0), (0, .ref q), (1, .int (nI i))]) hx hb dJ3_charAt_9 rfl hl (by decide) rfl (fun ls hl => ?_)
  refine lv_aload_n hx hb dJ3_charAt_10 rfl (lv_at hl 2 rfl) ?_
  refine xget (ref := "java/lang/AbstractStringBuilder") (ci := 7) (v := .int (nI n)) (C := RJ4) (T := TJ4) (N := 4) F in_J4 hW hq rfl 3 (by decide) q166 (fun _ h9 => h9) rfl dJ3_charAt_11 ?_
  refine lv_aload_n hx hb dJ3_charAt_14 rfl (lv_at hl 0 rfl) ?_
  refine xilen F hW 1 hv rfl dJ3_charAt_15 ?_
  refine lv_iload_n hx hb dJ3_charAt_16 rfl (lv_at hl 1 rfl) ?_
  refine lv_ishr hx hb dJ3_charAt_17 ?_
  refine lv_val (y := nI cap) (sc_shr0 (n := cap) (by omega)) ?_
  refine xmin (hl.1 ▸ F) q481 (Nat.le_of_ble_eq_true rfl) (Nat.le_of_ble_eq_true rfl) (by show 0 ≤ 0; omega) (by show 0 ≤ 0; omega) dJ3_charAt_18 ?_
  refine lv_val (y := nI (min n cap)) (mnI_n (by omega) (by omega)) ?_
  refine lv_istore (lv' := [(4, .int (nI (min n cap))), (3, .ref v), (2, .int 0), (0, .ref q), (1, .int (nI i))]) hx hb dJ3_charAt_21 hl (by decide) rfl (fun ls hl => ?_)
  refine lv_iload_n hx hb dJ3_charAt_23 rfl (lv_at hl 4 rfl) ?_
  refine lv_iload hx hb dJ3_charAt_24 (lv_at hl 0 rfl) ?_
  refine run_roN (kS F hW (metJ5_checkIndex l E H _ _ (by omega) (by omega)) (lw_S q482 q483 q50 q484) hdJ5_checkIndex ⟨Nat.le_of_ble_eq_true rfl, Nat.le_of_ble_eq_true rfl⟩ hl.1 rfl (Nat.le_of_ble_eq_true rfl) dJ3_charAt_26 ⟨Nat.le_of_ble_eq_true rfl, Nat.le_of_ble_eq_true rfl⟩) ?_
  refine lv_iload_n hx hb dJ3_charAt_29 rfl (lv_at hl 2 rfl) ?_
  refine lv_if_ne (tgt := 42) hx hb dJ3_charAt_30 (by decide) (fun c9 => absurd (by decide) c9) (fun _ => ?_)
  refine lv_aload_n hx hb dJ3_charAt_33 rfl (lv_at hl 1 rfl) ?_
  refine lv_iload_n hx hb dJ3_charAt_34 rfl (lv_at hl 4 rfl) ?_
  refine xbld F hW hv (vp_in_nI (by omega) (by omega)) dJ3_charAt_35 ?_
  refine lv_val (y := nI ch) ((by rw [nI_clamp (by omega)]; exact hch)) ?_
  refine lv_sipush (v := 255) hx hb dJ3_charAt_36 (by decide) ?_
  refine lv_iand hx hb dJ3_charAt_39 ?_
  refine lv_val (y := nI ch) (chr_and hc128) ?_
  refine lv_i2c (v := nI ch) hx hb dJ3_charAt_40 (chr_i2c hc128) ?_
  exact hend _ _ _ _ _ _ _ (chr_nar hc128) dJ3_charAt_41 (⟨congrArg (fun z : Int32 => some (Value.int z)) (rfl), rfl⟩) hS (Nat.zero_le _) (Nat.zero_le _)

theorem hdJ4_charAt : Hd yJ4_charAt 1 := by decide +kernel
set_option maxHeartbeats 1000000 in
set_option maxRecDepth 100000 in
theorem metJ4_charAt (l : Launch) (E : EV) (H : Heap) (q v cap n : Nat) (mb : Int32) (f : Nat → Int32) (hsb : SB E q v cap n mb f H) (i ch : Nat) (hi : i < n) (hch : f i = nI ch) (hc128 : ch < 128) : Ro l yJ4_charAt cJ4_charAt 2 (some .char) 3 67 [.ref q, .int (nI i)] E H (some (.int (nI ch))) := by
  have hsb0 := hsb
  obtain ⟨hq, hv, hnc, hcap⟩ := hsb
  refine Ct.ofZ (by decide) (Nat.le_of_ble_eq_true rfl) ?_
  intro p e s m bl mt cd ls Q hF hW hH hl hend
  obtain ⟨F, hin⟩ := hF
  have hx := F.1
  have hb := F.2.1
  have hts := F.2.2.2.2
  have hl : lv_has ls 2 [(0, .ref q), (1, .int (nI i))] := hl
  have hS : va_S (fun _ => False) H H [] := va_S.rf
  obtain ⟨cC, hat⟩ := cat (ci := 7) hW rfl
  refine lv_aload_n hx hb dJ4_charAt_0 rfl (lv_at hl 0 rfl) ?_
  refine lv_iload_n hx hb dJ4_charAt_1 rfl (lv_at hl 1 rfl) ?_
  refine run_ro (w := .int (nI ch)) (rest := []) (kSU hat F hW (metJ3_charAt l E H q v cap n mb f hsb0 i ch hi hch hc128) q478 q1263 q175 q479 q48 q480 (by decide +kernel) hdJ3_charAt ⟨Nat.le_of_ble_eq_true rfl, Nat.le_of_ble_eq_true rfl⟩ (recv hW hq rfl) hl.1 rfl (Nat.le_of_ble_eq_true rfl) dJ4_charAt_2 ⟨Nat.le_of_ble_eq_true rfl, Nat.le_of_ble_eq_true rfl⟩) ?_
  exact hend _ _ _ _ _ _ _ (chr_nar hc128) dJ4_charAt_5 (⟨congrArg (fun z : Int32 => some (Value.int z)) (rfl), rfl⟩) hS (Nat.zero_le _) (Nat.zero_le _)

theorem hdJ3_ensureCapacityInternal : Hd yJ3_ensureCapacityInternal 1 := by decide +kernel
set_option maxHeartbeats 1000000 in
set_option maxRecDepth 100000 in
theorem metJ3_ensureR (l : Launch) (E : EV) (H : Heap) (q v cap n : Nat) (mb : Int32) (f : Nat → Int32) (hsb : SB E q v cap n mb f H) (mn : Nat) (hmn : mn ≤ cap) : Ro l yJ3_ensureCapacityInternal cJ3_ensureCapacityInternal 3 none 0 0 [.ref q, .int (nI mn)] E H none := by
  have hsb0 := hsb
  obtain ⟨hq, hv, hnc, hcap⟩ := hsb
  refine Ct.ofV (by decide) (Nat.le_of_ble_eq_true rfl) ?_
  intro p e s m bl mt cd ls Q hF hW hH hl hend
  obtain ⟨F, hin⟩ := hF
  have hx := F.1
  have hb := F.2.1
  have hts := F.2.2.2.2
  have hl : lv_has ls 3 [(0, .ref q), (1, .int (nI mn))] := hl
  have hS : va_S (fun _ => False) H H [] := va_S.rf
  refine lv_aload_n hx hb dJ3_ensureCapacityInternal_0 rfl (lv_at hl 0 rfl) ?_
  refine xget (ref := "java/lang/AbstractStringBuilder") (ci := 7) (v := .ref v) (C := RJ4) (T := TJ4) (N := 4) F in_J4 hW hq rfl 0 (by decide) q162 (fun _ h9 => h9) rfl dJ3_ensureCapacityInternal_1 ?_
  refine xilen F hW 1 hv rfl dJ3_ensureCapacityInternal_4 ?_
  refine lv_aload_n hx hb dJ3_ensureCapacityInternal_5 rfl (lv_at hl 0 rfl) ?_
  refine xget (ref := "java/lang/AbstractStringBuilder") (ci := 7) (v := .int 0) (C := RJ4) (T := TJ4) (N := 4) F in_J4 hW hq rfl 1 (by decide) q163 (fun _ h9 => h9) rfl dJ3_ensureCapacityInternal_6 ?_
  refine lv_ishr hx hb dJ3_ensureCapacityInternal_9 ?_
  refine lv_val (y := nI cap) (sc_shr0 (n := cap) (by omega)) ?_
  refine lv_istore_n (lv' := [(2, .int (nI cap)), (0, .ref q), (1, .int (nI mn))]) hx hb dJ3_ensureCapacityInternal_10 rfl hl (by decide) rfl (fun ls hl => ?_)
  refine lv_iload_n hx hb dJ3_ensureCapacityInternal_11 rfl (lv_at hl 2 rfl) ?_
  refine lv_iload_n hx hb dJ3_ensureCapacityInternal_12 rfl (lv_at hl 0 rfl) ?_
  refine lv_isub hx hb dJ3_ensureCapacityInternal_13 ?_
  refine lv_if_le (tgt := 38) hx hb dJ3_ensureCapacityInternal_14 (by decide) (fun _ => ?_) (fun c9 => absurd (sub_le0 hmn (by omega)) c9)
  exact hend _ _ _ _ _ _ dJ3_ensureCapacityInternal_38 (⟨rfl, rfl⟩) hS (Nat.zero_le _) (Nat.zero_le _)

theorem hdJ3_setLength : Hd yJ3_setLength 1 := by decide +kernel
set_option maxHeartbeats 1000000 in
set_option maxRecDepth 100000 in
theorem metJ3_setLength (l : Launch) (E : EV) (H : Heap) (q v cap n : Nat) (mb : Int32) (f : Nat → Int32) (hsb : SB E q v cap n mb f H) (hqo : Old E q) (hqv : q ≠ v) : Ct l yJ3_setLength cJ3_setLength 2 none 1 22 (0) (0) [.ref q, .int 0] E H (fun x => x = q) (pN (fun H1 => ∃ mb', SB E q v cap 0 mb' f H1)) := by
  have hsb0 := hsb
  obtain ⟨hq, hv, hnc, hcap⟩ := hsb
  refine Ct.ofV (by decide) (Nat.le_of_ble_eq_true rfl) ?_
  intro p e s m bl mt cd ls Q hF hW hH hl hend
  obtain ⟨F, hin⟩ := hF
  have hx := F.1
  have hb := F.2.1
  have hts := F.2.2.2.2
  have hl : lv_has ls 2 [(0, .ref q), (1, .int 0)] := hl
  have hS : va_S (fun x => x = q) H H [] := va_S.rf
  refine lv_iload_n hx hb dJ3_setLength_0 rfl (lv_at hl 1 rfl) ?_
  refine lv_if_ge (tgt := 13) hx hb dJ3_setLength_1 (by decide) (fun _ => ?_) (fun c9 => absurd (by decide) c9)
  refine lv_aload_n hx hb dJ3_setLength_13 rfl (lv_at hl 0 rfl) ?_
  refine lv_iload_n hx hb dJ3_setLength_14 rfl (lv_at hl 1 rfl) ?_
  refine run_roN (kU (x := ⟨"java/lang/AbstractStringBuilder", "ensureCapacityInternal", "(I)V"⟩) (C := "java/lang/StringBuilder") F hW (metJ3_ensureR l E H q v cap n mb f hsb0 0 (Nat.zero_le _)) q617 q1265 qx0 q619 q48 q620 rfl hdJ3_ensureCapacityInternal ⟨Nat.le_of_ble_eq_true rfl, Nat.le_of_ble_eq_true rfl⟩ (recv hW hq rfl) hl.1 rfl (Nat.le_of_ble_eq_true rfl) dJ3_setLength_15 ⟨Nat.le_of_ble_eq_true rfl, Nat.le_of_ble_eq_true rfl⟩) ?_
  refine lv_aload_n hx hb dJ3_setLength_18 rfl (lv_at hl 0 rfl) ?_
  refine xget (ref := "java/lang/AbstractStringBuilder") (ci := 7) (v := .int (nI n)) (C := RJ4) (T := TJ4) (N := 4) F in_J4 hW hq rfl 3 (by decide) q166 (fun _ h9 => h9) rfl dJ3_setLength_19 ?_
  refine lv_iload_n hx hb dJ3_setLength_22 rfl (lv_at hl 1 rfl) ?_
  refine lv_icmp_ge (tgt := 63) hx hb dJ3_setLength_23 (by decide) (fun _ => ?_) (fun c9 => absurd (nI_pos' (n := n) (by omega)) c9)
  refine lv_aload_n hx hb dJ3_setLength_63 rfl (lv_at hl 0 rfl) ?_
  refine xget (ref := "java/lang/AbstractStringBuilder") (ci := 7) (v := .int (nI n)) (C := RJ4) (T := TJ4) (N := 4) F in_J4 hW hq rfl 3 (by decide) q166 (fun _ h9 => h9) rfl dJ3_setLength_64 ?_
  refine lv_iload_n hx hb dJ3_setLength_67 rfl (lv_at hl 1 rfl) ?_
  refine lv_icmp_le (tgt := 76) hx hb dJ3_setLength_68 (by decide) (fun c_1 => ?_) (fun c_1 => ?_)
  · skip
    refine lv_aload_n hx hb dJ3_setLength_76 rfl (lv_at hl 0 rfl) ?_
    refine lv_iload_n hx hb dJ3_setLength_77 rfl (lv_at hl 1 rfl) ?_
    refine xput (ref := "java/lang/AbstractStringBuilder") (ci := 7) (v := .int 0) (C := RJ4) (T := TJ4) (N := 4) F in_J4 tyJ4 tyJ4_ok nmJ4 hW hq hS rfl rfl 3 (by decide) q166 (fun _ h9 => h9) rfl rfl rfl (Nat.le_of_ble_eq_true rfl) dJ3_setLength_78 (fun H_2 locs ho_2 hu_2 hS_2 => ?_)
    have ho_2 : oat E q 7 [.ref v, .int 0, .int mb, .int 0] H_2 := ho_2
    have hz_H_2 : H_2.size = H.size := hu_2.1
    have hW_H_2 := hW.kept hu_2.chg (fun q _ hq => hq ▸ hqo)
    have hv_H_2 := hv.kept hu_2.chg (fun h9 => hqv h9.symm)
    exact hend _ _ _ _ _ _ dJ3_setLength_81 (⟨rfl, _, ho_2, hv_H_2, Nat.zero_le _, hcap⟩) hS_2 (Nat.zero_le _) (Nat.zero_le _)
  · skip
    refine lv_aload_n hx hb dJ3_setLength_71 rfl (lv_at hl 0 rfl) ?_
    refine lv_iconst (v := 1) hx hb dJ3_setLength_72 (by decide) ?_
    refine xput (ref := "java/lang/AbstractStringBuilder") (ci := 7) (v := .int 1) (C := RJ4) (T := TJ4) (N := 4) F in_J4 tyJ4 tyJ4_ok nmJ4 hW hq hS rfl rfl 2 (by decide) q164 (fun _ h9 => h9) rfl rfl rfl (Nat.le_of_ble_eq_true rfl) dJ3_setLength_73 (fun H_3 locs ho_3 hu_3 hS_3 => ?_)
    have ho_3 : oat E q 7 [.ref v, .int 0, .int 1, .int (nI n)] H_3 := ho_3
    have hz_H_3 : H_3.size = H.size := hu_3.1
    have hW_H_3 := hW.kept hu_3.chg (fun q _ hq => hq ▸ hqo)
    have hv_H_3 := hv.kept hu_3.chg (fun h9 => hqv h9.symm)
    refine lv_aload_n hx hb dJ3_setLength_76 rfl (lv_at hl 0 rfl) ?_
    refine lv_iload_n hx hb dJ3_setLength_77 rfl (lv_at hl 1 rfl) ?_
    refine xput (ref := "java/lang/AbstractStringBuilder") (ci := 7) (v := .int 0) (C := RJ4) (T := TJ4) (N := 4) F in_J4 tyJ4 tyJ4_ok nmJ4 hW_H_3 ho_3 hS_3 rfl rfl 3 (by decide) q166 (fun _ h9 => h9) rfl rfl rfl (Nat.le_of_ble_eq_true rfl) dJ3_setLength_78 (fun H_4 locs ho_4 hu_4 hS_4 => ?_)
    have ho_4 : oat E q 7 [.ref v, .int 0, .int 1, .int 0] H_4 := ho_4
    have hz_H_4 : H_4.size = H_3.size := hu_4.1
    have hW_H_4 := hW_H_3.kept hu_4.chg (fun q _ hq => hq ▸ hqo)
    have hv_H_4 := hv_H_3.kept hu_4.chg (fun h9 => hqv h9.symm)
    exact hend _ _ _ _ _ _ dJ3_setLength_81 (⟨rfl, _, ho_4, hv_H_4, Nat.zero_le _, hcap⟩) hS_4 (Nat.zero_le _) (Nat.zero_le _)

theorem hdJ4_setLength : Hd yJ4_setLength 1 := by decide +kernel
set_option maxHeartbeats 1000000 in
set_option maxRecDepth 100000 in
theorem metJ4_setLength (l : Launch) (E : EV) (H : Heap) (q v cap n : Nat) (mb : Int32) (f : Nat → Int32) (hsb : SB E q v cap n mb f H) (hqo : Old E q) (hqv : q ≠ v) : Ct l yJ4_setLength cJ4_setLength 2 none 2 43 (0) (0) [.ref q, .int 0] E H (fun x => x = q) (pN (fun H1 => ∃ mb', SB E q v cap 0 mb' f H1)) := by
  have hsb0 := hsb
  obtain ⟨hq, hv, hnc, hcap⟩ := hsb
  refine Ct.ofV (by decide) (Nat.le_of_ble_eq_true rfl) ?_
  intro p e s m bl mt cd ls Q hF hW hH hl hend
  obtain ⟨F, hin⟩ := hF
  have hx := F.1
  have hb := F.2.1
  have hts := F.2.2.2.2
  have hl : lv_has ls 2 [(0, .ref q), (1, .int 0)] := hl
  have hS : va_S (fun x => x = q) H H [] := va_S.rf
  obtain ⟨cC, hat⟩ := cat (ci := 7) hW rfl
  refine lv_aload_n hx hb dJ4_setLength_0 rfl (lv_at hl 0 rfl) ?_
  refine lv_iload_n hx hb dJ4_setLength_1 rfl (lv_at hl 1 rfl) ?_
  refine run_chN (rest := []) (kSU hat F hW (metJ3_setLength l E H q v cap n mb f hsb0 hqo hqv) q614 q1264 q175 q615 q48 q616 (by decide +kernel) hdJ3_setLength ⟨Nat.le_of_ble_eq_true rfl, Nat.le_of_ble_eq_true rfl⟩ (recv hW hq rfl) hl.1 rfl (Nat.le_of_ble_eq_true rfl) dJ4_setLength_2 ⟨by show 0 + 0 ≤ 0; omega, by show 0 + 0 ≤ 0; omega⟩) hS (fun _ h => h) (fun H_1 locs hp_1 hc_1 hS_1 => ?_)
  exact hend _ _ _ _ _ _ dJ4_setLength_5 (⟨rfl, hp_1⟩) hS_1 (Nat.zero_le _) (Nat.zero_le _)

