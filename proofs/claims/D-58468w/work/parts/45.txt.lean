/-! TEXTS: signs, digits, rules out of the pad -/
set_option maxRecDepth 100000
section TX
variable {p : Program} {l : Launch} {e : Env} {R : Room} {s : State} {m : MethodId} {args : Array Value} {below : List Frame} {meth : Method} {c : Code} {H : Heap} {locs : List Loc} {cells slots : Nat} {Q : State → Prop}
variable {cc : ByteArray} {pc nL index : Nat} {ls : Array Slot} {rest : List Value} {E : EV} {A : Nat → Prop} {a : Nat} {H0 : Heap} {own : String}
theorem xldcw {tx : String} (F : CallFix p m c cc nL s args lw_all own) (hZ : vk_R own index tx a s) (hdg : decode cc pc = .ok (.ldc_w index, 3))
    (k : W p l e R s m args below meth c H locs cells slots Q (F0 m (pc + 3) ls (.ref a :: rest))) : W p l e R s m args below meth c H locs cells slots Q (F0 m pc ls rest) := by
  intro T hT X
  obtain ⟨t, a1, b1⟩ := k T hT X
  refine ⟨t, ?_, b1⟩
  obtain ⟨k, cf, i, a', hk, hcf, hcp, -, hr, hev'⟩ := Cond.stringRef_spec F.2.2.2.1 hZ.1
  cases hZ.2.symm.trans hev'
  obtain ⟨k', hk', he⟩ := X.warmed.alike.2.2 _ _ hk
  have hr' : k'.resolved[index]? = some (some (.string a)) := by
    rcases X.warmed.entry hk hk' index with h | ⟨h, -⟩
    · rw [h]; exact hr
    · rw [hr] at h; cases h
  have hdg' : decode c.code (F0 m pc ls rest).pc = .ok (.ldc_w index, 3) := by rw [F.2.1]; exact hdg
  have hexec := F.1
  jvm_step X.here [hexec, hdg', ldc_w.wp_string (e := e) (s := T) (f := F0 m pc ls rest) X.here.top hk' (by rw [he]; exact hcf) hcp hr']
  exact a1
theorem xtb {t N : Nat} {f : Nat → Value} (F : CallFix p m c cc nL s args lw_all own) (hT : va_T .byte t N f A s H) {i : Int32} (hin : vp_in i N) {v : Value} (hv : f i.toNatClampNeg = v) (hdg : decode cc pc = .ok (.baload, 1))
    (kk : W p l e R s m args below meth c H locs cells slots Q (F0 m (pc + 1) ls (v :: rest))) : W p l e R s m args below meth c H locs cells slots Q (F0 m pc ls (.int i :: .ref t :: rest)) := by
  obtain ⟨cell, h1, h2, h3, h4, h5, h6, h7⟩ := hT
  have hlt : i.toNatClampNeg < N := Nat.not_le.mp fun q => hin (Or.inr q)
  have hin' : ¬ (i < 0 ∨ cell.slots.size ≤ i.toNatClampNeg) := by
    intro q
    rcases q with q | q
    · exact hin (Or.inl q)
    · omega
  exact W.bald (v := v) F.1 F.2.1 h1 h2 h3 hin' (by rw [h6 _ hlt, hv]) rfl rfl hdg kk
end TX
/-- where a sign is in "pbw" -/
def ioX (c : Int32) : Int32 := if c = 112 then 0 else if c = 98 then 1 else if c = 119 then 2 else -1
/-- what reading sees: x, its pad, a place, whether something is wrong -/
def RD (E : EV) (x g hL sa pb pv : Nat) (p : Nat) (w : Bool) (pd : Nat → Int32) (ln : Nat) (H : Heap) : Prop := ∃ (pcap : Nat) (pmb : Int32) (pf : Nat → Int32), oat E x 0 [.ref g, .ref hL, .ref sa, .ref pb, .int (nI p), .int (b2i w)] H ∧ SB E pb pv pcap ln pmb pf H ∧ ln ≤ 60 ∧ (∀ i, i < ln → pf i = pd i ∧ ∃ ch : Nat, pd i = nI ch ∧ 33 ≤ ch ∧ ch < 127) ∧ Old E x ∧ x ≠ pb ∧ x ≠ pv
def acW (w can : Bool) : Bool := w || !can
def acP (w : Bool) (p : Nat) (can : Bool) : Nat := if acW w can = true then p else p + 1
theorem RD.kept {E : EV} {x g hL sa pb pv p ln : Nat} {w : Bool} {pd : Nat → Int32} {H H1 : Heap} {A : Nat → Prop} (h : RD E x g hL sa pb pv p w pd ln H) (hc : Chg A H H1) (hx : ¬ A x) (hb : ¬ A pb) (hv : ¬ A pv) : RD E x g hL sa pb pv p w pd ln H1 := by
  obtain ⟨pcap, pmb, pf, h1, ⟨h2, h3, h4, h5⟩, h6⟩ := h
  exact ⟨pcap, pmb, pf, h1.kept hc hx, ⟨h2.kept hc hb, h3.kept hc hv, h4, h5⟩, h6⟩
theorem RD.ext {E : EV} {x g hL sa pb pv p ln : Nat} {w : Bool} {pd : Nat → Int32} {H H1 : Heap} (h : RD E x g hL sa pb pv p w pd ln H) (hc : Chg (fun q => H.size ≤ q) H H1) : RD E x g hL sa pb pv p w pd ln H1 := by
  have h0 := h
  obtain ⟨pcap, pmb, pf, h1, ⟨h2, h3, h4, h5⟩, h6⟩ := h0
  exact h.kept hc (Nat.not_le.mpr h1.lt) (Nat.not_le.mpr h2.lt) (Nat.not_le.mpr h3.lt)
theorem nx_ch {pd : Nat → Int32} {ln p : Nat} (h : ∀ i, i < ln → ∃ ch : Nat, pd i = nI ch ∧ 33 ≤ ch ∧ ch < 127) : ∃ ch : Nat, nxM pd ln p = nI ch ∧ ch < 127 ∧ (ch = 0 ∨ 33 ≤ ch) := by
  unfold nxM
  by_cases hp : p < ln
  · rw [if_pos hp]; obtain ⟨ch, h1, h2, h3⟩ := h p hp; exact ⟨ch, h1, h3, Or.inr h2⟩
  · rw [if_neg hp]; exact ⟨0, rfl, by decide, Or.inl rfl⟩
set_option maxHeartbeats 1000000 in
set_option maxRecDepth 100000 in
theorem metJ5_coderK (l : Launch) (E : EV) (H : Heap)  : Ro l yJ5_coder cJ5_coder 1 (some .byte) 0 0 [.ref (E.2.2.2 3)] E H (some (.int (0))) := by
  refine Ct.ofZ (by decide) (Nat.le_of_ble_eq_true rfl) ?_
  intro p e s m bl mt cd ls Q hF hW hH hl hend
  obtain ⟨F, hin⟩ := hF
  have hx := F.1
  have hb := F.2.1
  have hts := F.2.2.2.2
  have hl : lv_has ls 1 [(0, .ref (E.2.2.2 3))] := hl
  have hS : va_S (fun _ => False) H H [] := va_S.rf
  refine xgets F hW.2.1.2.2.2.1 q517 dJ5_coder_0 ?_
  refine lv_if_eq (tgt := 13) hx hb dJ5_coder_3 (by decide) (fun c9 => absurd c9 (by decide)) (fun _ => ?_)
  refine lv_aload_n hx hb dJ5_coder_6 rfl (lv_at hl 0 rfl) ?_
  refine xgetOF F (hW.2.1.2.2.2.2.2.2.2.2.1 0 (by decide)).2.1 q966 dJ5_coder_7 ?_
  refine lv_goto (tgt := 14) hx hb dJ5_coder_10 (by decide) ?_
  exact hend _ _ _ _ _ _ _ rfl dJ5_coder_14 (⟨congrArg (fun z : Int32 => some (Value.int z)) (rfl), rfl⟩) hS (Nat.zero_le _) (Nat.zero_le _)

set_option maxHeartbeats 1000000 in
set_option maxRecDepth 100000 in
theorem metJ5_lengthK (l : Launch) (E : EV) (H : Heap)  : Ro l yJ5_length cJ5_length 1 (some .int) 1 20 [.ref (E.2.2.2 3)] E H (some (.int (3))) := by
  refine Ct.ofZ (by decide) (Nat.le_of_ble_eq_true rfl) ?_
  intro p e s m bl mt cd ls Q hF hW hH hl hend
  obtain ⟨F, hin⟩ := hF
  have hx := F.1
  have hb := F.2.1
  have hts := F.2.2.2.2
  have hl : lv_has ls 1 [(0, .ref (E.2.2.2 3))] := hl
  have hS : va_S (fun _ => False) H H [] := va_S.rf
  refine lv_aload_n hx hb dJ5_length_0 rfl (lv_at hl 0 rfl) ?_
  refine xgetOF F (hW.2.1.2.2.2.2.2.2.2.2.1 0 (by decide)).2.2.1 q965 dJ5_length_1 ?_
  refine xtlen F (hW.2.1.2.2.2.2.2.2.2.2.1 0 (by decide)).2.2.2 dJ5_length_4 ?_
  refine lv_aload_n hx hb dJ5_length_5 rfl (lv_at hl 0 rfl) ?_
  refine run_ro (w := .int 0) (rest := [.int 3]) (kV F hW (metJ5_coderK l E H) (lw_V q522 q523 q524 q50 q525) hdJ5_coder ⟨Nat.le_of_ble_eq_true rfl, Nat.le_of_ble_eq_true rfl⟩ (orecv (hW.2.1.2.2.2.2.2.2.2.2.1 0 (by decide)).1) hl.1 rfl (Nat.le_of_ble_eq_true rfl) dJ5_length_6 ⟨Nat.le_of_ble_eq_true rfl, Nat.le_of_ble_eq_true rfl⟩) ?_
  refine lv_ishr hx hb dJ5_length_9 ?_
  exact hend _ _ _ _ _ _ _ rfl dJ5_length_10 (⟨congrArg (fun z : Int32 => some (Value.int z)) (rfl), rfl⟩) hS (Nat.zero_le _) (Nat.zero_le _)

theorem hdJ5_isLatin1 : Hd yJ5_isLatin1 0 := by decide +kernel
set_option maxHeartbeats 1000000 in
set_option maxRecDepth 100000 in
theorem metJ5_isLatin1K (l : Launch) (E : EV) (H : Heap)  : Ro l yJ5_isLatin1 cJ5_isLatin1 1 (some .boolean) 0 0 [.ref (E.2.2.2 3)] E H (some (.int (b2i true))) := by
  refine Ct.ofZ (by decide) (Nat.le_of_ble_eq_true rfl) ?_
  intro p e s m bl mt cd ls Q hF hW hH hl hend
  obtain ⟨F, hin⟩ := hF
  have hx := F.1
  have hb := F.2.1
  have hts := F.2.2.2.2
  have hl : lv_has ls 1 [(0, .ref (E.2.2.2 3))] := hl
  have hS : va_S (fun _ => False) H H [] := va_S.rf
  refine xgets F hW.2.1.2.2.2.1 q517 dJ5_isLatin1_0 ?_
  refine lv_if_eq (tgt := 17) hx hb dJ5_isLatin1_3 (by decide) (fun c9 => absurd c9 (by decide)) (fun _ => ?_)
  refine lv_aload_n hx hb dJ5_isLatin1_6 rfl (lv_at hl 0 rfl) ?_
  refine xgetOF F (hW.2.1.2.2.2.2.2.2.2.2.1 0 (by decide)).2.1 q966 dJ5_isLatin1_7 ?_
  refine lv_if_ne (tgt := 17) hx hb dJ5_isLatin1_10 (by decide) (fun c9 => absurd (by decide) c9) (fun _ => ?_)
  refine lv_iconst (v := 1) hx hb dJ5_isLatin1_13 (by decide) ?_
  refine lv_goto (tgt := 18) hx hb dJ5_isLatin1_14 (by decide) ?_
  exact hend _ _ _ _ _ _ _ rfl dJ5_isLatin1_18 (⟨congrArg (fun z : Int32 => some (Value.int z)) (rfl), rfl⟩) hS (Nat.zero_le _) (Nat.zero_le _)

theorem hdJ12_canEncode : Hd yJ12_canEncode 1 := by decide +kernel
set_option maxHeartbeats 1000000 in
set_option maxRecDepth 100000 in
theorem metJ12_canEncode (l : Launch) (E : EV) (H : Heap) (ch : Nat) (hc : ch < 128) : Ro l yJ12_canEncode cJ12_canEncode 1 (some .boolean) 0 0 [.int (nI ch)] E H (some (.int (b2i true))) := by
  refine Ct.ofZ (by decide) (Nat.le_of_ble_eq_true rfl) ?_
  intro p e s m bl mt cd ls Q hF hW hH hl hend
  obtain ⟨F, hin⟩ := hF
  have hx := F.1
  have hb := F.2.1
  have hts := F.2.2.2.2
  have hl : lv_has ls 1 [(0, .int (nI ch))] := hl
  have hS : va_S (fun _ => False) H H [] := va_S.rf
  refine lv_iload_n hx hb dJ12_canEncode_0 rfl (lv_at hl 0 rfl) ?_
  refine lv_if_lt (tgt := 15) hx hb dJ12_canEncode_1 (by decide) (fun c9 => absurd c9 (nI_pos (show ch < 2 ^ 31 by omega))) (fun _ => ?_)
  refine lv_iload_n hx hb dJ12_canEncode_4 rfl (lv_at hl 0 rfl) ?_
  refine lv_sipush (v := 255) hx hb dJ12_canEncode_5 (by decide) ?_
  refine lv_icmp_gt (tgt := 15) hx hb dJ12_canEncode_8 (by decide) (fun c9 => absurd c9 (fun h9 : 255 < nI ch => by have h8 := (nI_ltI (a := 255) (b := ch) (by omega) (by omega)).mp h9; omega)) (fun _ => ?_)
  refine lv_iconst (v := 1) hx hb dJ12_canEncode_11 (by decide) ?_
  refine lv_goto (tgt := 16) hx hb dJ12_canEncode_12 (by decide) ?_
  exact hend _ _ _ _ _ _ _ rfl dJ12_canEncode_16 (⟨congrArg (fun z : Int32 => some (Value.int z)) (rfl), rfl⟩) hS (Nat.zero_le _) (Nat.zero_le _)

theorem hdJ12_indexOfChar : Hd yJ12_indexOfChar 4 := by decide +kernel
set_option maxHeartbeats 1000000 in
set_option maxRecDepth 100000 in
theorem metJ12_indexOfChar (l : Launch) (E : EV) (H : Heap) (ch : Nat) (hc : ch < 128) : Ro l yJ12_indexOfChar cJ12_indexOfChar 6 (some .int) 0 0 [.ref (E.2.2.2 5), .int (nI ch), .int 0, .int 3] E H (some (.int (ioX (nI ch)))) := by
  refine Ct.ofZ (by decide) (Nat.le_of_ble_eq_true rfl) ?_
  intro p e s m bl mt cd ls Q hF hW hH hl hend
  obtain ⟨F, hin⟩ := hF
  have hx := F.1
  have hb := F.2.1
  have hts := F.2.2.2.2
  have hl : lv_has ls 6 [(0, .ref (E.2.2.2 5)), (1, .int (nI ch)), (2, .int 0), (3, .int 3)] := hl
  have hS : va_S (fun _ => False) H H [] := va_S.rf
  refine lv_iload_n hx hb dJ12_indexOfChar_0 rfl (lv_at hl 1 rfl) ?_
  refine lv_i2b (v := nI ch) hx hb dJ12_indexOfChar_1 (chr_i2b hc) ?_
  refine lv_istore (lv' := [(4, .int (nI ch)), (0, .ref (E.2.2.2 5)), (1, .int (nI ch)), (2, .int 0), (3, .int 3)]) hx hb dJ12_indexOfChar_2 hl (by decide) rfl (fun ls hl => ?_)
  refine lv_iload_n hx hb dJ12_indexOfChar_4 rfl (lv_at hl 3 rfl) ?_
  refine lv_istore (lv' := [(5, .int 0), (4, .int (nI ch)), (0, .ref (E.2.2.2 5)), (1, .int (nI ch)), (2, .int 0), (3, .int 3)]) hx hb dJ12_indexOfChar_5 hl (by decide) rfl (fun ls hl => ?_)
  refine lv_iload hx hb dJ12_indexOfChar_7 (lv_at hl 0 rfl) ?_
  refine lv_iload_n hx hb dJ12_indexOfChar_9 rfl (lv_at hl 5 rfl) ?_
  refine lv_icmp_ge (tgt := 31) hx hb dJ12_indexOfChar_10 (by decide) (fun c9 => absurd c9 (by decide)) (fun _ => ?_)
  refine lv_aload_n hx hb dJ12_indexOfChar_13 rfl (lv_at hl 2 rfl) ?_
  refine lv_iload hx hb dJ12_indexOfChar_14 (lv_at hl 0 rfl) ?_
  refine xtb (v := .int 112) F (hW.2.1.2.2.2.2.2.2.2.2.1 0 (by decide)).2.2.2 (vp_in_nI (n := 0) (by decide) (by decide)) rfl dJ12_indexOfChar_16 ?_
  refine lv_iload hx hb dJ12_indexOfChar_17 (lv_at hl 1 rfl) ?_
  refine lv_icmp_ne (tgt := 25) hx hb dJ12_indexOfChar_19 (by decide) (fun c_1 => ?_) (fun c_1 => ?_)
  · skip
    refine lv_iinc (v := 1) (lv' := [(5, .int 1), (4, .int (nI ch)), (0, .ref (E.2.2.2 5)), (1, .int (nI ch)), (2, .int 0), (3, .int 3)]) hx hb dJ12_indexOfChar_25 hl (k := 0) rfl (by decide) (by decide) rfl (fun ls hl => ?_)
    refine lv_goto (tgt := 7) hx hb dJ12_indexOfChar_28 (by decide) ?_
    refine lv_iload hx hb dJ12_indexOfChar_7 (lv_at hl 0 rfl) ?_
    refine lv_iload_n hx hb dJ12_indexOfChar_9 rfl (lv_at hl 5 rfl) ?_
    refine lv_icmp_ge (tgt := 31) hx hb dJ12_indexOfChar_10 (by decide) (fun c9 => absurd c9 (by decide)) (fun _ => ?_)
    refine lv_aload_n hx hb dJ12_indexOfChar_13 rfl (lv_at hl 2 rfl) ?_
    refine lv_iload hx hb dJ12_indexOfChar_14 (lv_at hl 0 rfl) ?_
    refine xtb (v := .int 98) F (hW.2.1.2.2.2.2.2.2.2.2.1 0 (by decide)).2.2.2 (vp_in_nI (n := 1) (by decide) (by decide)) rfl dJ12_indexOfChar_16 ?_
    refine lv_iload hx hb dJ12_indexOfChar_17 (lv_at hl 1 rfl) ?_
    refine lv_icmp_ne (tgt := 25) hx hb dJ12_indexOfChar_19 (by decide) (fun c_2 => ?_) (fun c_2 => ?_)
    · skip
      refine lv_iinc (v := 2) (lv' := [(5, .int 2), (4, .int (nI ch)), (0, .ref (E.2.2.2 5)), (1, .int (nI ch)), (2, .int 0), (3, .int 3)]) hx hb dJ12_indexOfChar_25 hl (k := 0) rfl (by decide) (by decide) rfl (fun ls hl => ?_)
      refine lv_goto (tgt := 7) hx hb dJ12_indexOfChar_28 (by decide) ?_
      refine lv_iload hx hb dJ12_indexOfChar_7 (lv_at hl 0 rfl) ?_
      refine lv_iload_n hx hb dJ12_indexOfChar_9 rfl (lv_at hl 5 rfl) ?_
      refine lv_icmp_ge (tgt := 31) hx hb dJ12_indexOfChar_10 (by decide) (fun c9 => absurd c9 (by decide)) (fun _ => ?_)
      refine lv_aload_n hx hb dJ12_indexOfChar_13 rfl (lv_at hl 2 rfl) ?_
      refine lv_iload hx hb dJ12_indexOfChar_14 (lv_at hl 0 rfl) ?_
      refine xtb (v := .int 119) F (hW.2.1.2.2.2.2.2.2.2.2.1 0 (by decide)).2.2.2 (vp_in_nI (n := 2) (by decide) (by decide)) rfl dJ12_indexOfChar_16 ?_
      refine lv_iload hx hb dJ12_indexOfChar_17 (lv_at hl 1 rfl) ?_
      refine lv_icmp_ne (tgt := 25) hx hb dJ12_indexOfChar_19 (by decide) (fun c_3 => ?_) (fun c_3 => ?_)
      · skip
        refine lv_iinc (v := 3) (lv' := [(5, .int 3), (4, .int (nI ch)), (0, .ref (E.2.2.2 5)), (1, .int (nI ch)), (2, .int 0), (3, .int 3)]) hx hb dJ12_indexOfChar_25 hl (k := 0) rfl (by decide) (by decide) rfl (fun ls hl => ?_)
        refine lv_goto (tgt := 7) hx hb dJ12_indexOfChar_28 (by decide) ?_
        refine lv_iload hx hb dJ12_indexOfChar_7 (lv_at hl 0 rfl) ?_
        refine lv_iload_n hx hb dJ12_indexOfChar_9 rfl (lv_at hl 5 rfl) ?_
        refine lv_icmp_ge (tgt := 31) hx hb dJ12_indexOfChar_10 (by decide) (fun _ => ?_) (fun c9 => absurd (by decide) c9)
        refine lv_iconst (v := (-1)) hx hb dJ12_indexOfChar_31 (by decide) ?_
        exact hend _ _ _ _ _ _ _ rfl dJ12_indexOfChar_32 (⟨congrArg (fun z : Int32 => some (Value.int z)) (by unfold ioX; rw [if_neg (fun h => c_1 h.symm), if_neg (fun h => c_2 h.symm), if_neg (fun h => c_3 h.symm)]), rfl⟩) hS (Nat.zero_le _) (Nat.zero_le _)
      · skip
        refine lv_iload hx hb dJ12_indexOfChar_22 (lv_at hl 0 rfl) ?_
        exact hend _ _ _ _ _ _ _ rfl dJ12_indexOfChar_24 (⟨congrArg (fun z : Int32 => some (Value.int z)) (by unfold ioX; rw [if_neg (fun h => c_1 h.symm), if_neg (fun h => c_2 h.symm), if_pos c_3.symm]), rfl⟩) hS (Nat.zero_le _) (Nat.zero_le _)
    · skip
      refine lv_iload hx hb dJ12_indexOfChar_22 (lv_at hl 0 rfl) ?_
      exact hend _ _ _ _ _ _ _ rfl dJ12_indexOfChar_24 (⟨congrArg (fun z : Int32 => some (Value.int z)) (by unfold ioX; rw [if_neg (fun h => c_1 h.symm), if_pos c_2.symm]), rfl⟩) hS (Nat.zero_le _) (Nat.zero_le _)
  · skip
    refine lv_iload hx hb dJ12_indexOfChar_22 (lv_at hl 0 rfl) ?_
    exact hend _ _ _ _ _ _ _ rfl dJ12_indexOfChar_24 (⟨congrArg (fun z : Int32 => some (Value.int z)) (by unfold ioX; rw [if_pos c_1.symm]), rfl⟩) hS (Nat.zero_le _) (Nat.zero_le _)

theorem hdJ12_indexOf : Hd yJ12_indexOf 4 := by decide +kernel
set_option maxHeartbeats 1000000 in
set_option maxRecDepth 100000 in
theorem metJ12_indexOf (l : Launch) (E : EV) (H : Heap) (ch : Nat) (hc : ch < 128) : Ro l yJ12_indexOf cJ12_indexOf 4 (some .int) 1 40 [.ref (E.2.2.2 5), .int (nI ch), .int 0, .int 3] E H (some (.int (ioX (nI ch)))) := by
  refine Ct.ofZ (by decide) (Nat.le_of_ble_eq_true rfl) ?_
  intro p e s m bl mt cd ls Q hF hW hH hl hend
  obtain ⟨F, hin⟩ := hF
  have hx := F.1
  have hb := F.2.1
  have hts := F.2.2.2.2
  have hl : lv_has ls 4 [(0, .ref (E.2.2.2 5)), (1, .int (nI ch)), (2, .int 0), (3, .int 3)] := hl
  have hS : va_S (fun _ => False) H H [] := va_S.rf
  refine lv_iload_n hx hb dJ12_indexOf_0 rfl (lv_at hl 1 rfl) ?_
  refine run_ro (w := .int (b2i true)) (rest := []) (kS F hW (metJ12_canEncode l E H ch hc) (lw_S q529 q530 q62 q531) hdJ12_canEncode ⟨Nat.le_of_ble_eq_true rfl, Nat.le_of_ble_eq_true rfl⟩ hl.1 rfl (Nat.le_of_ble_eq_true rfl) dJ12_indexOf_1 ⟨Nat.le_of_ble_eq_true rfl, Nat.le_of_ble_eq_true rfl⟩) ?_
  refine lv_if_ne (tgt := 9) hx hb dJ12_indexOf_4 (by decide) (fun _ => ?_) (fun c9 => absurd c9 (show ¬ b2i true = 0 by decide))
  refine lv_iload_n hx hb dJ12_indexOf_9 rfl (lv_at hl 2 rfl) ?_
  refine lv_iconst (v := 0) hx hb dJ12_indexOf_10 (by decide) ?_
  refine xmax (hl.1 ▸ F) q532 (Nat.le_of_ble_eq_true rfl) (Nat.le_of_ble_eq_true rfl) (by show 0 ≤ 0; omega) (by show 0 ≤ 0; omega) dJ12_indexOf_11 ?_
  refine lv_val (y := nI (max 0 0)) (by rw [show (0 : Int32) = _ from (rfl : (0 : Int32) = nI 0), show (0 : Int32) = _ from (rfl : (0 : Int32) = nI 0)]; exact mxI_n (a := 0) (b := 0) (by omega) (by omega)) ?_
  refine lv_istore_n (lv' := [(2, .int (nI (max 0 0))), (0, .ref (E.2.2.2 5)), (1, .int (nI ch)), (3, .int 3)]) hx hb dJ12_indexOf_14 rfl hl (by decide) rfl (fun ls hl => ?_)
  refine lv_iload_n hx hb dJ12_indexOf_15 rfl (lv_at hl 3 rfl) ?_
  refine lv_aload_n hx hb dJ12_indexOf_16 rfl (lv_at hl 1 rfl) ?_
  refine xtlen F (hW.2.1.2.2.2.2.2.2.2.2.1 0 (by decide)).2.2.2 dJ12_indexOf_17 ?_
  refine xmin (hl.1 ▸ F) q533 (Nat.le_of_ble_eq_true rfl) (Nat.le_of_ble_eq_true rfl) (by show 0 ≤ 0; omega) (by show 0 ≤ 0; omega) dJ12_indexOf_18 ?_
  refine lv_val (y := nI (min 3 3)) (by rw [show (3 : Int32) = _ from (rfl : (3 : Int32) = nI 3), show (3 : Int32) = _ from (rfl : (3 : Int32) = nI 3)]; exact mnI_n (a := 3) (b := 3) (by omega) (by omega)) ?_
  refine lv_istore_n (lv' := [(3, .int (nI (min 3 3))), (2, .int (nI (max 0 0))), (0, .ref (E.2.2.2 5)), (1, .int (nI ch))]) hx hb dJ12_indexOf_21 rfl hl (by decide) rfl (fun ls hl => ?_)
  refine lv_iload_n hx hb dJ12_indexOf_22 rfl (lv_at hl 1 rfl) ?_
  refine lv_iload_n hx hb dJ12_indexOf_23 rfl (lv_at hl 0 rfl) ?_
  refine lv_icmp_lt (tgt := 29) hx hb dJ12_indexOf_24 (by decide) (fun _ => ?_) (fun c9 => absurd (show (nI (max 0 0) : Int32) < nI (min 3 3) by decide) c9)
  refine lv_aload_n hx hb dJ12_indexOf_29 rfl (lv_at hl 2 rfl) ?_
  refine lv_iload_n hx hb dJ12_indexOf_30 rfl (lv_at hl 3 rfl) ?_
  refine lv_iload_n hx hb dJ12_indexOf_31 rfl (lv_at hl 1 rfl) ?_
  refine lv_iload_n hx hb dJ12_indexOf_32 rfl (lv_at hl 0 rfl) ?_
  refine run_ro (w := .int (ioX (nI ch))) (rest := []) (kS F hW (metJ12_indexOfChar l E H ch hc) (lw_S q534 q535 q62 q536) hdJ12_indexOfChar ⟨Nat.le_of_ble_eq_true rfl, Nat.le_of_ble_eq_true rfl⟩ hl.1 rfl (Nat.le_of_ble_eq_true rfl) dJ12_indexOf_33 ⟨Nat.le_of_ble_eq_true rfl, Nat.le_of_ble_eq_true rfl⟩) ?_
  exact hend _ _ _ _ _ _ _ rfl dJ12_indexOf_36 (⟨congrArg (fun z : Int32 => some (Value.int z)) (rfl), rfl⟩) hS (Nat.zero_le _) (Nat.zero_le _)

theorem hdJ5_indexOf_2 : Hd yJ5_indexOf_2 2 := by decide +kernel
set_option maxHeartbeats 1000000 in
set_option maxRecDepth 100000 in
theorem metJ5_indexOf_2 (l : Launch) (E : EV) (H : Heap) (ch : Nat) (hc : ch < 128) : Ro l yJ5_indexOf_2 cJ5_indexOf_2 3 (some .int) 2 63 [.ref (E.2.2.2 3), .int (nI ch), .int 0] E H (some (.int (ioX (nI ch)))) := by
  refine Ct.ofZ (by decide) (Nat.le_of_ble_eq_true rfl) ?_
  intro p e s m bl mt cd ls Q hF hW hH hl hend
  obtain ⟨F, hin⟩ := hF
  have hx := F.1
  have hb := F.2.1
  have hts := F.2.2.2.2
  have hl : lv_has ls 3 [(0, .ref (E.2.2.2 3)), (1, .int (nI ch)), (2, .int 0)] := hl
  have hS : va_S (fun _ => False) H H [] := va_S.rf
  refine lv_aload_n hx hb dJ5_indexOf_2_0 rfl (lv_at hl 0 rfl) ?_
  refine run_ro (w := .int (b2i true)) (rest := []) (kV F hW (metJ5_isLatin1K l E H) (lw_V q513 q514 q515 q50 q516) hdJ5_isLatin1 ⟨Nat.le_of_ble_eq_true rfl, Nat.le_of_ble_eq_true rfl⟩ (orecv (hW.2.1.2.2.2.2.2.2.2.2.1 0 (by decide)).1) hl.1 rfl (Nat.le_of_ble_eq_true rfl) dJ5_indexOf_2_1 ⟨Nat.le_of_ble_eq_true rfl, Nat.le_of_ble_eq_true rfl⟩) ?_
  refine lv_if_eq (tgt := 23) hx hb dJ5_indexOf_2_4 (by decide) (fun c9 => absurd c9 (show ¬ b2i true = 0 by decide)) (fun _ => ?_)
  refine lv_aload_n hx hb dJ5_indexOf_2_7 rfl (lv_at hl 0 rfl) ?_
  refine xgetOF F (hW.2.1.2.2.2.2.2.2.2.2.1 0 (by decide)).2.2.1 q965 dJ5_indexOf_2_8 ?_
  refine lv_iload_n hx hb dJ5_indexOf_2_11 rfl (lv_at hl 1 rfl) ?_
  refine lv_iload_n hx hb dJ5_indexOf_2_12 rfl (lv_at hl 2 rfl) ?_
  refine lv_aload_n hx hb dJ5_indexOf_2_13 rfl (lv_at hl 0 rfl) ?_
  refine run_ro (w := .int 3) (rest := [.int 0, .int (nI ch), .ref (E.2.2.2 5)]) (kV F hW (metJ5_lengthK l E H) (lw_V q518 q519 q520 q50 q521) hdJ5_length ⟨Nat.le_of_ble_eq_true rfl, Nat.le_of_ble_eq_true rfl⟩ (orecv (hW.2.1.2.2.2.2.2.2.2.2.1 0 (by decide)).1) hl.1 rfl (Nat.le_of_ble_eq_true rfl) dJ5_indexOf_2_14 ⟨Nat.le_of_ble_eq_true rfl, Nat.le_of_ble_eq_true rfl⟩) ?_
  refine run_ro (w := .int (ioX (nI ch))) (rest := []) (kS F hW (metJ12_indexOf l E H ch hc) (lw_S q526 q527 q62 q528) hdJ12_indexOf ⟨Nat.le_of_ble_eq_true rfl, Nat.le_of_ble_eq_true rfl⟩ hl.1 rfl (Nat.le_of_ble_eq_true rfl) dJ5_indexOf_2_17 ⟨Nat.le_of_ble_eq_true rfl, Nat.le_of_ble_eq_true rfl⟩) ?_
  refine lv_goto (tgt := 36) hx hb dJ5_indexOf_2_20 (by decide) ?_
  exact hend _ _ _ _ _ _ _ rfl dJ5_indexOf_2_36 (⟨congrArg (fun z : Int32 => some (Value.int z)) (rfl), rfl⟩) hS (Nat.zero_le _) (Nat.zero_le _)

theorem hdJ5_indexOf : Hd yJ5_indexOf 1 := by decide +kernel
set_option maxHeartbeats 1000000 in
set_option maxRecDepth 100000 in
theorem metJ5_indexOf (l : Launch) (E : EV) (H : Heap) (ch : Nat) (hc : ch < 128) : Ro l yJ5_indexOf cJ5_indexOf 2 (some .int) 3 85 [.ref (E.2.2.2 3), .int (nI ch)] E H (some (.int (ioX (nI ch)))) := by
  refine Ct.ofZ (by decide) (Nat.le_of_ble_eq_true rfl) ?_
  intro p e s m bl mt cd ls Q hF hW hH hl hend
  obtain ⟨F, hin⟩ := hF
  have hx := F.1
  have hb := F.2.1
  have hts := F.2.2.2.2
  have hl : lv_has ls 2 [(0, .ref (E.2.2.2 3)), (1, .int (nI ch))] := hl
  have hS : va_S (fun _ => False) H H [] := va_S.rf
  refine lv_aload_n hx hb dJ5_indexOf_0 rfl (lv_at hl 0 rfl) ?_
  refine lv_iload_n hx hb dJ5_indexOf_1 rfl (lv_at hl 1 rfl) ?_
  refine lv_iconst (v := 0) hx hb dJ5_indexOf_2 (by decide) ?_
  refine run_ro (w := .int (ioX (nI ch))) (rest := []) (kV F hW (metJ5_indexOf_2 l E H ch hc) (lw_V q509 q510 q511 q50 q512) hdJ5_indexOf_2 ⟨Nat.le_of_ble_eq_true rfl, Nat.le_of_ble_eq_true rfl⟩ (orecv (hW.2.1.2.2.2.2.2.2.2.2.1 0 (by decide)).1) hl.1 rfl (Nat.le_of_ble_eq_true rfl) dJ5_indexOf_3 ⟨Nat.le_of_ble_eq_true rfl, Nat.le_of_ble_eq_true rfl⟩) ?_
  exact hend _ _ _ _ _ _ _ rfl dJ5_indexOf_6 (⟨congrArg (fun z : Int32 => some (Value.int z)) (rfl), rfl⟩) hS (Nat.zero_le _) (Nat.zero_le _)

