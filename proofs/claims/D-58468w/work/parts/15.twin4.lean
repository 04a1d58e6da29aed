/-! THE TWIN: what changes it -/
set_option maxRecDepth 100000
theorem fun_upd {g h : Nat → Int32} {k : Nat} {x : Int32} (h1 : ∀ j, j ≠ k → h j = g j) (h2 : h k = x) : h = upd g k x := by
  funext j
  unfold upd
  by_cases e : j = k
  · rw [if_pos e, e]; exact h2
  · rw [if_neg e]; exact h1 j e
/-- the history moved down by one state -/
def shf (h : Nat → Int32) (i : Nat) : Nat → Int32 := fun j => if j < i then h (j + 169) else h j
theorem shf_s {h : Nat → Int32} {i : Nat} : shf h (i + 1) = upd (shf h i) i (shf h i (i + 169)) := by
  apply fun_upd
  · intro j hj; unfold shf; by_cases e : j < i
    · rw [if_pos e, if_pos (by omega)]
    · rw [if_neg e, if_neg (by omega)]
  · unfold shf; rw [if_pos (by omega), if_neg (by omega)]
/-- i cells of f laid into h from place o on -/
def cpA (f h : Nat → Int32) (o i : Nat) : Nat → Int32 := fun j => if o ≤ j ∧ j < o + i then f (j - o) else h j
theorem cpA_0 {f h : Nat → Int32} {o : Nat} : cpA f h o 0 = h := by funext j; unfold cpA; rw [if_neg (by omega)]
theorem cpA_s {f h : Nat → Int32} {o i : Nat} : cpA f h o (i + 1) = upd (cpA f h o i) (o + i) (f i) := by
  apply fun_upd
  · intro j hj; unfold cpA; by_cases e : o ≤ j ∧ j < o + i
    · rw [if_pos e, if_pos (by omega)]
    · rw [if_neg e, if_neg (by omega)]
  · unfold cpA; rw [if_pos (by omega), show o + i - o = i by omega]
/-- i cells of h from place o on laid into f -/
def cpB (f h : Nat → Int32) (o i : Nat) : Nat → Int32 := fun j => if j < i then h (o + j) else f j
theorem cpB_s {f h : Nat → Int32} {o i : Nat} : cpB f h o (i + 1) = upd (cpB f h o i) i (h (o + i)) := by
  apply fun_upd
  · intro j hj; unfold cpB; by_cases e : j < i
    · rw [if_pos e, if_pos (by omega)]
    · rw [if_neg e, if_neg (by omega)]
  · unfold cpB; rw [if_pos (by omega)]
/-- the cells from a up to i moved down by w -/
def stA (w : Nat) (f : Nat → Int32) (a i : Nat) : Nat → Int32 := fun j => if a ≤ j ∧ j < i then f (j + w) else f j
theorem stA_0 {w : Nat} {f : Nat → Int32} {a : Nat} : stA w f a a = f := by funext j; unfold stA; rw [if_neg (by omega)]
theorem stA_s {w : Nat} {f : Nat → Int32} {a i : Nat} (h : a ≤ i) : stA w f a (i + 1) = upd (stA w f a i) i (stA w f a i (i + w)) := by
  apply fun_upd
  · intro j hj; unfold stA; by_cases e : a ≤ j ∧ j < i
    · rw [if_pos e, if_pos (by omega)]
    · rw [if_neg e, if_neg (by omega)]
  · unfold stA; rw [if_pos (by omega), if_neg (by omega)]
/-- i zeros from place o on -/
def zrA (f : Nat → Int32) (o i : Nat) : Nat → Int32 := fun j => if o ≤ j ∧ j < o + i then 0 else f j
theorem zrA_0 {f : Nat → Int32} {o : Nat} : zrA f o 0 = f := by funext j; unfold zrA; rw [if_neg (by omega)]
theorem zrA_s {f : Nat → Int32} {o i : Nat} : zrA f o (i + 1) = upd (zrA f o i) (o + i) 0 := by
  apply fun_upd
  · intro j hj; unfold zrA; by_cases e : o ≤ j ∧ j < o + i
    · rw [if_pos e, if_pos (by omega)]
    · rw [if_neg e, if_neg (by omega)]
  · unfold zrA; rw [if_pos (by omega)]
def recK (gl : Nat) : Nat := if gl = 6 then 6 else gl + 1
def recH (f h : Nat → Int32) (gl : Nat) : Nat → Int32 := if gl = 6 then cpA f (shf h 845) 845 169 else cpA f h (169 * gl) 169
def addF (f : Nat → Int32) (n : Nat) (la ki cr de se : Int32) : Nat → Int32 := upd (upd (upd (upd (upd (upd f 0 (nI (n + 1))) (9 + 5 * n) la) (9 + 5 * n + 1) ki) (9 + 5 * n + 2) cr) (9 + 5 * n + 3) de) (9 + 5 * n + 4) se
def strF (f : Nat → Int32) (n r : Nat) : Nat → Int32 := zrA (stA 5 (upd f 0 (nI (n - 1))) (9 + 5 * r) (9 + 5 * (n - 1))) (9 + 5 * (n - 1)) 5
set_option maxHeartbeats 1000000 in
set_option maxRecDepth 100000 in
theorem metX3_record6 (l : Launch) (E : EV) (H : Heap) (ad : Nat → Nat) (f hst sl z pd : Nat → Int32) (len told : Int32) (hM : MPx E ad f hst sl z pd 6 len told H) (hT : TW E ad) : Ct l yX3_record cX3_record 2 none 0 0 (0) (0) [.ref (ad 0)] E H (TA ad) (pN (fun H1 => MPx E ad f (cpA f (shf hst 845) 845 169) sl z pd 6 len told H1)) := by
  obtain ⟨g, k0, k1, k2, k3, k4, k5, k6⟩ := hM
  refine Ct.ofV (by decide) (Nat.le_of_ble_eq_true rfl) ?_
  intro p e s m bl mt cd ls Q hF hW hH hl hend
  obtain ⟨F, hin⟩ := hF
  have hx := F.1
  have hb := F.2.1
  have hts := F.2.2.2.2
  have hl : lv_has ls 2 [(0, .ref (ad 0))] := hl
  have hS : va_S (TA ad) H H [] := va_S.rf
  refine lv_aload_n hx hb dX3_record_0 rfl (lv_at hl 0 rfl) ?_
  refine xget (ref := "LayeredChartersModel") (ci := 3) (v := .int 6) (C := RX3) (T := TX3) (N := 9) F in_X3 hW k0 rfl 2 (by decide) q1018 (fun _ h9 => h9) rfl dX3_record_1 ?_
  refine lv_bipush (v := 6) hx hb dX3_record_4 (by decide) ?_
  refine lv_icmp_ne (tgt := 50) hx hb dX3_record_6 (by decide) (fun c9 => absurd (by decide) c9) (fun _ => ?_)
  refine lv_iconst (v := 0) hx hb dX3_record_9 (by decide) ?_
  refine lv_istore_n (lv' := [(1, .int 0), (0, .ref (ad 0))]) hx hb dX3_record_10 rfl hl (by decide) rfl (fun ls hl => ?_)
  have loop11 : ∀ (nn i : Nat) (x1 : Int32), i + nn = 845 → x1 = nI i → ∀ (Hl_11 : Heap) (locs : List Loc), va_S (TA ad) H Hl_11 locs → WK E s Hl_11 → MPx E ad f (shf hst i) sl z pd 6 len told Hl_11 → ∀ ls : Array Slot, lv_has ls 2 [(1, .int x1), (0, .ref (ad 0))] → W p l e ({ frames := 0, cells := 0, slots := 0, locals := 0 } : Room) s m ([.ref (ad 0)] : List Value).toArray bl mt cd Hl_11 locs 0 0 Q (F0 m 11 ls []) := by
    intro nn
    induction nn with
    | zero =>
      intro i x1 hn  e1 Hl_11 locs hS_11 hW_11 hl_11 ls hl
      have hiN : i = 845 := by omega
      rw [hiN] at e1
      try rw [hiN] at hl_11
      rw [e1] at hl
      clear e1
      obtain ⟨g_1, k0_1, k1_1, k2_1, k3_1, k4_1, k5_1, k6_1⟩ := hl_11
      refine lv_iload_n hx hb dX3_record_11 rfl (lv_at hl 0 rfl) ?_
      refine lv_sipush (v := 845) hx hb dX3_record_12 (by decide) ?_
      refine lv_icmp_ge (tgt := 40) hx hb dX3_record_15 (by decide) (fun _ => ?_) (fun c9 => absurd (nI_le (a := 845) (b := 845) (by decide) (by decide)) c9)
      refine lv_aload_n hx hb dX3_record_40 rfl (lv_at hl 1 rfl) ?_
      refine lv_dup hx hb dX3_record_41 rfl ?_
      refine xget (ref := "LayeredChartersModel") (ci := 3) (v := .int 6) (C := RX3) (T := TX3) (N := 9) F in_X3 hW_11 k0_1 rfl 2 (by decide) q1018 (fun _ h9 => h9) rfl dX3_record_42 ?_
      refine lv_iconst (v := 1) hx hb dX3_record_45 (by decide) ?_
      refine lv_isub hx hb dX3_record_46 ?_
      refine lv_val (y := 5) (by decide) ?_
      refine xput (ref := "LayeredChartersModel") (ci := 3) (v := .int 5) (C := RX3) (T := TX3) (N := 9) F in_X3 tyX3 tyX3_ok nmX3 hW_11 k0_1 hS_11 ⟨0, by decide, rfl⟩ rfl 2 (by decide) q1018 (fun _ h9 => h9) rfl rfl rfl (Nat.le_of_ble_eq_true rfl) dX3_record_47 (fun H_2 locs ho_2 hu_2 hS_2 => ?_)
      have ho_2 : oat E (ad 0) 3 [.ref (ad 1), .ref (ad 2), .int 5, .ref (ad 3), .ref (ad 4), .ref (ad 5), .int len, .ref (ad 6), .int told] H_2 := ho_2
      have hW_H_2 := hW_11.kept hu_2.chg (fun q _ hq => hq ▸ (hT.2 0 (by decide)))
      have k1_H_2 := k1_1.kept hu_2.chg (fun h9 => absurd (hT.1 1 0 (by decide) (by decide) h9) (by decide))
      have k2_H_2 := k2_1.kept hu_2.chg (fun h9 => absurd (hT.1 2 0 (by decide) (by decide) h9) (by decide))
      have k3_H_2 := k3_1.kept hu_2.chg (fun h9 => absurd (hT.1 3 0 (by decide) (by decide) h9) (by decide))
      have k4_H_2 := k4_1.kept hu_2.chg (fun h9 => absurd (hT.1 4 0 (by decide) (by decide) h9) (by decide))
      have k5_H_2 := k5_1.kept hu_2.chg (fun h9 => absurd (hT.1 5 0 (by decide) (by decide) h9) (by decide))
      have k6_H_2 := k6_1.kept hu_2.chg (fun h9 => absurd (hT.1 6 0 (by decide) (by decide) h9) (by decide))
      refine lv_iconst (v := 0) hx hb dX3_record_50 (by decide) ?_
      refine lv_istore_n (lv' := [(1, .int 0), (0, .ref (ad 0))]) hx hb dX3_record_51 rfl hl (by decide) rfl (fun ls hl => ?_)
      have loop52 : ∀ (nn i : Nat) (x1 : Int32), i + nn = 169 → x1 = nI i → ∀ (Hl_52 : Heap) (locs : List Loc), va_S (TA ad) H Hl_52 locs → WK E s Hl_52 → MPx E ad f (cpA f (shf hst 845) 845 i) sl z pd 5 len told Hl_52 → ∀ ls : Array Slot, lv_has ls 2 [(1, .int x1), (0, .ref (ad 0))] → W p l e ({ frames := 0, cells := 0, slots := 0, locals := 0 } : Room) s m ([.ref (ad 0)] : List Value).toArray bl mt cd Hl_52 locs 0 0 Q (F0 m 52 ls []) := by
        intro nn
        induction nn with
        | zero =>
          intro i x1 hn  e1 Hl_52 locs hS_52 hW_52 hl_52 ls hl
          have hiN : i = 169 := by omega
          rw [hiN] at e1
          try rw [hiN] at hl_52
          rw [e1] at hl
          clear e1
          obtain ⟨g_3, k0_3, k1_3, k2_3, k3_3, k4_3, k5_3, k6_3⟩ := hl_52
          refine lv_iload_n hx hb dX3_record_52 rfl (lv_at hl 0 rfl) ?_
          refine lv_sipush (v := 169) hx hb dX3_record_53 (by decide) ?_
          refine lv_icmp_ge (tgt := 86) hx hb dX3_record_56 (by decide) (fun _ => ?_) (fun c9 => absurd (nI_le (a := 169) (b := 169) (by decide) (by decide)) c9)
          refine lv_aload_n hx hb dX3_record_86 rfl (lv_at hl 1 rfl) ?_
          refine lv_dup hx hb dX3_record_87 rfl ?_
          refine xget (ref := "LayeredChartersModel") (ci := 3) (v := .int 5) (C := RX3) (T := TX3) (N := 9) F in_X3 hW_52 k0_3 rfl 2 (by decide) q1018 (fun _ h9 => h9) rfl dX3_record_88 ?_
          refine lv_iconst (v := 1) hx hb dX3_record_91 (by decide) ?_
          refine lv_iadd hx hb dX3_record_92 ?_
          refine lv_val (y := 6) (by decide) ?_
          refine xput (ref := "LayeredChartersModel") (ci := 3) (v := .int 6) (C := RX3) (T := TX3) (N := 9) F in_X3 tyX3 tyX3_ok nmX3 hW_52 k0_3 hS_52 ⟨0, by decide, rfl⟩ rfl 2 (by decide) q1018 (fun _ h9 => h9) rfl rfl rfl (Nat.le_of_ble_eq_true rfl) dX3_record_93 (fun H_4 locs ho_4 hu_4 hS_4 => ?_)
          have ho_4 : oat E (ad 0) 3 [.ref (ad 1), .ref (ad 2), .int 6, .ref (ad 3), .ref (ad 4), .ref (ad 5), .int len, .ref (ad 6), .int told] H_4 := ho_4
          have hW_H_4 := hW_52.kept hu_4.chg (fun q _ hq => hq ▸ (hT.2 0 (by decide)))
          have k1_H_4 := k1_3.kept hu_4.chg (fun h9 => absurd (hT.1 1 0 (by decide) (by decide) h9) (by decide))
          have k2_H_4 := k2_3.kept hu_4.chg (fun h9 => absurd (hT.1 2 0 (by decide) (by decide) h9) (by decide))
          have k3_H_4 := k3_3.kept hu_4.chg (fun h9 => absurd (hT.1 3 0 (by decide) (by decide) h9) (by decide))
          have k4_H_4 := k4_3.kept hu_4.chg (fun h9 => absurd (hT.1 4 0 (by decide) (by decide) h9) (by decide))
          have k5_H_4 := k5_3.kept hu_4.chg (fun h9 => absurd (hT.1 5 0 (by decide) (by decide) h9) (by decide))
          have k6_H_4 := k6_3.kept hu_4.chg (fun h9 => absurd (hT.1 6 0 (by decide) (by decide) h9) (by decide))
          exact hend _ _ _ _ _ _ dX3_record_96 (⟨rfl, ⟨_, ho_4, k1_H_4, k2_H_4, k3_H_4, k4_H_4, k5_H_4, k6_H_4⟩⟩) hS_4 (Nat.zero_le _) (Nat.zero_le _)
        | succ nn ih52 =>
          intro i x1 hn  e1 Hl_52 locs hS_52 hW_52 hl_52 ls hl
          rw [e1] at hl
          clear e1
          obtain ⟨g_5, k0_5, k1_5, k2_5, k3_5, k4_5, k5_5, k6_5⟩ := hl_52
          refine lv_iload_n hx hb dX3_record_52 rfl (lv_at hl 0 rfl) ?_
          refine lv_sipush (v := 169) hx hb dX3_record_53 (by decide) ?_
          refine lv_icmp_ge (tgt := 86) hx hb dX3_record_56 (by decide) (fun c9 => absurd c9 (nI_ge (a := i) (b := 169) (by omega) (by decide))) (fun _ => ?_)
          refine lv_aload_n hx hb dX3_record_59 rfl (lv_at hl 1 rfl) ?_
          refine xget (ref := "LayeredChartersModel") (ci := 3) (v := .ref (ad 2)) (C := RX3) (T := TX3) (N := 9) F in_X3 hW_52 k0_5 rfl 1 (by decide) q1017 (fun _ h9 => h9) rfl dX3_record_60 ?_
          refine lv_sipush (v := 169) hx hb dX3_record_63 (by decide) ?_
          refine lv_aload_n hx hb dX3_record_66 rfl (lv_at hl 1 rfl) ?_
          refine xget (ref := "LayeredChartersModel") (ci := 3) (v := .int 5) (C := RX3) (T := TX3) (N := 9) F in_X3 hW_52 k0_5 rfl 2 (by decide) q1018 (fun _ h9 => h9) rfl dX3_record_67 ?_
          refine lv_imul hx hb dX3_record_70 ?_
          refine lv_val (y := 845) (by decide) ?_
          refine lv_iload_n hx hb dX3_record_71 rfl (lv_at hl 0 rfl) ?_
          refine lv_iadd hx hb dX3_record_72 ?_
          refine lv_val (y := nI (845 + i)) ((nI_add (845) (i))) ?_
          refine lv_aload_n hx hb dX3_record_73 rfl (lv_at hl 1 rfl) ?_
          refine xget (ref := "LayeredChartersModel") (ci := 3) (v := .ref (ad 1)) (C := RX3) (T := TX3) (N := 9) F in_X3 hW_52 k0_5 rfl 0 (by decide) q1016 (fun _ h9 => h9) rfl dX3_record_74 ?_
          refine lv_iload_n hx hb dX3_record_77 rfl (lv_at hl 0 rfl) ?_
          refine xild F hW_52 k1_5 (vp_in_nI (by omega) (by omega)) dX3_record_78 ?_
          refine lv_val (y := f i) ((by rw [nI_clamp (by omega)])) ?_
          refine xist F hW_52 k2_5 hS_52 ⟨2, by decide, rfl⟩ (vp_in_nI (by omega) (by omega)) dX3_record_79 (fun H_6 locs ho_6 hu_6 hS_6 => ?_)
          have ho_6 : iat E (ad 2) 0 1014 (upd (cpA f (shf hst 845) 845 i) (845 + i) (f i)) H_6 := by have h9 := ho_6; rw [show (nI (845 + i) : Int32).toNatClampNeg = (845 + i) from by rw [nI_clamp (by omega)]] at h9; exact h9
          have hW_H_6 := hW_52.kept hu_6.chg (fun q _ hq => hq ▸ (hT.2 2 (by decide)))
          have k0_H_6 := k0_5.kept hu_6.chg (fun h9 => absurd (hT.1 0 2 (by decide) (by decide) h9) (by decide))
          have k1_H_6 := k1_5.kept hu_6.chg (fun h9 => absurd (hT.1 1 2 (by decide) (by decide) h9) (by decide))
          have k3_H_6 := k3_5.kept hu_6.chg (fun h9 => absurd (hT.1 3 2 (by decide) (by decide) h9) (by decide))
          have k4_H_6 := k4_5.kept hu_6.chg (fun h9 => absurd (hT.1 4 2 (by decide) (by decide) h9) (by decide))
          have k5_H_6 := k5_5.kept hu_6.chg (fun h9 => absurd (hT.1 5 2 (by decide) (by decide) h9) (by decide))
          have k6_H_6 := k6_5.kept hu_6.chg (fun h9 => absurd (hT.1 6 2 (by decide) (by decide) h9) (by decide))
          refine lv_iinc (v := nI (i + 1)) (lv' := [(1, .int (nI (i + 1))), (0, .ref (ad 0))]) hx hb dX3_record_80 hl (k := 0) rfl (nI_1 _) (by decide) rfl (fun ls hl => ?_)
          refine lv_goto (tgt := 52) hx hb dX3_record_83 (by decide) ?_
          exact ih52 (i + 1) _ (by omega)  rfl _ _ hS_6 hW_H_6 (⟨_, k0_H_6, k1_H_6, (by rw [cpA_s]; exact ho_6), k3_H_6, k4_H_6, k5_H_6, k6_H_6⟩) ls (lv_sub hl [0, 1] rfl)
      exact loop52 (169 - 0) 0 _ (by omega)  rfl _ _ hS_2 hW_H_2 (⟨_, ho_2, k1_H_2, (by rw [cpA_0]; exact k2_H_2), k3_H_2, k4_H_2, k5_H_2, k6_H_2⟩) ls (lv_sub hl [0, 1] rfl)
    | succ nn ih11 =>
      intro i x1 hn  e1 Hl_11 locs hS_11 hW_11 hl_11 ls hl
      rw [e1] at hl
      clear e1
      obtain ⟨g_7, k0_7, k1_7, k2_7, k3_7, k4_7, k5_7, k6_7⟩ := hl_11
      refine lv_iload_n hx hb dX3_record_11 rfl (lv_at hl 0 rfl) ?_
      refine lv_sipush (v := 845) hx hb dX3_record_12 (by decide) ?_
      refine lv_icmp_ge (tgt := 40) hx hb dX3_record_15 (by decide) (fun c9 => absurd c9 (nI_ge (a := i) (b := 845) (by omega) (by decide))) (fun _ => ?_)
      refine lv_aload_n hx hb dX3_record_18 rfl (lv_at hl 1 rfl) ?_
      refine xget (ref := "LayeredChartersModel") (ci := 3) (v := .ref (ad 2)) (C := RX3) (T := TX3) (N := 9) F in_X3 hW_11 k0_7 rfl 1 (by decide) q1017 (fun _ h9 => h9) rfl dX3_record_19 ?_
      refine lv_iload_n hx hb dX3_record_22 rfl (lv_at hl 0 rfl) ?_
      refine lv_aload_n hx hb dX3_record_23 rfl (lv_at hl 1 rfl) ?_
      refine xget (ref := "LayeredChartersModel") (ci := 3) (v := .ref (ad 2)) (C := RX3) (T := TX3) (N := 9) F in_X3 hW_11 k0_7 rfl 1 (by decide) q1017 (fun _ h9 => h9) rfl dX3_record_24 ?_
      refine lv_iload_n hx hb dX3_record_27 rfl (lv_at hl 0 rfl) ?_
      refine lv_sipush (v := 169) hx hb dX3_record_28 (by decide) ?_
      refine lv_iadd hx hb dX3_record_31 ?_
      refine lv_val (y := nI (i + 169)) ((nI_add (i) (169))) ?_
      refine xild F hW_11 k2_7 (vp_in_nI (by omega) (by omega)) dX3_record_32 ?_
      refine lv_val (y := (shf hst i) (i + 169)) ((by rw [nI_clamp (by omega)])) ?_
      refine xist F hW_11 k2_7 hS_11 ⟨2, by decide, rfl⟩ (vp_in_nI (by omega) (by omega)) dX3_record_33 (fun H_8 locs ho_8 hu_8 hS_8 => ?_)
      have ho_8 : iat E (ad 2) 0 1014 (upd (shf hst i) i ((shf hst i) (i + 169))) H_8 := by have h9 := ho_8; rw [show (nI i : Int32).toNatClampNeg = i from by rw [nI_clamp (by omega)]] at h9; exact h9
      have hW_H_8 := hW_11.kept hu_8.chg (fun q _ hq => hq ▸ (hT.2 2 (by decide)))
      have k0_H_8 := k0_7.kept hu_8.chg (fun h9 => absurd (hT.1 0 2 (by decide) (by decide) h9) (by decide))
      have k1_H_8 := k1_7.kept hu_8.chg (fun h9 => absurd (hT.1 1 2 (by decide) (by decide) h9) (by decide))
      have k3_H_8 := k3_7.kept hu_8.chg (fun h9 => absurd (hT.1 3 2 (by decide) (by decide) h9) (by decide))
      have k4_H_8 := k4_7.kept hu_8.chg (fun h9 => absurd (hT.1 4 2 (by decide) (by decide) h9) (by decide))
      have k5_H_8 := k5_7.kept hu_8.chg (fun h9 => absurd (hT.1 5 2 (by decide) (by decide) h9) (by decide))
      have k6_H_8 := k6_7.kept hu_8.chg (fun h9 => absurd (hT.1 6 2 (by decide) (by decide) h9) (by decide))
      refine lv_iinc (v := nI (i + 1)) (lv' := [(1, .int (nI (i + 1))), (0, .ref (ad 0))]) hx hb dX3_record_34 hl (k := 0) rfl (nI_1 _) (by decide) rfl (fun ls hl => ?_)
      refine lv_goto (tgt := 11) hx hb dX3_record_37 (by decide) ?_
      exact ih11 (i + 1) _ (by omega)  rfl _ _ hS_8 hW_H_8 (⟨_, k0_H_8, k1_H_8, (by rw [shf_s]; exact ho_8), k3_H_8, k4_H_8, k5_H_8, k6_H_8⟩) ls (lv_sub hl [0, 1] rfl)
  exact loop11 (845 - 0) 0 _ (by omega)  rfl _ _ hS hW (⟨_, k0, k1, k2, k3, k4, k5, k6⟩) ls (lv_sub hl [0, 1] rfl)

theorem hdX3_record : Hd yX3_record 0 := by decide +kernel
set_option maxHeartbeats 1000000 in
set_option maxRecDepth 100000 in
theorem metX3_recordN (l : Launch) (E : EV) (H : Heap) (ad : Nat → Nat) (f hst sl z pd : Nat → Int32) (len told : Int32) (gl : Nat) (hgl : gl < 6) (hM : MPx E ad f hst sl z pd (nI gl) len told H) (hT : TW E ad) : Ct l yX3_record cX3_record 2 none 0 0 (0) (0) [.ref (ad 0)] E H (TA ad) (pN (fun H1 => MPx E ad f (cpA f hst (169 * gl) 169) sl z pd (nI (gl + 1)) len told H1)) := by
  obtain ⟨g, k0, k1, k2, k3, k4, k5, k6⟩ := hM
  refine Ct.ofV (by decide) (Nat.le_of_ble_eq_true rfl) ?_
  intro p e s m bl mt cd ls Q hF hW hH hl hend
  obtain ⟨F, hin⟩ := hF
  have hx := F.1
  have hb := F.2.1
  have hts := F.2.2.2.2
  have hl : lv_has ls 2 [(0, .ref (ad 0))] := hl
  have hS : va_S (TA ad) H H [] := va_S.rf
  refine lv_aload_n hx hb dX3_record_0 rfl (lv_at hl 0 rfl) ?_
  refine xget (ref := "LayeredChartersModel") (ci := 3) (v := .int (nI gl)) (C := RX3) (T := TX3) (N := 9) F in_X3 hW k0 rfl 2 (by decide) q1018 (fun _ h9 => h9) rfl dX3_record_1 ?_
  refine lv_bipush (v := 6) hx hb dX3_record_4 (by decide) ?_
  refine lv_icmp_ne (tgt := 50) hx hb dX3_record_6 (by decide) (fun _ => ?_) (fun c9 => absurd c9 (fun h9 : nI gl = 6 => absurd ((nI_eq (a := gl) (b := 6) (by omega) (by decide)).mp h9) (by omega)))
  refine lv_iconst (v := 0) hx hb dX3_record_50 (by decide) ?_
  refine lv_istore_n (lv' := [(1, .int 0), (0, .ref (ad 0))]) hx hb dX3_record_51 rfl hl (by decide) rfl (fun ls hl => ?_)
  have loop52 : ∀ (nn i : Nat) (x1 : Int32), i + nn = 169 → x1 = nI i → ∀ (Hl_52 : Heap) (locs : List Loc), va_S (TA ad) H Hl_52 locs → WK E s Hl_52 → MPx E ad f (cpA f hst (169 * gl) i) sl z pd (nI gl) len told Hl_52 → ∀ ls : Array Slot, lv_has ls 2 [(1, .int x1), (0, .ref (ad 0))] → W p l e ({ frames := 0, cells := 0, slots := 0, locals := 0 } : Room) s m ([.ref (ad 0)] : List Value).toArray bl mt cd Hl_52 locs 0 0 Q (F0 m 52 ls []) := by
    intro nn
    induction nn with
    | zero =>
      intro i x1 hn  e1 Hl_52 locs hS_52 hW_52 hl_52 ls hl
      have hiN : i = 169 := by omega
      rw [hiN] at e1
      try rw [hiN] at hl_52
      rw [e1] at hl
      clear e1
      obtain ⟨g_1, k0_1, k1_1, k2_1, k3_1, k4_1, k5_1, k6_1⟩ := hl_52
      refine lv_iload_n hx hb dX3_record_52 rfl (lv_at hl 0 rfl) ?_
      refine lv_sipush (v := 169) hx hb dX3_record_53 (by decide) ?_
      refine lv_icmp_ge (tgt := 86) hx hb dX3_record_56 (by decide) (fun _ => ?_) (fun c9 => absurd (nI_le (a := 169) (b := 169) (by decide) (by decide)) c9)
      refine lv_aload_n hx hb dX3_record_86 rfl (lv_at hl 1 rfl) ?_
      refine lv_dup hx hb dX3_record_87 rfl ?_
      refine xget (ref := "LayeredChartersModel") (ci := 3) (v := .int (nI gl)) (C := RX3) (T := TX3) (N := 9) F in_X3 hW_52 k0_1 rfl 2 (by decide) q1018 (fun _ h9 => h9) rfl dX3_record_88 ?_
      refine lv_iconst (v := 1) hx hb dX3_record_91 (by decide) ?_
      refine lv_iadd hx hb dX3_record_92 ?_
      refine lv_val (y := nI (gl + 1)) ((nI_add (gl) (1))) ?_
      refine xput (ref := "LayeredChartersModel") (ci := 3) (v := .int (nI (gl + 1))) (C := RX3) (T := TX3) (N := 9) F in_X3 tyX3 tyX3_ok nmX3 hW_52 k0_1 hS_52 ⟨0, by decide, rfl⟩ rfl 2 (by decide) q1018 (fun _ h9 => h9) rfl rfl rfl (Nat.le_of_ble_eq_true rfl) dX3_record_93 (fun H_2 locs ho_2 hu_2 hS_2 => ?_)
      have ho_2 : oat E (ad 0) 3 [.ref (ad 1), .ref (ad 2), .int (nI (gl + 1)), .ref (ad 3), .ref (ad 4), .ref (ad 5), .int len, .ref (ad 6), .int told] H_2 := ho_2
      have hW_H_2 := hW_52.kept hu_2.chg (fun q _ hq => hq ▸ (hT.2 0 (by decide)))
      have k1_H_2 := k1_1.kept hu_2.chg (fun h9 => absurd (hT.1 1 0 (by decide) (by decide) h9) (by decide))
      have k2_H_2 := k2_1.kept hu_2.chg (fun h9 => absurd (hT.1 2 0 (by decide) (by decide) h9) (by decide))
      have k3_H_2 := k3_1.kept hu_2.chg (fun h9 => absurd (hT.1 3 0 (by decide) (by decide) h9) (by decide))
      have k4_H_2 := k4_1.kept hu_2.chg (fun h9 => absurd (hT.1 4 0 (by decide) (by decide) h9) (by decide))
      have k5_H_2 := k5_1.kept hu_2.chg (fun h9 => absurd (hT.1 5 0 (by decide) (by decide) h9) (by decide))
      have k6_H_2 := k6_1.kept hu_2.chg (fun h9 => absurd (hT.1 6 0 (by decide) (by decide) h9) (by decide))
      exact hend _ _ _ _ _ _ dX3_record_96 (⟨rfl, ⟨_, ho_2, k1_H_2, k2_H_2, k3_H_2, k4_H_2, k5_H_2, k6_H_2⟩⟩) hS_2 (Nat.zero_le _) (Nat.zero_le _)
    | succ nn ih52 =>
      intro i x1 hn  e1 Hl_52 locs hS_52 hW_52 hl_52 ls hl
      rw [e1] at hl
      clear e1
      obtain ⟨g_3, k0_3, k1_3, k2_3, k3_3, k4_3, k5_3, k6_3⟩ := hl_52
      refine lv_iload_n hx hb dX3_record_52 rfl (lv_at hl 0 rfl) ?_
      refine lv_sipush (v := 169) hx hb dX3_record_53 (by decide) ?_
      refine lv_icmp_ge (tgt := 86) hx hb dX3_record_56 (by decide) (fun c9 => absurd c9 (nI_ge (a := i) (b := 169) (by omega) (by decide))) (fun _ => ?_)
      refine lv_aload_n hx hb dX3_record_59 rfl (lv_at hl 1 rfl) ?_
      refine xget (ref := "LayeredChartersModel") (ci := 3) (v := .ref (ad 2)) (C := RX3) (T := TX3) (N := 9) F in_X3 hW_52 k0_3 rfl 1 (by decide) q1017 (fun _ h9 => h9) rfl dX3_record_60 ?_
      refine lv_sipush (v := 169) hx hb dX3_record_63 (by decide) ?_
      refine lv_aload_n hx hb dX3_record_66 rfl (lv_at hl 1 rfl) ?_
      refine xget (ref := "LayeredChartersModel") (ci := 3) (v := .int (nI gl)) (C := RX3) (T := TX3) (N := 9) F in_X3 hW_52 k0_3 rfl 2 (by decide) q1018 (fun _ h9 => h9) rfl dX3_record_67 ?_
      refine lv_imul hx hb dX3_record_70 ?_
      refine lv_val (y := nI (169 * gl)) ((pk_mul (169) (gl))) ?_
      refine lv_iload_n hx hb dX3_record_71 rfl (lv_at hl 0 rfl) ?_
      refine lv_iadd hx hb dX3_record_72 ?_
      refine lv_val (y := nI ((169 * gl) + i)) ((nI_add ((169 * gl)) (i))) ?_
      refine lv_aload_n hx hb dX3_record_73 rfl (lv_at hl 1 rfl) ?_
      refine xget (ref := "LayeredChartersModel") (ci := 3) (v := .ref (ad 1)) (C := RX3) (T := TX3) (N := 9) F in_X3 hW_52 k0_3 rfl 0 (by decide) q1016 (fun _ h9 => h9) rfl dX3_record_74 ?_
      refine lv_iload_n hx hb dX3_record_77 rfl (lv_at hl 0 rfl) ?_
      refine xild F hW_52 k1_3 (vp_in_nI (by omega) (by omega)) dX3_record_78 ?_
      refine lv_val (y := f i) ((by rw [nI_clamp (by omega)])) ?_
      refine xist F hW_52 k2_3 hS_52 ⟨2, by decide, rfl⟩ (vp_in_nI (by omega) (by omega)) dX3_record_79 (fun H_4 locs ho_4 hu_4 hS_4 => ?_)
      have ho_4 : iat E (ad 2) 0 1014 (upd (cpA f hst (169 * gl) i) ((169 * gl) + i) (f i)) H_4 := by have h9 := ho_4; rw [show (nI ((169 * gl) + i) : Int32).toNatClampNeg = ((169 * gl) + i) from by rw [nI_clamp (by omega)]] at h9; exact h9
      have hW_H_4 := hW_52.kept hu_4.chg (fun q _ hq => hq ▸ (hT.2 2 (by decide)))
      have k0_H_4 := k0_3.kept hu_4.chg (fun h9 => absurd (hT.1 0 2 (by decide) (by decide) h9) (by decide))
      have k1_H_4 := k1_3.kept hu_4.chg (fun h9 => absurd (hT.1 1 2 (by decide) (by decide) h9) (by decide))
      have k3_H_4 := k3_3.kept hu_4.chg (fun h9 => absurd (hT.1 3 2 (by decide) (by decide) h9) (by decide))
      have k4_H_4 := k4_3.kept hu_4.chg (fun h9 => absurd (hT.1 4 2 (by decide) (by decide) h9) (by decide))
      have k5_H_4 := k5_3.kept hu_4.chg (fun h9 => absurd (hT.1 5 2 (by decide) (by decide) h9) (by decide))
      have k6_H_4 := k6_3.kept hu_4.chg (fun h9 => absurd (hT.1 6 2 (by decide) (by decide) h9) (by decide))
      refine lv_iinc (v := nI (i + 1)) (lv' := [(1, .int (nI (i + 1))), (0, .ref (ad 0))]) hx hb dX3_record_80 hl (k := 0) rfl (nI_1 _) (by decide) rfl (fun ls hl => ?_)
      refine lv_goto (tgt := 52) hx hb dX3_record_83 (by decide) ?_
      exact ih52 (i + 1) _ (by omega)  rfl _ _ hS_4 hW_H_4 (⟨_, k0_H_4, k1_H_4, (by rw [cpA_s]; exact ho_4), k3_H_4, k4_H_4, k5_H_4, k6_H_4⟩) ls (lv_sub hl [0, 1] rfl)
  exact loop52 (169 - 0) 0 _ (by omega)  rfl _ _ hS hW (⟨_, k0, k1, (by rw [cpA_0]; exact k2), k3, k4, k5, k6⟩) ls (lv_sub hl [0, 1] rfl)

theorem metX3_record (l : Launch) (E : EV) (H : Heap) (ad : Nat → Nat) (f hst sl z pd : Nat → Int32) (len told : Int32) (gl : Nat) (hgl : gl ≤ 6) (hM : MPx E ad f hst sl z pd (nI gl) len told H) (hT : TW E ad) :
    Ct l yX3_record cX3_record 2 none 0 0 0 0 [.ref (ad 0)] E H (TA ad) (pN (fun H1 => MPx E ad f (recH f hst gl) sl z pd (nI (recK gl)) len told H1)) := by
  by_cases h : gl = 6
  · subst h
    exact metX3_record6 l E H ad f hst sl z pd len told hM hT
  · have h1 : recH f hst gl = cpA f hst (169 * gl) 169 := if_neg h
    have h2 : recK gl = gl + 1 := if_neg h
    rw [h1, h2]
    exact metX3_recordN l E H ad f hst sl z pd len told gl (by omega) hM hT

theorem hdX3_adds : Hd yX3_adds 5 := by decide +kernel
set_option maxHeartbeats 1000000 in
set_option maxRecDepth 100000 in
theorem metX3_adds (l : Launch) (E : EV) (H : Heap) (ad : Nat → Nat) (f hst sl z pd : Nat → Int32) (kept len told : Int32) (n : Nat) (hn0 : f 0 = nI n) (hn24 : n < 24) (la ki cr de se : Int32) (hM : MPx E ad f hst sl z pd kept len told H) (hT : TW E ad) : Ct l yX3_adds cX3_adds 7 (some .int) 1 21 (0) (0) [.ref (ad 0), .int la, .int ki, .int cr, .int de, .int se] E H (TA ad) (pI (fun r H1 => r = nI n ∧ MPx E ad (addF f n la ki cr de se) hst sl z pd kept len told H1)) := by
  obtain ⟨g, k0, k1, k2, k3, k4, k5, k6⟩ := hM
  refine Ct.ofZ (by decide) (Nat.le_of_ble_eq_true rfl) ?_
  intro p e s m bl mt cd ls Q hF hW hH hl hend
  obtain ⟨F, hin⟩ := hF
  have hx := F.1
  have hb := F.2.1
  have hts := F.2.2.2.2
  have hl : lv_has ls 7 [(0, .ref (ad 0)), (1, .int la), (2, .int ki), (3, .int cr), (4, .int de), (5, .int se)] := hl
  have hS : va_S (TA ad) H H [] := va_S.rf
  refine lv_aload_n hx hb dX3_adds_0 rfl (lv_at hl 0 rfl) ?_
  refine xget (ref := "LayeredChartersModel") (ci := 3) (v := .ref (ad 1)) (C := RX3) (T := TX3) (N := 9) F in_X3 hW k0 rfl 0 (by decide) q1016 (fun _ h9 => h9) rfl dX3_adds_1 ?_
  refine lv_iconst (v := 0) hx hb dX3_adds_4 (by decide) ?_
  refine xild F hW k1 (vp_in_nI (n := 0) (by omega) (by omega)) dX3_adds_5 ?_
  refine lv_val (y := nI n) (hn0) ?_
  refine lv_istore (lv' := [(6, .int (nI n)), (0, .ref (ad 0)), (1, .int la), (2, .int ki), (3, .int cr), (4, .int de), (5, .int se)]) hx hb dX3_adds_6 hl (by decide) rfl (fun ls hl => ?_)
  refine lv_aload_n hx hb dX3_adds_8 rfl (lv_at hl 1 rfl) ?_
  refine xget (ref := "LayeredChartersModel") (ci := 3) (v := .ref (ad 1)) (C := RX3) (T := TX3) (N := 9) F in_X3 hW k0 rfl 0 (by decide) q1016 (fun _ h9 => h9) rfl dX3_adds_9 ?_
  refine lv_iconst (v := 0) hx hb dX3_adds_12 (by decide) ?_
  refine lv_dup2_11 hx hb dX3_adds_13 rfl rfl ?_
  refine xild F hW k1 (vp_in_nI (n := 0) (by omega) (by omega)) dX3_adds_14 ?_
  refine lv_val (y := nI n) (hn0) ?_
  refine lv_iconst (v := 1) hx hb dX3_adds_15 (by decide) ?_
  refine lv_iadd hx hb dX3_adds_16 ?_
  refine lv_val (y := nI (n + 1)) ((nI_add (n) (1))) ?_
  refine xist F hW k1 hS ⟨1, by decide, rfl⟩ (vp_in_nI (n := 0) (by omega) (by omega)) dX3_adds_17 (fun H_1 locs ho_1 hu_1 hS_1 => ?_)
  have ho_1 : iat E (ad 1) 0 169 (upd f 0 (nI (n + 1))) H_1 := ho_1
  have hW_H_1 := hW.kept hu_1.chg (fun q _ hq => hq ▸ (hT.2 1 (by decide)))
  have k0_H_1 := k0.kept hu_1.chg (fun h9 => absurd (hT.1 0 1 (by decide) (by decide) h9) (by decide))
  have k2_H_1 := k2.kept hu_1.chg (fun h9 => absurd (hT.1 2 1 (by decide) (by decide) h9) (by decide))
  have k3_H_1 := k3.kept hu_1.chg (fun h9 => absurd (hT.1 3 1 (by decide) (by decide) h9) (by decide))
  have k4_H_1 := k4.kept hu_1.chg (fun h9 => absurd (hT.1 4 1 (by decide) (by decide) h9) (by decide))
  have k5_H_1 := k5.kept hu_1.chg (fun h9 => absurd (hT.1 5 1 (by decide) (by decide) h9) (by decide))
  have k6_H_1 := k6.kept hu_1.chg (fun h9 => absurd (hT.1 6 1 (by decide) (by decide) h9) (by decide))
  refine lv_aload_n hx hb dX3_adds_18 rfl (lv_at hl 1 rfl) ?_
  refine xget (ref := "LayeredChartersModel") (ci := 3) (v := .ref (ad 1)) (C := RX3) (T := TX3) (N := 9) F in_X3 hW_H_1 k0_H_1 rfl 0 (by decide) q1016 (fun _ h9 => h9) rfl dX3_adds_19 ?_
  refine lv_iload hx hb dX3_adds_22 (lv_at hl 0 rfl) ?_
  refine lv_iconst (v := 0) hx hb dX3_adds_24 (by decide) ?_
  refine run_ro (w := .int (9 + 5 * (nI n) + 0)) (rest := [.ref (ad 1)]) (kS F hW_H_1 (metX3_at l E H_1 (nI n) 0) (lw_S q1060 q1061 q52 q1062) hdX3_at ⟨Nat.le_of_ble_eq_true rfl, Nat.le_of_ble_eq_true rfl⟩ hl.1 rfl (Nat.le_of_ble_eq_true rfl) dX3_adds_25 ⟨Nat.le_of_ble_eq_true rfl, Nat.le_of_ble_eq_true rfl⟩) ?_
  refine lv_iload_n hx hb dX3_adds_28 rfl (lv_at hl 2 rfl) ?_
  refine xist F hW_H_1 ho_1 hS_1 ⟨1, by decide, rfl⟩ (vin_eq (n := 9 + 5 * n) (nI_add0x (nI_addx (rfl : (9 : Int32) = nI 9) (nI_mulx (rfl : (5 : Int32) = nI 5) (rfl : nI n = nI n)))) (by omega) (by omega)) dX3_adds_29 (fun H_2 locs ho_2 hu_2 hS_2 => ?_)
  have ho_2 : iat E (ad 1) 0 169 (upd (upd f 0 (nI (n + 1))) (9 + 5 * n) la) H_2 := by have h9 := ho_2; rw [(cl_eq (n := 9 + 5 * n) (nI_add0x (nI_addx (rfl : (9 : Int32) = nI 9) (nI_mulx (rfl : (5 : Int32) = nI 5) (rfl : nI n = nI n)))) (by omega))] at h9; exact h9
  have hW_H_2 := hW_H_1.kept hu_2.chg (fun q _ hq => hq ▸ (hT.2 1 (by decide)))
  have k0_H_2 := k0_H_1.kept hu_2.chg (fun h9 => absurd (hT.1 0 1 (by decide) (by decide) h9) (by decide))
  have k2_H_2 := k2_H_1.kept hu_2.chg (fun h9 => absurd (hT.1 2 1 (by decide) (by decide) h9) (by decide))
  have k3_H_2 := k3_H_1.kept hu_2.chg (fun h9 => absurd (hT.1 3 1 (by decide) (by decide) h9) (by decide))
  have k4_H_2 := k4_H_1.kept hu_2.chg (fun h9 => absurd (hT.1 4 1 (by decide) (by decide) h9) (by decide))
  have k5_H_2 := k5_H_1.kept hu_2.chg (fun h9 => absurd (hT.1 5 1 (by decide) (by decide) h9) (by decide))
  have k6_H_2 := k6_H_1.kept hu_2.chg (fun h9 => absurd (hT.1 6 1 (by decide) (by decide) h9) (by decide))
  refine lv_aload_n hx hb dX3_adds_30 rfl (lv_at hl 1 rfl) ?_
  refine xget (ref := "LayeredChartersModel") (ci := 3) (v := .ref (ad 1)) (C := RX3) (T := TX3) (N := 9) F in_X3 hW_H_2 k0_H_2 rfl 0 (by decide) q1016 (fun _ h9 => h9) rfl dX3_adds_31 ?_
  refine lv_iload hx hb dX3_adds_34 (lv_at hl 0 rfl) ?_
  refine lv_iconst (v := 1) hx hb dX3_adds_36 (by decide) ?_
  refine run_ro (w := .int (9 + 5 * (nI n) + 1)) (rest := [.ref (ad 1)]) (kS F hW_H_2 (metX3_at l E H_2 (nI n) 1) (lw_S q1060 q1061 q52 q1062) hdX3_at ⟨Nat.le_of_ble_eq_true rfl, Nat.le_of_ble_eq_true rfl⟩ hl.1 rfl (Nat.le_of_ble_eq_true rfl) dX3_adds_37 ⟨Nat.le_of_ble_eq_true rfl, Nat.le_of_ble_eq_true rfl⟩) ?_
  refine lv_iload_n hx hb dX3_adds_40 rfl (lv_at hl 3 rfl) ?_
  refine xist F hW_H_2 ho_2 hS_2 ⟨1, by decide, rfl⟩ (vin_eq (n := 9 + 5 * n + 1) (nI_addx (nI_addx (rfl : (9 : Int32) = nI 9) (nI_mulx (rfl : (5 : Int32) = nI 5) (rfl : nI n = nI n))) (rfl : (1 : Int32) = nI 1)) (by omega) (by omega)) dX3_adds_41 (fun H_3 locs ho_3 hu_3 hS_3 => ?_)
  have ho_3 : iat E (ad 1) 0 169 (upd (upd (upd f 0 (nI (n + 1))) (9 + 5 * n) la) (9 + 5 * n + 1) ki) H_3 := by have h9 := ho_3; rw [(cl_eq (n := 9 + 5 * n + 1) (nI_addx (nI_addx (rfl : (9 : Int32) = nI 9) (nI_mulx (rfl : (5 : Int32) = nI 5) (rfl : nI n = nI n))) (rfl : (1 : Int32) = nI 1)) (by omega))] at h9; exact h9
  have hW_H_3 := hW_H_2.kept hu_3.chg (fun q _ hq => hq ▸ (hT.2 1 (by decide)))
  have k0_H_3 := k0_H_2.kept hu_3.chg (fun h9 => absurd (hT.1 0 1 (by decide) (by decide) h9) (by decide))
  have k2_H_3 := k2_H_2.kept hu_3.chg (fun h9 => absurd (hT.1 2 1 (by decide) (by decide) h9) (by decide))
  have k3_H_3 := k3_H_2.kept hu_3.chg (fun h9 => absurd (hT.1 3 1 (by decide) (by decide) h9) (by decide))
  have k4_H_3 := k4_H_2.kept hu_3.chg (fun h9 => absurd (hT.1 4 1 (by decide) (by decide) h9) (by decide))
  have k5_H_3 := k5_H_2.kept hu_3.chg (fun h9 => absurd (hT.1 5 1 (by decide) (by decide) h9) (by decide))
  have k6_H_3 := k6_H_2.kept hu_3.chg (fun h9 => absurd (hT.1 6 1 (by decide) (by decide) h9) (by decide))
  refine lv_aload_n hx hb dX3_adds_42 rfl (lv_at hl 1 rfl) ?_
  refine xget (ref := "LayeredChartersModel") (ci := 3) (v := .ref (ad 1)) (C := RX3) (T := TX3) (N := 9) F in_X3 hW_H_3 k0_H_3 rfl 0 (by decide) q1016 (fun _ h9 => h9) rfl dX3_adds_43 ?_
  refine lv_iload hx hb dX3_adds_46 (lv_at hl 0 rfl) ?_
  refine lv_iconst (v := 2) hx hb dX3_adds_48 (by decide) ?_
  refine run_ro (w := .int (9 + 5 * (nI n) + 2)) (rest := [.ref (ad 1)]) (kS F hW_H_3 (metX3_at l E H_3 (nI n) 2) (lw_S q1060 q1061 q52 q1062) hdX3_at ⟨Nat.le_of_ble_eq_true rfl, Nat.le_of_ble_eq_true rfl⟩ hl.1 rfl (Nat.le_of_ble_eq_true rfl) dX3_adds_49 ⟨Nat.le_of_ble_eq_true rfl, Nat.le_of_ble_eq_true rfl⟩) ?_
  refine lv_iload_n hx hb dX3_adds_52 rfl (lv_at hl 4 rfl) ?_
  refine xist F hW_H_3 ho_3 hS_3 ⟨1, by decide, rfl⟩ (vin_eq (n := 9 + 5 * n + 2) (nI_addx (nI_addx (rfl : (9 : Int32) = nI 9) (nI_mulx (rfl : (5 : Int32) = nI 5) (rfl : nI n = nI n))) (rfl : (2 : Int32) = nI 2)) (by omega) (by omega)) dX3_adds_53 (fun H_4 locs ho_4 hu_4 hS_4 => ?_)
  have ho_4 : iat E (ad 1) 0 169 (upd (upd (upd (upd f 0 (nI (n + 1))) (9 + 5 * n) la) (9 + 5 * n + 1) ki) (9 + 5 * n + 2) cr) H_4 := by have h9 := ho_4; rw [(cl_eq (n := 9 + 5 * n + 2) (nI_addx (nI_addx (rfl : (9 : Int32) = nI 9) (nI_mulx (rfl : (5 : Int32) = nI 5) (rfl : nI n = nI n))) (rfl : (2 : Int32) = nI 2)) (by omega))] at h9; exact h9
  have hW_H_4 := hW_H_3.kept hu_4.chg (fun q _ hq => hq ▸ (hT.2 1 (by decide)))
  have k0_H_4 := k0_H_3.kept hu_4.chg (fun h9 => absurd (hT.1 0 1 (by decide) (by decide) h9) (by decide))
  have k2_H_4 := k2_H_3.kept hu_4.chg (fun h9 => absurd (hT.1 2 1 (by decide) (by decide) h9) (by decide))
  have k3_H_4 := k3_H_3.kept hu_4.chg (fun h9 => absurd (hT.1 3 1 (by decide) (by decide) h9) (by decide))
  have k4_H_4 := k4_H_3.kept hu_4.chg (fun h9 => absurd (hT.1 4 1 (by decide) (by decide) h9) (by decide))
  have k5_H_4 := k5_H_3.kept hu_4.chg (fun h9 => absurd (hT.1 5 1 (by decide) (by decide) h9) (by decide))
  have k6_H_4 := k6_H_3.kept hu_4.chg (fun h9 => absurd (hT.1 6 1 (by decide) (by decide) h9) (by decide))
  refine lv_aload_n hx hb dX3_adds_54 rfl (lv_at hl 1 rfl) ?_
  refine xget (ref := "LayeredChartersModel") (ci := 3) (v := .ref (ad 1)) (C := RX3) (T := TX3) (N := 9) F in_X3 hW_H_4 k0_H_4 rfl 0 (by decide) q1016 (fun _ h9 => h9) rfl dX3_adds_55 ?_
  refine lv_iload hx hb dX3_adds_58 (lv_at hl 0 rfl) ?_
  refine lv_iconst (v := 3) hx hb dX3_adds_60 (by decide) ?_
  refine run_ro (w := .int (9 + 5 * (nI n) + 3)) (rest := [.ref (ad 1)]) (kS F hW_H_4 (metX3_at l E H_4 (nI n) 3) (lw_S q1060 q1061 q52 q1062) hdX3_at ⟨Nat.le_of_ble_eq_true rfl, Nat.le_of_ble_eq_true rfl⟩ hl.1 rfl (Nat.le_of_ble_eq_true rfl) dX3_adds_61 ⟨Nat.le_of_ble_eq_true rfl, Nat.le_of_ble_eq_true rfl⟩) ?_
  refine lv_iload hx hb dX3_adds_64 (lv_at hl 5 rfl) ?_
  refine xist F hW_H_4 ho_4 hS_4 ⟨1, by decide, rfl⟩ (vin_eq (n := 9 + 5 * n + 3) (nI_addx (nI_addx (rfl : (9 : Int32) = nI 9) (nI_mulx (rfl : (5 : Int32) = nI 5) (rfl : nI n = nI n))) (rfl : (3 : Int32) = nI 3)) (by omega) (by omega)) dX3_adds_66 (fun H_5 locs ho_5 hu_5 hS_5 => ?_)
  have ho_5 : iat E (ad 1) 0 169 (upd (upd (upd (upd (upd f 0 (nI (n + 1))) (9 + 5 * n) la) (9 + 5 * n + 1) ki) (9 + 5 * n + 2) cr) (9 + 5 * n + 3) de) H_5 := by have h9 := ho_5; rw [(cl_eq (n := 9 + 5 * n + 3) (nI_addx (nI_addx (rfl : (9 : Int32) = nI 9) (nI_mulx (rfl : (5 : Int32) = nI 5) (rfl : nI n = nI n))) (rfl : (3 : Int32) = nI 3)) (by omega))] at h9; exact h9
  have hW_H_5 := hW_H_4.kept hu_5.chg (fun q _ hq => hq ▸ (hT.2 1 (by decide)))
  have k0_H_5 := k0_H_4.kept hu_5.chg (fun h9 => absurd (hT.1 0 1 (by decide) (by decide) h9) (by decide))
  have k2_H_5 := k2_H_4.kept hu_5.chg (fun h9 => absurd (hT.1 2 1 (by decide) (by decide) h9) (by decide))
  have k3_H_5 := k3_H_4.kept hu_5.chg (fun h9 => absurd (hT.1 3 1 (by decide) (by decide) h9) (by decide))
  have k4_H_5 := k4_H_4.kept hu_5.chg (fun h9 => absurd (hT.1 4 1 (by decide) (by decide) h9) (by decide))
  have k5_H_5 := k5_H_4.kept hu_5.chg (fun h9 => absurd (hT.1 5 1 (by decide) (by decide) h9) (by decide))
  have k6_H_5 := k6_H_4.kept hu_5.chg (fun h9 => absurd (hT.1 6 1 (by decide) (by decide) h9) (by decide))
  refine lv_aload_n hx hb dX3_adds_67 rfl (lv_at hl 1 rfl) ?_
  refine xget (ref := "LayeredChartersModel") (ci := 3) (v := .ref (ad 1)) (C := RX3) (T := TX3) (N := 9) F in_X3 hW_H_5 k0_H_5 rfl 0 (by decide) q1016 (fun _ h9 => h9) rfl dX3_adds_68 ?_
  refine lv_iload hx hb dX3_adds_71 (lv_at hl 0 rfl) ?_
  refine lv_iconst (v := 4) hx hb dX3_adds_73 (by decide) ?_
  refine run_ro (w := .int (9 + 5 * (nI n) + 4)) (rest := [.ref (ad 1)]) (kS F hW_H_5 (metX3_at l E H_5 (nI n) 4) (lw_S q1060 q1061 q52 q1062) hdX3_at ⟨Nat.le_of_ble_eq_true rfl, Nat.le_of_ble_eq_true rfl⟩ hl.1 rfl (Nat.le_of_ble_eq_true rfl) dX3_adds_74 ⟨Nat.le_of_ble_eq_true rfl, Nat.le_of_ble_eq_true rfl⟩) ?_
  refine lv_iload hx hb dX3_adds_77 (lv_at hl 6 rfl) ?_
  refine xist F hW_H_5 ho_5 hS_5 ⟨1, by decide, rfl⟩ (vin_eq (n := 9 + 5 * n + 4) (nI_addx (nI_addx (rfl : (9 : Int32) = nI 9) (nI_mulx (rfl : (5 : Int32) = nI 5) (rfl : nI n = nI n))) (rfl : (4 : Int32) = nI 4)) (by omega) (by omega)) dX3_adds_79 (fun H_6 locs ho_6 hu_6 hS_6 => ?_)
  have ho_6 : iat E (ad 1) 0 169 (upd (upd (upd (upd (upd (upd f 0 (nI (n + 1))) (9 + 5 * n) la) (9 + 5 * n + 1) ki) (9 + 5 * n + 2) cr) (9 + 5 * n + 3) de) (9 + 5 * n + 4) se) H_6 := by have h9 := ho_6; rw [(cl_eq (n := 9 + 5 * n + 4) (nI_addx (nI_addx (rfl : (9 : Int32) = nI 9) (nI_mulx (rfl : (5 : Int32) = nI 5) (rfl : nI n = nI n))) (rfl : (4 : Int32) = nI 4)) (by omega))] at h9; exact h9
  have hW_H_6 := hW_H_5.kept hu_6.chg (fun q _ hq => hq ▸ (hT.2 1 (by decide)))
  have k0_H_6 := k0_H_5.kept hu_6.chg (fun h9 => absurd (hT.1 0 1 (by decide) (by decide) h9) (by decide))
  have k2_H_6 := k2_H_5.kept hu_6.chg (fun h9 => absurd (hT.1 2 1 (by decide) (by decide) h9) (by decide))
  have k3_H_6 := k3_H_5.kept hu_6.chg (fun h9 => absurd (hT.1 3 1 (by decide) (by decide) h9) (by decide))
  have k4_H_6 := k4_H_5.kept hu_6.chg (fun h9 => absurd (hT.1 4 1 (by decide) (by decide) h9) (by decide))
  have k5_H_6 := k5_H_5.kept hu_6.chg (fun h9 => absurd (hT.1 5 1 (by decide) (by decide) h9) (by decide))
  have k6_H_6 := k6_H_5.kept hu_6.chg (fun h9 => absurd (hT.1 6 1 (by decide) (by decide) h9) (by decide))
  refine lv_iload hx hb dX3_adds_80 (lv_at hl 0 rfl) ?_
  exact hend _ _ _ _ _ _ _ rfl dX3_adds_82 (⟨_, rfl, rfl, ⟨_, k0_H_6, ho_6, k2_H_6, k3_H_6, k4_H_6, k5_H_6, k6_H_6⟩⟩) hS_6 (Nat.zero_le _) (Nat.zero_le _)

theorem hdX3_strikes : Hd yX3_strikes 1 := by decide +kernel
set_option maxHeartbeats 1000000 in
set_option maxRecDepth 100000 in
theorem metX3_strikes (l : Launch) (E : EV) (H : Heap) (ad : Nat → Nat) (f hst sl z pd : Nat → Int32) (kept len told : Int32) (n : Nat) (hn0 : f 0 = nI n) (hn24 : n ≤ 24) (r : Nat) (hr : r < n) (hM : MPx E ad f hst sl z pd kept len told H) (hT : TW E ad) : Ct l yX3_strikes cX3_strikes 3 none 1 21 (0) (0) [.ref (ad 0), .int (nI r)] E H (TA ad) (pN (fun H1 => MPx E ad (strF f n r) hst sl z pd kept len told H1)) := by
  obtain ⟨g, k0, k1, k2, k3, k4, k5, k6⟩ := hM
  refine Ct.ofV (by decide) (Nat.le_of_ble_eq_true rfl) ?_
  intro p e s m bl mt cd ls Q hF hW hH hl hend
  obtain ⟨F, hin⟩ := hF
  have hx := F.1
  have hb := F.2.1
  have hts := F.2.2.2.2
  have hl : lv_has ls 3 [(0, .ref (ad 0)), (1, .int (nI r))] := hl
  have hS : va_S (TA ad) H H [] := va_S.rf
  refine lv_aload_n hx hb dX3_strikes_0 rfl (lv_at hl 0 rfl) ?_
  refine xget (ref := "LayeredChartersModel") (ci := 3) (v := .ref (ad 1)) (C := RX3) (T := TX3) (N := 9) F in_X3 hW k0 rfl 0 (by decide) q1016 (fun _ h9 => h9) rfl dX3_strikes_1 ?_
  refine lv_iconst (v := 0) hx hb dX3_strikes_4 (by decide) ?_
  refine lv_dup2_11 hx hb dX3_strikes_5 rfl rfl ?_
  refine xild F hW k1 (vp_in_nI (n := 0) (by omega) (by omega)) dX3_strikes_6 ?_
  refine lv_val (y := nI n) (hn0) ?_
  refine lv_iconst (v := 1) hx hb dX3_strikes_7 (by decide) ?_
  refine lv_isub hx hb dX3_strikes_8 ?_
  refine lv_val (y := nI (n - 1)) (pk_sub (a := n) (b := 1) (by omega)) ?_
  refine xist F hW k1 hS ⟨1, by decide, rfl⟩ (vp_in_nI (n := 0) (by omega) (by omega)) dX3_strikes_9 (fun H_1 locs ho_1 hu_1 hS_1 => ?_)
  have ho_1 : iat E (ad 1) 0 169 (upd f 0 (nI (n - 1))) H_1 := ho_1
  have hW_H_1 := hW.kept hu_1.chg (fun q _ hq => hq ▸ (hT.2 1 (by decide)))
  have k0_H_1 := k0.kept hu_1.chg (fun h9 => absurd (hT.1 0 1 (by decide) (by decide) h9) (by decide))
  have k2_H_1 := k2.kept hu_1.chg (fun h9 => absurd (hT.1 2 1 (by decide) (by decide) h9) (by decide))
  have k3_H_1 := k3.kept hu_1.chg (fun h9 => absurd (hT.1 3 1 (by decide) (by decide) h9) (by decide))
  have k4_H_1 := k4.kept hu_1.chg (fun h9 => absurd (hT.1 4 1 (by decide) (by decide) h9) (by decide))
  have k5_H_1 := k5.kept hu_1.chg (fun h9 => absurd (hT.1 5 1 (by decide) (by decide) h9) (by decide))
  have k6_H_1 := k6.kept hu_1.chg (fun h9 => absurd (hT.1 6 1 (by decide) (by decide) h9) (by decide))
  refine lv_iload_n hx hb dX3_strikes_10 rfl (lv_at hl 1 rfl) ?_
  refine lv_iconst (v := 0) hx hb dX3_strikes_11 (by decide) ?_
  refine run_ro (w := .int (9 + 5 * (nI r) + 0)) (rest := []) (kS F hW_H_1 (metX3_at l E H_1 (nI r) 0) (lw_S q1060 q1061 q52 q1062) hdX3_at ⟨Nat.le_of_ble_eq_true rfl, Nat.le_of_ble_eq_true rfl⟩ hl.1 rfl (Nat.le_of_ble_eq_true rfl) dX3_strikes_12 ⟨Nat.le_of_ble_eq_true rfl, Nat.le_of_ble_eq_true rfl⟩) ?_
  refine lv_val (y := nI (9 + 5 * r)) (at0 _) ?_
  refine lv_istore_n (lv' := [(2, .int (nI (9 + 5 * r))), (0, .ref (ad 0)), (1, .int (nI r))]) hx hb dX3_strikes_15 rfl hl (by decide) rfl (fun ls hl => ?_)
  have loop16 : ∀ (nn i : Nat) (x2 : Int32), i + nn = (9 + 5 * (n - 1)) → x2 = nI i → (9 + 5 * r ≤ i) → ∀ (Hl_16 : Heap) (locs : List Loc), va_S (TA ad) H Hl_16 locs → WK E s Hl_16 → MPx E ad (stA 5 (upd f 0 (nI (n - 1))) (9 + 5 * r) i) hst sl z pd kept len told Hl_16 → ∀ ls : Array Slot, lv_has ls 3 [(2, .int x2), (0, .ref (ad 0)), (1, .int (nI r))] → W p l e ({ frames := 1, cells := 0, slots := 0, locals := 21 } : Room) s m ([.ref (ad 0), .int (nI r)] : List Value).toArray bl mt cd Hl_16 locs 0 0 Q (F0 m 16 ls []) := by
    intro nn
    induction nn with
    | zero =>
      intro i x2 hn  e2 hi1 Hl_16 locs hS_16 hW_16 hl_16 ls hl
      have hiN : i = (9 + 5 * (n - 1)) := by omega
      rw [hiN] at e2
      try rw [hiN] at hl_16
      try rw [hiN] at hi1
      rw [e2] at hl
      clear e2
      obtain ⟨g_2, k0_2, k1_2, k2_2, k3_2, k4_2, k5_2, k6_2⟩ := hl_16
      refine lv_iload_n hx hb dX3_strikes_16 rfl (lv_at hl 0 rfl) ?_
      refine lv_aload_n hx hb dX3_strikes_17 rfl (lv_at hl 1 rfl) ?_
      refine xget (ref := "LayeredChartersModel") (ci := 3) (v := .ref (ad 1)) (C := RX3) (T := TX3) (N := 9) F in_X3 hW_16 k0_2 rfl 0 (by decide) q1016 (fun _ h9 => h9) rfl dX3_strikes_18 ?_
      refine lv_iconst (v := 0) hx hb dX3_strikes_21 (by decide) ?_
      refine xild F hW_16 k1_2 (vp_in_nI (n := 0) (by omega) (by omega)) dX3_strikes_22 ?_
      refine lv_val (y := nI (n - 1)) ((by show (if 9 + 5 * r ≤ 0 ∧ _ then _ else _) = _; rw [if_neg (by omega)]; rfl)) ?_
      refine lv_iconst (v := 0) hx hb dX3_strikes_23 (by decide) ?_
      refine run_ro (w := .int (9 + 5 * (nI (n - 1)) + 0)) (rest := [.int (nI (9 + 5 * (n - 1)))]) (kS F hW_16 (metX3_at l E Hl_16 (nI (n - 1)) 0) (lw_S q1060 q1061 q52 q1062) hdX3_at ⟨Nat.le_of_ble_eq_true rfl, Nat.le_of_ble_eq_true rfl⟩ hl.1 rfl (Nat.le_of_ble_eq_true rfl) dX3_strikes_24 ⟨Nat.le_of_ble_eq_true rfl, Nat.le_of_ble_eq_true rfl⟩) ?_
      refine lv_val (y := nI (9 + 5 * (n - 1))) (at0 _) ?_
      refine lv_icmp_ge (tgt := 50) hx hb dX3_strikes_27 (by decide) (fun _ => ?_) (fun c9 => absurd (nI_le (by omega) (by omega)) c9)
      refine lv_iconst (v := 0) hx hb dX3_strikes_50 (by decide) ?_
      refine lv_istore_n (lv' := [(2, .int 0), (0, .ref (ad 0)), (1, .int (nI r))]) hx hb dX3_strikes_51 rfl hl (by decide) rfl (fun ls hl => ?_)
      have loop52 : ∀ (nn i : Nat) (x2 : Int32), i + nn = 5 → x2 = nI i → ∀ (Hl_52 : Heap) (locs : List Loc), va_S (TA ad) H Hl_52 locs → WK E s Hl_52 → MPx E ad (zrA (stA 5 (upd f 0 (nI (n - 1))) (9 + 5 * r) (9 + 5 * (n - 1))) (9 + 5 * (n - 1)) i) hst sl z pd kept len told Hl_52 → ∀ ls : Array Slot, lv_has ls 3 [(2, .int x2), (0, .ref (ad 0))] → W p l e ({ frames := 1, cells := 0, slots := 0, locals := 21 } : Room) s m ([.ref (ad 0), .int (nI r)] : List Value).toArray bl mt cd Hl_52 locs 0 0 Q (F0 m 52 ls []) := by
        intro nn
        induction nn with
        | zero =>
          intro i x2 hn  e2 Hl_52 locs hS_52 hW_52 hl_52 ls hl
          have hiN : i = 5 := by omega
          rw [hiN] at e2
          try rw [hiN] at hl_52
          rw [e2] at hl
          clear e2
          obtain ⟨g_3, k0_3, k1_3, k2_3, k3_3, k4_3, k5_3, k6_3⟩ := hl_52
          refine lv_iload_n hx hb dX3_strikes_52 rfl (lv_at hl 0 rfl) ?_
          refine lv_iconst (v := 5) hx hb dX3_strikes_53 (by decide) ?_
          refine lv_icmp_ge (tgt := 79) hx hb dX3_strikes_54 (by decide) (fun _ => ?_) (fun c9 => absurd (nI_le (a := 5) (b := 5) (by decide) (by decide)) c9)
          exact hend _ _ _ _ _ _ dX3_strikes_79 (⟨rfl, ⟨_, k0_3, k1_3, k2_3, k3_3, k4_3, k5_3, k6_3⟩⟩) hS_52 (Nat.zero_le _) (Nat.zero_le _)
        | succ nn ih52 =>
          intro i x2 hn  e2 Hl_52 locs hS_52 hW_52 hl_52 ls hl
          rw [e2] at hl
          clear e2
          obtain ⟨g_4, k0_4, k1_4, k2_4, k3_4, k4_4, k5_4, k6_4⟩ := hl_52
          refine lv_iload_n hx hb dX3_strikes_52 rfl (lv_at hl 0 rfl) ?_
          refine lv_iconst (v := 5) hx hb dX3_strikes_53 (by decide) ?_
          refine lv_icmp_ge (tgt := 79) hx hb dX3_strikes_54 (by decide) (fun c9 => absurd c9 (nI_ge (a := i) (b := 5) (by omega) (by decide))) (fun _ => ?_)
          refine lv_aload_n hx hb dX3_strikes_57 rfl (lv_at hl 1 rfl) ?_
          refine xget (ref := "LayeredChartersModel") (ci := 3) (v := .ref (ad 1)) (C := RX3) (T := TX3) (N := 9) F in_X3 hW_52 k0_4 rfl 0 (by decide) q1016 (fun _ h9 => h9) rfl dX3_strikes_58 ?_
          refine lv_aload_n hx hb dX3_strikes_61 rfl (lv_at hl 1 rfl) ?_
          refine xget (ref := "LayeredChartersModel") (ci := 3) (v := .ref (ad 1)) (C := RX3) (T := TX3) (N := 9) F in_X3 hW_52 k0_4 rfl 0 (by decide) q1016 (fun _ h9 => h9) rfl dX3_strikes_62 ?_
          refine lv_iconst (v := 0) hx hb dX3_strikes_65 (by decide) ?_
          refine xild F hW_52 k1_4 (vp_in_nI (n := 0) (by omega) (by omega)) dX3_strikes_66 ?_
          refine lv_val (y := nI (n - 1)) ((by show (if 9 + 5 * (n - 1) ≤ 0 ∧ _ then _ else (if 9 + 5 * r ≤ 0 ∧ _ then _ else _)) = _; rw [if_neg (by omega), if_neg (by omega)]; rfl)) ?_
          refine lv_iload_n hx hb dX3_strikes_67 rfl (lv_at hl 0 rfl) ?_
          refine run_ro (w := .int (9 + 5 * (nI (n - 1)) + (nI i))) (rest := [.ref (ad 1)]) (kS F hW_52 (metX3_at l E Hl_52 (nI (n - 1)) (nI i)) (lw_S q1060 q1061 q52 q1062) hdX3_at ⟨Nat.le_of_ble_eq_true rfl, Nat.le_of_ble_eq_true rfl⟩ hl.1 rfl (Nat.le_of_ble_eq_true rfl) dX3_strikes_68 ⟨Nat.le_of_ble_eq_true rfl, Nat.le_of_ble_eq_true rfl⟩) ?_
          refine lv_iconst (v := 0) hx hb dX3_strikes_71 (by decide) ?_
          refine xist F hW_52 k1_4 hS_52 ⟨1, by decide, rfl⟩ (vin_eq (n := 9 + 5 * (n - 1) + i) (nI_addx (nI_addx (rfl : (9 : Int32) = nI 9) (nI_mulx (rfl : (5 : Int32) = nI 5) (rfl : nI (n - 1) = nI (n - 1)))) (rfl : nI i = nI i)) (by omega) (by omega)) dX3_strikes_72 (fun H_5 locs ho_5 hu_5 hS_5 => ?_)
          have ho_5 : iat E (ad 1) 0 169 (upd (zrA (stA 5 (upd f 0 (nI (n - 1))) (9 + 5 * r) (9 + 5 * (n - 1))) (9 + 5 * (n - 1)) i) (9 + 5 * (n - 1) + i) 0) H_5 := by have h9 := ho_5; rw [(cl_eq (n := 9 + 5 * (n - 1) + i) (nI_addx (nI_addx (rfl : (9 : Int32) = nI 9) (nI_mulx (rfl : (5 : Int32) = nI 5) (rfl : nI (n - 1) = nI (n - 1)))) (rfl : nI i = nI i)) (by omega))] at h9; exact h9
          have hW_H_5 := hW_52.kept hu_5.chg (fun q _ hq => hq ▸ (hT.2 1 (by decide)))
          have k0_H_5 := k0_4.kept hu_5.chg (fun h9 => absurd (hT.1 0 1 (by decide) (by decide) h9) (by decide))
          have k2_H_5 := k2_4.kept hu_5.chg (fun h9 => absurd (hT.1 2 1 (by decide) (by decide) h9) (by decide))
          have k3_H_5 := k3_4.kept hu_5.chg (fun h9 => absurd (hT.1 3 1 (by decide) (by decide) h9) (by decide))
          have k4_H_5 := k4_4.kept hu_5.chg (fun h9 => absurd (hT.1 4 1 (by decide) (by decide) h9) (by decide))
          have k5_H_5 := k5_4.kept hu_5.chg (fun h9 => absurd (hT.1 5 1 (by decide) (by decide) h9) (by decide))
          have k6_H_5 := k6_4.kept hu_5.chg (fun h9 => absurd (hT.1 6 1 (by decide) (by decide) h9) (by decide))
          refine lv_iinc (v := nI (i + 1)) (lv' := [(2, .int (nI (i + 1))), (0, .ref (ad 0))]) hx hb dX3_strikes_73 hl (k := 0) rfl (nI_1 _) (by decide) rfl (fun ls hl => ?_)
          refine lv_goto (tgt := 52) hx hb dX3_strikes_76 (by decide) ?_
          exact ih52 (i + 1) _ (by omega)  rfl _ _ hS_5 hW_H_5 (⟨_, k0_H_5, (by rw [zrA_s]; exact ho_5), k2_H_5, k3_H_5, k4_H_5, k5_H_5, k6_H_5⟩) ls (lv_sub hl [0, 1] rfl)
      exact loop52 (5 - 0) 0 _ (by omega)  rfl _ _ hS_16 hW_16 (⟨_, k0_2, (by rw [zrA_0]; exact k1_2), k2_2, k3_2, k4_2, k5_2, k6_2⟩) ls (lv_sub hl [0, 1] rfl)
    | succ nn ih16 =>
      intro i x2 hn  e2 hi1 Hl_16 locs hS_16 hW_16 hl_16 ls hl
      rw [e2] at hl
      clear e2
      obtain ⟨g_6, k0_6, k1_6, k2_6, k3_6, k4_6, k5_6, k6_6⟩ := hl_16
      refine lv_iload_n hx hb dX3_strikes_16 rfl (lv_at hl 0 rfl) ?_
      refine lv_aload_n hx hb dX3_strikes_17 rfl (lv_at hl 1 rfl) ?_
      refine xget (ref := "LayeredChartersModel") (ci := 3) (v := .ref (ad 1)) (C := RX3) (T := TX3) (N := 9) F in_X3 hW_16 k0_6 rfl 0 (by decide) q1016 (fun _ h9 => h9) rfl dX3_strikes_18 ?_
      refine lv_iconst (v := 0) hx hb dX3_strikes_21 (by decide) ?_
      refine xild F hW_16 k1_6 (vp_in_nI (n := 0) (by omega) (by omega)) dX3_strikes_22 ?_
      refine lv_val (y := nI (n - 1)) ((by show (if 9 + 5 * r ≤ 0 ∧ _ then _ else _) = _; rw [if_neg (by omega)]; rfl)) ?_
      refine lv_iconst (v := 0) hx hb dX3_strikes_23 (by decide) ?_
      refine run_ro (w := .int (9 + 5 * (nI (n - 1)) + 0)) (rest := [.int (nI i)]) (kS F hW_16 (metX3_at l E Hl_16 (nI (n - 1)) 0) (lw_S q1060 q1061 q52 q1062) hdX3_at ⟨Nat.le_of_ble_eq_true rfl, Nat.le_of_ble_eq_true rfl⟩ hl.1 rfl (Nat.le_of_ble_eq_true rfl) dX3_strikes_24 ⟨Nat.le_of_ble_eq_true rfl, Nat.le_of_ble_eq_true rfl⟩) ?_
      refine lv_val (y := nI (9 + 5 * (n - 1))) (at0 _) ?_
      refine lv_icmp_ge (tgt := 50) hx hb dX3_strikes_27 (by decide) (fun c9 => absurd c9 (nI_ge (by omega) (by omega))) (fun _ => ?_)
      refine lv_aload_n hx hb dX3_strikes_30 rfl (lv_at hl 1 rfl) ?_
      refine xget (ref := "LayeredChartersModel") (ci := 3) (v := .ref (ad 1)) (C := RX3) (T := TX3) (N := 9) F in_X3 hW_16 k0_6 rfl 0 (by decide) q1016 (fun _ h9 => h9) rfl dX3_strikes_31 ?_
      refine lv_iload_n hx hb dX3_strikes_34 rfl (lv_at hl 0 rfl) ?_
      refine lv_aload_n hx hb dX3_strikes_35 rfl (lv_at hl 1 rfl) ?_
      refine xget (ref := "LayeredChartersModel") (ci := 3) (v := .ref (ad 1)) (C := RX3) (T := TX3) (N := 9) F in_X3 hW_16 k0_6 rfl 0 (by decide) q1016 (fun _ h9 => h9) rfl dX3_strikes_36 ?_
      refine lv_iload_n hx hb dX3_strikes_39 rfl (lv_at hl 0 rfl) ?_
      refine lv_iconst (v := 5) hx hb dX3_strikes_40 (by decide) ?_
      refine lv_iadd hx hb dX3_strikes_41 ?_
      refine lv_val (y := nI (i + 5)) ((nI_add (i) (5))) ?_
      refine xild F hW_16 k1_6 (vp_in_nI (by omega) (by omega)) dX3_strikes_42 ?_
      refine lv_val (y := (stA 5 (upd f 0 (nI (n - 1))) (9 + 5 * r) i) (i + 5)) ((by rw [nI_clamp (by omega)])) ?_
      refine xist F hW_16 k1_6 hS_16 ⟨1, by decide, rfl⟩ (vp_in_nI (by omega) (by omega)) dX3_strikes_43 (fun H_7 locs ho_7 hu_7 hS_7 => ?_)
      have ho_7 : iat E (ad 1) 0 169 (upd (stA 5 (upd f 0 (nI (n - 1))) (9 + 5 * r) i) i ((stA 5 (upd f 0 (nI (n - 1))) (9 + 5 * r) i) (i + 5))) H_7 := by have h9 := ho_7; rw [show (nI i : Int32).toNatClampNeg = i from by rw [nI_clamp (by omega)]] at h9; exact h9
      have hW_H_7 := hW_16.kept hu_7.chg (fun q _ hq => hq ▸ (hT.2 1 (by decide)))
      have k0_H_7 := k0_6.kept hu_7.chg (fun h9 => absurd (hT.1 0 1 (by decide) (by decide) h9) (by decide))
      have k2_H_7 := k2_6.kept hu_7.chg (fun h9 => absurd (hT.1 2 1 (by decide) (by decide) h9) (by decide))
      have k3_H_7 := k3_6.kept hu_7.chg (fun h9 => absurd (hT.1 3 1 (by decide) (by decide) h9) (by decide))
      have k4_H_7 := k4_6.kept hu_7.chg (fun h9 => absurd (hT.1 4 1 (by decide) (by decide) h9) (by decide))
      have k5_H_7 := k5_6.kept hu_7.chg (fun h9 => absurd (hT.1 5 1 (by decide) (by decide) h9) (by decide))
      have k6_H_7 := k6_6.kept hu_7.chg (fun h9 => absurd (hT.1 6 1 (by decide) (by decide) h9) (by decide))
      refine lv_iinc (v := nI (i + 1)) (lv' := [(2, .int (nI (i + 1))), (0, .ref (ad 0)), (1, .int (nI r))]) hx hb dX3_strikes_44 hl (k := 0) rfl (nI_1 _) (by decide) rfl (fun ls hl => ?_)
      refine lv_goto (tgt := 16) hx hb dX3_strikes_47 (by decide) ?_
      exact ih16 (i + 1) _ (by omega)  rfl (by omega) _ _ hS_7 hW_H_7 (⟨_, k0_H_7, (by rw [stA_s hi1]; exact ho_7), k2_H_7, k3_H_7, k4_H_7, k5_H_7, k6_H_7⟩) ls (lv_sub hl [0, 1, 2] rfl)
  exact loop16 ((9 + 5 * (n - 1)) - (9 + 5 * r)) (9 + 5 * r) _ (by omega)  rfl (Nat.le_refl _) _ _ hS_1 hW_H_1 (⟨_, k0_H_1, (by rw [stA_0]; exact ho_1), k2_H_1, k3_H_1, k4_H_1, k5_H_1, k6_H_1⟩) ls (lv_sub hl [0, 1, 2] rfl)

