/-! THE TWIN: put, the constructor -/
set_option maxRecDepth 100000
/-! rows of the kit's BITS (starting text) -/
theorem wb_tb (n : Nat) : (lN n).toBitVec = BitVec.ofNat 64 n := rfl
theorem wb_inj {a b : Int64} (h : a.toBitVec = b.toBitVec) : a = b := Int64.toBitVec_inj.mp h
theorem wb_tn {n : Nat} (h : n < 2 ^ 64) : (lN n).toBitVec.toNat = n := by rw [wb_tb, BitVec.toNat_ofNat, Nat.mod_eq_of_lt h]
theorem wb_of (x : Int64) : ∃ n, n < 2 ^ 64 ∧ x = lN n := ⟨x.toBitVec.toNat, x.toBitVec.isLt, wb_inj (by rw [wb_tb]; simp)⟩
theorem wb_cu : ∀ k, k < 64 → ((nI k).toInt64.toUInt64 &&& Int64.toUInt64 63) = UInt64.ofNat k := by decide +kernel
theorem wb_lt2 {a b : Nat} (h : a < b) : 2 ^ a < 2 ^ b := Nat.pow_lt_pow_right (by decide) h
theorem wb_shr {n k : Nat} (hn : n < 2 ^ 64) (hk : k < 64) : ((lN n).toUInt64 >>> ((nI k).toInt64.toUInt64 &&& Int64.toUInt64 63)).toInt64 = lN (n / 2 ^ k) := by
  rw [wb_cu k hk]
  apply wb_inj
  apply BitVec.eq_of_toNat_eq
  show ((lN n).toUInt64 >>> UInt64.ofNat k).toNat = (BitVec.ofNat 64 _).toNat
  have h1 : (UInt64.ofNat k).toNat = k := by
    show (BitVec.ofNat 64 k).toNat = k
    rw [BitVec.toNat_ofNat, Nat.mod_eq_of_lt (by omega)]
  have h2 : (lN n).toUInt64.toNat = n := wb_tn hn
  rw [UInt64.toNat_shiftRight, h1, h2, Nat.mod_eq_of_lt hk, Nat.shiftRight_eq_div_pow, BitVec.toNat_ofNat, Nat.mod_eq_of_lt (Nat.lt_of_le_of_lt (Nat.div_le_self _ _) hn)]
theorem wb_and {a b : Nat} (ha : a < 2 ^ 64) (hb : b < 2 ^ 64) : lN a &&& lN b = lN (a &&& b) := by
  apply wb_inj
  rw [Int64.toBitVec_and, wb_tb, wb_tb, wb_tb]
  apply BitVec.eq_of_toNat_eq
  rw [BitVec.toNat_and, BitVec.toNat_ofNat, BitVec.toNat_ofNat, BitVec.toNat_ofNat, Nat.mod_eq_of_lt ha, Nat.mod_eq_of_lt hb, Nat.mod_eq_of_lt (Nat.and_lt_two_pow _ hb)]
theorem wb_mask {n k : Nat} (hn : n < 2 ^ 64) (hk : k < 64) : lN n &&& lN (2 ^ k - 1) = lN (n % 2 ^ k) := by
  rw [wb_and hn (by have := wb_lt2 hk; omega), Nat.and_two_pow_sub_one_eq_mod]

theorem lv_vall {p : Program} {l : Launch} {e : Env} {R : Room} {s : State} {m : MethodId} {args : Array Value} {below : List Frame} {meth : Method} {c : Code} {H : Heap} {locs : List Loc} {cells slots : Nat} {Q : State → Prop} {pc : Nat} {ls : Array Slot} {rest : List Value} {x y : Int64} (h : x = y) (k : W p l e R s m args below meth c H locs cells slots Q (F0 m pc ls (.long y :: rest))) : W p l e R s m args below meth c H locs cells slots Q (F0 m pc ls (.long x :: rest)) := h ▸ k
theorem lgc0 {a : Nat} (ha : a < 2 ^ 64) : lg_cmp (lN a) 0 = 0 ↔ a = 0 := by
  have h0 : lN a = 0 ↔ a = 0 := by
    constructor
    · intro h
      have h1 := congrArg (fun z : Int64 => z.toBitVec.toNat) h
      simp only [wb_tn ha] at h1
      exact h1
    · intro h; rw [h]; rfl
  unfold lg_cmp
  by_cases c : lN a > 0
  · rw [if_pos c]
    constructor
    · intro h; exact absurd h (by decide)
    · intro h
      rw [h0.mpr h] at c
      exact absurd c (by decide)
  · rw [if_neg c]
    by_cases c2 : lN a = 0
    · rw [if_pos c2]; exact ⟨fun _ => h0.mp c2, fun _ => rfl⟩
    · rw [if_neg c2]
      constructor
      · intro h; exact absurd h (by decide)
      · intro h; exact absurd (h0.mpr h) c2
theorem lgc_t {a : Nat} (ha : a < 2 ^ 64) (h : ¬ lg_cmp (lN a) 0 = 0) : ¬ a = 0 := fun e => h ((lgc0 ha).mpr e)
/-- the k-th byte -/
def byN (N k : Nat) : Nat := N / 2 ^ (8 * k) % 2 ^ 8
def enN (N k : Nat) : Bool := decide (0 < k) && decide (N / 2 ^ (8 * k) = 0)
def pust (N k : Nat) (p : Nat × Bool) : Nat × Bool := (p.1 + (if enN N k = true then 0 else 1), p.2 || (!enN N k && !inR (nI (byN N k)) 33 126))
def puN (N k : Nat) : Nat × Bool := foldN (pust N) (0, false) k
theorem puN_s {N k : Nat} : puN N (k + 1) = pust N k (puN N k) := rfl
theorem puN_le (N : Nat) : ∀ k, (puN N k).1 ≤ k := by
  intro k
  induction k with
  | zero => exact Nat.le_refl 0
  | succ k ih =>
    rw [puN_s]
    show (puN N k).1 + (if _ then 0 else 1) ≤ k + 1
    split <;> omega
/-- the text with k of its characters laid, the last first -/
def ptP (pd : Nat → Int32) (N ln mn k : Nat) : Nat → Int32 := fun j => if ln + mn - k ≤ j ∧ j < ln + mn then nI (byN N (ln + mn - 1 - j)) else pd j
theorem ptP_0 {pd : Nat → Int32} {N ln mn : Nat} : ptP pd N ln mn 0 = pd := by funext j; unfold ptP; rw [if_neg (by omega)]
theorem ptP_s {pd : Nat → Int32} {N ln mn k : Nat} (h : k < mn) : ptP pd N ln mn (k + 1) = upd (ptP pd N ln mn k) (ln + mn - 1 - k) (nI (byN N k)) := by
  apply fun_upd
  · intro j hj; unfold ptP; by_cases e : ln + mn - k ≤ j ∧ j < ln + mn
    · rw [if_pos e, if_pos (by omega)]
    · rw [if_neg e, if_neg (by omega)]
  · unfold ptP; rw [if_pos (by omega), show ln + mn - 1 - (ln + mn - 1 - k) = k by omega]
abbrev TP : Type := Int32 × (Nat → Int32) × Nat
def PP (E : EV) (ad : Nat → Nat) (f hst sl z : Nat → Int32) (kept told : Int32) (T : TP) (r : Int32) (H1 : Heap) : Prop := r = T.1 ∧ MPx E ad f hst sl z T.2.1 kept (nI T.2.2) told H1
theorem PP.of {E : EV} {ad : Nat → Nat} {f hst sl z : Nat → Int32} {kept told : Int32} {T T' : TP} {H1 : Heap} (h : T = T') (k : MPx E ad f hst sl z T'.2.1 kept (nI T'.2.2) told H1) : PP E ad f hst sl z kept told T T'.1 H1 := by
  subst h; exact ⟨rfl, k⟩
def putT (pd : Nat → Int32) (N ln : Nat) : TP :=
  if (puN N 8).2 = true then (-2, pd, ln) else if ln + (puN N 8).1 ≤ 60 then (nI (ln + (puN N 8).1), ptP pd N ln (puN N 8).1 (puN N 8).1, ln + (puN N 8).1) else (-4, pd, ln)
theorem adinj {q a b c d e f : Nat} (h1 : q < a) (h2 : a < b) (h3 : b < c) (h4 : c < d) (h5 : d < e) (h6 : e < f) : ∀ i j, i < 7 → j < 7 → ([q, a, b, c, d, e, f]).getD i 0 = ([q, a, b, c, d, e, f]).getD j 0 → i = j := by
  intro i j hi hj h
  rcases (show i = 0 ∨ i = 1 ∨ i = 2 ∨ i = 3 ∨ i = 4 ∨ i = 5 ∨ i = 6 by omega) with rfl | rfl | rfl | rfl | rfl | rfl | rfl <;> rcases (show j = 0 ∨ j = 1 ∨ j = 2 ∨ j = 3 ∨ j = 4 ∨ j = 5 ∨ j = 6 by omega) with rfl | rfl | rfl | rfl | rfl | rfl | rfl <;> first | rfl | (exfalso; simp only [List.getD_cons_zero, List.getD_cons_succ] at h; omega)
theorem adold {E : EV} {n q a b c d e f : Nat} (hq : Old E q) (h0 : q < n) (h1 : n ≤ a) (h2 : n ≤ b) (h3 : n ≤ c) (h4 : n ≤ d) (h5 : n ≤ e) (h6 : n ≤ f) : ∀ i, i < 7 → Old E (([q, a, b, c, d, e, f]).getD i 0) := by
  have hq : E.2.2.1 ≤ q := hq
  intro i hi
  rcases (show i = 0 ∨ i = 1 ∨ i = 2 ∨ i = 3 ∨ i = 4 ∨ i = 5 ∨ i = 6 by omega) with rfl | rfl | rfl | rfl | rfl | rfl | rfl <;> (show E.2.2.1 ≤ _) <;> simp only [List.getD_cons_zero, List.getD_cons_succ] <;> omega
theorem adnew {n q a b c d e f : Nat} (h1 : n ≤ a) (h2 : n ≤ b) (h3 : n ≤ c) (h4 : n ≤ d) (h5 : n ≤ e) (h6 : n ≤ f) : ∀ i, 1 ≤ i → i < 7 → n ≤ ([q, a, b, c, d, e, f]).getD i 0 := by
  intro i h0 hi
  rcases (show i = 1 ∨ i = 2 ∨ i = 3 ∨ i = 4 ∨ i = 5 ∨ i = 6 by omega) with rfl | rfl | rfl | rfl | rfl | rfl <;> simp only [List.getD_cons_zero, List.getD_cons_succ] <;> omega
theorem hdX3_put : Hd yX3_put 1 := by decide +kernel
set_option maxHeartbeats 1000000 in
set_option maxRecDepth 100000 in
theorem metX3_put (l : Launch) (E : EV) (H : Heap) (ad : Nat → Nat) (f hst sl z pd : Nat → Int32) (kept told : Int32) (ln : Nat) (hln : ln ≤ 60) (N : Nat) (hN : N < 2 ^ 64) (hM : MPx E ad f hst sl z pd kept (nI ln) told H) (hT : TW E ad) : Ct l yX3_put cX3_put 8 (some .int) 1 22 (0) (0) [.ref (ad 0), .long (lN N)] E H (TA ad) (pI (fun r H1 => PP E ad f hst sl z kept told (putT pd N ln) r H1)) := by
  obtain ⟨g, k0, k1, k2, k3, k4, k5, k6⟩ := hM
  refine Ct.ofZ (by decide) (Nat.le_of_ble_eq_true rfl) ?_
  intro p e s m bl mt cd ls Q hF hW hH hl hend
  obtain ⟨F, hin⟩ := hF
  have hx := F.1
  have hb := F.2.1
  have hts := F.2.2.2.2
  have hl : lv_has ls 8 [(0, .ref (ad 0)), (1, .long (lN N))] := hl
  have hS : va_S (TA ad) H H [] := va_S.rf
  refine lv_iconst (v := 0) hx hb dX3_put_0 (by decide) ?_
  refine lv_istore_n (lv' := [(3, .int 0), (0, .ref (ad 0)), (1, .long (lN N))]) hx hb dX3_put_1 rfl hl (by decide) rfl (fun ls hl => ?_)
  refine lv_iconst (v := 0) hx hb dX3_put_2 (by decide) ?_
  refine lv_istore (lv' := [(4, .int 0), (3, .int 0), (0, .ref (ad 0)), (1, .long (lN N))]) hx hb dX3_put_3 hl (by decide) rfl (fun ls hl => ?_)
  refine lv_iconst (v := 0) hx hb dX3_put_5 (by decide) ?_
  refine lv_istore (lv' := [(5, .int 0), (4, .int 0), (3, .int 0), (0, .ref (ad 0)), (1, .long (lN N))]) hx hb dX3_put_6 hl (by decide) rfl (fun ls hl => ?_)
  have loop8 : ∀ (nn i : Nat) (x5 x3 x4 : Int32), i + nn = 8 → x3 = nI (puN N i).1 → x4 = b2i (puN N i).2 → x5 = nI i → ∀ ls : Array Slot, lv_has ls 8 [(5, .int x5), (3, .int x3), (4, .int x4), (0, .ref (ad 0)), (1, .long (lN N))] → W p l e ({ frames := 1, cells := 0, slots := 0, locals := 22 } : Room) s m ([.ref (ad 0), .long (lN N)] : List Value).toArray bl mt cd H [] 0 0 Q (F0 m 8 ls []) := by
    intro nn
    induction nn with
    | zero =>
      intro i x5 x3 x4 hn e3 e4 e5  ls hl
      have hiN : i = 8 := by omega
      rw [hiN] at e5
      try rw [hiN] at e3
      try rw [hiN] at e4
      rw [e5, e3, e4] at hl
      clear e5 e3 e4
      refine lv_iload hx hb dX3_put_8 (lv_at hl 0 rfl) ?_
      refine lv_bipush (v := 8) hx hb dX3_put_10 (by decide) ?_
      refine lv_icmp_ge (tgt := 101) hx hb dX3_put_12 (by decide) (fun _ => ?_) (fun c9 => absurd (nI_le (a := 8) (b := 8) (by decide) (by decide)) c9)
      refine lv_iload hx hb dX3_put_101 (lv_at hl 2 rfl) ?_
      refine lv_if_eq (tgt := 109) hx hb dX3_put_103 (by decide) (fun c_1 => ?_) (fun c_1 => ?_)
      · skip
        have bc_1 := c_1
        have c_1 := b2i_f c_1
        have hbad := c_1
        obtain ⟨mn, hmn⟩ : ∃ k, k = (puN N 8).1 := ⟨_, rfl⟩
        have hmn8 : mn ≤ 8 := by rw [hmn]; exact puN_le N 8
        rw [← hmn] at hl
        refine lv_aload_n hx hb dX3_put_109 rfl (lv_at hl 3 rfl) ?_
        refine xget (ref := "LayeredChartersModel") (ci := 3) (v := .int (nI ln)) (C := RX3) (T := TX3) (N := 9) F in_X3 hW k0 rfl 6 (by decide) q1022 (fun _ h9 => h9) rfl dX3_put_110 ?_
        refine lv_iload_n hx hb dX3_put_113 rfl (lv_at hl 1 rfl) ?_
        refine lv_iadd hx hb dX3_put_114 ?_
        refine lv_val (y := nI (ln + mn)) ((nI_add (ln) (mn))) ?_
        refine lv_bipush (v := 60) hx hb dX3_put_115 (by decide) ?_
        refine lv_icmp_le (tgt := 123) hx hb dX3_put_117 (by decide) (fun c_2 => ?_) (fun c_2 => ?_)
        · skip
          have nc_2 := (nI_leI (a := (ln + mn)) (b := 60) (by omega) (by omega)).mp c_2
          refine lv_iconst (v := 0) hx hb dX3_put_123 (by decide) ?_
          refine lv_istore (lv' := [(5, .int 0), (3, .int (nI mn)), (4, .int (b2i (puN N 8).2)), (0, .ref (ad 0)), (1, .long (lN N))]) hx hb dX3_put_124 hl (by decide) rfl (fun ls hl => ?_)
          have loop126 : ∀ (nn i : Nat) (x5 : Int32), i + nn = mn → x5 = nI i → ∀ (Hl_126 : Heap) (locs : List Loc), va_S (TA ad) H Hl_126 locs → WK E s Hl_126 → MPx E ad f hst sl z (ptP pd N ln mn i) kept (nI ln) told Hl_126 → ∀ ls : Array Slot, lv_has ls 8 [(5, .int x5), (0, .ref (ad 0)), (1, .long (lN N)), (3, .int (nI mn))] → W p l e ({ frames := 1, cells := 0, slots := 0, locals := 22 } : Room) s m ([.ref (ad 0), .long (lN N)] : List Value).toArray bl mt cd Hl_126 locs 0 0 Q (F0 m 126 ls []) := by
            intro nn
            induction nn with
            | zero =>
              intro i x5 hn  e5 Hl_126 locs hS_126 hW_126 hl_126 ls hl
              have hiN : i = mn := by omega
              rw [hiN] at e5
              try rw [hiN] at hl_126
              rw [e5] at hl
              clear e5
              obtain ⟨g_3, k0_3, k1_3, k2_3, k3_3, k4_3, k5_3, k6_3⟩ := hl_126
              refine lv_iload hx hb dX3_put_126 (lv_at hl 0 rfl) ?_
              refine lv_iload_n hx hb dX3_put_128 rfl (lv_at hl 3 rfl) ?_
              refine lv_icmp_ge (tgt := 166) hx hb dX3_put_129 (by decide) (fun _ => ?_) (fun c9 => absurd (nI_le (by omega) (by omega)) c9)
              refine lv_aload_n hx hb dX3_put_166 rfl (lv_at hl 1 rfl) ?_
              refine lv_dup hx hb dX3_put_167 rfl ?_
              refine xget (ref := "LayeredChartersModel") (ci := 3) (v := .int (nI ln)) (C := RX3) (T := TX3) (N := 9) F in_X3 hW_126 k0_3 rfl 6 (by decide) q1022 (fun _ h9 => h9) rfl dX3_put_168 ?_
              refine lv_iload_n hx hb dX3_put_171 rfl (lv_at hl 3 rfl) ?_
              refine lv_iadd hx hb dX3_put_172 ?_
              refine lv_val (y := nI (ln + mn)) ((nI_add (ln) (mn))) ?_
              refine xput (ref := "LayeredChartersModel") (ci := 3) (v := .int (nI (ln + mn))) (C := RX3) (T := TX3) (N := 9) F in_X3 tyX3 tyX3_ok nmX3 hW_126 k0_3 hS_126 ⟨0, by decide, rfl⟩ rfl 6 (by decide) q1022 (fun _ h9 => h9) rfl rfl rfl (Nat.le_of_ble_eq_true rfl) dX3_put_173 (fun H_4 locs ho_4 hu_4 hS_4 => ?_)
              have ho_4 : oat E (ad 0) 3 [.ref (ad 1), .ref (ad 2), .int kept, .ref (ad 3), .ref (ad 4), .ref (ad 5), .int (nI (ln + mn)), .ref (ad 6), .int told] H_4 := ho_4
              have hz_H_4 : H_4.size = Hl_126.size := hu_4.1
              have hW_H_4 := hW_126.kept hu_4.chg (fun q _ hq => hq ▸ (hT.2 0 (by decide)))
              have k1_H_4 := k1_3.kept hu_4.chg (fun h9 => absurd (hT.1 1 0 (by decide) (by decide) h9) (by decide))
              have k2_H_4 := k2_3.kept hu_4.chg (fun h9 => absurd (hT.1 2 0 (by decide) (by decide) h9) (by decide))
              have k3_H_4 := k3_3.kept hu_4.chg (fun h9 => absurd (hT.1 3 0 (by decide) (by decide) h9) (by decide))
              have k4_H_4 := k4_3.kept hu_4.chg (fun h9 => absurd (hT.1 4 0 (by decide) (by decide) h9) (by decide))
              have k5_H_4 := k5_3.kept hu_4.chg (fun h9 => absurd (hT.1 5 0 (by decide) (by decide) h9) (by decide))
              have k6_H_4 := k6_3.kept hu_4.chg (fun h9 => absurd (hT.1 6 0 (by decide) (by decide) h9) (by decide))
              refine lv_aload_n hx hb dX3_put_176 rfl (lv_at hl 1 rfl) ?_
              refine xget (ref := "LayeredChartersModel") (ci := 3) (v := .int (nI (ln + mn))) (C := RX3) (T := TX3) (N := 9) F in_X3 hW_H_4 ho_4 rfl 6 (by decide) q1022 (fun _ h9 => h9) rfl dX3_put_177 ?_
              exact hend _ _ _ _ _ _ _ rfl dX3_put_180 (⟨_, rfl, PP.of (T' := (nI (ln + mn), ptP pd N ln mn mn, ln + mn)) (by unfold putT; rw [if_neg (by rw [hbad]; decide), ← hmn, if_pos (by omega)]) ⟨_, ho_4, k1_H_4, k2_H_4, k3_H_4, k4_H_4, k5_H_4, k6_H_4⟩⟩) hS_4 (Nat.zero_le _) (Nat.zero_le _)
            | succ nn ih126 =>
              intro i x5 hn  e5 Hl_126 locs hS_126 hW_126 hl_126 ls hl
              rw [e5] at hl
              clear e5
              obtain ⟨g_5, k0_5, k1_5, k2_5, k3_5, k4_5, k5_5, k6_5⟩ := hl_126
              refine lv_iload hx hb dX3_put_126 (lv_at hl 0 rfl) ?_
              refine lv_iload_n hx hb dX3_put_128 rfl (lv_at hl 3 rfl) ?_
              refine lv_icmp_ge (tgt := 166) hx hb dX3_put_129 (by decide) (fun c9 => absurd c9 (nI_ge (by omega) (by omega))) (fun _ => ?_)
              refine lv_aload_n hx hb dX3_put_132 rfl (lv_at hl 1 rfl) ?_
              refine xget (ref := "LayeredChartersModel") (ci := 3) (v := .ref (ad 5)) (C := RX3) (T := TX3) (N := 9) F in_X3 hW_126 k0_5 rfl 5 (by decide) q1021 (fun _ h9 => h9) rfl dX3_put_133 ?_
              refine lv_aload_n hx hb dX3_put_136 rfl (lv_at hl 1 rfl) ?_
              refine xget (ref := "LayeredChartersModel") (ci := 3) (v := .int (nI ln)) (C := RX3) (T := TX3) (N := 9) F in_X3 hW_126 k0_5 rfl 6 (by decide) q1022 (fun _ h9 => h9) rfl dX3_put_137 ?_
              refine lv_iload_n hx hb dX3_put_140 rfl (lv_at hl 3 rfl) ?_
              refine lv_iadd hx hb dX3_put_141 ?_
              refine lv_val (y := nI (ln + mn)) ((nI_add (ln) (mn))) ?_
              refine lv_iconst (v := 1) hx hb dX3_put_142 (by decide) ?_
              refine lv_isub hx hb dX3_put_143 ?_
              refine lv_iload hx hb dX3_put_144 (lv_at hl 0 rfl) ?_
              refine lv_isub hx hb dX3_put_146 ?_
              refine lv_lload_n hx hb dX3_put_147 rfl (lv_at hl 2 rfl) ?_
              refine lv_bipush (v := 8) hx hb dX3_put_148 (by decide) ?_
              refine lv_iload hx hb dX3_put_150 (lv_at hl 0 rfl) ?_
              refine lv_imul hx hb dX3_put_152 ?_
              refine lv_val (y := nI (8 * i)) ((pk_mul (8) (i))) ?_
              refine lv_lushr (v := lN (N / 2 ^ ((8 * i)))) hx hb dX3_put_153 (by rw [show (nI (8 * i) : Int32) = nI ((8 * i)) from (rfl : nI (8 * i) = nI (8 * i))]; exact wb_shr (by omega) (by omega)) ?_
              refine lv_ldc2 (v := 255) hx hb F.2.2.2.1 (hts _ q1217) dX3_put_154 ?_
              refine lv_land hx hb dX3_put_157 ?_
              refine lv_vall (y := lN ((N / 2 ^ ((8 * i))) % 2 ^ 8)) (wb_mask (k := 8) (Nat.lt_of_le_of_lt (Nat.div_le_self _ _) hN) (by decide)) ?_
              refine lv_l2i (v := nI ((N / 2 ^ ((8 * i))) % 2 ^ 8)) hx hb dX3_put_158 (lN_i _) ?_
              refine lv_val (y := nI (byN N i)) (rfl) ?_
              refine xist F hW_126 k5_5 hS_126 ⟨5, by decide, rfl⟩ (vin_eq (n := (((ln + mn) - 1) - i)) (nI_subx (nI_subx (rfl : nI (ln + mn) = nI (ln + mn)) (rfl : (1 : Int32) = nI 1) (by omega)) (rfl : nI i = nI i) (by omega)) (by omega) (by omega)) dX3_put_159 (fun H_6 locs ho_6 hu_6 hS_6 => ?_)
              have ho_6 : iat E (ad 5) 0 60 (upd (ptP pd N ln mn i) ((((ln + mn) - 1) - i)) (nI (byN N i))) H_6 := by have h9 := ho_6; rw [(cl_eq (n := (((ln + mn) - 1) - i)) (nI_subx (nI_subx (rfl : nI (ln + mn) = nI (ln + mn)) (rfl : (1 : Int32) = nI 1) (by omega)) (rfl : nI i = nI i) (by omega)) (by omega))] at h9; exact h9
              have hz_H_6 : H_6.size = Hl_126.size := hu_6.1
              have hW_H_6 := hW_126.kept hu_6.chg (fun q _ hq => hq ▸ (hT.2 5 (by decide)))
              have k0_H_6 := k0_5.kept hu_6.chg (fun h9 => absurd (hT.1 0 5 (by decide) (by decide) h9) (by decide))
              have k1_H_6 := k1_5.kept hu_6.chg (fun h9 => absurd (hT.1 1 5 (by decide) (by decide) h9) (by decide))
              have k2_H_6 := k2_5.kept hu_6.chg (fun h9 => absurd (hT.1 2 5 (by decide) (by decide) h9) (by decide))
              have k3_H_6 := k3_5.kept hu_6.chg (fun h9 => absurd (hT.1 3 5 (by decide) (by decide) h9) (by decide))
              have k4_H_6 := k4_5.kept hu_6.chg (fun h9 => absurd (hT.1 4 5 (by decide) (by decide) h9) (by decide))
              have k6_H_6 := k6_5.kept hu_6.chg (fun h9 => absurd (hT.1 6 5 (by decide) (by decide) h9) (by decide))
              refine lv_iinc (v := nI (i + 1)) (lv' := [(5, .int (nI (i + 1))), (0, .ref (ad 0)), (1, .long (lN N)), (3, .int (nI mn))]) hx hb dX3_put_160 hl (k := 0) rfl (nI_1 _) (by decide) rfl (fun ls hl => ?_)
              refine lv_goto (tgt := 126) hx hb dX3_put_163 (by decide) ?_
              exact ih126 (i + 1) _ (by omega)  rfl _ _ hS_6 hW_H_6 (⟨_, k0_H_6, k1_H_6, k2_H_6, k3_H_6, k4_H_6, (by rw [ptP_s (by omega)]; exact ho_6), k6_H_6⟩) ls (lv_sub hl [0, 1, 2, 3] rfl)
          exact loop126 (mn - 0) 0 _ (by omega)  rfl _ _ hS hW (⟨_, k0, k1, k2, k3, k4, (by rw [ptP_0]; exact k5), k6⟩) ls (lv_sub hl [0, 3, 4, 1] rfl)
        · skip
          have nc_2 := Nat.not_le.mp (fun h9 => c_2 ((nI_leI (a := (ln + mn)) (b := 60) (by omega) (by omega)).mpr h9))
          refine lv_bipush (v := (-4)) hx hb dX3_put_120 (by decide) ?_
          exact hend _ _ _ _ _ _ _ rfl dX3_put_122 (⟨_, rfl, PP.of (T' := (-4, pd, ln)) (by unfold putT; rw [if_neg (by rw [hbad]; decide), ← hmn, if_neg (by omega)]) ⟨_, k0, k1, k2, k3, k4, k5, k6⟩⟩) hS (Nat.zero_le _) (Nat.zero_le _)
      · skip
        have bc_1 := c_1
        have c_1 := b2i_t c_1
        refine lv_bipush (v := (-2)) hx hb dX3_put_106 (by decide) ?_
        exact hend _ _ _ _ _ _ _ rfl dX3_put_108 (⟨_, rfl, PP.of (T' := (-2, pd, ln)) (if_pos c_1) ⟨_, k0, k1, k2, k3, k4, k5, k6⟩⟩) hS (Nat.zero_le _) (Nat.zero_le _)
    | succ nn ih8 =>
      intro i x5 x3 x4 hn e3 e4 e5  ls hl
      rw [e5, e3, e4] at hl
      clear e5 e3 e4
      refine lv_iload hx hb dX3_put_8 (lv_at hl 0 rfl) ?_
      refine lv_bipush (v := 8) hx hb dX3_put_10 (by decide) ?_
      refine lv_icmp_ge (tgt := 101) hx hb dX3_put_12 (by decide) (fun c9 => absurd c9 (nI_ge (a := i) (b := 8) (by omega) (by decide))) (fun _ => ?_)
      refine lv_lload_n hx hb dX3_put_15 rfl (lv_at hl 4 rfl) ?_
      refine lv_bipush (v := 8) hx hb dX3_put_16 (by decide) ?_
      refine lv_iload hx hb dX3_put_18 (lv_at hl 0 rfl) ?_
      refine lv_imul hx hb dX3_put_20 ?_
      refine lv_val (y := nI (8 * i)) ((pk_mul (8) (i))) ?_
      refine lv_lushr (v := lN (N / 2 ^ ((8 * i)))) hx hb dX3_put_21 (by rw [show (nI (8 * i) : Int32) = nI ((8 * i)) from (rfl : nI (8 * i) = nI (8 * i))]; exact wb_shr (by omega) (by omega)) ?_
      refine lv_ldc2 (v := 255) hx hb F.2.2.2.1 (hts _ q1217) dX3_put_22 ?_
      refine lv_land hx hb dX3_put_25 ?_
      refine lv_vall (y := lN ((N / 2 ^ ((8 * i))) % 2 ^ 8)) (wb_mask (k := 8) (Nat.lt_of_le_of_lt (Nat.div_le_self _ _) hN) (by decide)) ?_
      refine lv_l2i (v := nI ((N / 2 ^ ((8 * i))) % 2 ^ 8)) hx hb dX3_put_26 (lN_i _) ?_
      refine lv_val (y := nI (byN N i)) (rfl) ?_
      refine lv_istore (lv' := [(6, .int (nI (byN N i))), (5, .int (nI i)), (3, .int (nI (puN N i).1)), (4, .int (b2i (puN N i).2)), (0, .ref (ad 0)), (1, .long (lN N))]) hx hb dX3_put_27 hl (by decide) rfl (fun ls hl => ?_)
      refine lv_iload hx hb dX3_put_29 (lv_at hl 1 rfl) ?_
      refine lv_if_le (tgt := 50) hx hb dX3_put_31 (by decide) (fun c_7 => ?_) (fun c_7 => ?_)
      · skip
        have he_9 : i = 0 := by have h9 := (nI_leI (a := i) (b := 0) (by omega) (by decide)).mp c_7; omega
        have hen_9 : enN N i = false := by simp [enN, he_9]
        refine lv_iconst (v := 0) hx hb dX3_put_50 (by decide) ?_
        refine lv_istore (lv' := [(7, .int 0), (6, .int (nI (byN N i))), (5, .int (nI i)), (3, .int (nI (puN N i).1)), (4, .int (b2i (puN N i).2)), (0, .ref (ad 0)), (1, .long (lN N))]) hx hb dX3_put_51 hl (by decide) rfl (fun ls hl => ?_)
        refine lv_iload hx hb dX3_put_53 (lv_at hl 4 rfl) ?_
        refine lv_if_ne (tgt := 75) hx hb dX3_put_55 (by decide) (fun c_8 => ?_) (fun c_8 => ?_)
        · skip
          have bc_8 := c_8
          have c_8 := b2i_t c_8
          refine lv_iconst (v := 1) hx hb dX3_put_75 (by decide) ?_
          refine lv_goto (tgt := 80) hx hb dX3_put_76 (by decide) ?_
          refine lv_istore (lv' := [(4, .int 1), (7, .int 0), (6, .int (nI (byN N i))), (5, .int (nI i)), (3, .int (nI (puN N i).1)), (0, .ref (ad 0)), (1, .long (lN N))]) hx hb dX3_put_80 hl (by decide) rfl (fun ls hl => ?_)
          refine lv_iload_n hx hb dX3_put_82 rfl (lv_at hl 4 rfl) ?_
          refine lv_iload hx hb dX3_put_83 (lv_at hl 1 rfl) ?_
          refine lv_if_eq (tgt := 92) hx hb dX3_put_85 (by decide) (fun _ => ?_) (fun c9 => absurd (by decide) c9)
          refine lv_iconst (v := 1) hx hb dX3_put_92 (by decide) ?_
          refine lv_iadd hx hb dX3_put_93 ?_
          refine lv_istore_n (lv' := [(3, .int ((nI (puN N i).1) + 1)), (4, .int 1), (7, .int 0), (6, .int (nI (byN N i))), (5, .int (nI i)), (0, .ref (ad 0)), (1, .long (lN N))]) hx hb dX3_put_94 rfl hl (by decide) rfl (fun ls hl => ?_)
          refine lv_iinc (v := nI (i + 1)) (lv' := [(5, .int (nI (i + 1))), (3, .int ((nI (puN N i).1) + 1)), (4, .int 1), (7, .int 0), (6, .int (nI (byN N i))), (0, .ref (ad 0)), (1, .long (lN N))]) hx hb dX3_put_95 hl (k := 4) rfl (nI_1 _) (by decide) rfl (fun ls hl => ?_)
          refine lv_goto (tgt := 8) hx hb dX3_put_98 (by decide) ?_
          exact ih8 (i + 1) _ _ _ (by omega) (by rw [puN_s]; simp [pust, b2i, nI_1, hen_9, c_8]) (by rw [puN_s]; simp [pust, b2i, nI_1, hen_9, c_8]) rfl ls (lv_sub hl [0, 1, 2, 5, 6] rfl)
        · skip
          have bc_8 := c_8
          have c_8 := b2i_f c_8
          refine lv_iload hx hb dX3_put_58 (lv_at hl 0 rfl) ?_
          refine lv_if_ne (tgt := 79) hx hb dX3_put_60 (by decide) (fun c9 => absurd (by decide) c9) (fun _ => ?_)
          refine lv_iload hx hb dX3_put_63 (lv_at hl 1 rfl) ?_
          refine lv_bipush (v := 33) hx hb dX3_put_65 (by decide) ?_
          refine lv_bipush (v := 126) hx hb dX3_put_67 (by decide) ?_
          refine run_ro (w := .int (b2i (inR (nI (byN N i)) 33 126))) (rest := []) (kS F hW (metX3_in l E H (nI (byN N i)) 33 126) (lw_S q1049 q1050 q52 q1051) hdX3_in ⟨Nat.le_of_ble_eq_true rfl, Nat.le_of_ble_eq_true rfl⟩ hl.1 rfl (Nat.le_of_ble_eq_true rfl) dX3_put_69 ⟨Nat.le_of_ble_eq_true rfl, Nat.le_of_ble_eq_true rfl⟩) ?_
          refine lv_if_ne (tgt := 79) hx hb dX3_put_72 (by decide) (fun c_9 => ?_) (fun c_9 => ?_)
          · skip
            have bc_9 := c_9
            have c_9 := b2i_t c_9
            refine lv_iconst (v := 0) hx hb dX3_put_79 (by decide) ?_
            refine lv_istore (lv' := [(4, .int 0), (7, .int 0), (6, .int (nI (byN N i))), (5, .int (nI i)), (3, .int (nI (puN N i).1)), (0, .ref (ad 0)), (1, .long (lN N))]) hx hb dX3_put_80 hl (by decide) rfl (fun ls hl => ?_)
            refine lv_iload_n hx hb dX3_put_82 rfl (lv_at hl 4 rfl) ?_
            refine lv_iload hx hb dX3_put_83 (lv_at hl 1 rfl) ?_
            refine lv_if_eq (tgt := 92) hx hb dX3_put_85 (by decide) (fun _ => ?_) (fun c9 => absurd (by decide) c9)
            refine lv_iconst (v := 1) hx hb dX3_put_92 (by decide) ?_
            refine lv_iadd hx hb dX3_put_93 ?_
            refine lv_istore_n (lv' := [(3, .int ((nI (puN N i).1) + 1)), (4, .int 0), (7, .int 0), (6, .int (nI (byN N i))), (5, .int (nI i)), (0, .ref (ad 0)), (1, .long (lN N))]) hx hb dX3_put_94 rfl hl (by decide) rfl (fun ls hl => ?_)
            refine lv_iinc (v := nI (i + 1)) (lv' := [(5, .int (nI (i + 1))), (3, .int ((nI (puN N i).1) + 1)), (4, .int 0), (7, .int 0), (6, .int (nI (byN N i))), (0, .ref (ad 0)), (1, .long (lN N))]) hx hb dX3_put_95 hl (k := 4) rfl (nI_1 _) (by decide) rfl (fun ls hl => ?_)
            refine lv_goto (tgt := 8) hx hb dX3_put_98 (by decide) ?_
            exact ih8 (i + 1) _ _ _ (by omega) (by rw [puN_s]; simp [pust, b2i, nI_1, hen_9, c_8, c_9]) (by rw [puN_s]; simp [pust, b2i, nI_1, hen_9, c_8, c_9]) rfl ls (lv_sub hl [0, 1, 2, 5, 6] rfl)
          · skip
            have bc_9 := c_9
            have c_9 := b2i_f c_9
            refine lv_iconst (v := 1) hx hb dX3_put_75 (by decide) ?_
            refine lv_goto (tgt := 80) hx hb dX3_put_76 (by decide) ?_
            refine lv_istore (lv' := [(4, .int 1), (7, .int 0), (6, .int (nI (byN N i))), (5, .int (nI i)), (3, .int (nI (puN N i).1)), (0, .ref (ad 0)), (1, .long (lN N))]) hx hb dX3_put_80 hl (by decide) rfl (fun ls hl => ?_)
            refine lv_iload_n hx hb dX3_put_82 rfl (lv_at hl 4 rfl) ?_
            refine lv_iload hx hb dX3_put_83 (lv_at hl 1 rfl) ?_
            refine lv_if_eq (tgt := 92) hx hb dX3_put_85 (by decide) (fun _ => ?_) (fun c9 => absurd (by decide) c9)
            refine lv_iconst (v := 1) hx hb dX3_put_92 (by decide) ?_
            refine lv_iadd hx hb dX3_put_93 ?_
            refine lv_istore_n (lv' := [(3, .int ((nI (puN N i).1) + 1)), (4, .int 1), (7, .int 0), (6, .int (nI (byN N i))), (5, .int (nI i)), (0, .ref (ad 0)), (1, .long (lN N))]) hx hb dX3_put_94 rfl hl (by decide) rfl (fun ls hl => ?_)
            refine lv_iinc (v := nI (i + 1)) (lv' := [(5, .int (nI (i + 1))), (3, .int ((nI (puN N i).1) + 1)), (4, .int 1), (7, .int 0), (6, .int (nI (byN N i))), (0, .ref (ad 0)), (1, .long (lN N))]) hx hb dX3_put_95 hl (k := 4) rfl (nI_1 _) (by decide) rfl (fun ls hl => ?_)
            refine lv_goto (tgt := 8) hx hb dX3_put_98 (by decide) ?_
            exact ih8 (i + 1) _ _ _ (by omega) (by rw [puN_s]; simp [pust, b2i, nI_1, hen_9, c_8, c_9]) (by rw [puN_s]; simp [pust, b2i, nI_1, hen_9, c_8, c_9]) rfl ls (lv_sub hl [0, 1, 2, 5, 6] rfl)
      · skip
        have hp_9 : 0 < i := Nat.not_le.mp (fun h9 => c_7 ((nI_leI (a := i) (b := 0) (by omega) (by decide)).mpr h9))
        refine lv_lload_n hx hb dX3_put_34 rfl (lv_at hl 5 rfl) ?_
        refine lv_bipush (v := 8) hx hb dX3_put_35 (by decide) ?_
        refine lv_iload hx hb dX3_put_37 (lv_at hl 1 rfl) ?_
        refine lv_imul hx hb dX3_put_39 ?_
        refine lv_val (y := nI (8 * i)) ((pk_mul (8) (i))) ?_
        refine lv_lushr (v := lN (N / 2 ^ ((8 * i)))) hx hb dX3_put_40 (by rw [show (nI (8 * i) : Int32) = nI ((8 * i)) from (rfl : nI (8 * i) = nI (8 * i))]; exact wb_shr (by omega) (by omega)) ?_
        refine lv_lconst (v := 0) hx hb dX3_put_41 (by decide) ?_
        refine W.lcmp hx hb dX3_put_42 ?_
        refine lv_if_ne (tgt := 50) hx hb dX3_put_43 (by decide) (fun c_10 => ?_) (fun c_10 => ?_)
        · skip
          have he_9 : ¬ N / 2 ^ (8 * i) = 0 := lgc_t (Nat.lt_of_le_of_lt (Nat.div_le_self _ _) hN) c_10
          have hen_9 : enN N i = false := by simp [enN, he_9]
          refine lv_iconst (v := 0) hx hb dX3_put_50 (by decide) ?_
          refine lv_istore (lv' := [(7, .int 0), (6, .int (nI (byN N i))), (5, .int (nI i)), (3, .int (nI (puN N i).1)), (4, .int (b2i (puN N i).2)), (0, .ref (ad 0)), (1, .long (lN N))]) hx hb dX3_put_51 hl (by decide) rfl (fun ls hl => ?_)
          refine lv_iload hx hb dX3_put_53 (lv_at hl 4 rfl) ?_
          refine lv_if_ne (tgt := 75) hx hb dX3_put_55 (by decide) (fun c_11 => ?_) (fun c_11 => ?_)
          · skip
            have bc_11 := c_11
            have c_11 := b2i_t c_11
            refine lv_iconst (v := 1) hx hb dX3_put_75 (by decide) ?_
            refine lv_goto (tgt := 80) hx hb dX3_put_76 (by decide) ?_
            refine lv_istore (lv' := [(4, .int 1), (7, .int 0), (6, .int (nI (byN N i))), (5, .int (nI i)), (3, .int (nI (puN N i).1)), (0, .ref (ad 0)), (1, .long (lN N))]) hx hb dX3_put_80 hl (by decide) rfl (fun ls hl => ?_)
            refine lv_iload_n hx hb dX3_put_82 rfl (lv_at hl 4 rfl) ?_
            refine lv_iload hx hb dX3_put_83 (lv_at hl 1 rfl) ?_
            refine lv_if_eq (tgt := 92) hx hb dX3_put_85 (by decide) (fun _ => ?_) (fun c9 => absurd (by decide) c9)
            refine lv_iconst (v := 1) hx hb dX3_put_92 (by decide) ?_
            refine lv_iadd hx hb dX3_put_93 ?_
            refine lv_istore_n (lv' := [(3, .int ((nI (puN N i).1) + 1)), (4, .int 1), (7, .int 0), (6, .int (nI (byN N i))), (5, .int (nI i)), (0, .ref (ad 0)), (1, .long (lN N))]) hx hb dX3_put_94 rfl hl (by decide) rfl (fun ls hl => ?_)
            refine lv_iinc (v := nI (i + 1)) (lv' := [(5, .int (nI (i + 1))), (3, .int ((nI (puN N i).1) + 1)), (4, .int 1), (7, .int 0), (6, .int (nI (byN N i))), (0, .ref (ad 0)), (1, .long (lN N))]) hx hb dX3_put_95 hl (k := 4) rfl (nI_1 _) (by decide) rfl (fun ls hl => ?_)
            refine lv_goto (tgt := 8) hx hb dX3_put_98 (by decide) ?_
            exact ih8 (i + 1) _ _ _ (by omega) (by rw [puN_s]; simp [pust, b2i, nI_1, hen_9, c_11]) (by rw [puN_s]; simp [pust, b2i, nI_1, hen_9, c_11]) rfl ls (lv_sub hl [0, 1, 2, 5, 6] rfl)
          · skip
            have bc_11 := c_11
            have c_11 := b2i_f c_11
            refine lv_iload hx hb dX3_put_58 (lv_at hl 0 rfl) ?_
            refine lv_if_ne (tgt := 79) hx hb dX3_put_60 (by decide) (fun c9 => absurd (by decide) c9) (fun _ => ?_)
            refine lv_iload hx hb dX3_put_63 (lv_at hl 1 rfl) ?_
            refine lv_bipush (v := 33) hx hb dX3_put_65 (by decide) ?_
            refine lv_bipush (v := 126) hx hb dX3_put_67 (by decide) ?_
            refine run_ro (w := .int (b2i (inR (nI (byN N i)) 33 126))) (rest := []) (kS F hW (metX3_in l E H (nI (byN N i)) 33 126) (lw_S q1049 q1050 q52 q1051) hdX3_in ⟨Nat.le_of_ble_eq_true rfl, Nat.le_of_ble_eq_true rfl⟩ hl.1 rfl (Nat.le_of_ble_eq_true rfl) dX3_put_69 ⟨Nat.le_of_ble_eq_true rfl, Nat.le_of_ble_eq_true rfl⟩) ?_
            refine lv_if_ne (tgt := 79) hx hb dX3_put_72 (by decide) (fun c_12 => ?_) (fun c_12 => ?_)
            · skip
              have bc_12 := c_12
              have c_12 := b2i_t c_12
              refine lv_iconst (v := 0) hx hb dX3_put_79 (by decide) ?_
              refine lv_istore (lv' := [(4, .int 0), (7, .int 0), (6, .int (nI (byN N i))), (5, .int (nI i)), (3, .int (nI (puN N i).1)), (0, .ref (ad 0)), (1, .long (lN N))]) hx hb dX3_put_80 hl (by decide) rfl (fun ls hl => ?_)
              refine lv_iload_n hx hb dX3_put_82 rfl (lv_at hl 4 rfl) ?_
              refine lv_iload hx hb dX3_put_83 (lv_at hl 1 rfl) ?_
              refine lv_if_eq (tgt := 92) hx hb dX3_put_85 (by decide) (fun _ => ?_) (fun c9 => absurd (by decide) c9)
              refine lv_iconst (v := 1) hx hb dX3_put_92 (by decide) ?_
              refine lv_iadd hx hb dX3_put_93 ?_
              refine lv_istore_n (lv' := [(3, .int ((nI (puN N i).1) + 1)), (4, .int 0), (7, .int 0), (6, .int (nI (byN N i))), (5, .int (nI i)), (0, .ref (ad 0)), (1, .long (lN N))]) hx hb dX3_put_94 rfl hl (by decide) rfl (fun ls hl => ?_)
              refine lv_iinc (v := nI (i + 1)) (lv' := [(5, .int (nI (i + 1))), (3, .int ((nI (puN N i).1) + 1)), (4, .int 0), (7, .int 0), (6, .int (nI (byN N i))), (0, .ref (ad 0)), (1, .long (lN N))]) hx hb dX3_put_95 hl (k := 4) rfl (nI_1 _) (by decide) rfl (fun ls hl => ?_)
              refine lv_goto (tgt := 8) hx hb dX3_put_98 (by decide) ?_
              exact ih8 (i + 1) _ _ _ (by omega) (by rw [puN_s]; simp [pust, b2i, nI_1, hen_9, c_11, c_12]) (by rw [puN_s]; simp [pust, b2i, nI_1, hen_9, c_11, c_12]) rfl ls (lv_sub hl [0, 1, 2, 5, 6] rfl)
            · skip
              have bc_12 := c_12
              have c_12 := b2i_f c_12
              refine lv_iconst (v := 1) hx hb dX3_put_75 (by decide) ?_
              refine lv_goto (tgt := 80) hx hb dX3_put_76 (by decide) ?_
              refine lv_istore (lv' := [(4, .int 1), (7, .int 0), (6, .int (nI (byN N i))), (5, .int (nI i)), (3, .int (nI (puN N i).1)), (0, .ref (ad 0)), (1, .long (lN N))]) hx hb dX3_put_80 hl (by decide) rfl (fun ls hl => ?_)
              refine lv_iload_n hx hb dX3_put_82 rfl (lv_at hl 4 rfl) ?_
              refine lv_iload hx hb dX3_put_83 (lv_at hl 1 rfl) ?_
              refine lv_if_eq (tgt := 92) hx hb dX3_put_85 (by decide) (fun _ => ?_) (fun c9 => absurd (by decide) c9)
              refine lv_iconst (v := 1) hx hb dX3_put_92 (by decide) ?_
              refine lv_iadd hx hb dX3_put_93 ?_
              refine lv_istore_n (lv' := [(3, .int ((nI (puN N i).1) + 1)), (4, .int 1), (7, .int 0), (6, .int (nI (byN N i))), (5, .int (nI i)), (0, .ref (ad 0)), (1, .long (lN N))]) hx hb dX3_put_94 rfl hl (by decide) rfl (fun ls hl => ?_)
              refine lv_iinc (v := nI (i + 1)) (lv' := [(5, .int (nI (i + 1))), (3, .int ((nI (puN N i).1) + 1)), (4, .int 1), (7, .int 0), (6, .int (nI (byN N i))), (0, .ref (ad 0)), (1, .long (lN N))]) hx hb dX3_put_95 hl (k := 4) rfl (nI_1 _) (by decide) rfl (fun ls hl => ?_)
              refine lv_goto (tgt := 8) hx hb dX3_put_98 (by decide) ?_
              exact ih8 (i + 1) _ _ _ (by omega) (by rw [puN_s]; simp [pust, b2i, nI_1, hen_9, c_11, c_12]) (by rw [puN_s]; simp [pust, b2i, nI_1, hen_9, c_11, c_12]) rfl ls (lv_sub hl [0, 1, 2, 5, 6] rfl)
        · skip
          have he_9 : N / 2 ^ (8 * i) = 0 := (lgc0 (Nat.lt_of_le_of_lt (Nat.div_le_self _ _) hN)).mp c_10
          have hen_9 : enN N i = true := by simp [enN, hp_9, he_9]
          refine lv_iconst (v := 1) hx hb dX3_put_46 (by decide) ?_
          refine lv_goto (tgt := 51) hx hb dX3_put_47 (by decide) ?_
          refine lv_istore (lv' := [(7, .int 1), (6, .int (nI (byN N i))), (5, .int (nI i)), (3, .int (nI (puN N i).1)), (4, .int (b2i (puN N i).2)), (0, .ref (ad 0)), (1, .long (lN N))]) hx hb dX3_put_51 hl (by decide) rfl (fun ls hl => ?_)
          refine lv_iload hx hb dX3_put_53 (lv_at hl 4 rfl) ?_
          refine lv_if_ne (tgt := 75) hx hb dX3_put_55 (by decide) (fun c_13 => ?_) (fun c_13 => ?_)
          · skip
            have bc_13 := c_13
            have c_13 := b2i_t c_13
            refine lv_iconst (v := 1) hx hb dX3_put_75 (by decide) ?_
            refine lv_goto (tgt := 80) hx hb dX3_put_76 (by decide) ?_
            refine lv_istore (lv' := [(4, .int 1), (7, .int 1), (6, .int (nI (byN N i))), (5, .int (nI i)), (3, .int (nI (puN N i).1)), (0, .ref (ad 0)), (1, .long (lN N))]) hx hb dX3_put_80 hl (by decide) rfl (fun ls hl => ?_)
            refine lv_iload_n hx hb dX3_put_82 rfl (lv_at hl 4 rfl) ?_
            refine lv_iload hx hb dX3_put_83 (lv_at hl 1 rfl) ?_
            refine lv_if_eq (tgt := 92) hx hb dX3_put_85 (by decide) (fun c9 => absurd c9 (by decide)) (fun _ => ?_)
            refine lv_iconst (v := 0) hx hb dX3_put_88 (by decide) ?_
            refine lv_goto (tgt := 93) hx hb dX3_put_89 (by decide) ?_
            refine lv_iadd hx hb dX3_put_93 ?_
            refine lv_istore_n (lv' := [(3, .int ((nI (puN N i).1) + 0)), (4, .int 1), (7, .int 1), (6, .int (nI (byN N i))), (5, .int (nI i)), (0, .ref (ad 0)), (1, .long (lN N))]) hx hb dX3_put_94 rfl hl (by decide) rfl (fun ls hl => ?_)
            refine lv_iinc (v := nI (i + 1)) (lv' := [(5, .int (nI (i + 1))), (3, .int ((nI (puN N i).1) + 0)), (4, .int 1), (7, .int 1), (6, .int (nI (byN N i))), (0, .ref (ad 0)), (1, .long (lN N))]) hx hb dX3_put_95 hl (k := 4) rfl (nI_1 _) (by decide) rfl (fun ls hl => ?_)
            refine lv_goto (tgt := 8) hx hb dX3_put_98 (by decide) ?_
            exact ih8 (i + 1) _ _ _ (by omega) (by rw [puN_s]; simp [pust, b2i, nI_1, hen_9, c_13]) (by rw [puN_s]; simp [pust, b2i, nI_1, hen_9, c_13]) rfl ls (lv_sub hl [0, 1, 2, 5, 6] rfl)
          · skip
            have bc_13 := c_13
            have c_13 := b2i_f c_13
            refine lv_iload hx hb dX3_put_58 (lv_at hl 0 rfl) ?_
            refine lv_if_ne (tgt := 79) hx hb dX3_put_60 (by decide) (fun _ => ?_) (fun c9 => absurd c9 (by decide))
            refine lv_iconst (v := 0) hx hb dX3_put_79 (by decide) ?_
            refine lv_istore (lv' := [(4, .int 0), (7, .int 1), (6, .int (nI (byN N i))), (5, .int (nI i)), (3, .int (nI (puN N i).1)), (0, .ref (ad 0)), (1, .long (lN N))]) hx hb dX3_put_80 hl (by decide) rfl (fun ls hl => ?_)
            refine lv_iload_n hx hb dX3_put_82 rfl (lv_at hl 4 rfl) ?_
            refine lv_iload hx hb dX3_put_83 (lv_at hl 1 rfl) ?_
            refine lv_if_eq (tgt := 92) hx hb dX3_put_85 (by decide) (fun c9 => absurd c9 (by decide)) (fun _ => ?_)
            refine lv_iconst (v := 0) hx hb dX3_put_88 (by decide) ?_
            refine lv_goto (tgt := 93) hx hb dX3_put_89 (by decide) ?_
            refine lv_iadd hx hb dX3_put_93 ?_
            refine lv_istore_n (lv' := [(3, .int ((nI (puN N i).1) + 0)), (4, .int 0), (7, .int 1), (6, .int (nI (byN N i))), (5, .int (nI i)), (0, .ref (ad 0)), (1, .long (lN N))]) hx hb dX3_put_94 rfl hl (by decide) rfl (fun ls hl => ?_)
            refine lv_iinc (v := nI (i + 1)) (lv' := [(5, .int (nI (i + 1))), (3, .int ((nI (puN N i).1) + 0)), (4, .int 0), (7, .int 1), (6, .int (nI (byN N i))), (0, .ref (ad 0)), (1, .long (lN N))]) hx hb dX3_put_95 hl (k := 4) rfl (nI_1 _) (by decide) rfl (fun ls hl => ?_)
            refine lv_goto (tgt := 8) hx hb dX3_put_98 (by decide) ?_
            exact ih8 (i + 1) _ _ _ (by omega) (by rw [puN_s]; simp [pust, b2i, nI_1, hen_9, c_13]) (by rw [puN_s]; simp [pust, b2i, nI_1, hen_9, c_13]) rfl ls (lv_sub hl [0, 1, 2, 5, 6] rfl)
  exact loop8 (8 - 0) 0 _ _ _ (by omega) rfl rfl rfl  ls (lv_sub hl [0, 2, 1, 3, 4] rfl)

theorem hdX3_init : Hd yX3_init 0 := by decide +kernel
set_option maxHeartbeats 1000000 in
set_option maxRecDepth 100000 in
theorem metX3_init (l : Launch) (E : EV) (H : Heap) (q : Nat) (hq : oat E q 3 [.null, .null, .int 0, .null, .null, .null, .int 0, .null, .int 0] H) (hq0 : Old E q) : Ct l yX3_init cX3_init 1 none 1 12 (6) (1588) [.ref q] E H (fun x => x = q ∨ H.size ≤ x) (pN (fun H1 => ∃ ad : Nat → Nat, ad 0 = q ∧ MPx E ad (fun _ => 0) (fun _ => 0) (fun _ => 0) (fun _ => 0) (fun _ => 0) 0 0 0 H1 ∧ TW E ad ∧ ∀ i, 1 ≤ i → i < 7 → H.size ≤ ad i)) := by
  have hql := hq.lt
  refine Ct.ofV (by decide) (Nat.le_of_ble_eq_true rfl) ?_
  intro p e s m bl mt cd ls Q hF hW hH hl hend
  obtain ⟨F, hin⟩ := hF
  have hx := F.1
  have hb := F.2.1
  have hts := F.2.2.2.2
  have hl : lv_has ls 1 [(0, .ref q)] := hl
  have hS : va_S (fun x => x = q ∨ H.size ≤ x) H H [] := va_S.rf
  refine lv_aload_n hx hb dX3_init_0 rfl (lv_at hl 0 rfl) ?_
  refine W.objInit hx hb F.2.2.2.1 (hts _ q1015) (hts _ q71) (hts _ q72) rfl (by rw [F.2.2.1]; exact hl.1) rfl dX3_init_1 (Nat.le_of_ble_eq_true rfl) (Nat.le_of_ble_eq_true rfl) ?_
  refine W.eq (g2 := F0 m 4 ls []) rfl ?_
  refine lv_aload_n hx hb dX3_init_4 rfl (lv_at hl 0 rfl) ?_
  refine lv_sipush (v := 169) hx hb dX3_init_5 (by decide) ?_
  refine xnewa (atype := .int) F q140 rfl hW hS 0 rfl (fun _ h => h) rfl (N' := 169) (by rw [show (169 : Int32) = nI (169) from (rfl : (169 : Int32) = nI 169)]; exact nI_pos (by omega)) (cl_eq (n := 169) (rfl : (169 : Int32) = nI 169) (by omega)) (by show 169 * 4 ≤ 536870912; omega) (by show 0 + 1 ≤ 6; omega) (by show 0 + 169 ≤ 1588; omega) dX3_init_8 (fun H_1 ho_1 hp_1 hS_1 => ?_)
  have hz_H_1 : H_1.size = H.size + 1 := hp_1.1
  have hW_H_1 := hW.kept (hp_1.chg (A := fun _ => False)) (fun _ _ h9 => h9.elim)
  have hq_H_1 := hq.kept (hp_1.chg (A := fun _ => False)) (fun h9 => h9)
  refine xputF (ref := "LayeredChartersModel") (ci := 3) (v := .ref H.size) (C := RX3) (T := TX3) (N := 9) F in_X3 tyX3 tyX3_ok nmX3 hW_H_1 hq_H_1 hS_1 (Or.inl rfl) rfl 0 (by decide) q1016 (fun _ h9 => h9) rfl hin rfl rfl rfl (Nat.le_of_ble_eq_true rfl) dX3_init_10 (fun H_2 locs ho_2 hu_2 hS_2 => ?_)
  have ho_2 : oat E q 3 [.ref H.size, .null, .int 0, .null, .null, .null, .int 0, .null, .int 0] H_2 := ho_2
  have hz_H_2 : H_2.size = H_1.size := hu_2.1
  have hW_H_2 := hW_H_1.kept hu_2.chg (fun q _ hq => hq ▸ hq0)
  have hx1_H_2 := ho_1.kept hu_2.chg (by intro h9; have h9 : H.size = q := h9; omega)
  refine lv_aload_n hx hb dX3_init_13 rfl (lv_at hl 0 rfl) ?_
  refine lv_sipush (v := 1014) hx hb dX3_init_14 (by decide) ?_
  refine xnewa (atype := .int) F q140 rfl hW_H_2 hS_2 0 rfl (fun _ h => h) rfl (N' := 1014) (by rw [show (1014 : Int32) = nI (1014) from (rfl : (1014 : Int32) = nI 1014)]; exact nI_pos (by omega)) (cl_eq (n := 1014) (rfl : (1014 : Int32) = nI 1014) (by omega)) (by show 1014 * 4 ≤ 536870912; omega) (by show 1 + 1 ≤ 6; omega) (by show 169 + 1014 ≤ 1588; omega) dX3_init_17 (fun H_3 ho_3 hp_3 hS_3 => ?_)
  have hz_H_3 : H_3.size = H_2.size + 1 := hp_3.1
  have hW_H_3 := hW_H_2.kept (hp_3.chg (A := fun _ => False)) (fun _ _ h9 => h9.elim)
  have hx2_H_3 := ho_2.kept (hp_3.chg (A := fun _ => False)) (fun h9 => h9)
  have hx1_H_3 := hx1_H_2.kept (hp_3.chg (A := fun _ => False)) (fun h9 => h9)
  refine xputF (ref := "LayeredChartersModel") (ci := 3) (v := .ref H_2.size) (C := RX3) (T := TX3) (N := 9) F in_X3 tyX3 tyX3_ok nmX3 hW_H_3 hx2_H_3 hS_3 (Or.inl rfl) rfl 1 (by decide) q1017 (fun _ h9 => h9) rfl hin rfl rfl rfl (Nat.le_of_ble_eq_true rfl) dX3_init_19 (fun H_4 locs ho_4 hu_4 hS_4 => ?_)
  have ho_4 : oat E q 3 [.ref H.size, .ref H_2.size, .int 0, .null, .null, .null, .int 0, .null, .int 0] H_4 := ho_4
  have hz_H_4 : H_4.size = H_3.size := hu_4.1
  have hW_H_4 := hW_H_3.kept hu_4.chg (fun q _ hq => hq ▸ hq0)
  have hx1_H_4 := hx1_H_3.kept hu_4.chg (by intro h9; have h9 : H.size = q := h9; omega)
  have hx3_H_4 := ho_3.kept hu_4.chg (by intro h9; have h9 : H_2.size = q := h9; omega)
  refine lv_aload_n hx hb dX3_init_22 rfl (lv_at hl 0 rfl) ?_
  refine lv_sipush (v := 338) hx hb dX3_init_23 (by decide) ?_
  refine xnewa (atype := .int) F q140 rfl hW_H_4 hS_4 0 rfl (fun _ h => h) rfl (N' := 338) (by rw [show (338 : Int32) = nI (338) from (rfl : (338 : Int32) = nI 338)]; exact nI_pos (by omega)) (cl_eq (n := 338) (rfl : (338 : Int32) = nI 338) (by omega)) (by show 338 * 4 ≤ 536870912; omega) (by show 2 + 1 ≤ 6; omega) (by show 1183 + 338 ≤ 1588; omega) dX3_init_26 (fun H_5 ho_5 hp_5 hS_5 => ?_)
  have hz_H_5 : H_5.size = H_4.size + 1 := hp_5.1
  have hW_H_5 := hW_H_4.kept (hp_5.chg (A := fun _ => False)) (fun _ _ h9 => h9.elim)
  have hx4_H_5 := ho_4.kept (hp_5.chg (A := fun _ => False)) (fun h9 => h9)
  have hx1_H_5 := hx1_H_4.kept (hp_5.chg (A := fun _ => False)) (fun h9 => h9)
  have hx3_H_5 := hx3_H_4.kept (hp_5.chg (A := fun _ => False)) (fun h9 => h9)
  refine xputF (ref := "LayeredChartersModel") (ci := 3) (v := .ref H_4.size) (C := RX3) (T := TX3) (N := 9) F in_X3 tyX3 tyX3_ok nmX3 hW_H_5 hx4_H_5 hS_5 (Or.inl rfl) rfl 3 (by decide) q1019 (fun _ h9 => h9) rfl hin rfl rfl rfl (Nat.le_of_ble_eq_true rfl) dX3_init_28 (fun H_6 locs ho_6 hu_6 hS_6 => ?_)
  have ho_6 : oat E q 3 [.ref H.size, .ref H_2.size, .int 0, .ref H_4.size, .null, .null, .int 0, .null, .int 0] H_6 := ho_6
  have hz_H_6 : H_6.size = H_5.size := hu_6.1
  have hW_H_6 := hW_H_5.kept hu_6.chg (fun q _ hq => hq ▸ hq0)
  have hx1_H_6 := hx1_H_5.kept hu_6.chg (by intro h9; have h9 : H.size = q := h9; omega)
  have hx3_H_6 := hx3_H_5.kept hu_6.chg (by intro h9; have h9 : H_2.size = q := h9; omega)
  have hx5_H_6 := ho_5.kept hu_6.chg (by intro h9; have h9 : H_4.size = q := h9; omega)
  refine lv_aload_n hx hb dX3_init_31 rfl (lv_at hl 0 rfl) ?_
  refine lv_iconst (v := 2) hx hb dX3_init_32 (by decide) ?_
  refine xnewa (atype := .boolean) F q1044 rfl hW_H_6 hS_6 2 rfl (fun _ h => h) rfl (N' := 2) (by rw [show (2 : Int32) = nI (2) from (rfl : (2 : Int32) = nI 2)]; exact nI_pos (by omega)) (cl_eq (n := 2) (rfl : (2 : Int32) = nI 2) (by omega)) (by show 2 * 1 ≤ 536870912; omega) (by show 3 + 1 ≤ 6; omega) (by show 1521 + 2 ≤ 1588; omega) dX3_init_33 (fun H_7 ho_7 hp_7 hS_7 => ?_)
  have hz_H_7 : H_7.size = H_6.size + 1 := hp_7.1
  have hW_H_7 := hW_H_6.kept (hp_7.chg (A := fun _ => False)) (fun _ _ h9 => h9.elim)
  have hx6_H_7 := ho_6.kept (hp_7.chg (A := fun _ => False)) (fun h9 => h9)
  have hx1_H_7 := hx1_H_6.kept (hp_7.chg (A := fun _ => False)) (fun h9 => h9)
  have hx3_H_7 := hx3_H_6.kept (hp_7.chg (A := fun _ => False)) (fun h9 => h9)
  have hx5_H_7 := hx5_H_6.kept (hp_7.chg (A := fun _ => False)) (fun h9 => h9)
  refine xputF (ref := "LayeredChartersModel") (ci := 3) (v := .ref H_6.size) (C := RX3) (T := TX3) (N := 9) F in_X3 tyX3 tyX3_ok nmX3 hW_H_7 hx6_H_7 hS_7 (Or.inl rfl) rfl 4 (by decide) q1020 (fun _ h9 => h9) rfl hin rfl rfl rfl (Nat.le_of_ble_eq_true rfl) dX3_init_35 (fun H_8 locs ho_8 hu_8 hS_8 => ?_)
  have ho_8 : oat E q 3 [.ref H.size, .ref H_2.size, .int 0, .ref H_4.size, .ref H_6.size, .null, .int 0, .null, .int 0] H_8 := ho_8
  have hz_H_8 : H_8.size = H_7.size := hu_8.1
  have hW_H_8 := hW_H_7.kept hu_8.chg (fun q _ hq => hq ▸ hq0)
  have hx1_H_8 := hx1_H_7.kept hu_8.chg (by intro h9; have h9 : H.size = q := h9; omega)
  have hx3_H_8 := hx3_H_7.kept hu_8.chg (by intro h9; have h9 : H_2.size = q := h9; omega)
  have hx5_H_8 := hx5_H_7.kept hu_8.chg (by intro h9; have h9 : H_4.size = q := h9; omega)
  have hx7_H_8 := ho_7.kept hu_8.chg (by intro h9; have h9 : H_6.size = q := h9; omega)
  refine lv_aload_n hx hb dX3_init_38 rfl (lv_at hl 0 rfl) ?_
  refine lv_bipush (v := 60) hx hb dX3_init_39 (by decide) ?_
  refine xnewa (atype := .int) F q140 rfl hW_H_8 hS_8 0 rfl (fun _ h => h) rfl (N' := 60) (by rw [show (60 : Int32) = nI (60) from (rfl : (60 : Int32) = nI 60)]; exact nI_pos (by omega)) (cl_eq (n := 60) (rfl : (60 : Int32) = nI 60) (by omega)) (by show 60 * 4 ≤ 536870912; omega) (by show 4 + 1 ≤ 6; omega) (by show 1523 + 60 ≤ 1588; omega) dX3_init_41 (fun H_9 ho_9 hp_9 hS_9 => ?_)
  have hz_H_9 : H_9.size = H_8.size + 1 := hp_9.1
  have hW_H_9 := hW_H_8.kept (hp_9.chg (A := fun _ => False)) (fun _ _ h9 => h9.elim)
  have hx8_H_9 := ho_8.kept (hp_9.chg (A := fun _ => False)) (fun h9 => h9)
  have hx1_H_9 := hx1_H_8.kept (hp_9.chg (A := fun _ => False)) (fun h9 => h9)
  have hx3_H_9 := hx3_H_8.kept (hp_9.chg (A := fun _ => False)) (fun h9 => h9)
  have hx5_H_9 := hx5_H_8.kept (hp_9.chg (A := fun _ => False)) (fun h9 => h9)
  have hx7_H_9 := hx7_H_8.kept (hp_9.chg (A := fun _ => False)) (fun h9 => h9)
  refine xputF (ref := "LayeredChartersModel") (ci := 3) (v := .ref H_8.size) (C := RX3) (T := TX3) (N := 9) F in_X3 tyX3 tyX3_ok nmX3 hW_H_9 hx8_H_9 hS_9 (Or.inl rfl) rfl 5 (by decide) q1021 (fun _ h9 => h9) rfl hin rfl rfl rfl (Nat.le_of_ble_eq_true rfl) dX3_init_43 (fun H_10 locs ho_10 hu_10 hS_10 => ?_)
  have ho_10 : oat E q 3 [.ref H.size, .ref H_2.size, .int 0, .ref H_4.size, .ref H_6.size, .ref H_8.size, .int 0, .null, .int 0] H_10 := ho_10
  have hz_H_10 : H_10.size = H_9.size := hu_10.1
  have hW_H_10 := hW_H_9.kept hu_10.chg (fun q _ hq => hq ▸ hq0)
  have hx1_H_10 := hx1_H_9.kept hu_10.chg (by intro h9; have h9 : H.size = q := h9; omega)
  have hx3_H_10 := hx3_H_9.kept hu_10.chg (by intro h9; have h9 : H_2.size = q := h9; omega)
  have hx5_H_10 := hx5_H_9.kept hu_10.chg (by intro h9; have h9 : H_4.size = q := h9; omega)
  have hx7_H_10 := hx7_H_9.kept hu_10.chg (by intro h9; have h9 : H_6.size = q := h9; omega)
  have hx9_H_10 := ho_9.kept hu_10.chg (by intro h9; have h9 : H_8.size = q := h9; omega)
  refine lv_aload_n hx hb dX3_init_46 rfl (lv_at hl 0 rfl) ?_
  refine lv_iconst (v := 5) hx hb dX3_init_47 (by decide) ?_
  refine xnewa (atype := .int) F q140 rfl hW_H_10 hS_10 0 rfl (fun _ h => h) rfl (N' := 5) (by rw [show (5 : Int32) = nI (5) from (rfl : (5 : Int32) = nI 5)]; exact nI_pos (by omega)) (cl_eq (n := 5) (rfl : (5 : Int32) = nI 5) (by omega)) (by show 5 * 4 ≤ 536870912; omega) (by show 5 + 1 ≤ 6; omega) (by show 1583 + 5 ≤ 1588; omega) dX3_init_48 (fun H_11 ho_11 hp_11 hS_11 => ?_)
  have hz_H_11 : H_11.size = H_10.size + 1 := hp_11.1
  have hW_H_11 := hW_H_10.kept (hp_11.chg (A := fun _ => False)) (fun _ _ h9 => h9.elim)
  have hx10_H_11 := ho_10.kept (hp_11.chg (A := fun _ => False)) (fun h9 => h9)
  have hx1_H_11 := hx1_H_10.kept (hp_11.chg (A := fun _ => False)) (fun h9 => h9)
  have hx3_H_11 := hx3_H_10.kept (hp_11.chg (A := fun _ => False)) (fun h9 => h9)
  have hx5_H_11 := hx5_H_10.kept (hp_11.chg (A := fun _ => False)) (fun h9 => h9)
  have hx7_H_11 := hx7_H_10.kept (hp_11.chg (A := fun _ => False)) (fun h9 => h9)
  have hx9_H_11 := hx9_H_10.kept (hp_11.chg (A := fun _ => False)) (fun h9 => h9)
  refine xputF (ref := "LayeredChartersModel") (ci := 3) (v := .ref H_10.size) (C := RX3) (T := TX3) (N := 9) F in_X3 tyX3 tyX3_ok nmX3 hW_H_11 hx10_H_11 hS_11 (Or.inl rfl) rfl 7 (by decide) q1023 (fun _ h9 => h9) rfl hin rfl rfl rfl (Nat.le_of_ble_eq_true rfl) dX3_init_50 (fun H_12 locs ho_12 hu_12 hS_12 => ?_)
  have ho_12 : oat E q 3 [.ref H.size, .ref H_2.size, .int 0, .ref H_4.size, .ref H_6.size, .ref H_8.size, .int 0, .ref H_10.size, .int 0] H_12 := ho_12
  have hz_H_12 : H_12.size = H_11.size := hu_12.1
  have hW_H_12 := hW_H_11.kept hu_12.chg (fun q _ hq => hq ▸ hq0)
  have hx1_H_12 := hx1_H_11.kept hu_12.chg (by intro h9; have h9 : H.size = q := h9; omega)
  have hx3_H_12 := hx3_H_11.kept hu_12.chg (by intro h9; have h9 : H_2.size = q := h9; omega)
  have hx5_H_12 := hx5_H_11.kept hu_12.chg (by intro h9; have h9 : H_4.size = q := h9; omega)
  have hx7_H_12 := hx7_H_11.kept hu_12.chg (by intro h9; have h9 : H_6.size = q := h9; omega)
  have hx9_H_12 := hx9_H_11.kept hu_12.chg (by intro h9; have h9 : H_8.size = q := h9; omega)
  have hx11_H_12 := ho_11.kept hu_12.chg (by intro h9; have h9 : H_10.size = q := h9; omega)
  exact hend _ _ _ _ _ _ dX3_init_53 (⟨rfl, fun i => ([q, H.size, H_2.size, H_4.size, H_6.size, H_8.size, H_10.size]).getD i 0, rfl, ⟨_, ho_12, hx1_H_12, hx3_H_12, hx5_H_12, hx7_H_12, hx9_H_12, hx11_H_12⟩, ⟨adinj (by omega) (by omega) (by omega) (by omega) (by omega) (by omega), adold hq0 (by omega) (by omega) (by omega) (by omega) (by omega) (by omega) (by omega)⟩, adnew (by omega) (by omega) (by omega) (by omega) (by omega) (by omega)⟩) hS_12 (by first | exact Nat.le_refl _ | (show _ ≤ _; omega)) (by first | exact Nat.le_refl _ | (show _ ≤ _; omega))

