/-! THE TWIN: the strongest waivers, the least rank, and what stands on it -/
set_option maxRecDepth 100000
/-- the twin's seven cells -/
def MP (E : EV) (ad : Nat → Nat) (f hst sl z pd g : Nat → Int32) (kept len told : Int32) (H : Heap) : Prop :=
  oat E (ad 0) 3 (mfs ad kept len told) H ∧ iat E (ad 1) 0 169 f H ∧ iat E (ad 2) 0 1014 hst H ∧ iat E (ad 3) 0 338 sl H ∧ iat E (ad 4) 2 2 z H ∧ iat E (ad 5) 0 60 pd H ∧ iat E (ad 6) 0 5 g H
/-- the same, whatever the scratch array holds -/
def MPx (E : EV) (ad : Nat → Nat) (f hst sl z pd : Nat → Int32) (kept len told : Int32) (H : Heap) : Prop := ∃ g, MP E ad f hst sl z pd g kept len told H
/-- the cells are apart, and new -/
def TW (E : EV) (ad : Nat → Nat) : Prop := (∀ i j, i < 7 → j < 7 → ad i = ad j → i = j) ∧ ∀ i, i < 7 → Old E (ad i)
def TA (ad : Nat → Nat) : Nat → Prop := fun q => ∃ i, i < 7 ∧ q = ad i
theorem TW.old {E : EV} {ad : Nat → Nat} (h : TW E ad) {H : Heap} : ∀ q, q < H.size → TA ad q → Old E q := fun q _ ⟨i, hi, e⟩ => e ▸ h.2 i hi
def ix (v : Int32) : Nat := v.toNatClampNeg
theorem upd_ag {g g' : Nat → Int32} {m k : Nat} {x x' : Int32} (h : ∀ l, l < m → g l = g' l) (hx : k < m → x = x') : ∀ l, l < m → upd g k x l = upd g' k x' l := by
  intro l hl
  unfold upd
  by_cases e : l = k
  · rw [if_pos e, if_pos e]; exact hx (e ▸ hl)
  · rw [if_neg e, if_neg e]; exact h l hl
def lsAst (layer sv : Int32) (l : Nat) (g : Nat → Int32) : Nat → Int32 := upd g l (if nI l = layer then sv else 0)
def lsA (layer sv : Int32) (g : Nat → Int32) (i : Nat) : Nat → Int32 := foldN (lsAst layer sv) g i
theorem lsA_s {layer sv : Int32} {g : Nat → Int32} {i : Nat} : lsA layer sv g (i + 1) = upd (lsA layer sv g i) i (if nI i = layer then sv else 0) := rfl
def lsBst (ru : Nat → RV) (c d but : Int32) (r : Nat) (g : Nat → Int32) : Nat → Int32 :=
  if nI r = but then g else if (ru r).2.1 = 2 then (if fitsV (ru r) c d = true then upd g (ix (ru r).1) (if (ru r).2.2.2.2 ≤ g (ix (ru r).1) then g (ix (ru r).1) else (ru r).2.2.2.2) else g) else g
def lsB (ru : Nat → RV) (c d but : Int32) (g : Nat → Int32) (i : Nat) : Nat → Int32 := foldN (lsBst ru c d but) g i
theorem lsB_s {ru : Nat → RV} {c d but : Int32} {g : Nat → Int32} {i : Nat} : lsB ru c d but g (i + 1) = lsBst ru c d but i (lsB ru c d but g i) := rfl
def lsCst (l : Nat) (g : Nat → Int32) : Nat → Int32 := if l = 0 then g else upd g l (if g (l - 1) ≤ g l then g l else g (l - 1))
def lsC (g : Nat → Int32) (i : Nat) : Nat → Int32 := foldN lsCst g i
theorem lsC_s {g : Nat → Int32} {i : Nat} : lsC g (i + 1) = lsCst i (lsC g i) := rfl
/-- the strongest waiver of each layer and those outside it -/
def lsM (ru : Nat → RV) (n : Nat) (c d but layer sv : Int32) : Nat → Int32 := lsC (lsB ru c d but (lsA layer sv (fun _ => 0) 5) n) 5
theorem fold_ag {st : Nat → (Nat → Int32) → Nat → Int32} {m : Nat} (hst : ∀ r g g', (∀ l, l < m → g l = g' l) → ∀ l, l < m → st r g l = st r g' l) : ∀ (n : Nat) (g g' : Nat → Int32), (∀ l, l < m → g l = g' l) → ∀ l, l < m → foldN st g n l = foldN st g' n l
  | 0, _, _, h => h
  | n + 1, g, g', h => hst n _ _ (fold_ag hst n g g' h)
theorem lsA_ag {layer sv : Int32} {g g' : Nat → Int32} : ∀ i l, l < i → lsA layer sv g i l = lsA layer sv g' i l := by
  intro i
  induction i with
  | zero => intro l h; omega
  | succ i ih =>
    intro l h
    rw [lsA_s, lsA_s]
    unfold upd
    by_cases e : l = i
    · rw [if_pos e, if_pos e]
    · rw [if_neg e, if_neg e]; exact ih l (by omega)
theorem lsM_ag {ru : Nat → RV} {n : Nat} {c d but layer sv : Int32} {g : Nat → Int32} : ∀ l, l < 5 → lsC (lsB ru c d but (lsA layer sv g 5) n) 5 l = lsM ru n c d but layer sv l := by
  refine fold_ag (fun r g g' h => ?_) 5 _ _ (fold_ag (fun r g g' h => ?_) n _ _ (lsA_ag 5))
  · unfold lsCst
    by_cases e : r = 0
    · rw [if_pos e, if_pos e]; exact h
    · rw [if_neg e, if_neg e]
      exact upd_ag h (fun hr => by rw [h r hr, h (r - 1) (by omega)])
  · unfold lsBst
    by_cases e : nI r = but
    · rw [if_pos e, if_pos e]; exact h
    · rw [if_neg e, if_neg e]
      by_cases e2 : (ru r).2.1 = 2
      · rw [if_pos e2, if_pos e2]
        by_cases e3 : fitsV (ru r) c d = true
        · rw [if_pos e3, if_pos e3]
          exact upd_ag h (fun hr => by rw [h _ hr])
        · rw [if_neg e3, if_neg e3]; exact h
      · rw [if_neg e2, if_neg e2]; exact h
def hoM (ru : Nat → RV) (c d but : Int32) (G : Nat → Int32) (r : Nat) : Bool := !decide (nI r = but) && (decide ((ru r).2.1 = 1) && (fitsV (ru r) c d && !decide ((ru r).2.2.2.2 ≤ G (ix (ru r).1))))
def lmst (ru : Nat → RV) (c d but : Int32) (G : Nat → Int32) (r : Nat) (a : Int32) : Int32 := if hoM ru c d but G r = true then (if (ru r).2.2.2.2 ≤ a then a else (ru r).2.2.2.2) else a
def lmM (ru : Nat → RV) (c d but : Int32) (G : Nat → Int32) (i : Nat) : Int32 := foldN (lmst ru c d but G) 0 i
theorem lmM_s {ru : Nat → RV} {c d but : Int32} {G : Nat → Int32} {i : Nat} : lmM ru c d but G (i + 1) = lmst ru c d but G i (lmM ru c d but G i) := rfl
/-- the least rank -/
def leastM (ru : Nat → RV) (n : Nat) (c d but layer sv : Int32) : Int32 := if pmM ru c d but n = true then lmM ru c d but (lsM ru n c d but layer sv) n else 10
theorem vin_lt {x : Int32} {n : Nat} (h : vp_in x n) : ix x < n := Nat.not_le.mp fun q => h (Or.inr q)
/-- the triples allowed, summed over craft and deed -/
def trst (ru : Nat → RV) (n : Nat) (but layer sv : Int32) (k : Nat) (a : Int32) : Int32 := a + (10 - leastM ru n (nI (k / 6)) (nI (k % 6)) but layer sv)
def trM (ru : Nat → RV) (n : Nat) (but layer sv : Int32) (i : Nat) : Int32 := foldN (trst ru n but layer sv) 0 i
def idst (ru : Nat → RV) (n : Nat) (r : Int32) (k : Nat) (a : Bool) : Bool := a && decide (leastM ru n (nI (k / 6)) (nI (k % 6)) (-6) (-6) 0 = leastM ru n (nI (k / 6)) (nI (k % 6)) r (-6) 0)
def idM (ru : Nat → RV) (n : Nat) (r : Int32) (i : Nat) : Bool := foldN (idst ru n r) true i
theorem idM_s {ru : Nat → RV} {n : Nat} {r : Int32} {i : Nat} : idM ru n r (i + 1) = idst ru n r i (idM ru n r i) := rfl
theorem idM_f {ru : Nat → RV} {n : Nat} {r : Int32} {i j : Nat} (h : idM ru n r i = false) (hj : i ≤ j) : idM ru n r j = false := by
  induction j with
  | zero => rw [show i = 0 by omega] at h; exact h
  | succ j ih =>
    rcases Nat.lt_or_ge i (j + 1) with q | q
    · rw [idM_s, idst, ih (by omega)]; rfl
    · rw [show i = j + 1 by omega] at h; exact h
/-- the first idle rule from i on; none -/
def fiF (ru : Nat → RV) (n : Nat) : Nat → Nat → Int32
  | 0, _ => -6
  | k + 1, i => if idM ru n (nI i) 30 = true then nI i else fiF ru n k (i + 1)
def fiM (ru : Nat → RV) (n : Nat) : Int32 := fiF ru n n 0
theorem fiF_skip {ru : Nat → RV} {n : Nat} : ∀ (k j i : Nat), (∀ x, x < i → idM ru n (nI x) 30 = false) → j ≤ i → i = j + k → ∀ m, fiF ru n (k + m) j = fiF ru n m i
  | 0, j, i, _, _, e, m => by rw [Nat.zero_add, show j = i by omega]
  | k + 1, j, i, h, hj, e, m => by
    rw [show k + 1 + m = (k + m) + 1 by omega]
    show (if idM ru n (nI j) 30 = true then nI j else fiF ru n (k + m) (j + 1)) = _
    rw [if_neg (by rw [h j (by omega)]; decide)]
    exact fiF_skip k (j + 1) i h (by omega) (by omega) m
theorem fiM_none {ru : Nat → RV} {n : Nat} (h : ∀ j, j < n → idM ru n (nI j) 30 = false) : fiM ru n = -6 := by
  have := fiF_skip (ru := ru) (n := n) n 0 n h (by omega) (by omega) 0
  exact this
theorem fiM_some {ru : Nat → RV} {n i : Nat} (hi : i < n) (ht : idM ru n (nI i) 30 = true) (h : ∀ j, j < i → idM ru n (nI j) 30 = false) : fiM ru n = nI i := by
  have e := fiF_skip (ru := ru) (n := n) i 0 i h (by omega) (by omega) (n - i)
  rw [show i + (n - i) = n by omega] at e
  show fiF ru n n 0 = _
  rw [e, show n - i = (n - i - 1) + 1 by omega]
  show (if idM ru n (nI i) 30 = true then nI i else _) = _
  rw [if_pos ht]
theorem hdX3_layStrong : Hd yX3_layStrong 5 := by decide +kernel
set_option maxHeartbeats 1000000 in
set_option maxRecDepth 100000 in
theorem metX3_layStrong (l : Launch) (E : EV) (H : Heap) (ad : Nat → Nat) (f hst sl z pd : Nat → Int32) (kept len told : Int32) (hM : MPx E ad f hst sl z pd kept len told H) (hT : TW E ad) (n : Nat) (hn0 : f 0 = nI n) (hn24 : n ≤ 24) (hv : ∀ i, i < n → vp_in (ruA f i).1 5) (c d but layer sv : Int32) : Ct l yX3_layStrong cX3_layStrong 8 none 3 66 (0) (0) [.ref (ad 0), .int c, .int d, .int but, .int layer, .int sv] E H (TA ad) (pN (fun H1 => ∃ g', MP E ad f hst sl z pd g' kept len told H1 ∧ ∀ l, l < 5 → g' l = lsM (ruA f) n c d but layer sv l)) := by
  obtain ⟨g, k0, k1, k2, k3, k4, k5, k6⟩ := hM
  refine Ct.ofV (by decide) (Nat.le_of_ble_eq_true rfl) ?_
  intro p e s m bl mt cd ls Q hF hW hH hl hend
  obtain ⟨F, hin⟩ := hF
  have hx := F.1
  have hb := F.2.1
  have hts := F.2.2.2.2
  have hl : lv_has ls 8 [(0, .ref (ad 0)), (1, .int c), (2, .int d), (3, .int but), (4, .int layer), (5, .int sv)] := hl
  have hS : va_S (TA ad) H H [] := va_S.rf
  refine lv_iconst (v := 0) hx hb dX3_layStrong_0 (by decide) ?_
  refine lv_istore (lv' := [(6, .int 0), (0, .ref (ad 0)), (1, .int c), (2, .int d), (3, .int but), (4, .int layer), (5, .int sv)]) hx hb dX3_layStrong_1 hl (by decide) rfl (fun ls hl => ?_)
  have loop3 : ∀ (nn i : Nat) (x6 : Int32), i + nn = 5 → x6 = nI i → ∀ (Hl_3 : Heap) (locs : List Loc), va_S (TA ad) H Hl_3 locs → WK E s Hl_3 → MP E ad f hst sl z pd (lsA layer sv g i) kept len told Hl_3 → ∀ ls : Array Slot, lv_has ls 8 [(6, .int x6), (0, .ref (ad 0)), (1, .int c), (2, .int d), (3, .int but), (4, .int layer), (5, .int sv)] → W p l e ({ frames := 3, cells := 0, slots := 0, locals := 66 } : Room) s m ([.ref (ad 0), .int c, .int d, .int but, .int layer, .int sv] : List Value).toArray bl mt cd Hl_3 locs 0 0 Q (F0 m 3 ls []) := by
    intro nn
    induction nn with
    | zero =>
      intro i x6 hn  e6 Hl_3 locs hS_3 hW_3 hl_3 ls hl
      have hiN : i = 5 := by omega
      rw [hiN] at e6
      try rw [hiN] at hl_3
      rw [e6] at hl
      clear e6
      obtain ⟨k0_1, k1_1, k2_1, k3_1, k4_1, k5_1, k6_1⟩ := hl_3
      refine lv_iload hx hb dX3_layStrong_3 (lv_at hl 0 rfl) ?_
      refine lv_iconst (v := 5) hx hb dX3_layStrong_5 (by decide) ?_
      refine lv_icmp_ge (tgt := 35) hx hb dX3_layStrong_6 (by decide) (fun _ => ?_) (fun c9 => absurd (nI_le (a := 5) (b := 5) (by decide) (by decide)) c9)
      refine lv_iconst (v := 0) hx hb dX3_layStrong_35 (by decide) ?_
      refine lv_istore (lv' := [(6, .int 0), (0, .ref (ad 0)), (1, .int c), (2, .int d), (3, .int but), (4, .int layer), (5, .int sv)]) hx hb dX3_layStrong_36 hl (by decide) rfl (fun ls hl => ?_)
      have loop38 : ∀ (nn i : Nat) (x6 : Int32), i + nn = n → x6 = nI i → ∀ (Hl_38 : Heap) (locs : List Loc), va_S (TA ad) H Hl_38 locs → WK E s Hl_38 → MP E ad f hst sl z pd (lsB (ruA f) c d but (lsA layer sv g 5) i) kept len told Hl_38 → ∀ ls : Array Slot, lv_has ls 8 [(6, .int x6), (0, .ref (ad 0)), (1, .int c), (2, .int d), (3, .int but)] → W p l e ({ frames := 3, cells := 0, slots := 0, locals := 66 } : Room) s m ([.ref (ad 0), .int c, .int d, .int but, .int layer, .int sv] : List Value).toArray bl mt cd Hl_38 locs 0 0 Q (F0 m 38 ls []) := by
        intro nn
        induction nn with
        | zero =>
          intro i x6 hn  e6 Hl_38 locs hS_38 hW_38 hl_38 ls hl
          have hiN : i = n := by omega
          rw [hiN] at e6
          try rw [hiN] at hl_38
          rw [e6] at hl
          clear e6
          obtain ⟨k0_2, k1_2, k2_2, k3_2, k4_2, k5_2, k6_2⟩ := hl_38
          refine lv_iload hx hb dX3_layStrong_38 (lv_at hl 0 rfl) ?_
          refine lv_aload_n hx hb dX3_layStrong_40 rfl (lv_at hl 1 rfl) ?_
          refine xget (ref := "LayeredChartersModel") (ci := 3) (v := .ref (ad 1)) (C := RX3) (T := TX3) (N := 9) F in_X3 hW_38 k0_2 rfl 0 (by decide) q1016 (fun _ h9 => h9) rfl dX3_layStrong_41 ?_
          refine lv_iconst (v := 0) hx hb dX3_layStrong_44 (by decide) ?_
          refine xild F hW_38 k1_2 (vp_in_nI (n := 0) (by omega) (by omega)) dX3_layStrong_45 ?_
          refine lv_val (y := nI n) (hn0) ?_
          refine lv_icmp_ge (tgt := 133) hx hb dX3_layStrong_46 (by decide) (fun _ => ?_) (fun c9 => absurd (nI_le (by omega) (by omega)) c9)
          refine lv_iconst (v := 1) hx hb dX3_layStrong_133 (by decide) ?_
          refine lv_istore (lv' := [(6, .int 1), (0, .ref (ad 0)), (1, .int c), (2, .int d), (3, .int but)]) hx hb dX3_layStrong_134 hl (by decide) rfl (fun ls hl => ?_)
          have loop136 : ∀ (nn i : Nat) (x6 : Int32), i + nn = 5 → x6 = nI i → (1 ≤ i) → ∀ (Hl_136 : Heap) (locs : List Loc), va_S (TA ad) H Hl_136 locs → WK E s Hl_136 → MP E ad f hst sl z pd (lsC (lsB (ruA f) c d but (lsA layer sv g 5) n) i) kept len told Hl_136 → ∀ ls : Array Slot, lv_has ls 8 [(6, .int x6), (0, .ref (ad 0)), (1, .int c), (2, .int d), (3, .int but)] → W p l e ({ frames := 3, cells := 0, slots := 0, locals := 66 } : Room) s m ([.ref (ad 0), .int c, .int d, .int but, .int layer, .int sv] : List Value).toArray bl mt cd Hl_136 locs 0 0 Q (F0 m 136 ls []) := by
            intro nn
            induction nn with
            | zero =>
              intro i x6 hn  e6 hi1 Hl_136 locs hS_136 hW_136 hl_136 ls hl
              have hiN : i = 5 := by omega
              rw [hiN] at e6
              try rw [hiN] at hl_136
              try rw [hiN] at hi1
              rw [e6] at hl
              clear e6
              obtain ⟨k0_3, k1_3, k2_3, k3_3, k4_3, k5_3, k6_3⟩ := hl_136
              refine lv_iload hx hb dX3_layStrong_136 (lv_at hl 0 rfl) ?_
              refine lv_iconst (v := 5) hx hb dX3_layStrong_138 (by decide) ?_
              refine lv_icmp_ge (tgt := 193) hx hb dX3_layStrong_139 (by decide) (fun _ => ?_) (fun c9 => absurd (nI_le (a := 5) (b := 5) (by decide) (by decide)) c9)
              exact hend _ _ _ _ _ _ dX3_layStrong_193 (⟨rfl, _, ⟨k0_3, k1_3, k2_3, k3_3, k4_3, k5_3, k6_3⟩, lsM_ag⟩) hS_136 (Nat.zero_le _) (Nat.zero_le _)
            | succ nn ih136 =>
              intro i x6 hn  e6 hi1 Hl_136 locs hS_136 hW_136 hl_136 ls hl
              rw [e6] at hl
              clear e6
              obtain ⟨k0_4, k1_4, k2_4, k3_4, k4_4, k5_4, k6_4⟩ := hl_136
              have hi0 : ¬ i = 0 := by omega
              refine lv_iload hx hb dX3_layStrong_136 (lv_at hl 0 rfl) ?_
              refine lv_iconst (v := 5) hx hb dX3_layStrong_138 (by decide) ?_
              refine lv_icmp_ge (tgt := 193) hx hb dX3_layStrong_139 (by decide) (fun c9 => absurd c9 (nI_ge (a := i) (b := 5) (by omega) (by decide))) (fun _ => ?_)
              refine lv_aload_n hx hb dX3_layStrong_142 rfl (lv_at hl 1 rfl) ?_
              refine xget (ref := "LayeredChartersModel") (ci := 3) (v := .ref (ad 6)) (C := RX3) (T := TX3) (N := 9) F in_X3 hW_136 k0_4 rfl 7 (by decide) q1023 (fun _ h9 => h9) rfl dX3_layStrong_143 ?_
              refine lv_iload hx hb dX3_layStrong_146 (lv_at hl 0 rfl) ?_
              refine lv_aload_n hx hb dX3_layStrong_148 rfl (lv_at hl 1 rfl) ?_
              refine xget (ref := "LayeredChartersModel") (ci := 3) (v := .ref (ad 6)) (C := RX3) (T := TX3) (N := 9) F in_X3 hW_136 k0_4 rfl 7 (by decide) q1023 (fun _ h9 => h9) rfl dX3_layStrong_149 ?_
              refine lv_iload hx hb dX3_layStrong_152 (lv_at hl 0 rfl) ?_
              refine lv_iconst (v := 1) hx hb dX3_layStrong_154 (by decide) ?_
              refine lv_isub hx hb dX3_layStrong_155 ?_
              refine xild F hW_136 k6_4 (by rw [show nI i - 1 = nI (i - 1) from pk_sub (a := i) (b := 1) (by omega)]; exact vp_in_nI (by omega) (by omega)) dX3_layStrong_156 ?_
              refine lv_val (y := (lsC (lsB (ruA f) c d but (lsA layer sv g 5) n) i) (i - 1)) (by rw [show nI i - 1 = nI (i - 1) from pk_sub (a := i) (b := 1) (by omega), nI_clamp (by omega)]) ?_
              refine lv_aload_n hx hb dX3_layStrong_157 rfl (lv_at hl 1 rfl) ?_
              refine xget (ref := "LayeredChartersModel") (ci := 3) (v := .ref (ad 6)) (C := RX3) (T := TX3) (N := 9) F in_X3 hW_136 k0_4 rfl 7 (by decide) q1023 (fun _ h9 => h9) rfl dX3_layStrong_158 ?_
              refine lv_iload hx hb dX3_layStrong_161 (lv_at hl 0 rfl) ?_
              refine xild F hW_136 k6_4 (vp_in_nI (by omega) (by omega)) dX3_layStrong_163 ?_
              refine lv_val (y := (lsC (lsB (ruA f) c d but (lsA layer sv g 5) n) i) i) ((by rw [nI_clamp (by omega)])) ?_
              refine lv_icmp_le (tgt := 179) hx hb dX3_layStrong_164 (by decide) (fun c_5 => ?_) (fun c_5 => ?_)
              · skip
                refine lv_aload_n hx hb dX3_layStrong_179 rfl (lv_at hl 1 rfl) ?_
                refine xget (ref := "LayeredChartersModel") (ci := 3) (v := .ref (ad 6)) (C := RX3) (T := TX3) (N := 9) F in_X3 hW_136 k0_4 rfl 7 (by decide) q1023 (fun _ h9 => h9) rfl dX3_layStrong_180 ?_
                refine lv_iload hx hb dX3_layStrong_183 (lv_at hl 0 rfl) ?_
                refine xild F hW_136 k6_4 (vp_in_nI (by omega) (by omega)) dX3_layStrong_185 ?_
                refine lv_val (y := (lsC (lsB (ruA f) c d but (lsA layer sv g 5) n) i) i) ((by rw [nI_clamp (by omega)])) ?_
                refine xist F hW_136 k6_4 hS_136 ⟨6, by decide, rfl⟩ (vp_in_nI (by omega) (by omega)) dX3_layStrong_186 (fun H_6 locs ho_6 hu_6 hS_6 => ?_)
                have ho_6 : iat E (ad 6) 0 5 (upd (lsC (lsB (ruA f) c d but (lsA layer sv g 5) n) i) i ((lsC (lsB (ruA f) c d but (lsA layer sv g 5) n) i) i)) H_6 := by have h9 := ho_6; rw [show (nI i : Int32).toNatClampNeg = i from by rw [nI_clamp (by omega)]] at h9; exact h9
                have hW_H_6 := hW_136.kept hu_6.chg (fun q _ hq => hq ▸ (hT.2 6 (by decide)))
                have k0_H_6 := k0_4.kept hu_6.chg (fun h9 => absurd (hT.1 0 6 (by decide) (by decide) h9) (by decide))
                have k1_H_6 := k1_4.kept hu_6.chg (fun h9 => absurd (hT.1 1 6 (by decide) (by decide) h9) (by decide))
                have k2_H_6 := k2_4.kept hu_6.chg (fun h9 => absurd (hT.1 2 6 (by decide) (by decide) h9) (by decide))
                have k3_H_6 := k3_4.kept hu_6.chg (fun h9 => absurd (hT.1 3 6 (by decide) (by decide) h9) (by decide))
                have k4_H_6 := k4_4.kept hu_6.chg (fun h9 => absurd (hT.1 4 6 (by decide) (by decide) h9) (by decide))
                have k5_H_6 := k5_4.kept hu_6.chg (fun h9 => absurd (hT.1 5 6 (by decide) (by decide) h9) (by decide))
                refine lv_iinc (v := nI (i + 1)) (lv' := [(6, .int (nI (i + 1))), (0, .ref (ad 0)), (1, .int c), (2, .int d), (3, .int but)]) hx hb dX3_layStrong_187 hl (k := 0) rfl (nI_1 _) (by decide) rfl (fun ls hl => ?_)
                refine lv_goto (tgt := 136) hx hb dX3_layStrong_190 (by decide) ?_
                exact ih136 (i + 1) _ (by omega)  rfl (by omega) _ _ hS_6 hW_H_6 (⟨k0_H_6, k1_H_6, k2_H_6, k3_H_6, k4_H_6, k5_H_6, by simp only [lsC_s, lsCst, hi0, c_5, if_true, if_false, ite_true, ite_false, reduceIte, reduceCtorEq]; exact ho_6⟩) ls (lv_sub hl [0, 1, 2, 3, 4] rfl)
              · skip
                refine lv_aload_n hx hb dX3_layStrong_167 rfl (lv_at hl 1 rfl) ?_
                refine xget (ref := "LayeredChartersModel") (ci := 3) (v := .ref (ad 6)) (C := RX3) (T := TX3) (N := 9) F in_X3 hW_136 k0_4 rfl 7 (by decide) q1023 (fun _ h9 => h9) rfl dX3_layStrong_168 ?_
                refine lv_iload hx hb dX3_layStrong_171 (lv_at hl 0 rfl) ?_
                refine lv_iconst (v := 1) hx hb dX3_layStrong_173 (by decide) ?_
                refine lv_isub hx hb dX3_layStrong_174 ?_
                refine xild F hW_136 k6_4 (by rw [show nI i - 1 = nI (i - 1) from pk_sub (a := i) (b := 1) (by omega)]; exact vp_in_nI (by omega) (by omega)) dX3_layStrong_175 ?_
                refine lv_val (y := (lsC (lsB (ruA f) c d but (lsA layer sv g 5) n) i) (i - 1)) (by rw [show nI i - 1 = nI (i - 1) from pk_sub (a := i) (b := 1) (by omega), nI_clamp (by omega)]) ?_
                refine lv_goto (tgt := 186) hx hb dX3_layStrong_176 (by decide) ?_
                refine xist F hW_136 k6_4 hS_136 ⟨6, by decide, rfl⟩ (vp_in_nI (by omega) (by omega)) dX3_layStrong_186 (fun H_7 locs ho_7 hu_7 hS_7 => ?_)
                have ho_7 : iat E (ad 6) 0 5 (upd (lsC (lsB (ruA f) c d but (lsA layer sv g 5) n) i) i ((lsC (lsB (ruA f) c d but (lsA layer sv g 5) n) i) (i - 1))) H_7 := by have h9 := ho_7; rw [show (nI i : Int32).toNatClampNeg = i from by rw [nI_clamp (by omega)]] at h9; exact h9
                have hW_H_7 := hW_136.kept hu_7.chg (fun q _ hq => hq ▸ (hT.2 6 (by decide)))
                have k0_H_7 := k0_4.kept hu_7.chg (fun h9 => absurd (hT.1 0 6 (by decide) (by decide) h9) (by decide))
                have k1_H_7 := k1_4.kept hu_7.chg (fun h9 => absurd (hT.1 1 6 (by decide) (by decide) h9) (by decide))
                have k2_H_7 := k2_4.kept hu_7.chg (fun h9 => absurd (hT.1 2 6 (by decide) (by decide) h9) (by decide))
                have k3_H_7 := k3_4.kept hu_7.chg (fun h9 => absurd (hT.1 3 6 (by decide) (by decide) h9) (by decide))
                have k4_H_7 := k4_4.kept hu_7.chg (fun h9 => absurd (hT.1 4 6 (by decide) (by decide) h9) (by decide))
                have k5_H_7 := k5_4.kept hu_7.chg (fun h9 => absurd (hT.1 5 6 (by decide) (by decide) h9) (by decide))
                refine lv_iinc (v := nI (i + 1)) (lv' := [(6, .int (nI (i + 1))), (0, .ref (ad 0)), (1, .int c), (2, .int d), (3, .int but)]) hx hb dX3_layStrong_187 hl (k := 0) rfl (nI_1 _) (by decide) rfl (fun ls hl => ?_)
                refine lv_goto (tgt := 136) hx hb dX3_layStrong_190 (by decide) ?_
                exact ih136 (i + 1) _ (by omega)  rfl (by omega) _ _ hS_7 hW_H_7 (⟨k0_H_7, k1_H_7, k2_H_7, k3_H_7, k4_H_7, k5_H_7, by simp only [lsC_s, lsCst, hi0, c_5, if_true, if_false, ite_true, ite_false, reduceIte, reduceCtorEq]; exact ho_7⟩) ls (lv_sub hl [0, 1, 2, 3, 4] rfl)
          exact loop136 (5 - 1) 1 _ (by omega)  rfl (by decide) _ _ hS_38 hW_38 (⟨k0_2, k1_2, k2_2, k3_2, k4_2, k5_2, by skip; exact k6_2⟩) ls (lv_sub hl [0, 1, 2, 3, 4] rfl)
        | succ nn ih38 =>
          intro i x6 hn  e6 Hl_38 locs hS_38 hW_38 hl_38 ls hl
          rw [e6] at hl
          clear e6
          obtain ⟨k0_8, k1_8, k2_8, k3_8, k4_8, k5_8, k6_8⟩ := hl_38
          refine lv_iload hx hb dX3_layStrong_38 (lv_at hl 0 rfl) ?_
          refine lv_aload_n hx hb dX3_layStrong_40 rfl (lv_at hl 1 rfl) ?_
          refine xget (ref := "LayeredChartersModel") (ci := 3) (v := .ref (ad 1)) (C := RX3) (T := TX3) (N := 9) F in_X3 hW_38 k0_8 rfl 0 (by decide) q1016 (fun _ h9 => h9) rfl dX3_layStrong_41 ?_
          refine lv_iconst (v := 0) hx hb dX3_layStrong_44 (by decide) ?_
          refine xild F hW_38 k1_8 (vp_in_nI (n := 0) (by omega) (by omega)) dX3_layStrong_45 ?_
          refine lv_val (y := nI n) (hn0) ?_
          refine lv_icmp_ge (tgt := 133) hx hb dX3_layStrong_46 (by decide) (fun c9 => absurd c9 (nI_ge (by omega) (by omega))) (fun _ => ?_)
          refine lv_iload hx hb dX3_layStrong_49 (lv_at hl 0 rfl) ?_
          refine lv_iload_n hx hb dX3_layStrong_51 rfl (lv_at hl 4 rfl) ?_
          refine lv_icmp_eq (tgt := 127) hx hb dX3_layStrong_52 (by decide) (fun c_9 => ?_) (fun c_9 => ?_)
          · skip
            refine lv_iinc (v := nI (i + 1)) (lv' := [(6, .int (nI (i + 1))), (0, .ref (ad 0)), (1, .int c), (2, .int d), (3, .int but)]) hx hb dX3_layStrong_127 hl (k := 0) rfl (nI_1 _) (by decide) rfl (fun ls hl => ?_)
            refine lv_goto (tgt := 38) hx hb dX3_layStrong_130 (by decide) ?_
            exact ih38 (i + 1) _ (by omega)  rfl _ _ hS_38 hW_38 (⟨k0_8, k1_8, k2_8, k3_8, k4_8, k5_8, by simp only [lsB_s, lsBst, c_9, if_true, if_false, ite_true, ite_false, reduceIte, reduceCtorEq]; exact k6_8⟩) ls (lv_sub hl [0, 1, 2, 3, 4] rfl)
          · skip
            refine lv_aload_n hx hb dX3_layStrong_55 rfl (lv_at hl 1 rfl) ?_
            refine lv_iload hx hb dX3_layStrong_56 (lv_at hl 0 rfl) ?_
            refine lv_iconst (v := 1) hx hb dX3_layStrong_58 (by decide) ?_
            refine run_ro (w := .int ((ruA f i).2.1)) (rest := []) (kV F hW_38 (metX3_of l E Hl_38 ad kept len told k0_8 f k1_8 (nI i) 1 (9 + 5 * i + 1) (at1 _) (by omega)) (lw_V q1087 q1089 qs21 q52 q1090) hdX3_of ⟨Nat.le_of_ble_eq_true rfl, Nat.le_of_ble_eq_true rfl⟩ (recv hW_38 k0_8 rfl) hl.1 rfl (Nat.le_of_ble_eq_true rfl) dX3_layStrong_59 ⟨Nat.le_of_ble_eq_true rfl, Nat.le_of_ble_eq_true rfl⟩) ?_
            refine lv_iconst (v := 2) hx hb dX3_layStrong_62 (by decide) ?_
            refine lv_icmp_ne (tgt := 127) hx hb dX3_layStrong_63 (by decide) (fun c_10 => ?_) (fun c_10 => ?_)
            · skip
              refine lv_iinc (v := nI (i + 1)) (lv' := [(6, .int (nI (i + 1))), (0, .ref (ad 0)), (1, .int c), (2, .int d), (3, .int but)]) hx hb dX3_layStrong_127 hl (k := 0) rfl (nI_1 _) (by decide) rfl (fun ls hl => ?_)
              refine lv_goto (tgt := 38) hx hb dX3_layStrong_130 (by decide) ?_
              exact ih38 (i + 1) _ (by omega)  rfl _ _ hS_38 hW_38 (⟨k0_8, k1_8, k2_8, k3_8, k4_8, k5_8, by simp only [lsB_s, lsBst, c_9, c_10, if_true, if_false, ite_true, ite_false, reduceIte, reduceCtorEq]; exact k6_8⟩) ls (lv_sub hl [0, 1, 2, 3, 4] rfl)
            · skip
              refine lv_aload_n hx hb dX3_layStrong_66 rfl (lv_at hl 1 rfl) ?_
              refine lv_iload hx hb dX3_layStrong_67 (lv_at hl 0 rfl) ?_
              refine lv_iload_n hx hb dX3_layStrong_69 rfl (lv_at hl 2 rfl) ?_
              refine lv_iload_n hx hb dX3_layStrong_70 rfl (lv_at hl 3 rfl) ?_
              refine run_ro (w := .int (b2i (fitsV (ruA f i) c d))) (rest := []) (kV F hW_38 (metX3_fits l E Hl_38 ad kept len told k0_8 f k1_8 i (by omega) c d) (lw_V q1115 q1117 qs27 q52 q1118) hdX3_fits ⟨Nat.le_of_ble_eq_true rfl, Nat.le_of_ble_eq_true rfl⟩ (recv hW_38 k0_8 rfl) hl.1 rfl (Nat.le_of_ble_eq_true rfl) dX3_layStrong_71 ⟨Nat.le_of_ble_eq_true rfl, Nat.le_of_ble_eq_true rfl⟩) ?_
              refine lv_if_eq (tgt := 127) hx hb dX3_layStrong_74 (by decide) (fun c_11 => ?_) (fun c_11 => ?_)
              · skip
                have bc_11 := c_11
                have c_11 := b2i_f c_11
                refine lv_iinc (v := nI (i + 1)) (lv' := [(6, .int (nI (i + 1))), (0, .ref (ad 0)), (1, .int c), (2, .int d), (3, .int but)]) hx hb dX3_layStrong_127 hl (k := 0) rfl (nI_1 _) (by decide) rfl (fun ls hl => ?_)
                refine lv_goto (tgt := 38) hx hb dX3_layStrong_130 (by decide) ?_
                exact ih38 (i + 1) _ (by omega)  rfl _ _ hS_38 hW_38 (⟨k0_8, k1_8, k2_8, k3_8, k4_8, k5_8, by simp only [lsB_s, lsBst, c_9, c_10, c_11, if_true, if_false, ite_true, ite_false, reduceIte, reduceCtorEq]; exact k6_8⟩) ls (lv_sub hl [0, 1, 2, 3, 4] rfl)
              · skip
                have bc_11 := c_11
                have c_11 := b2i_t c_11
                refine lv_aload_n hx hb dX3_layStrong_77 rfl (lv_at hl 1 rfl) ?_
                refine lv_iload hx hb dX3_layStrong_78 (lv_at hl 0 rfl) ?_
                refine lv_iconst (v := 0) hx hb dX3_layStrong_80 (by decide) ?_
                refine run_ro (w := .int ((ruA f i).1)) (rest := []) (kV F hW_38 (metX3_of l E Hl_38 ad kept len told k0_8 f k1_8 (nI i) 0 (9 + 5 * i) (at0 _) (by omega)) (lw_V q1087 q1089 qs21 q52 q1090) hdX3_of ⟨Nat.le_of_ble_eq_true rfl, Nat.le_of_ble_eq_true rfl⟩ (recv hW_38 k0_8 rfl) hl.1 rfl (Nat.le_of_ble_eq_true rfl) dX3_layStrong_81 ⟨Nat.le_of_ble_eq_true rfl, Nat.le_of_ble_eq_true rfl⟩) ?_
                refine lv_istore (lv' := [(7, .int ((ruA f i).1)), (6, .int (nI i)), (0, .ref (ad 0)), (1, .int c), (2, .int d), (3, .int but)]) hx hb dX3_layStrong_84 hl (by decide) rfl (fun ls hl => ?_)
                refine lv_aload_n hx hb dX3_layStrong_86 rfl (lv_at hl 2 rfl) ?_
                refine xget (ref := "LayeredChartersModel") (ci := 3) (v := .ref (ad 6)) (C := RX3) (T := TX3) (N := 9) F in_X3 hW_38 k0_8 rfl 7 (by decide) q1023 (fun _ h9 => h9) rfl dX3_layStrong_87 ?_
                refine lv_iload hx hb dX3_layStrong_90 (lv_at hl 0 rfl) ?_
                refine lv_aload_n hx hb dX3_layStrong_92 rfl (lv_at hl 2 rfl) ?_
                refine lv_iload hx hb dX3_layStrong_93 (lv_at hl 1 rfl) ?_
                refine lv_iconst (v := 4) hx hb dX3_layStrong_95 (by decide) ?_
                refine run_ro (w := .int ((ruA f i).2.2.2.2)) (rest := [.int ((ruA f i).1), .ref (ad 6)]) (kV F hW_38 (metX3_of l E Hl_38 ad kept len told k0_8 f k1_8 (nI i) 4 (9 + 5 * i + 4) (at4 _) (by omega)) (lw_V q1087 q1089 qs21 q52 q1090) hdX3_of ⟨Nat.le_of_ble_eq_true rfl, Nat.le_of_ble_eq_true rfl⟩ (recv hW_38 k0_8 rfl) hl.1 rfl (Nat.le_of_ble_eq_true rfl) dX3_layStrong_96 ⟨Nat.le_of_ble_eq_true rfl, Nat.le_of_ble_eq_true rfl⟩) ?_
                refine lv_aload_n hx hb dX3_layStrong_99 rfl (lv_at hl 2 rfl) ?_
                refine xget (ref := "LayeredChartersModel") (ci := 3) (v := .ref (ad 6)) (C := RX3) (T := TX3) (N := 9) F in_X3 hW_38 k0_8 rfl 7 (by decide) q1023 (fun _ h9 => h9) rfl dX3_layStrong_100 ?_
                refine lv_iload hx hb dX3_layStrong_103 (lv_at hl 0 rfl) ?_
                refine xild F hW_38 k6_8 (hv i (by omega)) dX3_layStrong_105 ?_
                refine lv_val (y := (lsB (ruA f) c d but (lsA layer sv g 5) i) (ix (ruA f i).1)) (rfl) ?_
                refine lv_icmp_le (tgt := 119) hx hb dX3_layStrong_106 (by decide) (fun c_12 => ?_) (fun c_12 => ?_)
                · skip
                  refine lv_aload_n hx hb dX3_layStrong_119 rfl (lv_at hl 2 rfl) ?_
                  refine xget (ref := "LayeredChartersModel") (ci := 3) (v := .ref (ad 6)) (C := RX3) (T := TX3) (N := 9) F in_X3 hW_38 k0_8 rfl 7 (by decide) q1023 (fun _ h9 => h9) rfl dX3_layStrong_120 ?_
                  refine lv_iload hx hb dX3_layStrong_123 (lv_at hl 0 rfl) ?_
                  refine xild F hW_38 k6_8 (hv i (by omega)) dX3_layStrong_125 ?_
                  refine lv_val (y := (lsB (ruA f) c d but (lsA layer sv g 5) i) (ix (ruA f i).1)) (rfl) ?_
                  refine xist F hW_38 k6_8 hS_38 ⟨6, by decide, rfl⟩ (hv i (by omega)) dX3_layStrong_126 (fun H_13 locs ho_13 hu_13 hS_13 => ?_)
                  have ho_13 : iat E (ad 6) 0 5 (upd (lsB (ruA f) c d but (lsA layer sv g 5) i) (ix (ruA f i).1) ((lsB (ruA f) c d but (lsA layer sv g 5) i) (ix (ruA f i).1))) H_13 := ho_13
                  have hW_H_13 := hW_38.kept hu_13.chg (fun q _ hq => hq ▸ (hT.2 6 (by decide)))
                  have k0_H_13 := k0_8.kept hu_13.chg (fun h9 => absurd (hT.1 0 6 (by decide) (by decide) h9) (by decide))
                  have k1_H_13 := k1_8.kept hu_13.chg (fun h9 => absurd (hT.1 1 6 (by decide) (by decide) h9) (by decide))
                  have k2_H_13 := k2_8.kept hu_13.chg (fun h9 => absurd (hT.1 2 6 (by decide) (by decide) h9) (by decide))
                  have k3_H_13 := k3_8.kept hu_13.chg (fun h9 => absurd (hT.1 3 6 (by decide) (by decide) h9) (by decide))
                  have k4_H_13 := k4_8.kept hu_13.chg (fun h9 => absurd (hT.1 4 6 (by decide) (by decide) h9) (by decide))
                  have k5_H_13 := k5_8.kept hu_13.chg (fun h9 => absurd (hT.1 5 6 (by decide) (by decide) h9) (by decide))
                  refine lv_iinc (v := nI (i + 1)) (lv' := [(6, .int (nI (i + 1))), (7, .int ((ruA f i).1)), (0, .ref (ad 0)), (1, .int c), (2, .int d), (3, .int but)]) hx hb dX3_layStrong_127 hl (k := 1) rfl (nI_1 _) (by decide) rfl (fun ls hl => ?_)
                  refine lv_goto (tgt := 38) hx hb dX3_layStrong_130 (by decide) ?_
                  exact ih38 (i + 1) _ (by omega)  rfl _ _ hS_13 hW_H_13 (⟨k0_H_13, k1_H_13, k2_H_13, k3_H_13, k4_H_13, k5_H_13, by simp only [lsB_s, lsBst, c_9, c_10, c_11, c_12, if_true, if_false, ite_true, ite_false, reduceIte, reduceCtorEq]; exact ho_13⟩) ls (lv_sub hl [0, 2, 3, 4, 5] rfl)
                · skip
                  refine lv_aload_n hx hb dX3_layStrong_109 rfl (lv_at hl 2 rfl) ?_
                  refine lv_iload hx hb dX3_layStrong_110 (lv_at hl 1 rfl) ?_
                  refine lv_iconst (v := 4) hx hb dX3_layStrong_112 (by decide) ?_
                  refine run_ro (w := .int ((ruA f i).2.2.2.2)) (rest := [.int ((ruA f i).1), .ref (ad 6)]) (kV F hW_38 (metX3_of l E Hl_38 ad kept len told k0_8 f k1_8 (nI i) 4 (9 + 5 * i + 4) (at4 _) (by omega)) (lw_V q1087 q1089 qs21 q52 q1090) hdX3_of ⟨Nat.le_of_ble_eq_true rfl, Nat.le_of_ble_eq_true rfl⟩ (recv hW_38 k0_8 rfl) hl.1 rfl (Nat.le_of_ble_eq_true rfl) dX3_layStrong_113 ⟨Nat.le_of_ble_eq_true rfl, Nat.le_of_ble_eq_true rfl⟩) ?_
                  refine lv_goto (tgt := 126) hx hb dX3_layStrong_116 (by decide) ?_
                  refine xist F hW_38 k6_8 hS_38 ⟨6, by decide, rfl⟩ (hv i (by omega)) dX3_layStrong_126 (fun H_14 locs ho_14 hu_14 hS_14 => ?_)
                  have ho_14 : iat E (ad 6) 0 5 (upd (lsB (ruA f) c d but (lsA layer sv g 5) i) (ix (ruA f i).1) ((ruA f i).2.2.2.2)) H_14 := ho_14
                  have hW_H_14 := hW_38.kept hu_14.chg (fun q _ hq => hq ▸ (hT.2 6 (by decide)))
                  have k0_H_14 := k0_8.kept hu_14.chg (fun h9 => absurd (hT.1 0 6 (by decide) (by decide) h9) (by decide))
                  have k1_H_14 := k1_8.kept hu_14.chg (fun h9 => absurd (hT.1 1 6 (by decide) (by decide) h9) (by decide))
                  have k2_H_14 := k2_8.kept hu_14.chg (fun h9 => absurd (hT.1 2 6 (by decide) (by decide) h9) (by decide))
                  have k3_H_14 := k3_8.kept hu_14.chg (fun h9 => absurd (hT.1 3 6 (by decide) (by decide) h9) (by decide))
                  have k4_H_14 := k4_8.kept hu_14.chg (fun h9 => absurd (hT.1 4 6 (by decide) (by decide) h9) (by decide))
                  have k5_H_14 := k5_8.kept hu_14.chg (fun h9 => absurd (hT.1 5 6 (by decide) (by decide) h9) (by decide))
                  refine lv_iinc (v := nI (i + 1)) (lv' := [(6, .int (nI (i + 1))), (7, .int ((ruA f i).1)), (0, .ref (ad 0)), (1, .int c), (2, .int d), (3, .int but)]) hx hb dX3_layStrong_127 hl (k := 1) rfl (nI_1 _) (by decide) rfl (fun ls hl => ?_)
                  refine lv_goto (tgt := 38) hx hb dX3_layStrong_130 (by decide) ?_
                  exact ih38 (i + 1) _ (by omega)  rfl _ _ hS_14 hW_H_14 (⟨k0_H_14, k1_H_14, k2_H_14, k3_H_14, k4_H_14, k5_H_14, by simp only [lsB_s, lsBst, c_9, c_10, c_11, c_12, if_true, if_false, ite_true, ite_false, reduceIte, reduceCtorEq]; exact ho_14⟩) ls (lv_sub hl [0, 2, 3, 4, 5] rfl)
      exact loop38 (n - 0) 0 _ (by omega)  rfl _ _ hS_3 hW_3 (⟨k0_1, k1_1, k2_1, k3_1, k4_1, k5_1, by skip; exact k6_1⟩) ls (lv_sub hl [0, 1, 2, 3, 4] rfl)
    | succ nn ih3 =>
      intro i x6 hn  e6 Hl_3 locs hS_3 hW_3 hl_3 ls hl
      rw [e6] at hl
      clear e6
      obtain ⟨k0_15, k1_15, k2_15, k3_15, k4_15, k5_15, k6_15⟩ := hl_3
      refine lv_iload hx hb dX3_layStrong_3 (lv_at hl 0 rfl) ?_
      refine lv_iconst (v := 5) hx hb dX3_layStrong_5 (by decide) ?_
      refine lv_icmp_ge (tgt := 35) hx hb dX3_layStrong_6 (by decide) (fun c9 => absurd c9 (nI_ge (a := i) (b := 5) (by omega) (by decide))) (fun _ => ?_)
      refine lv_aload_n hx hb dX3_layStrong_9 rfl (lv_at hl 1 rfl) ?_
      refine xget (ref := "LayeredChartersModel") (ci := 3) (v := .ref (ad 6)) (C := RX3) (T := TX3) (N := 9) F in_X3 hW_3 k0_15 rfl 7 (by decide) q1023 (fun _ h9 => h9) rfl dX3_layStrong_10 ?_
      refine lv_iload hx hb dX3_layStrong_13 (lv_at hl 0 rfl) ?_
      refine lv_iload hx hb dX3_layStrong_15 (lv_at hl 0 rfl) ?_
      refine lv_iload hx hb dX3_layStrong_17 (lv_at hl 5 rfl) ?_
      refine lv_icmp_ne (tgt := 27) hx hb dX3_layStrong_19 (by decide) (fun c_16 => ?_) (fun c_16 => ?_)
      · skip
        refine lv_iconst (v := 0) hx hb dX3_layStrong_27 (by decide) ?_
        refine xist F hW_3 k6_15 hS_3 ⟨6, by decide, rfl⟩ (vp_in_nI (by omega) (by omega)) dX3_layStrong_28 (fun H_17 locs ho_17 hu_17 hS_17 => ?_)
        have ho_17 : iat E (ad 6) 0 5 (upd (lsA layer sv g i) i 0) H_17 := by have h9 := ho_17; rw [show (nI i : Int32).toNatClampNeg = i from by rw [nI_clamp (by omega)]] at h9; exact h9
        have hW_H_17 := hW_3.kept hu_17.chg (fun q _ hq => hq ▸ (hT.2 6 (by decide)))
        have k0_H_17 := k0_15.kept hu_17.chg (fun h9 => absurd (hT.1 0 6 (by decide) (by decide) h9) (by decide))
        have k1_H_17 := k1_15.kept hu_17.chg (fun h9 => absurd (hT.1 1 6 (by decide) (by decide) h9) (by decide))
        have k2_H_17 := k2_15.kept hu_17.chg (fun h9 => absurd (hT.1 2 6 (by decide) (by decide) h9) (by decide))
        have k3_H_17 := k3_15.kept hu_17.chg (fun h9 => absurd (hT.1 3 6 (by decide) (by decide) h9) (by decide))
        have k4_H_17 := k4_15.kept hu_17.chg (fun h9 => absurd (hT.1 4 6 (by decide) (by decide) h9) (by decide))
        have k5_H_17 := k5_15.kept hu_17.chg (fun h9 => absurd (hT.1 5 6 (by decide) (by decide) h9) (by decide))
        refine lv_iinc (v := nI (i + 1)) (lv' := [(6, .int (nI (i + 1))), (0, .ref (ad 0)), (1, .int c), (2, .int d), (3, .int but), (4, .int layer), (5, .int sv)]) hx hb dX3_layStrong_29 hl (k := 0) rfl (nI_1 _) (by decide) rfl (fun ls hl => ?_)
        refine lv_goto (tgt := 3) hx hb dX3_layStrong_32 (by decide) ?_
        exact ih3 (i + 1) _ (by omega)  rfl _ _ hS_17 hW_H_17 (⟨k0_H_17, k1_H_17, k2_H_17, k3_H_17, k4_H_17, k5_H_17, by simp only [lsA_s, c_16, if_true, if_false, ite_true, ite_false, reduceIte, reduceCtorEq]; exact ho_17⟩) ls (lv_sub hl [0, 1, 2, 3, 4, 5, 6] rfl)
      · skip
        refine lv_iload hx hb dX3_layStrong_22 (lv_at hl 6 rfl) ?_
        refine lv_goto (tgt := 28) hx hb dX3_layStrong_24 (by decide) ?_
        refine xist F hW_3 k6_15 hS_3 ⟨6, by decide, rfl⟩ (vp_in_nI (by omega) (by omega)) dX3_layStrong_28 (fun H_18 locs ho_18 hu_18 hS_18 => ?_)
        have ho_18 : iat E (ad 6) 0 5 (upd (lsA layer sv g i) i sv) H_18 := by have h9 := ho_18; rw [show (nI i : Int32).toNatClampNeg = i from by rw [nI_clamp (by omega)]] at h9; exact h9
        have hW_H_18 := hW_3.kept hu_18.chg (fun q _ hq => hq ▸ (hT.2 6 (by decide)))
        have k0_H_18 := k0_15.kept hu_18.chg (fun h9 => absurd (hT.1 0 6 (by decide) (by decide) h9) (by decide))
        have k1_H_18 := k1_15.kept hu_18.chg (fun h9 => absurd (hT.1 1 6 (by decide) (by decide) h9) (by decide))
        have k2_H_18 := k2_15.kept hu_18.chg (fun h9 => absurd (hT.1 2 6 (by decide) (by decide) h9) (by decide))
        have k3_H_18 := k3_15.kept hu_18.chg (fun h9 => absurd (hT.1 3 6 (by decide) (by decide) h9) (by decide))
        have k4_H_18 := k4_15.kept hu_18.chg (fun h9 => absurd (hT.1 4 6 (by decide) (by decide) h9) (by decide))
        have k5_H_18 := k5_15.kept hu_18.chg (fun h9 => absurd (hT.1 5 6 (by decide) (by decide) h9) (by decide))
        refine lv_iinc (v := nI (i + 1)) (lv' := [(6, .int (nI (i + 1))), (0, .ref (ad 0)), (1, .int c), (2, .int d), (3, .int but), (4, .int layer), (5, .int sv)]) hx hb dX3_layStrong_29 hl (k := 0) rfl (nI_1 _) (by decide) rfl (fun ls hl => ?_)
        refine lv_goto (tgt := 3) hx hb dX3_layStrong_32 (by decide) ?_
        exact ih3 (i + 1) _ (by omega)  rfl _ _ hS_18 hW_H_18 (⟨k0_H_18, k1_H_18, k2_H_18, k3_H_18, k4_H_18, k5_H_18, by simp only [lsA_s, c_16, if_true, if_false, ite_true, ite_false, reduceIte, reduceCtorEq]; exact ho_18⟩) ls (lv_sub hl [0, 1, 2, 3, 4, 5, 6] rfl)
  exact loop3 (5 - 0) 0 _ (by omega)  rfl _ _ hS hW (⟨k0, k1, k2, k3, k4, k5, by skip; exact k6⟩) ls (lv_sub hl [0, 1, 2, 3, 4, 5, 6] rfl)

theorem hdX3_least : Hd yX3_least 5 := by decide +kernel
set_option maxHeartbeats 1000000 in
set_option maxRecDepth 100000 in
theorem metX3_least (l : Launch) (E : EV) (H : Heap) (ad : Nat → Nat) (f hst sl z pd : Nat → Int32) (kept len told : Int32) (hM : MPx E ad f hst sl z pd kept len told H) (hT : TW E ad) (n : Nat) (hn0 : f 0 = nI n) (hn24 : n ≤ 24) (hv : ∀ i, i < n → vp_in (ruA f i).1 5) (c d but layer sv : Int32) : Ct l yX3_least cX3_least 9 (some .int) 4 93 (0) (0) [.ref (ad 0), .int c, .int d, .int but, .int layer, .int sv] E H (TA ad) (pI (fun r H1 => r = leastM (ruA f) n c d but layer sv ∧ ∃ g', MP E ad f hst sl z pd g' kept len told H1 ∧ (pmM (ruA f) c d but n = true → ∀ l, l < 5 → g' l = lsM (ruA f) n c d but layer sv l))) := by
  obtain ⟨g, k0, k1, k2, k3, k4, k5, k6⟩ := hM
  refine Ct.ofZ (by decide) (Nat.le_of_ble_eq_true rfl) ?_
  intro p e s m bl mt cd ls Q hF hW hH hl hend
  obtain ⟨F, hin⟩ := hF
  have hx := F.1
  have hb := F.2.1
  have hts := F.2.2.2.2
  have hl : lv_has ls 9 [(0, .ref (ad 0)), (1, .int c), (2, .int d), (3, .int but), (4, .int layer), (5, .int sv)] := hl
  have hS : va_S (TA ad) H H [] := va_S.rf
  refine lv_aload_n hx hb dX3_least_0 rfl (lv_at hl 0 rfl) ?_
  refine lv_iload_n hx hb dX3_least_1 rfl (lv_at hl 1 rfl) ?_
  refine lv_iload_n hx hb dX3_least_2 rfl (lv_at hl 2 rfl) ?_
  refine lv_iload_n hx hb dX3_least_3 rfl (lv_at hl 3 rfl) ?_
  refine run_ro (w := .int (b2i (pmM (ruA f) c d but n))) (rest := []) (kV F hW (metX3_isPermitted l E H ad kept len told k0 f k1 n hn0 hn24 c d but) (lw_V q1111 q1113 qs26 q52 q1114) hdX3_isPermitted ⟨Nat.le_of_ble_eq_true rfl, Nat.le_of_ble_eq_true rfl⟩ (recv hW k0 rfl) hl.1 rfl (Nat.le_of_ble_eq_true rfl) dX3_least_4 ⟨Nat.le_of_ble_eq_true rfl, Nat.le_of_ble_eq_true rfl⟩) ?_
  refine lv_if_ne (tgt := 13) hx hb dX3_least_7 (by decide) (fun c_1 => ?_) (fun c_1 => ?_)
  · skip
    have bc_1 := c_1
    have c_1 := b2i_t c_1
    have hpm := c_1
    refine lv_aload_n hx hb dX3_least_13 rfl (lv_at hl 0 rfl) ?_
    refine lv_iload_n hx hb dX3_least_14 rfl (lv_at hl 1 rfl) ?_
    refine lv_iload_n hx hb dX3_least_15 rfl (lv_at hl 2 rfl) ?_
    refine lv_iload_n hx hb dX3_least_16 rfl (lv_at hl 3 rfl) ?_
    refine lv_iload hx hb dX3_least_17 (lv_at hl 4 rfl) ?_
    refine lv_iload hx hb dX3_least_19 (lv_at hl 5 rfl) ?_
    refine run_chN (rest := []) (kV F hW (metX3_layStrong l E H ad f hst sl z pd kept len told ⟨_, k0, k1, k2, k3, k4, k5, k6⟩ hT n hn0 hn24 hv c d but layer sv) (lw_V q1119 q1121 qs28 q52 q1122) hdX3_layStrong ⟨Nat.le_of_ble_eq_true rfl, Nat.le_of_ble_eq_true rfl⟩ (recv hW k0 rfl) hl.1 rfl (Nat.le_of_ble_eq_true rfl) dX3_least_21 ⟨Nat.le_of_ble_eq_true rfl, Nat.le_of_ble_eq_true rfl⟩) hS (fun _ h9 => h9) (fun H_2 locs hp_2 hc_2 hS_2 => ?_)
    have hW_2 := hW.kept hc_2 hT.old
    obtain ⟨g_3, ⟨k0_3, k1_3, k2_3, k3_3, k4_3, k5_3, k6_3⟩, hls⟩ := hp_2
    refine lv_iconst (v := 0) hx hb dX3_least_24 (by decide) ?_
    refine lv_istore (lv' := [(6, .int 0), (0, .ref (ad 0)), (1, .int c), (2, .int d), (3, .int but), (4, .int layer), (5, .int sv)]) hx hb dX3_least_25 hl (by decide) rfl (fun ls hl => ?_)
    refine lv_iconst (v := 0) hx hb dX3_least_27 (by decide) ?_
    refine lv_istore (lv' := [(7, .int 0), (6, .int 0), (0, .ref (ad 0)), (1, .int c), (2, .int d), (3, .int but), (4, .int layer), (5, .int sv)]) hx hb dX3_least_28 hl (by decide) rfl (fun ls hl => ?_)
    have loop30 : ∀ (nn i : Nat) (x7 x6 : Int32), i + nn = n → x6 = lmM (ruA f) c d but (lsM (ruA f) n c d but layer sv) i → x7 = nI i → ∀ ls : Array Slot, lv_has ls 9 [(7, .int x7), (6, .int x6), (0, .ref (ad 0)), (1, .int c), (2, .int d), (3, .int but)] → W p l e ({ frames := 4, cells := 0, slots := 0, locals := 93 } : Room) s m ([.ref (ad 0), .int c, .int d, .int but, .int layer, .int sv] : List Value).toArray bl mt cd H_2 locs 0 0 Q (F0 m 30 ls []) := by
      intro nn
      induction nn with
      | zero =>
        intro i x7 x6 hn e6 e7  ls hl
        have hiN : i = n := by omega
        rw [hiN] at e7
        try rw [hiN] at e6
        rw [e7, e6] at hl
        clear e7 e6
        refine lv_iload hx hb dX3_least_30 (lv_at hl 0 rfl) ?_
        refine lv_aload_n hx hb dX3_least_32 rfl (lv_at hl 2 rfl) ?_
        refine xget (ref := "LayeredChartersModel") (ci := 3) (v := .ref (ad 1)) (C := RX3) (T := TX3) (N := 9) F in_X3 hW_2 k0_3 rfl 0 (by decide) q1016 (fun _ h9 => h9) rfl dX3_least_33 ?_
        refine lv_iconst (v := 0) hx hb dX3_least_36 (by decide) ?_
        refine xild F hW_2 k1_3 (vp_in_nI (n := 0) (by omega) (by omega)) dX3_least_37 ?_
        refine lv_val (y := nI n) (hn0) ?_
        refine lv_icmp_ge (tgt := 135) hx hb dX3_least_38 (by decide) (fun _ => ?_) (fun c9 => absurd (nI_le (by omega) (by omega)) c9)
        refine lv_iload hx hb dX3_least_135 (lv_at hl 1 rfl) ?_
        exact hend _ _ _ _ _ _ _ rfl dX3_least_137 (⟨_, rfl, by simp [leastM, hpm], _, ⟨k0_3, k1_3, k2_3, k3_3, k4_3, k5_3, k6_3⟩, fun _ => hls⟩) hS_2 (Nat.zero_le _) (Nat.zero_le _)
      | succ nn ih30 =>
        intro i x7 x6 hn e6 e7  ls hl
        rw [e7, e6] at hl
        clear e7 e6
        refine lv_iload hx hb dX3_least_30 (lv_at hl 0 rfl) ?_
        refine lv_aload_n hx hb dX3_least_32 rfl (lv_at hl 2 rfl) ?_
        refine xget (ref := "LayeredChartersModel") (ci := 3) (v := .ref (ad 1)) (C := RX3) (T := TX3) (N := 9) F in_X3 hW_2 k0_3 rfl 0 (by decide) q1016 (fun _ h9 => h9) rfl dX3_least_33 ?_
        refine lv_iconst (v := 0) hx hb dX3_least_36 (by decide) ?_
        refine xild F hW_2 k1_3 (vp_in_nI (n := 0) (by omega) (by omega)) dX3_least_37 ?_
        refine lv_val (y := nI n) (hn0) ?_
        refine lv_icmp_ge (tgt := 135) hx hb dX3_least_38 (by decide) (fun c9 => absurd c9 (nI_ge (by omega) (by omega))) (fun _ => ?_)
        refine lv_iload hx hb dX3_least_41 (lv_at hl 0 rfl) ?_
        refine lv_iload_n hx hb dX3_least_43 rfl (lv_at hl 5 rfl) ?_
        refine lv_icmp_eq (tgt := 95) hx hb dX3_least_44 (by decide) (fun c_4 => ?_) (fun c_4 => ?_)
        · skip
          refine lv_iconst (v := 0) hx hb dX3_least_95 (by decide) ?_
          refine lv_istore (lv' := [(8, .int 0), (7, .int (nI i)), (6, .int (lmM (ruA f) c d but (lsM (ruA f) n c d but layer sv) i)), (0, .ref (ad 0)), (1, .int c), (2, .int d), (3, .int but)]) hx hb dX3_least_96 hl (by decide) rfl (fun ls hl => ?_)
          refine lv_iload hx hb dX3_least_98 (lv_at hl 0 rfl) ?_
          refine lv_if_eq (tgt := 125) hx hb dX3_least_100 (by decide) (fun _ => ?_) (fun c9 => absurd (by decide) c9)
          refine lv_iload hx hb dX3_least_125 (lv_at hl 2 rfl) ?_
          refine lv_istore (lv' := [(6, .int (lmM (ruA f) c d but (lsM (ruA f) n c d but layer sv) i)), (8, .int 0), (7, .int (nI i)), (0, .ref (ad 0)), (1, .int c), (2, .int d), (3, .int but)]) hx hb dX3_least_127 hl (by decide) rfl (fun ls hl => ?_)
          refine lv_iinc (v := nI (i + 1)) (lv' := [(7, .int (nI (i + 1))), (6, .int (lmM (ruA f) c d but (lsM (ruA f) n c d but layer sv) i)), (8, .int 0), (0, .ref (ad 0)), (1, .int c), (2, .int d), (3, .int but)]) hx hb dX3_least_129 hl (k := 2) rfl (nI_1 _) (by decide) rfl (fun ls hl => ?_)
          refine lv_goto (tgt := 30) hx hb dX3_least_132 (by decide) ?_
          exact ih30 (i + 1) _ _ (by omega) (by simp only [lmM_s, lmst, hoM]; simp [c_4]) rfl ls (lv_sub hl [0, 1, 3, 4, 5, 6] rfl)
        · skip
          refine lv_aload_n hx hb dX3_least_47 rfl (lv_at hl 2 rfl) ?_
          refine lv_iload hx hb dX3_least_48 (lv_at hl 0 rfl) ?_
          refine lv_iconst (v := 1) hx hb dX3_least_50 (by decide) ?_
          refine run_ro (w := .int ((ruA f i).2.1)) (rest := []) (kV F hW_2 (metX3_of l E H_2 ad kept len told k0_3 f k1_3 (nI i) 1 (9 + 5 * i + 1) (at1 _) (by omega)) (lw_V q1087 q1089 qs21 q52 q1090) hdX3_of ⟨Nat.le_of_ble_eq_true rfl, Nat.le_of_ble_eq_true rfl⟩ (recv hW_2 k0_3 rfl) hl.1 rfl (Nat.le_of_ble_eq_true rfl) dX3_least_51 ⟨Nat.le_of_ble_eq_true rfl, Nat.le_of_ble_eq_true rfl⟩) ?_
          refine lv_iconst (v := 1) hx hb dX3_least_54 (by decide) ?_
          refine lv_icmp_ne (tgt := 95) hx hb dX3_least_55 (by decide) (fun c_5 => ?_) (fun c_5 => ?_)
          · skip
            refine lv_iconst (v := 0) hx hb dX3_least_95 (by decide) ?_
            refine lv_istore (lv' := [(8, .int 0), (7, .int (nI i)), (6, .int (lmM (ruA f) c d but (lsM (ruA f) n c d but layer sv) i)), (0, .ref (ad 0)), (1, .int c), (2, .int d), (3, .int but)]) hx hb dX3_least_96 hl (by decide) rfl (fun ls hl => ?_)
            refine lv_iload hx hb dX3_least_98 (lv_at hl 0 rfl) ?_
            refine lv_if_eq (tgt := 125) hx hb dX3_least_100 (by decide) (fun _ => ?_) (fun c9 => absurd (by decide) c9)
            refine lv_iload hx hb dX3_least_125 (lv_at hl 2 rfl) ?_
            refine lv_istore (lv' := [(6, .int (lmM (ruA f) c d but (lsM (ruA f) n c d but layer sv) i)), (8, .int 0), (7, .int (nI i)), (0, .ref (ad 0)), (1, .int c), (2, .int d), (3, .int but)]) hx hb dX3_least_127 hl (by decide) rfl (fun ls hl => ?_)
            refine lv_iinc (v := nI (i + 1)) (lv' := [(7, .int (nI (i + 1))), (6, .int (lmM (ruA f) c d but (lsM (ruA f) n c d but layer sv) i)), (8, .int 0), (0, .ref (ad 0)), (1, .int c), (2, .int d), (3, .int but)]) hx hb dX3_least_129 hl (k := 2) rfl (nI_1 _) (by decide) rfl (fun ls hl => ?_)
            refine lv_goto (tgt := 30) hx hb dX3_least_132 (by decide) ?_
            exact ih30 (i + 1) _ _ (by omega) (by simp only [lmM_s, lmst, hoM]; simp [c_4, c_5]) rfl ls (lv_sub hl [0, 1, 3, 4, 5, 6] rfl)
          · skip
            refine lv_aload_n hx hb dX3_least_58 rfl (lv_at hl 2 rfl) ?_
            refine lv_iload hx hb dX3_least_59 (lv_at hl 0 rfl) ?_
            refine lv_iload_n hx hb dX3_least_61 rfl (lv_at hl 3 rfl) ?_
            refine lv_iload_n hx hb dX3_least_62 rfl (lv_at hl 4 rfl) ?_
            refine run_ro (w := .int (b2i (fitsV (ruA f i) c d))) (rest := []) (kV F hW_2 (metX3_fits l E H_2 ad kept len told k0_3 f k1_3 i (by omega) c d) (lw_V q1115 q1117 qs27 q52 q1118) hdX3_fits ⟨Nat.le_of_ble_eq_true rfl, Nat.le_of_ble_eq_true rfl⟩ (recv hW_2 k0_3 rfl) hl.1 rfl (Nat.le_of_ble_eq_true rfl) dX3_least_63 ⟨Nat.le_of_ble_eq_true rfl, Nat.le_of_ble_eq_true rfl⟩) ?_
            refine lv_if_eq (tgt := 95) hx hb dX3_least_66 (by decide) (fun c_6 => ?_) (fun c_6 => ?_)
            · skip
              have bc_6 := c_6
              have c_6 := b2i_f c_6
              refine lv_iconst (v := 0) hx hb dX3_least_95 (by decide) ?_
              refine lv_istore (lv' := [(8, .int 0), (7, .int (nI i)), (6, .int (lmM (ruA f) c d but (lsM (ruA f) n c d but layer sv) i)), (0, .ref (ad 0)), (1, .int c), (2, .int d), (3, .int but)]) hx hb dX3_least_96 hl (by decide) rfl (fun ls hl => ?_)
              refine lv_iload hx hb dX3_least_98 (lv_at hl 0 rfl) ?_
              refine lv_if_eq (tgt := 125) hx hb dX3_least_100 (by decide) (fun _ => ?_) (fun c9 => absurd (by decide) c9)
              refine lv_iload hx hb dX3_least_125 (lv_at hl 2 rfl) ?_
              refine lv_istore (lv' := [(6, .int (lmM (ruA f) c d but (lsM (ruA f) n c d but layer sv) i)), (8, .int 0), (7, .int (nI i)), (0, .ref (ad 0)), (1, .int c), (2, .int d), (3, .int but)]) hx hb dX3_least_127 hl (by decide) rfl (fun ls hl => ?_)
              refine lv_iinc (v := nI (i + 1)) (lv' := [(7, .int (nI (i + 1))), (6, .int (lmM (ruA f) c d but (lsM (ruA f) n c d but layer sv) i)), (8, .int 0), (0, .ref (ad 0)), (1, .int c), (2, .int d), (3, .int but)]) hx hb dX3_least_129 hl (k := 2) rfl (nI_1 _) (by decide) rfl (fun ls hl => ?_)
              refine lv_goto (tgt := 30) hx hb dX3_least_132 (by decide) ?_
              exact ih30 (i + 1) _ _ (by omega) (by simp only [lmM_s, lmst, hoM]; simp [c_4, c_5, c_6]) rfl ls (lv_sub hl [0, 1, 3, 4, 5, 6] rfl)
            · skip
              have bc_6 := c_6
              have c_6 := b2i_t c_6
              refine lv_aload_n hx hb dX3_least_69 rfl (lv_at hl 2 rfl) ?_
              refine xget (ref := "LayeredChartersModel") (ci := 3) (v := .ref (ad 6)) (C := RX3) (T := TX3) (N := 9) F in_X3 hW_2 k0_3 rfl 7 (by decide) q1023 (fun _ h9 => h9) rfl dX3_least_70 ?_
              refine lv_aload_n hx hb dX3_least_73 rfl (lv_at hl 2 rfl) ?_
              refine lv_iload hx hb dX3_least_74 (lv_at hl 0 rfl) ?_
              refine lv_iconst (v := 0) hx hb dX3_least_76 (by decide) ?_
              refine run_ro (w := .int ((ruA f i).1)) (rest := [.ref (ad 6)]) (kV F hW_2 (metX3_of l E H_2 ad kept len told k0_3 f k1_3 (nI i) 0 (9 + 5 * i) (at0 _) (by omega)) (lw_V q1087 q1089 qs21 q52 q1090) hdX3_of ⟨Nat.le_of_ble_eq_true rfl, Nat.le_of_ble_eq_true rfl⟩ (recv hW_2 k0_3 rfl) hl.1 rfl (Nat.le_of_ble_eq_true rfl) dX3_least_77 ⟨Nat.le_of_ble_eq_true rfl, Nat.le_of_ble_eq_true rfl⟩) ?_
              refine xild F hW_2 k6_3 (hv i (by omega)) dX3_least_80 ?_
              refine lv_val (y := lsM (ruA f) n c d but layer sv (ix (ruA f i).1)) (hls _ (vin_lt (hv _ (by omega)))) ?_
              refine lv_aload_n hx hb dX3_least_81 rfl (lv_at hl 2 rfl) ?_
              refine lv_iload hx hb dX3_least_82 (lv_at hl 0 rfl) ?_
              refine lv_iconst (v := 4) hx hb dX3_least_84 (by decide) ?_
              refine run_ro (w := .int ((ruA f i).2.2.2.2)) (rest := [.int (lsM (ruA f) n c d but layer sv (ix (ruA f i).1))]) (kV F hW_2 (metX3_of l E H_2 ad kept len told k0_3 f k1_3 (nI i) 4 (9 + 5 * i + 4) (at4 _) (by omega)) (lw_V q1087 q1089 qs21 q52 q1090) hdX3_of ⟨Nat.le_of_ble_eq_true rfl, Nat.le_of_ble_eq_true rfl⟩ (recv hW_2 k0_3 rfl) hl.1 rfl (Nat.le_of_ble_eq_true rfl) dX3_least_85 ⟨Nat.le_of_ble_eq_true rfl, Nat.le_of_ble_eq_true rfl⟩) ?_
              refine lv_icmp_ge (tgt := 95) hx hb dX3_least_88 (by decide) (fun c_7 => ?_) (fun c_7 => ?_)
              · skip
                refine lv_iconst (v := 0) hx hb dX3_least_95 (by decide) ?_
                refine lv_istore (lv' := [(8, .int 0), (7, .int (nI i)), (6, .int (lmM (ruA f) c d but (lsM (ruA f) n c d but layer sv) i)), (0, .ref (ad 0)), (1, .int c), (2, .int d), (3, .int but)]) hx hb dX3_least_96 hl (by decide) rfl (fun ls hl => ?_)
                refine lv_iload hx hb dX3_least_98 (lv_at hl 0 rfl) ?_
                refine lv_if_eq (tgt := 125) hx hb dX3_least_100 (by decide) (fun _ => ?_) (fun c9 => absurd (by decide) c9)
                refine lv_iload hx hb dX3_least_125 (lv_at hl 2 rfl) ?_
                refine lv_istore (lv' := [(6, .int (lmM (ruA f) c d but (lsM (ruA f) n c d but layer sv) i)), (8, .int 0), (7, .int (nI i)), (0, .ref (ad 0)), (1, .int c), (2, .int d), (3, .int but)]) hx hb dX3_least_127 hl (by decide) rfl (fun ls hl => ?_)
                refine lv_iinc (v := nI (i + 1)) (lv' := [(7, .int (nI (i + 1))), (6, .int (lmM (ruA f) c d but (lsM (ruA f) n c d but layer sv) i)), (8, .int 0), (0, .ref (ad 0)), (1, .int c), (2, .int d), (3, .int but)]) hx hb dX3_least_129 hl (k := 2) rfl (nI_1 _) (by decide) rfl (fun ls hl => ?_)
                refine lv_goto (tgt := 30) hx hb dX3_least_132 (by decide) ?_
                exact ih30 (i + 1) _ _ (by omega) (by simp only [lmM_s, lmst, hoM]; simp [c_4, c_5, c_6, c_7]) rfl ls (lv_sub hl [0, 1, 3, 4, 5, 6] rfl)
              · skip
                refine lv_iconst (v := 1) hx hb dX3_least_91 (by decide) ?_
                refine lv_goto (tgt := 96) hx hb dX3_least_92 (by decide) ?_
                refine lv_istore (lv' := [(8, .int 1), (7, .int (nI i)), (6, .int (lmM (ruA f) c d but (lsM (ruA f) n c d but layer sv) i)), (0, .ref (ad 0)), (1, .int c), (2, .int d), (3, .int but)]) hx hb dX3_least_96 hl (by decide) rfl (fun ls hl => ?_)
                refine lv_iload hx hb dX3_least_98 (lv_at hl 0 rfl) ?_
                refine lv_if_eq (tgt := 125) hx hb dX3_least_100 (by decide) (fun c9 => absurd c9 (by decide)) (fun _ => ?_)
                refine lv_aload_n hx hb dX3_least_103 rfl (lv_at hl 3 rfl) ?_
                refine lv_iload hx hb dX3_least_104 (lv_at hl 1 rfl) ?_
                refine lv_iconst (v := 4) hx hb dX3_least_106 (by decide) ?_
                refine run_ro (w := .int ((ruA f i).2.2.2.2)) (rest := []) (kV F hW_2 (metX3_of l E H_2 ad kept len told k0_3 f k1_3 (nI i) 4 (9 + 5 * i + 4) (at4 _) (by omega)) (lw_V q1087 q1089 qs21 q52 q1090) hdX3_of ⟨Nat.le_of_ble_eq_true rfl, Nat.le_of_ble_eq_true rfl⟩ (recv hW_2 k0_3 rfl) hl.1 rfl (Nat.le_of_ble_eq_true rfl) dX3_least_107 ⟨Nat.le_of_ble_eq_true rfl, Nat.le_of_ble_eq_true rfl⟩) ?_
                refine lv_iload hx hb dX3_least_110 (lv_at hl 2 rfl) ?_
                refine lv_icmp_le (tgt := 125) hx hb dX3_least_112 (by decide) (fun c_8 => ?_) (fun c_8 => ?_)
                · skip
                  refine lv_iload hx hb dX3_least_125 (lv_at hl 2 rfl) ?_
                  refine lv_istore (lv' := [(6, .int (lmM (ruA f) c d but (lsM (ruA f) n c d but layer sv) i)), (8, .int 1), (7, .int (nI i)), (0, .ref (ad 0)), (1, .int c), (2, .int d), (3, .int but)]) hx hb dX3_least_127 hl (by decide) rfl (fun ls hl => ?_)
                  refine lv_iinc (v := nI (i + 1)) (lv' := [(7, .int (nI (i + 1))), (6, .int (lmM (ruA f) c d but (lsM (ruA f) n c d but layer sv) i)), (8, .int 1), (0, .ref (ad 0)), (1, .int c), (2, .int d), (3, .int but)]) hx hb dX3_least_129 hl (k := 2) rfl (nI_1 _) (by decide) rfl (fun ls hl => ?_)
                  refine lv_goto (tgt := 30) hx hb dX3_least_132 (by decide) ?_
                  exact ih30 (i + 1) _ _ (by omega) (by simp only [lmM_s, lmst, hoM]; simp [c_4, c_5, c_6, c_7, c_8]) rfl ls (lv_sub hl [0, 1, 3, 4, 5, 6] rfl)
                · skip
                  refine lv_aload_n hx hb dX3_least_115 rfl (lv_at hl 3 rfl) ?_
                  refine lv_iload hx hb dX3_least_116 (lv_at hl 1 rfl) ?_
                  refine lv_iconst (v := 4) hx hb dX3_least_118 (by decide) ?_
                  refine run_ro (w := .int ((ruA f i).2.2.2.2)) (rest := []) (kV F hW_2 (metX3_of l E H_2 ad kept len told k0_3 f k1_3 (nI i) 4 (9 + 5 * i + 4) (at4 _) (by omega)) (lw_V q1087 q1089 qs21 q52 q1090) hdX3_of ⟨Nat.le_of_ble_eq_true rfl, Nat.le_of_ble_eq_true rfl⟩ (recv hW_2 k0_3 rfl) hl.1 rfl (Nat.le_of_ble_eq_true rfl) dX3_least_119 ⟨Nat.le_of_ble_eq_true rfl, Nat.le_of_ble_eq_true rfl⟩) ?_
                  refine lv_goto (tgt := 127) hx hb dX3_least_122 (by decide) ?_
                  refine lv_istore (lv' := [(6, .int ((ruA f i).2.2.2.2)), (8, .int 1), (7, .int (nI i)), (0, .ref (ad 0)), (1, .int c), (2, .int d), (3, .int but)]) hx hb dX3_least_127 hl (by decide) rfl (fun ls hl => ?_)
                  refine lv_iinc (v := nI (i + 1)) (lv' := [(7, .int (nI (i + 1))), (6, .int ((ruA f i).2.2.2.2)), (8, .int 1), (0, .ref (ad 0)), (1, .int c), (2, .int d), (3, .int but)]) hx hb dX3_least_129 hl (k := 2) rfl (nI_1 _) (by decide) rfl (fun ls hl => ?_)
                  refine lv_goto (tgt := 30) hx hb dX3_least_132 (by decide) ?_
                  exact ih30 (i + 1) _ _ (by omega) (by simp only [lmM_s, lmst, hoM]; simp [c_4, c_5, c_6, c_7, c_8]) rfl ls (lv_sub hl [0, 1, 3, 4, 5, 6] rfl)
    exact loop30 (n - 0) 0 _ _ (by omega) rfl rfl  ls (lv_sub hl [0, 1, 2, 3, 4, 5] rfl)
  · skip
    have bc_1 := c_1
    have c_1 := b2i_f c_1
    refine lv_bipush (v := 10) hx hb dX3_least_10 (by decide) ?_
    exact hend _ _ _ _ _ _ _ rfl dX3_least_12 (⟨_, rfl, by simp [leastM, c_1], _, ⟨k0, k1, k2, k3, k4, k5, k6⟩, fun h9 => absurd (h9.symm.trans c_1) (by decide)⟩) hS (Nat.zero_le _) (Nat.zero_le _)

theorem hdX3_leastNow : Hd yX3_leastNow 2 := by decide +kernel
set_option maxHeartbeats 1000000 in
set_option maxRecDepth 100000 in
theorem metX3_leastNow (l : Launch) (E : EV) (H : Heap) (ad : Nat → Nat) (f hst sl z pd : Nat → Int32) (kept len told : Int32) (hM : MPx E ad f hst sl z pd kept len told H) (hT : TW E ad) (n : Nat) (hn0 : f 0 = nI n) (hn24 : n ≤ 24) (hv : ∀ i, i < n → vp_in (ruA f i).1 5) (c d : Int32) : Ct l yX3_leastNow cX3_leastNow 3 (some .int) 5 121 (0) (0) [.ref (ad 0), .int c, .int d] E H (TA ad) (pI (fun r H1 => r = leastM (ruA f) n c d (-6) (-6) 0 ∧ ∃ g', MP E ad f hst sl z pd g' kept len told H1 ∧ (pmM (ruA f) c d (-6) n = true → ∀ l, l < 5 → g' l = lsM (ruA f) n c d (-6) (-6) 0 l))) := by
  obtain ⟨g, k0, k1, k2, k3, k4, k5, k6⟩ := hM
  refine Ct.ofZ (by decide) (Nat.le_of_ble_eq_true rfl) ?_
  intro p e s m bl mt cd ls Q hF hW hH hl hend
  obtain ⟨F, hin⟩ := hF
  have hx := F.1
  have hb := F.2.1
  have hts := F.2.2.2.2
  have hl : lv_has ls 3 [(0, .ref (ad 0)), (1, .int c), (2, .int d)] := hl
  have hS : va_S (TA ad) H H [] := va_S.rf
  refine lv_aload_n hx hb dX3_leastNow_0 rfl (lv_at hl 0 rfl) ?_
  refine lv_iload_n hx hb dX3_leastNow_1 rfl (lv_at hl 1 rfl) ?_
  refine lv_iload_n hx hb dX3_leastNow_2 rfl (lv_at hl 2 rfl) ?_
  refine lv_bipush (v := (-6)) hx hb dX3_leastNow_3 (by decide) ?_
  refine lv_bipush (v := (-6)) hx hb dX3_leastNow_5 (by decide) ?_
  refine lv_iconst (v := 0) hx hb dX3_leastNow_7 (by decide) ?_
  refine run_chI (rest := []) (kV F hW (metX3_least l E H ad f hst sl z pd kept len told ⟨_, k0, k1, k2, k3, k4, k5, k6⟩ hT n hn0 hn24 hv c d (-6) (-6) 0) (lw_V q1107 q1109 qs25 q52 q1110) hdX3_least ⟨Nat.le_of_ble_eq_true rfl, Nat.le_of_ble_eq_true rfl⟩ (recv hW k0 rfl) hl.1 rfl (Nat.le_of_ble_eq_true rfl) dX3_leastNow_8 ⟨Nat.le_of_ble_eq_true rfl, Nat.le_of_ble_eq_true rfl⟩) hS (fun _ h9 => h9) (fun r_1 H_1 locs hp_1 hc_1 hS_1 => ?_)
  have hW_1 := hW.kept hc_1 hT.old
  obtain ⟨hr_1, hp_1⟩ := hp_1
  obtain ⟨g9, hp9, hq9⟩ := hp_1
  obtain ⟨g_2, k0_2, k1_2, k2_2, k3_2, k4_2, k5_2, k6_2⟩ := (⟨g9, hp9⟩ : MPx E ad f hst sl z pd kept len told H_1)
  have hr_1 : r_1 = leastM (ruA f) n c d (-6) (-6) 0 := hr_1
  subst hr_1
  exact hend _ _ _ _ _ _ _ rfl dX3_leastNow_11 (⟨_, rfl, rfl, g9, hp9, hq9⟩) hS_1 (Nat.zero_le _) (Nat.zero_le _)

theorem hdX3_triples : Hd yX3_triples 3 := by decide +kernel
set_option maxHeartbeats 1000000 in
set_option maxRecDepth 100000 in
theorem metX3_triples (l : Launch) (E : EV) (H : Heap) (ad : Nat → Nat) (f hst sl z pd : Nat → Int32) (kept len told : Int32) (hM : MPx E ad f hst sl z pd kept len told H) (hT : TW E ad) (n : Nat) (hn0 : f 0 = nI n) (hn24 : n ≤ 24) (hv : ∀ i, i < n → vp_in (ruA f i).1 5) (but layer sv : Int32) : Ct l yX3_triples cX3_triples 6 (some .int) 5 121 (0) (0) [.ref (ad 0), .int but, .int layer, .int sv] E H (TA ad) (pI (fun r H1 => r = trM (ruA f) n but layer sv 30 ∧ MPx E ad f hst sl z pd kept len told H1)) := by
  obtain ⟨g, k0, k1, k2, k3, k4, k5, k6⟩ := hM
  refine Ct.ofZ (by decide) (Nat.le_of_ble_eq_true rfl) ?_
  intro p e s m bl mt cd ls Q hF hW hH hl hend
  obtain ⟨F, hin⟩ := hF
  have hx := F.1
  have hb := F.2.1
  have hts := F.2.2.2.2
  have hl : lv_has ls 6 [(0, .ref (ad 0)), (1, .int but), (2, .int layer), (3, .int sv)] := hl
  have hS : va_S (TA ad) H H [] := va_S.rf
  refine lv_iconst (v := 0) hx hb dX3_triples_0 (by decide) ?_
  refine lv_istore (lv' := [(4, .int 0), (0, .ref (ad 0)), (1, .int but), (2, .int layer), (3, .int sv)]) hx hb dX3_triples_1 hl (by decide) rfl (fun ls hl => ?_)
  refine lv_iconst (v := 0) hx hb dX3_triples_3 (by decide) ?_
  refine lv_istore (lv' := [(5, .int 0), (4, .int 0), (0, .ref (ad 0)), (1, .int but), (2, .int layer), (3, .int sv)]) hx hb dX3_triples_4 hl (by decide) rfl (fun ls hl => ?_)
  have loop6 : ∀ (nn i : Nat) (x5 x4 : Int32), i + nn = 30 → x4 = trM (ruA f) n but layer sv i → x5 = nI i → ∀ (Hl_6 : Heap) (locs : List Loc), va_S (TA ad) H Hl_6 locs → WK E s Hl_6 → MPx E ad f hst sl z pd kept len told Hl_6 → ∀ ls : Array Slot, lv_has ls 6 [(5, .int x5), (4, .int x4), (0, .ref (ad 0)), (1, .int but), (2, .int layer), (3, .int sv)] → W p l e ({ frames := 5, cells := 0, slots := 0, locals := 121 } : Room) s m ([.ref (ad 0), .int but, .int layer, .int sv] : List Value).toArray bl mt cd Hl_6 locs 0 0 Q (F0 m 6 ls []) := by
    intro nn
    induction nn with
    | zero =>
      intro i x5 x4 hn e4 e5 Hl_6 locs hS_6 hW_6 hl_6 ls hl
      have hiN : i = 30 := by omega
      rw [hiN] at e5
      try rw [hiN] at e4
      try rw [hiN] at hl_6
      rw [e5, e4] at hl
      clear e5 e4
      obtain ⟨g_1, k0_1, k1_1, k2_1, k3_1, k4_1, k5_1, k6_1⟩ := hl_6
      refine lv_iload hx hb dX3_triples_6 (lv_at hl 0 rfl) ?_
      refine lv_bipush (v := 30) hx hb dX3_triples_8 (by decide) ?_
      refine lv_icmp_ge (tgt := 44) hx hb dX3_triples_10 (by decide) (fun _ => ?_) (fun c9 => absurd (nI_le (a := 30) (b := 30) (by decide) (by decide)) c9)
      refine lv_iload hx hb dX3_triples_44 (lv_at hl 1 rfl) ?_
      exact hend _ _ _ _ _ _ _ rfl dX3_triples_46 (⟨_, rfl, rfl, ⟨_, k0_1, k1_1, k2_1, k3_1, k4_1, k5_1, k6_1⟩⟩) hS_6 (Nat.zero_le _) (Nat.zero_le _)
    | succ nn ih6 =>
      intro i x5 x4 hn e4 e5 Hl_6 locs hS_6 hW_6 hl_6 ls hl
      rw [e5, e4] at hl
      clear e5 e4
      obtain ⟨g_2, k0_2, k1_2, k2_2, k3_2, k4_2, k5_2, k6_2⟩ := hl_6
      refine lv_iload hx hb dX3_triples_6 (lv_at hl 0 rfl) ?_
      refine lv_bipush (v := 30) hx hb dX3_triples_8 (by decide) ?_
      refine lv_icmp_ge (tgt := 44) hx hb dX3_triples_10 (by decide) (fun c9 => absurd c9 (nI_ge (a := i) (b := 30) (by omega) (by decide))) (fun _ => ?_)
      refine lv_iload hx hb dX3_triples_13 (lv_at hl 1 rfl) ?_
      refine lv_bipush (v := 10) hx hb dX3_triples_15 (by decide) ?_
      refine lv_aload_n hx hb dX3_triples_17 rfl (lv_at hl 2 rfl) ?_
      refine lv_iload hx hb dX3_triples_18 (lv_at hl 0 rfl) ?_
      refine lv_bipush (v := 6) hx hb dX3_triples_20 (by decide) ?_
      refine lv_idiv hx hb dX3_triples_22 (by decide) ?_
      refine lv_val (y := nI (i / 6)) (pk_div (a := i) (d := 6) (by omega) (by decide) (by decide)) ?_
      refine lv_iload hx hb dX3_triples_23 (lv_at hl 0 rfl) ?_
      refine lv_bipush (v := 6) hx hb dX3_triples_25 (by decide) ?_
      refine lv_irem hx hb dX3_triples_27 (by decide) ?_
      refine lv_val (y := nI (i % 6)) (pk_rem (a := i) (d := 6) (by omega) (by decide) (by decide)) ?_
      refine lv_iload_n hx hb dX3_triples_28 rfl (lv_at hl 3 rfl) ?_
      refine lv_iload_n hx hb dX3_triples_29 rfl (lv_at hl 4 rfl) ?_
      refine lv_iload_n hx hb dX3_triples_30 rfl (lv_at hl 5 rfl) ?_
      refine run_chI (rest := [.int 10, .int (trM (ruA f) n but layer sv i)]) (kV F hW_6 (metX3_least l E Hl_6 ad f hst sl z pd kept len told ⟨_, k0_2, k1_2, k2_2, k3_2, k4_2, k5_2, k6_2⟩ hT n hn0 hn24 hv (nI (i / 6)) (nI (i % 6)) but layer sv) (lw_V q1107 q1109 qs25 q52 q1110) hdX3_least ⟨Nat.le_of_ble_eq_true rfl, Nat.le_of_ble_eq_true rfl⟩ (recv hW_6 k0_2 rfl) hl.1 rfl (Nat.le_of_ble_eq_true rfl) dX3_triples_31 ⟨Nat.le_of_ble_eq_true rfl, Nat.le_of_ble_eq_true rfl⟩) hS_6 (fun _ h9 => h9) (fun r_3 H_3 locs hp_3 hc_3 hS_3 => ?_)
      have hW_3 := hW_6.kept hc_3 hT.old
      obtain ⟨hr_3, hp_3⟩ := hp_3
      obtain ⟨g9, hp9, hq9⟩ := hp_3
      obtain ⟨g_4, k0_4, k1_4, k2_4, k3_4, k4_4, k5_4, k6_4⟩ := (⟨g9, hp9⟩ : MPx E ad f hst sl z pd kept len told H_3)
      have hr_3 : r_3 = leastM (ruA f) n (nI (i / 6)) (nI (i % 6)) but layer sv := hr_3
      subst hr_3
      refine lv_isub hx hb dX3_triples_34 ?_
      refine lv_iadd hx hb dX3_triples_35 ?_
      refine lv_istore (lv' := [(4, .int ((trM (ruA f) n but layer sv i) + (10 - (leastM (ruA f) n (nI (i / 6)) (nI (i % 6)) but layer sv)))), (5, .int (nI i)), (0, .ref (ad 0)), (1, .int but), (2, .int layer), (3, .int sv)]) hx hb dX3_triples_36 hl (by decide) rfl (fun ls hl => ?_)
      refine lv_iinc (v := nI (i + 1)) (lv' := [(5, .int (nI (i + 1))), (4, .int ((trM (ruA f) n but layer sv i) + (10 - (leastM (ruA f) n (nI (i / 6)) (nI (i % 6)) but layer sv)))), (0, .ref (ad 0)), (1, .int but), (2, .int layer), (3, .int sv)]) hx hb dX3_triples_38 hl (k := 1) rfl (nI_1 _) (by decide) rfl (fun ls hl => ?_)
      refine lv_goto (tgt := 6) hx hb dX3_triples_41 (by decide) ?_
      exact ih6 (i + 1) _ _ (by omega) (by rfl) rfl _ _ hS_3 hW_3 (⟨_, k0_4, k1_4, k2_4, k3_4, k4_4, k5_4, k6_4⟩) ls (lv_sub hl [0, 1, 2, 3, 4, 5] rfl)
  exact loop6 (30 - 0) 0 _ _ (by omega) rfl rfl _ _ hS hW (⟨_, k0, k1, k2, k3, k4, k5, k6⟩) ls (lv_sub hl [0, 1, 2, 3, 4, 5] rfl)

theorem hdX3_triplesNow : Hd yX3_triplesNow 0 := by decide +kernel
set_option maxHeartbeats 1000000 in
set_option maxRecDepth 100000 in
theorem metX3_triplesNow (l : Launch) (E : EV) (H : Heap) (ad : Nat → Nat) (f hst sl z pd : Nat → Int32) (kept len told : Int32) (hM : MPx E ad f hst sl z pd kept len told H) (hT : TW E ad) (n : Nat) (hn0 : f 0 = nI n) (hn24 : n ≤ 24) (hv : ∀ i, i < n → vp_in (ruA f i).1 5) : Ct l yX3_triplesNow cX3_triplesNow 1 (some .int) 6 146 (0) (0) [.ref (ad 0)] E H (TA ad) (pI (fun r H1 => r = trM (ruA f) n (-6) (-6) 0 30 ∧ MPx E ad f hst sl z pd kept len told H1)) := by
  obtain ⟨g, k0, k1, k2, k3, k4, k5, k6⟩ := hM
  refine Ct.ofZ (by decide) (Nat.le_of_ble_eq_true rfl) ?_
  intro p e s m bl mt cd ls Q hF hW hH hl hend
  obtain ⟨F, hin⟩ := hF
  have hx := F.1
  have hb := F.2.1
  have hts := F.2.2.2.2
  have hl : lv_has ls 1 [(0, .ref (ad 0))] := hl
  have hS : va_S (TA ad) H H [] := va_S.rf
  refine lv_aload_n hx hb dX3_triplesNow_0 rfl (lv_at hl 0 rfl) ?_
  refine lv_bipush (v := (-6)) hx hb dX3_triplesNow_1 (by decide) ?_
  refine lv_bipush (v := (-6)) hx hb dX3_triplesNow_3 (by decide) ?_
  refine lv_iconst (v := 0) hx hb dX3_triplesNow_5 (by decide) ?_
  refine run_chI (rest := []) (kV F hW (metX3_triples l E H ad f hst sl z pd kept len told ⟨_, k0, k1, k2, k3, k4, k5, k6⟩ hT n hn0 hn24 hv (-6) (-6) 0) (lw_V q1193 q1195 qs36 q52 q1196) hdX3_triples ⟨Nat.le_of_ble_eq_true rfl, Nat.le_of_ble_eq_true rfl⟩ (recv hW k0 rfl) hl.1 rfl (Nat.le_of_ble_eq_true rfl) dX3_triplesNow_6 ⟨Nat.le_of_ble_eq_true rfl, Nat.le_of_ble_eq_true rfl⟩) hS (fun _ h9 => h9) (fun r_1 H_1 locs hp_1 hc_1 hS_1 => ?_)
  have hW_1 := hW.kept hc_1 hT.old
  obtain ⟨hr_1, hp_1⟩ := hp_1
  obtain ⟨g_2, k0_2, k1_2, k2_2, k3_2, k4_2, k5_2, k6_2⟩ := hp_1
  have hr_1 : r_1 = trM (ruA f) n (-6) (-6) 0 30 := hr_1
  subst hr_1
  exact hend _ _ _ _ _ _ _ rfl dX3_triplesNow_9 (⟨_, rfl, rfl, ⟨_, k0_2, k1_2, k2_2, k3_2, k4_2, k5_2, k6_2⟩⟩) hS_1 (Nat.zero_le _) (Nat.zero_le _)

theorem hdX3_isIdle : Hd yX3_isIdle 1 := by decide +kernel
set_option maxHeartbeats 1000000 in
set_option maxRecDepth 100000 in
theorem metX3_isIdle (l : Launch) (E : EV) (H : Heap) (ad : Nat → Nat) (f hst sl z pd : Nat → Int32) (kept len told : Int32) (hM : MPx E ad f hst sl z pd kept len told H) (hT : TW E ad) (n : Nat) (hn0 : f 0 = nI n) (hn24 : n ≤ 24) (hv : ∀ i, i < n → vp_in (ruA f i).1 5) (r : Int32) : Ct l yX3_isIdle cX3_isIdle 4 (some .boolean) 6 143 (0) (0) [.ref (ad 0), .int r] E H (TA ad) (pI (fun r' H1 => r' = b2i (idM (ruA f) n r 30) ∧ MPx E ad f hst sl z pd kept len told H1)) := by
  obtain ⟨g, k0, k1, k2, k3, k4, k5, k6⟩ := hM
  refine Ct.ofZ (by decide) (Nat.le_of_ble_eq_true rfl) ?_
  intro p e s m bl mt cd ls Q hF hW hH hl hend
  obtain ⟨F, hin⟩ := hF
  have hx := F.1
  have hb := F.2.1
  have hts := F.2.2.2.2
  have hl : lv_has ls 4 [(0, .ref (ad 0)), (1, .int r)] := hl
  have hS : va_S (TA ad) H H [] := va_S.rf
  refine lv_iconst (v := 1) hx hb dX3_isIdle_0 (by decide) ?_
  refine lv_istore_n (lv' := [(2, .int 1), (0, .ref (ad 0)), (1, .int r)]) hx hb dX3_isIdle_1 rfl hl (by decide) rfl (fun ls hl => ?_)
  refine lv_iconst (v := 0) hx hb dX3_isIdle_2 (by decide) ?_
  refine lv_istore_n (lv' := [(3, .int 0), (2, .int 1), (0, .ref (ad 0)), (1, .int r)]) hx hb dX3_isIdle_3 rfl hl (by decide) rfl (fun ls hl => ?_)
  have loop4 : ∀ (nn i : Nat) (x3 x2 : Int32), i + nn = 30 → x2 = b2i (idM (ruA f) n r i) → x3 = nI i → ∀ (Hl_4 : Heap) (locs : List Loc), va_S (TA ad) H Hl_4 locs → WK E s Hl_4 → MPx E ad f hst sl z pd kept len told Hl_4 → ∀ ls : Array Slot, lv_has ls 4 [(3, .int x3), (2, .int x2), (0, .ref (ad 0)), (1, .int r)] → W p l e ({ frames := 6, cells := 0, slots := 0, locals := 143 } : Room) s m ([.ref (ad 0), .int r] : List Value).toArray bl mt cd Hl_4 locs 0 0 Q (F0 m 4 ls []) := by
    intro nn
    induction nn with
    | zero =>
      intro i x3 x2 hn e2 e3 Hl_4 locs hS_4 hW_4 hl_4 ls hl
      have hiN : i = 30 := by omega
      rw [hiN] at e3
      try rw [hiN] at e2
      try rw [hiN] at hl_4
      rw [e3, e2] at hl
      clear e3 e2
      obtain ⟨g_1, k0_1, k1_1, k2_1, k3_1, k4_1, k5_1, k6_1⟩ := hl_4
      refine lv_iload_n hx hb dX3_isIdle_4 rfl (lv_at hl 0 rfl) ?_
      refine lv_bipush (v := 30) hx hb dX3_isIdle_5 (by decide) ?_
      refine lv_icmp_ge (tgt := 57) hx hb dX3_isIdle_7 (by decide) (fun _ => ?_) (fun c9 => absurd (nI_le (a := 30) (b := 30) (by decide) (by decide)) c9)
      refine lv_iload_n hx hb dX3_isIdle_57 rfl (lv_at hl 1 rfl) ?_
      exact hend _ _ _ _ _ _ _ (b2i_nar _) dX3_isIdle_58 (⟨_, rfl, rfl, ⟨_, k0_1, k1_1, k2_1, k3_1, k4_1, k5_1, k6_1⟩⟩) hS_4 (Nat.zero_le _) (Nat.zero_le _)
    | succ nn ih4 =>
      intro i x3 x2 hn e2 e3 Hl_4 locs hS_4 hW_4 hl_4 ls hl
      rw [e3, e2] at hl
      clear e3 e2
      obtain ⟨g_2, k0_2, k1_2, k2_2, k3_2, k4_2, k5_2, k6_2⟩ := hl_4
      refine lv_iload_n hx hb dX3_isIdle_4 rfl (lv_at hl 0 rfl) ?_
      refine lv_bipush (v := 30) hx hb dX3_isIdle_5 (by decide) ?_
      refine lv_icmp_ge (tgt := 57) hx hb dX3_isIdle_7 (by decide) (fun c9 => absurd c9 (nI_ge (a := i) (b := 30) (by omega) (by decide))) (fun _ => ?_)
      refine lv_iload_n hx hb dX3_isIdle_10 rfl (lv_at hl 1 rfl) ?_
      refine lv_if_eq (tgt := 57) hx hb dX3_isIdle_11 (by decide) (fun c_3 => ?_) (fun c_3 => ?_)
      · skip
        have bc_3 := c_3
        have c_3 := b2i_f c_3
        refine lv_iload_n hx hb dX3_isIdle_57 rfl (lv_at hl 1 rfl) ?_
        exact hend _ _ _ _ _ _ _ (b2i_nar _) dX3_isIdle_58 (⟨_, rfl, by rw [c_3, idM_f c_3 (by omega)], ⟨_, k0_2, k1_2, k2_2, k3_2, k4_2, k5_2, k6_2⟩⟩) hS_4 (Nat.zero_le _) (Nat.zero_le _)
      · skip
        have bc_3 := c_3
        have c_3 := b2i_t c_3
        refine lv_aload_n hx hb dX3_isIdle_14 rfl (lv_at hl 2 rfl) ?_
        refine lv_iload_n hx hb dX3_isIdle_15 rfl (lv_at hl 0 rfl) ?_
        refine lv_bipush (v := 6) hx hb dX3_isIdle_16 (by decide) ?_
        refine lv_idiv hx hb dX3_isIdle_18 (by decide) ?_
        refine lv_val (y := nI (i / 6)) (pk_div (a := i) (d := 6) (by omega) (by decide) (by decide)) ?_
        refine lv_iload_n hx hb dX3_isIdle_19 rfl (lv_at hl 0 rfl) ?_
        refine lv_bipush (v := 6) hx hb dX3_isIdle_20 (by decide) ?_
        refine lv_irem hx hb dX3_isIdle_22 (by decide) ?_
        refine lv_val (y := nI (i % 6)) (pk_rem (a := i) (d := 6) (by omega) (by decide) (by decide)) ?_
        refine run_chI (rest := []) (kV F hW_4 (metX3_leastNow l E Hl_4 ad f hst sl z pd kept len told ⟨_, k0_2, k1_2, k2_2, k3_2, k4_2, k5_2, k6_2⟩ hT n hn0 hn24 hv (nI (i / 6)) (nI (i % 6))) (lw_V q1103 q1105 qs24 q52 q1106) hdX3_leastNow ⟨Nat.le_of_ble_eq_true rfl, Nat.le_of_ble_eq_true rfl⟩ (recv hW_4 k0_2 rfl) hl.1 rfl (Nat.le_of_ble_eq_true rfl) dX3_isIdle_23 ⟨Nat.le_of_ble_eq_true rfl, Nat.le_of_ble_eq_true rfl⟩) hS_4 (fun _ h9 => h9) (fun r_4 H_4 locs hp_4 hc_4 hS_4 => ?_)
        have hW_4 := hW_4.kept hc_4 hT.old
        obtain ⟨hr_4, hp_4⟩ := hp_4
        obtain ⟨g9, hp9, hq9⟩ := hp_4
        obtain ⟨g_5, k0_5, k1_5, k2_5, k3_5, k4_5, k5_5, k6_5⟩ := (⟨g9, hp9⟩ : MPx E ad f hst sl z pd kept len told H_4)
        have hr_4 : r_4 = leastM (ruA f) n (nI (i / 6)) (nI (i % 6)) (-6) (-6) 0 := hr_4
        subst hr_4
        refine lv_aload_n hx hb dX3_isIdle_26 rfl (lv_at hl 2 rfl) ?_
        refine lv_iload_n hx hb dX3_isIdle_27 rfl (lv_at hl 0 rfl) ?_
        refine lv_bipush (v := 6) hx hb dX3_isIdle_28 (by decide) ?_
        refine lv_idiv hx hb dX3_isIdle_30 (by decide) ?_
        refine lv_val (y := nI (i / 6)) (pk_div (a := i) (d := 6) (by omega) (by decide) (by decide)) ?_
        refine lv_iload_n hx hb dX3_isIdle_31 rfl (lv_at hl 0 rfl) ?_
        refine lv_bipush (v := 6) hx hb dX3_isIdle_32 (by decide) ?_
        refine lv_irem hx hb dX3_isIdle_34 (by decide) ?_
        refine lv_val (y := nI (i % 6)) (pk_rem (a := i) (d := 6) (by omega) (by decide) (by decide)) ?_
        refine lv_iload_n hx hb dX3_isIdle_35 rfl (lv_at hl 3 rfl) ?_
        refine lv_bipush (v := (-6)) hx hb dX3_isIdle_36 (by decide) ?_
        refine lv_iconst (v := 0) hx hb dX3_isIdle_38 (by decide) ?_
        refine run_chI (rest := [.int (leastM (ruA f) n (nI (i / 6)) (nI (i % 6)) (-6) (-6) 0)]) (kV F hW_4 (metX3_least l E H_4 ad f hst sl z pd kept len told ⟨_, k0_5, k1_5, k2_5, k3_5, k4_5, k5_5, k6_5⟩ hT n hn0 hn24 hv (nI (i / 6)) (nI (i % 6)) r (-6) 0) (lw_V q1107 q1109 qs25 q52 q1110) hdX3_least ⟨Nat.le_of_ble_eq_true rfl, Nat.le_of_ble_eq_true rfl⟩ (recv hW_4 k0_5 rfl) hl.1 rfl (Nat.le_of_ble_eq_true rfl) dX3_isIdle_39 ⟨Nat.le_of_ble_eq_true rfl, Nat.le_of_ble_eq_true rfl⟩) hS_4 (fun _ h9 => h9) (fun r_6 H_6 locs hp_6 hc_6 hS_6 => ?_)
        have hW_6 := hW_4.kept hc_6 hT.old
        obtain ⟨hr_6, hp_6⟩ := hp_6
        obtain ⟨g9, hp9, hq9⟩ := hp_6
        obtain ⟨g_7, k0_7, k1_7, k2_7, k3_7, k4_7, k5_7, k6_7⟩ := (⟨g9, hp9⟩ : MPx E ad f hst sl z pd kept len told H_6)
        have hr_6 : r_6 = leastM (ruA f) n (nI (i / 6)) (nI (i % 6)) r (-6) 0 := hr_6
        subst hr_6
        refine lv_icmp_ne (tgt := 49) hx hb dX3_isIdle_42 (by decide) (fun c_8 => ?_) (fun c_8 => ?_)
        · skip
          refine lv_iconst (v := 0) hx hb dX3_isIdle_49 (by decide) ?_
          refine lv_istore_n (lv' := [(2, .int 0), (3, .int (nI i)), (0, .ref (ad 0)), (1, .int r)]) hx hb dX3_isIdle_50 rfl hl (by decide) rfl (fun ls hl => ?_)
          refine lv_iinc (v := nI (i + 1)) (lv' := [(3, .int (nI (i + 1))), (2, .int 0), (0, .ref (ad 0)), (1, .int r)]) hx hb dX3_isIdle_51 hl (k := 1) rfl (nI_1 _) (by decide) rfl (fun ls hl => ?_)
          refine lv_goto (tgt := 4) hx hb dX3_isIdle_54 (by decide) ?_
          exact ih4 (i + 1) _ _ (by omega) (by simp [b2i, idM_s, idst, c_3, c_8]) rfl _ _ hS_6 hW_6 (⟨_, k0_7, k1_7, k2_7, k3_7, k4_7, k5_7, k6_7⟩) ls (lv_sub hl [0, 1, 2, 3] rfl)
        · skip
          refine lv_iconst (v := 1) hx hb dX3_isIdle_45 (by decide) ?_
          refine lv_goto (tgt := 50) hx hb dX3_isIdle_46 (by decide) ?_
          refine lv_istore_n (lv' := [(2, .int 1), (3, .int (nI i)), (0, .ref (ad 0)), (1, .int r)]) hx hb dX3_isIdle_50 rfl hl (by decide) rfl (fun ls hl => ?_)
          refine lv_iinc (v := nI (i + 1)) (lv' := [(3, .int (nI (i + 1))), (2, .int 1), (0, .ref (ad 0)), (1, .int r)]) hx hb dX3_isIdle_51 hl (k := 1) rfl (nI_1 _) (by decide) rfl (fun ls hl => ?_)
          refine lv_goto (tgt := 4) hx hb dX3_isIdle_54 (by decide) ?_
          exact ih4 (i + 1) _ _ (by omega) (by simp [b2i, idM_s, idst, c_3, c_8]) rfl _ _ hS_6 hW_6 (⟨_, k0_7, k1_7, k2_7, k3_7, k4_7, k5_7, k6_7⟩) ls (lv_sub hl [0, 1, 2, 3] rfl)
  exact loop4 (30 - 0) 0 _ _ (by omega) rfl rfl _ _ hS hW (⟨_, k0, k1, k2, k3, k4, k5, k6⟩) ls (lv_sub hl [0, 1, 2, 3] rfl)

theorem hdX3_firstIdle : Hd yX3_firstIdle 0 := by decide +kernel
set_option maxHeartbeats 1000000 in
set_option maxRecDepth 100000 in
theorem metX3_firstIdle (l : Launch) (E : EV) (H : Heap) (ad : Nat → Nat) (f hst sl z pd : Nat → Int32) (kept len told : Int32) (hM : MPx E ad f hst sl z pd kept len told H) (hT : TW E ad) (n : Nat) (hn0 : f 0 = nI n) (hn24 : n ≤ 24) (hv : ∀ i, i < n → vp_in (ruA f i).1 5) : Ct l yX3_firstIdle cX3_firstIdle 2 (some .int) 7 166 (0) (0) [.ref (ad 0)] E H (TA ad) (pI (fun r' H1 => r' = fiM (ruA f) n ∧ MPx E ad f hst sl z pd kept len told H1)) := by
  obtain ⟨g, k0, k1, k2, k3, k4, k5, k6⟩ := hM
  refine Ct.ofZ (by decide) (Nat.le_of_ble_eq_true rfl) ?_
  intro p e s m bl mt cd ls Q hF hW hH hl hend
  obtain ⟨F, hin⟩ := hF
  have hx := F.1
  have hb := F.2.1
  have hts := F.2.2.2.2
  have hl : lv_has ls 2 [(0, .ref (ad 0))] := hl
  have hS : va_S (TA ad) H H [] := va_S.rf
  refine lv_iconst (v := 0) hx hb dX3_firstIdle_0 (by decide) ?_
  refine lv_istore_n (lv' := [(1, .int 0), (0, .ref (ad 0))]) hx hb dX3_firstIdle_1 rfl hl (by decide) rfl (fun ls hl => ?_)
  have loop2 : ∀ (nn i : Nat) (x1 : Int32), i + nn = n → x1 = nI i → (∀ j, j < i → idM (ruA f) n (nI j) 30 = false) → ∀ (Hl_2 : Heap) (locs : List Loc), va_S (TA ad) H Hl_2 locs → WK E s Hl_2 → MPx E ad f hst sl z pd kept len told Hl_2 → ∀ ls : Array Slot, lv_has ls 2 [(1, .int x1), (0, .ref (ad 0))] → W p l e ({ frames := 7, cells := 0, slots := 0, locals := 166 } : Room) s m ([.ref (ad 0)] : List Value).toArray bl mt cd Hl_2 locs 0 0 Q (F0 m 2 ls []) := by
    intro nn
    induction nn with
    | zero =>
      intro i x1 hn  e1 hall Hl_2 locs hS_2 hW_2 hl_2 ls hl
      have hiN : i = n := by omega
      rw [hiN] at e1
      try rw [hiN] at hl_2
      try rw [hiN] at hall
      rw [e1] at hl
      clear e1
      obtain ⟨g_1, k0_1, k1_1, k2_1, k3_1, k4_1, k5_1, k6_1⟩ := hl_2
      refine lv_iload_n hx hb dX3_firstIdle_2 rfl (lv_at hl 0 rfl) ?_
      refine lv_aload_n hx hb dX3_firstIdle_3 rfl (lv_at hl 1 rfl) ?_
      refine xget (ref := "LayeredChartersModel") (ci := 3) (v := .ref (ad 1)) (C := RX3) (T := TX3) (N := 9) F in_X3 hW_2 k0_1 rfl 0 (by decide) q1016 (fun _ h9 => h9) rfl dX3_firstIdle_4 ?_
      refine lv_iconst (v := 0) hx hb dX3_firstIdle_7 (by decide) ?_
      refine xild F hW_2 k1_1 (vp_in_nI (n := 0) (by omega) (by omega)) dX3_firstIdle_8 ?_
      refine lv_val (y := nI n) (hn0) ?_
      refine lv_icmp_ge (tgt := 28) hx hb dX3_firstIdle_9 (by decide) (fun _ => ?_) (fun c9 => absurd (nI_le (by omega) (by omega)) c9)
      refine lv_bipush (v := (-6)) hx hb dX3_firstIdle_28 (by decide) ?_
      exact hend _ _ _ _ _ _ _ rfl dX3_firstIdle_30 (⟨_, rfl, (fiM_none hall).symm, ⟨_, k0_1, k1_1, k2_1, k3_1, k4_1, k5_1, k6_1⟩⟩) hS_2 (Nat.zero_le _) (Nat.zero_le _)
    | succ nn ih2 =>
      intro i x1 hn  e1 hall Hl_2 locs hS_2 hW_2 hl_2 ls hl
      rw [e1] at hl
      clear e1
      obtain ⟨g_2, k0_2, k1_2, k2_2, k3_2, k4_2, k5_2, k6_2⟩ := hl_2
      refine lv_iload_n hx hb dX3_firstIdle_2 rfl (lv_at hl 0 rfl) ?_
      refine lv_aload_n hx hb dX3_firstIdle_3 rfl (lv_at hl 1 rfl) ?_
      refine xget (ref := "LayeredChartersModel") (ci := 3) (v := .ref (ad 1)) (C := RX3) (T := TX3) (N := 9) F in_X3 hW_2 k0_2 rfl 0 (by decide) q1016 (fun _ h9 => h9) rfl dX3_firstIdle_4 ?_
      refine lv_iconst (v := 0) hx hb dX3_firstIdle_7 (by decide) ?_
      refine xild F hW_2 k1_2 (vp_in_nI (n := 0) (by omega) (by omega)) dX3_firstIdle_8 ?_
      refine lv_val (y := nI n) (hn0) ?_
      refine lv_icmp_ge (tgt := 28) hx hb dX3_firstIdle_9 (by decide) (fun c9 => absurd c9 (nI_ge (by omega) (by omega))) (fun _ => ?_)
      refine lv_aload_n hx hb dX3_firstIdle_12 rfl (lv_at hl 1 rfl) ?_
      refine lv_iload_n hx hb dX3_firstIdle_13 rfl (lv_at hl 0 rfl) ?_
      refine run_chI (rest := []) (kV F hW_2 (metX3_isIdle l E Hl_2 ad f hst sl z pd kept len told ⟨_, k0_2, k1_2, k2_2, k3_2, k4_2, k5_2, k6_2⟩ hT n hn0 hn24 hv (nI i)) (lw_V q1099 q1101 qs23 q52 q1102) hdX3_isIdle ⟨Nat.le_of_ble_eq_true rfl, Nat.le_of_ble_eq_true rfl⟩ (recv hW_2 k0_2 rfl) hl.1 rfl (Nat.le_of_ble_eq_true rfl) dX3_firstIdle_14 ⟨Nat.le_of_ble_eq_true rfl, Nat.le_of_ble_eq_true rfl⟩) hS_2 (fun _ h9 => h9) (fun r_3 H_3 locs hp_3 hc_3 hS_3 => ?_)
      have hW_3 := hW_2.kept hc_3 hT.old
      obtain ⟨hr_3, hp_3⟩ := hp_3
      obtain ⟨g_4, k0_4, k1_4, k2_4, k3_4, k4_4, k5_4, k6_4⟩ := hp_3
      have hr_3 : r_3 = b2i (idM (ruA f) n (nI i) 30) := hr_3
      subst hr_3
      refine lv_if_eq (tgt := 22) hx hb dX3_firstIdle_17 (by decide) (fun c_5 => ?_) (fun c_5 => ?_)
      · skip
        have bc_5 := c_5
        have c_5 := b2i_f c_5
        refine lv_iinc (v := nI (i + 1)) (lv' := [(1, .int (nI (i + 1))), (0, .ref (ad 0))]) hx hb dX3_firstIdle_22 hl (k := 0) rfl (nI_1 _) (by decide) rfl (fun ls hl => ?_)
        refine lv_goto (tgt := 2) hx hb dX3_firstIdle_25 (by decide) ?_
        exact ih2 (i + 1) _ (by omega)  rfl (lt_s hall c_5) _ _ hS_3 hW_3 (⟨_, k0_4, k1_4, k2_4, k3_4, k4_4, k5_4, k6_4⟩) ls (lv_sub hl [0, 1] rfl)
      · skip
        have bc_5 := c_5
        have c_5 := b2i_t c_5
        refine lv_iload_n hx hb dX3_firstIdle_20 rfl (lv_at hl 0 rfl) ?_
        exact hend _ _ _ _ _ _ _ rfl dX3_firstIdle_21 (⟨_, rfl, (fiM_some (by omega) c_5 hall).symm, ⟨_, k0_4, k1_4, k2_4, k3_4, k4_4, k5_4, k6_4⟩⟩) hS_3 (Nat.zero_le _) (Nat.zero_le _)
  exact loop2 (n - 0) 0 _ (by omega)  rfl (fun j h9 => absurd h9 (Nat.not_lt_zero j)) _ _ hS hW (⟨_, k0, k1, k2, k3, k4, k5, k6⟩) ls (lv_sub hl [0, 1] rfl)

