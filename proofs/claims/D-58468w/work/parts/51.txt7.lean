/-! TEXTS 7: put -/
set_option maxRecDepth 100000
theorem Str.lt {E : EV} {s : State} {q v n : Nat} {f : Nat → Int32} {H : Heap} (hW : WK E s H) (h : Str E q v n f H) (hn : 0 < n) : q < H.size ∧ v < H.size := by
  rcases h with ⟨_, _, h⟩ | ⟨⟨_, _, h3⟩, h4, _⟩
  · omega
  · exact ⟨h3.lt, h4.lt⟩
/-- the first k bytes of N are signs -/
def PuI (N k : Nat) : Prop := ∀ j, j < k → N / 2 ^ (8 * j) ≠ 0 ∧ 33 ≤ byN N j ∧ byN N j ≤ 126
theorem b4_lt {E : EV} {s : State} {H : Heap} (hW : WK E s H) : E.2.2.2 4 < H.size ∧ E.2.2.2 6 < H.size := by
  have h := hW.2.1.2.2.2.2.2.2.2.2.1 1 (by decide)
  obtain ⟨c1, h1, -⟩ := h.1
  obtain ⟨c2, h2, -⟩ := h.2.2.2
  obtain ⟨h3, -⟩ := Array.getElem?_eq_some_iff.mp h1
  obtain ⟨h4, -⟩ := Array.getElem?_eq_some_iff.mp h2
  exact ⟨h3, h4⟩
theorem byN_lt (N k : Nat) : byN N k < 256 := Nat.mod_lt _ (by decide)
theorem inR_of {b : Nat} (h1 : 33 ≤ b) (h2 : b ≤ 126) : inR (nI b) 33 126 = true := by
  have h3 : ¬ nI b < 33 := fun h => by have h8 := (nI_ltI (a := b) (b := 33) (by omega) (by omega)).mp h; omega
  have h4 : ¬ 126 < nI b := fun h => by have h8 := (nI_ltI (a := 126) (b := b) (by omega) (by omega)).mp h; omega
  unfold inR; simp [h3, h4]
theorem inR_no {b : Nat} (hb : b < 256) (h : b < 33 ∨ 126 < b) : inR (nI b) 33 126 = false := by
  cases e : inR (nI b) 33 126 with
  | false => rfl
  | true =>
    unfold inR at e; simp only [Bool.and_eq_true, Bool.not_eq_true', decide_eq_false_iff_not] at e
    rcases h with h | h
    · exact absurd ((nI_ltI (a := b) (b := 33) (by omega) (by omega)).mpr h) e.1
    · exact absurd ((nI_ltI (a := 126) (b := b) (by omega) (by omega)).mpr h) e.2
theorem puI_at {N : Nat} : ∀ k, PuI N k → puN N k = (k, false) := by
  intro k
  induction k with
  | zero => intro _; rfl
  | succ k ih =>
    intro h
    obtain ⟨h1, h2, h3⟩ := h k (Nat.lt_succ_self k)
    have e := ih (fun j hj => h j (Nat.lt_succ_of_lt hj))
    have en : enN N k = false := by simp [enN, h1]
    rw [puN_s, e]; simp [pust, en, inR_of h2 h3]
theorem pu_bad {N : Nat} : ∀ m k, (puN N k).2 = true → (puN N (k + m)).2 = true := by
  intro m
  induction m with
  | zero => intro k h; exact h
  | succ m ih => intro k h; rw [← Nat.add_assoc, puN_s]; simp [pust, ih k h]
theorem put_bad {N k : Nat} (h : PuI N k) (hk : k < 8) (hN : N / 2 ^ (8 * k) ≠ 0 ∨ k = 0) (hb : byN N k < 33 ∨ 126 < byN N k) : (puN N 8).2 = true := by
  have h1 : (puN N (k + 1)).2 = true := by
    have en : enN N k = false := by rcases hN with h | h <;> simp [enN, h]
    rw [puN_s, puI_at k h]; simp [pust, en, inR_no (byN_lt N k) hb]
  have h2 := pu_bad (7 - k) (k + 1) h1
  rwa [show k + 1 + (7 - k) = 8 by omega] at h2
theorem div_0 {N k m : Nat} (h : N / 2 ^ (8 * k) = 0) : N / 2 ^ (8 * (k + m)) = 0 := by rw [show 8 * (k + m) = 8 * k + 8 * m by omega, Nat.pow_add, ← Nat.div_div_eq_div_mul, h, Nat.zero_div]
theorem pu_end {N k : Nat} (h : PuI N k) (hk : 0 < k) (h0 : N / 2 ^ (8 * k) = 0) : ∀ m, puN N (k + m) = (k, false) := by
  intro m
  induction m with
  | zero => exact puI_at k h
  | succ m ih =>
    have en : enN N (k + m) = true := by simp [enN, div_0 h0]; omega
    rw [← Nat.add_assoc, puN_s, ih]; simp [pust, en]
theorem pu8 {N k : Nat} (h : PuI N k) (hk : 0 < k) (hk8 : k ≤ 8) (h0 : N / 2 ^ (8 * k) = 0) : puN N 8 = (k, false) := by
  have h1 := pu_end h hk h0 (8 - k)
  rwa [show k + (8 - k) = 8 by omega] at h1
theorem puI_top {N : Nat} (hN : N < 2 ^ 64) {k : Nat} (hk : k ≤ 8) (h : N / 2 ^ (8 * k) ≠ 0) : k < 8 := by
  rcases Nat.lt_or_ge k 8 with h1 | h1
  · exact h1
  · exact absurd (by rw [show k = 8 by omega]; exact Nat.div_eq_of_lt (by simpa using hN)) h
def PX6 (E : EV) (tg : TG) (N x : Nat) (f : Nat → Int32) (n k : Nat) (hist sl z : Nat → Int32) (gl : Nat) (T : TP) (r : Int32) (H1 : Heap) : Prop := r = T.1 ∧ XE E tg N x f n k hist sl z T.2.1 gl T.2.2 H1
theorem PX6.of {E : EV} {tg : TG} {N x n k : Nat} {f hist sl z : Nat → Int32} {gl : Nat} {T T' : TP} {H1 : Heap} (h : T = T') (k1 : XE E tg N x f n k hist sl z T'.2.1 gl T'.2.2 H1) : PX6 E tg N x f n k hist sl z gl T T'.1 H1 := by
  subst h; exact ⟨rfl, k1⟩
/-- the text of the first k bytes, the last first -/
def TX (E : EV) (N0 N : Nat) (t vt k : Nat) (ft : Nat → Int32) (H : Heap) : Prop := Str E t vt k ft H ∧ (∀ j, j < k → ft j = nI (byN N (k - 1 - j))) ∧ (0 < k → N0 ≤ t ∧ N0 ≤ vt)
theorem tx_step {N i bt : Nat} {ft f' f2 : Nat → Int32} (hbt : bt = byN N i) (h1 : ∀ j, j < 1 → f' j = upd (fun _ => 0) 0 (nI bt) j) (h2 : ∀ j, j < i → f' (1 + j) = ft j) (h3 : ∀ j, j < 1 + i → f2 j = f' j) (hft : ∀ j, j < i → ft j = nI (byN N (i - 1 - j))) : ∀ j, j < i + 1 → f2 j = nI (byN N (i + 1 - 1 - j)) := by
  intro j hj
  rw [h3 j (by omega)]
  rcases Nat.eq_zero_or_pos j with e | e
  · subst e; rw [h1 0 (by decide), hbt]; simp [upd]
  · obtain ⟨m, rfl⟩ : ∃ m, j = 1 + m := ⟨j - 1, by omega⟩
    rw [h2 m (by omega), hft m (by omega), show i + 1 - 1 - (1 + m) = i - 1 - m by omega]
theorem PuI.step {N i : Nat} (h : PuI N i) (h0 : N / 2 ^ (8 * i) ≠ 0) (h1 : 33 ≤ byN N i) (h2 : byN N i ≤ 126) : PuI N (i + 1) := fun j hj => by
  rcases Nat.lt_or_ge j i with e | e
  · exact h j e
  · rw [show j = i by omega]; exact ⟨h0, h1, h2⟩
theorem put_chars {N ln i : Nat} {pf pd f' ft : Nat → Int32} (h : PuI N i) (hpd : ∀ j, j < ln → pf j = pd j ∧ ∃ ch : Nat, pd j = nI ch ∧ 33 ≤ ch ∧ ch < 127) (h1 : ∀ j, j < ln → f' j = pf j) (h2 : ∀ j, j < i → f' (ln + j) = ft j) (hft : ∀ j, j < i → ft j = nI (byN N (i - 1 - j))) : ∀ j, j < ln + i → f' j = ptP pd N ln i i j ∧ ∃ ch : Nat, ptP pd N ln i i j = nI ch ∧ 33 ≤ ch ∧ ch < 127 := by
  intro j hj
  rcases Nat.lt_or_ge j ln with e | e
  · have e2 : ptP pd N ln i i j = pd j := by unfold ptP; rw [if_neg (by omega)]
    rw [e2, h1 j e]; exact hpd j e
  · obtain ⟨m, rfl⟩ : ∃ m, j = ln + m := ⟨j - ln, by omega⟩
    have e2 : ptP pd N ln i i (ln + m) = nI (byN N (i - 1 - m)) := by unfold ptP; rw [if_pos ⟨by omega, by omega⟩, show ln + i - 1 - (ln + m) = i - 1 - m by omega]
    rw [e2, h2 m (by omega), hft m (by omega)]
    obtain ⟨-, h3, h4⟩ := h (i - 1 - m) (by omega)
    exact ⟨rfl, _, rfl, h3, by omega⟩
theorem hdX0_put : Hd yX0_put 1 := by decide +kernel
set_option maxHeartbeats 1000000 in
set_option maxRecDepth 100000 in
theorem metX0_put (l : Launch) (E : EV) (H : Heap) (tg : TG) (x : Nat) (f : Nat → Int32) (n k : Nat) (hist sl z pd : Nat → Int32) (gl ln : Nat) (hx : XR E tg x f n k hist sl z pd gl ln H) (N : Nat) (hN : N < 2 ^ 64) : Ct l yX0_put cX0_put 7 (some .int) 6 175 (41) (6992) [.ref x, .long (lN N)] E H (XA E tg H.size) (pI (fun r9 H1 => PX6 E tg H.size x f n k hist sl z gl (putT pd N ln) r9 H1)) := by
  have hx0 := hx
  obtain ⟨g, hL, sa, pb, pl, wr, hxo, hxt, hgs, hrs⟩ := hx
  have hgs0 := hgs
  obtain ⟨c, L, arr, cap, M, arr2, cap2, b, md, md2, xs, ys, hgx, hgt, hvk⟩ := hgs
  have hgx0 := hgx
  have hvk0 := hvk
  obtain ⟨hg, hcx, hrl, hal, hmb, hbl⟩ := hgx
  obtain ⟨hn0, hn24, hk0, hk10, hrok, hmok⟩ := hvk
  have hc0 := hcx.1
  have hcr : CR E c n (ruA f) H := ⟨L, md, arr, cap, xs, hcx.1, hcx.2, hrl⟩
  have hrs0 := hrs
  obtain ⟨hmd, harr, hcap, hs, sf, hAL, hlen, hgl7, hHI, hsa, hSL, hPD, ht11, ht12, ht13⟩ := hrs
  have hPD0 := hPD
  obtain ⟨pv, pcap, pmb, pf, hsb, hln60, hpd, ht14, ht15⟩ := hPD
  have hpv : pb ≠ pv := tne ht14.2 ht15.2 (by decide)
  have lpb := hsb.1.lt; have lpv := hsb.2.1.lt; have lx := hxo.lt
  refine Ct.ofZ (by decide) (Nat.le_of_ble_eq_true rfl) ?_
  intro p e s m bl mt cd ls Q hF hW hH hl hend
  obtain ⟨F, hin⟩ := hF
  have hx := F.1
  have hb := F.2.1
  have hts := F.2.2.2.2
  have hl : lv_has ls 7 [(0, .ref x), (1, .long (lN N))] := hl
  have hS : va_S (XA E tg H.size) H H [] := va_S.rf
  refine xldcw F hW.1.2.2.2.2.2.2.2.2.1 dX0_put_0 ?_
  refine lv_astore_n (lv' := [(3, .ref (E.2.2.2 4)), (0, .ref x), (1, .long (lN N))]) hx hb dX0_put_3 rfl hl (by decide) rfl (fun ls hl => ?_)
  refine lv_lload_n hx hb dX0_put_4 rfl (lv_at hl 2 rfl) ?_
  have hb9 := hW.b0
  refine lv_vall (y := lN (N / 2 ^ (8 * 0))) (by rw [Nat.mul_zero, Nat.pow_zero, Nat.div_one]) ?_
  refine lv_lstore (lv' := [(4, .long (lN (N / 2 ^ (8 * 0)))), (3, .ref (E.2.2.2 4)), (0, .ref x), (1, .long (lN N))]) hx hb dX0_put_5 hl (by decide) rfl (fun ls hl => ?_)
  have lg7 : ∀ (kk : Nat) (i : Nat) (t : Nat) (vt : Nat) (ft : Nat → Int32), 8 - i < kk → (i ≤ 8) → (PuI N i) → ∀ (kc ks : Nat), kc ≤ 5 * i → ks ≤ 824 * i → ∀ (Hg_7 : Heap) (locs : List Loc), va_S (XA E tg H.size) H Hg_7 locs → WK E s Hg_7 → (Chg (fun q => H.size ≤ q) H Hg_7 ∧ TX E H.size N t vt i ft Hg_7 ∧ t < Hg_7.size ∧ vt < Hg_7.size) → ∀ ls : Array Slot, lv_has ls 7 [(3, .ref t), (4, .long (lN (N / 2 ^ (8 * i)))), (0, .ref x)] → W p l e ({ frames := 6, cells := 41, slots := 6992, locals := 175 } : Room) s m ([.ref x, .long (lN N)] : List Value).toArray bl mt cd Hg_7 locs kc ks Q (F0 m 7 ls []) := by
    intro kk
    induction kk with
    | zero => intro i t vt ft hm; exact absurd hm (Nat.not_lt_zero _)
    | succ kk ih7 =>
      intro i t vt ft hm hi9 hpi kc ks hkc hks Hg_7 locs hS_7 hW_7 hl_7 ls hl
      obtain ⟨hcg, ⟨hTs, hTf, hTn⟩, hlt, hlvt⟩ := hl_7
      have hzg := hcg.1
      have hlt9 : N / 2 ^ (8 * i) < 2 ^ 64 := Nat.lt_of_le_of_lt (Nat.div_le_self _ _) hN
      refine lv_lload hx hb dX0_put_7 (lv_at hl 1 rfl) ?_
      refine lv_lconst (v := 0) hx hb dX0_put_9 (by decide) ?_
      refine W.lcmp hx hb dX0_put_10 ?_
      refine lv_if_eq (tgt := 71) hx hb dX0_put_11 (by decide) (fun c_1 => ?_) (fun c_1 => ?_)
      · skip
        have he9 : N / 2 ^ (8 * i) = 0 := (lgc0 hlt9).mp c_1
        refine lv_aload_n hx hb dX0_put_71 rfl (lv_at hl 0 rfl) ?_
        refine run_ro (w := .int (b2i (decide (i = 0)))) (rest := []) (kV F hW_7 (metJ5_isEmpty l E Hg_7 t vt i ft hTs) (lw_V q976 q977 q978 q50 q979) hdJ5_isEmpty ⟨Nat.le_of_ble_eq_true rfl, Nat.le_of_ble_eq_true rfl⟩ (Str.rcv hW_7 hTs) hl.1 rfl (Nat.le_of_ble_eq_true rfl) dX0_put_72 ⟨by show kc + 0 ≤ 41; omega, by show ks + 0 ≤ 6992; omega⟩) ?_
        refine lv_if_eq (tgt := 81) hx hb dX0_put_75 (by decide) (fun c_2 => ?_) (fun c_2 => ?_)
        · skip
          have bc_2 := c_2
          have c_2 := b2i_f c_2
          have hi0 : ¬ i = 0 := by simpa using c_2
          have hp8 : puN N 8 = (i, false) := pu8 hpi (by omega) hi9 he9
          have hxo2 := hxo.kept hcg (Nat.not_le.mpr hxo.lt)
          have hgs2 := hgs0.kept hb9 hcg (fun q h1 h2 => absurd h1 (Nat.not_lt.mpr h2))
          have hrs2 := hrs0.kept hb9 hcg (fun q h1 h2 => absurd h1 (Nat.not_lt.mpr h2))
          have hsb2 : SB E pb pv pcap ln pmb pf Hg_7 := ⟨hsb.1.kept hcg (Nat.not_le.mpr lpb), hsb.2.1.kept hcg (Nat.not_le.mpr lpv), hsb.2.2⟩
          refine lv_aload_n hx hb dX0_put_81 rfl (lv_at hl 2 rfl) ?_
          refine xget (ref := "LayeredCharters") (ci := 0) (v := .ref pb) (C := RX0) (T := TX0) (N := 6) F in_X0 hW_7 hxo2 rfl 3 (by decide) q180 (fun _ h9 => h9) rfl dX0_put_82 ?_
          refine run_ro (w := .int (nI ln)) (rest := []) (kV F hW_7 (metJ4_length l E Hg_7 pb pv pcap ln pmb pf hsb2) (lw_V q467 q468 q469 q49 q470) hdJ4_length ⟨Nat.le_of_ble_eq_true rfl, Nat.le_of_ble_eq_true rfl⟩ (recv hW_7 hsb2.1 rfl) hl.1 rfl (Nat.le_of_ble_eq_true rfl) dX0_put_85 ⟨by show kc + 0 ≤ 41; omega, by show ks + 0 ≤ 6992; omega⟩) ?_
          refine lv_aload_n hx hb dX0_put_88 rfl (lv_at hl 0 rfl) ?_
          refine run_ro (w := .int (nI i)) (rest := [.int (nI ln)]) (kV F hW_7 (metJ5_length l E Hg_7 t vt i ft hTs) (lw_V q980 q519 q520 q50 q521) hdJ5_length ⟨Nat.le_of_ble_eq_true rfl, Nat.le_of_ble_eq_true rfl⟩ (Str.rcv hW_7 hTs) hl.1 rfl (Nat.le_of_ble_eq_true rfl) dX0_put_89 ⟨by show kc + 0 ≤ 41; omega, by show ks + 0 ≤ 6992; omega⟩) ?_
          refine lv_iadd hx hb dX0_put_92 ?_
          refine lv_val (y := nI (ln + i)) ((nI_add (ln) (i))) ?_
          refine lv_bipush (v := 60) hx hb dX0_put_93 (by decide) ?_
          refine lv_icmp_le (tgt := 101) hx hb dX0_put_95 (by decide) (fun c_3 => ?_) (fun c_3 => ?_)
          · skip
            have nc_3 := (nI_leI (a := (ln + i)) (b := 60) (by omega) (by omega)).mp c_3
            refine lv_aload_n hx hb dX0_put_101 rfl (lv_at hl 2 rfl) ?_
            refine xget (ref := "LayeredCharters") (ci := 0) (v := .ref pb) (C := RX0) (T := TX0) (N := 6) F in_X0 hW_7 hxo2 rfl 3 (by decide) q180 (fun _ h9 => h9) rfl dX0_put_102 ?_
            refine lv_aload_n hx hb dX0_put_105 rfl (lv_at hl 0 rfl) ?_
            refine run_chA (rest := []) (kV F hW_7 (metJ4_append_2 l E Hg_7 pb pv pcap ln pmb pf hsb2 t vt i ft hTs (by omega) ht14.1 ht15.1 hpv hpd.1 (fun h9 => by have h8 := hTn (by omega); omega) (fun h9 => by have h8 := hTn (by omega); omega)) (lw_V q896 q897 q898 q49 q899) hdJ4_append_2 ⟨Nat.le_of_ble_eq_true rfl, Nat.le_of_ble_eq_true rfl⟩ (recv hW_7 hsb2.1 rfl) hl.1 rfl (Nat.le_of_ble_eq_true rfl) dX0_put_106 ⟨by show kc + 1 ≤ 41; omega, by show ks + 400 ≤ 6992; omega⟩) hS_7 (fun q9 h9 => h9.elim (fun h => h ▸ XA.of ht14 (by decide) (by decide)) (fun h => h.elim (fun h => h ▸ XA.of ht15 (by decide) (by decide)) (fun h => Or.inr (by have h7 : Hg_7.size ≤ q9 := h; omega)))) (fun r_4 H_4 locs hp_4 hc_4 hS_4 => ?_)
            obtain ⟨e9, v', cap', f', hsb', -, hv', hf', hg', hcb'⟩ := hp_4
            have e8 := e9.symm; subst e8
            have hxo3 := hxo2.kept hc_4 (fun h9 => h9.elim (fun h => tne hxt.2 ht14.2 (by decide) (show x = pb from h)) (fun h => h.elim (fun h => tne hxt.2 ht15.2 (by decide) (show x = pv from h)) (fun h => absurd hxo2.lt (Nat.not_lt.mpr h))))
            have hW_H_4 := hW_7.kept hc_4 (fun q9 h1 h2 => h2.elim (fun h => h ▸ ht14.1) (fun h => h.elim (fun h => h ▸ ht15.1) (fun h => absurd h1 (Nat.not_lt.mpr h))))
            have hE5 : Ext tg (tg1A tg Hg_7.size x 15) Hg_7.size := tg1A_ext
            have hX5 : XR E (tg1A tg Hg_7.size x 15) x f n k hist sl z (ptP pd N ln i i) gl (ln + i) H_4 := XR.pad hb9 hxo3 hxt hxo2.lt hgs2 hrs2 hE5 hc_4 (fun q hq h => h.elim (fun e => Or.inr (Or.inl (by rw [e, ht14.2]))) (fun h => h.elim (fun e => Or.inr (Or.inr (by rw [e, ht15.2]))) (fun h => absurd hq (Nat.not_lt.mpr h)))) ⟨v', cap', pmb, f', hsb', by omega, ⟨hcb', put_chars hpi hpd.2 hf' hg' hTf⟩, ht14.ext hE5 (by omega), hv'.elim (fun e => e ▸ ht15.ext hE5 (by omega)) (fun h => ⟨Nat.le_trans hW_7.2.2 h, tg1A_new h⟩)⟩
            refine lv_pop hx hb dX0_put_109 rfl ?_
            refine lv_aload_n hx hb dX0_put_110 rfl (lv_at hl 2 rfl) ?_
            refine xget (ref := "LayeredCharters") (ci := 0) (v := .ref pb) (C := RX0) (T := TX0) (N := 6) F in_X0 hW_H_4 hxo3 rfl 3 (by decide) q180 (fun _ h9 => h9) rfl dX0_put_111 ?_
            refine run_ro (w := .int (nI (ln + i))) (rest := []) (kV F hW_H_4 (metJ4_length l E H_4 pb v' cap' (ln + i) pmb f' hsb') (lw_V q467 q468 q469 q49 q470) hdJ4_length ⟨Nat.le_of_ble_eq_true rfl, Nat.le_of_ble_eq_true rfl⟩ (recv hW_H_4 hsb'.1 rfl) hl.1 rfl (Nat.le_of_ble_eq_true rfl) dX0_put_114 ⟨by show kc + 1 + 0 ≤ 41; omega, by show ks + 400 + 0 ≤ 6992; omega⟩) ?_
            exact hend _ _ _ _ _ _ _ rfl dX0_put_117 (⟨_, rfl, PX6.of (T := putT pd N ln) (T' := (nI (ln + i), ptP pd N ln i i, ln + i)) (by unfold putT; rw [hp8, if_neg (by simp), if_pos (show ln + i ≤ 60 by omega)]) ⟨_, fun q hq => hE5 q (by omega), hX5⟩⟩) hS_4 (by first | exact Nat.le_refl _ | (show (kc + 1 : Nat) ≤ 41; omega)) (by first | exact Nat.le_refl _ | (show (ks + 400 : Nat) ≤ 6992; omega))
          · skip
            have nc_3 := Nat.not_le.mp (fun h9 => c_3 ((nI_leI (a := (ln + i)) (b := 60) (by omega) (by omega)).mpr h9))
            refine lv_bipush (v := (-4)) hx hb dX0_put_98 (by decide) ?_
            exact hend _ _ _ _ _ _ _ rfl dX0_put_100 (⟨_, rfl, PX6.of (T := putT pd N ln) (T' := (-4, pd, ln)) (by unfold putT; rw [hp8, if_neg (by simp), if_neg (show ¬ ln + i ≤ 60 by omega)]) ⟨tg, Ext.rf, hx0.grow hb9 hcg⟩⟩) hS_7 (by first | exact Nat.le_refl _ | (show (kc : Nat) ≤ 41; omega)) (by first | exact Nat.le_refl _ | (show (ks : Nat) ≤ 6992; omega))
        · skip
          have bc_2 := c_2
          have c_2 := b2i_t c_2
          have hi0 : i = 0 := by simpa using c_2
          refine lv_bipush (v := (-2)) hx hb dX0_put_78 (by decide) ?_
          exact hend _ _ _ _ _ _ _ rfl dX0_put_80 (⟨_, rfl, PX6.of (T := putT pd N ln) (T' := (-2, pd, ln)) (if_pos (put_bad hpi (by omega) (Or.inr hi0) (Or.inl (by subst hi0; show N / 2 ^ (8 * 0) % 2 ^ 8 < 33; rw [he9]; decide)))) ⟨tg, Ext.rf, hx0.grow hb9 hcg⟩⟩) hS_7 (by first | exact Nat.le_refl _ | (show (kc : Nat) ≤ 41; omega)) (by first | exact Nat.le_refl _ | (show (ks : Nat) ≤ 6992; omega))
      · skip
        have he9 : ¬ N / 2 ^ (8 * i) = 0 := lgc_t hlt9 c_1
        have hi8 : i < 8 := puI_top hN hi9 he9
        refine lv_lload hx hb dX0_put_14 (lv_at hl 1 rfl) ?_
        refine lv_ldc2 (v := 255) hx hb F.2.2.2.1 (hts _ q856) dX0_put_16 ?_
        refine lv_land hx hb dX0_put_19 ?_
        refine lv_vall (y := lN ((N / 2 ^ (8 * i)) % 2 ^ 8)) (wb_mask (k := 8) (Nat.lt_of_le_of_lt (Nat.div_le_self _ _) hN) (by decide)) ?_
        refine lv_l2i (v := nI ((N / 2 ^ (8 * i)) % 2 ^ 8)) hx hb dX0_put_20 (lN_i _) ?_
        obtain ⟨bt, hbt⟩ : ∃ b, b = byN N i := ⟨_, rfl⟩
        have hb256 : bt < 256 := by rw [hbt]; exact byN_lt N i
        refine lv_val (y := nI bt) (by rw [hbt]; rfl) ?_
        refine lv_istore (lv' := [(6, .int (nI bt)), (3, .ref t), (4, .long (lN (N / 2 ^ (8 * i)))), (0, .ref x)]) hx hb dX0_put_21 hl (by decide) rfl (fun ls hl => ?_)
        refine lv_iload hx hb dX0_put_23 (lv_at hl 0 rfl) ?_
        refine lv_bipush (v := 33) hx hb dX0_put_25 (by decide) ?_
        refine lv_icmp_lt (tgt := 37) hx hb dX0_put_27 (by decide) (fun c_5 => ?_) (fun c_5 => ?_)
        · skip
          have nc_5 := (nI_ltI (a := bt) (b := 33) (by omega) (by omega)).mp c_5
          refine lv_bipush (v := (-2)) hx hb dX0_put_37 (by decide) ?_
          exact hend _ _ _ _ _ _ _ rfl dX0_put_39 (⟨_, rfl, PX6.of (T := putT pd N ln) (T' := (-2, pd, ln)) (if_pos (put_bad hpi hi8 (Or.inl he9) (by rw [← hbt]; omega))) ⟨tg, Ext.rf, hx0.grow hb9 hcg⟩⟩) hS_7 (by first | exact Nat.le_refl _ | (show (kc : Nat) ≤ 41; omega)) (by first | exact Nat.le_refl _ | (show (ks : Nat) ≤ 6992; omega))
        · skip
          have nc_5 := Nat.not_lt.mp (fun h9 => c_5 ((nI_ltI (a := bt) (b := 33) (by omega) (by omega)).mpr h9))
          refine lv_iload hx hb dX0_put_30 (lv_at hl 0 rfl) ?_
          refine lv_bipush (v := 126) hx hb dX0_put_32 (by decide) ?_
          refine lv_icmp_le (tgt := 40) hx hb dX0_put_34 (by decide) (fun c_6 => ?_) (fun c_6 => ?_)
          · skip
            have nc_6 := (nI_leI (a := bt) (b := 126) (by omega) (by omega)).mp c_6
            have hb33 : 33 ≤ bt := by omega
            have hb126 : bt ≤ 126 := by omega
            have hpi1 : PuI N (i + 1) := hpi.step he9 (hbt ▸ hb33) (hbt ▸ hb126)
            refine xnew (ci := 7) (fs := [.null, .int 0, .int 0, .int 0]) (C := RJ4) (T := TJ4) (N := 4) F in_J4 tyJ4 tyJ4_ok q144 q145 q49 hW_7 hS_7 rfl (fun j hj => by rcases (show j = 0 ∨ j = 1 ∨ j = 2 ∨ j = 3 by omega) with rfl | rfl | rfl | rfl <;> rfl) (by show kc + 1 ≤ 41; omega) (by show ks + 4 ≤ 6992; omega) dX0_put_40 (fun H_7 ho_7 hp_7 hS_7 => ?_)
            have hz_H_7 : H_7.size = Hg_7.size + 1 := hp_7.1
            have hW_H_7 := hW_7.kept (hp_7.chg (A := fun _ => False)) (fun _ _ h9 => h9.elim)
            have hg_H_7 : Chg (fun q => Hg_7.size ≤ q) Hg_7 H_7 := (Chg.rf (A := fun q => Hg_7.size ≤ q) (H := Hg_7)).trans2 (hp_7.chg (A := fun _ => False)) (fun q9 _ h9 => h9.elim)
            have hz_H_7 := hg_H_7.1
            have hsbo : Old E Hg_7.size := Nat.le_trans hW_7.2.2 (by omega)
            refine lv_dup hx hb dX0_put_43 rfl ?_
            refine run_chN (rest := [.ref Hg_7.size]) (kI F hW_H_7 (metJ4_init l E H_7 Hg_7.size hsbo ho_7) q148 q49 q146 q147 rfl hdJ4_init ⟨Nat.le_of_ble_eq_true rfl, Nat.le_of_ble_eq_true rfl⟩ hl.1 rfl (Nat.le_of_ble_eq_true rfl) dX0_put_44 ⟨by show kc + 1 + 1 ≤ 41; omega, by show ks + 4 + 16 ≤ 6992; omega⟩) hS_7 (fun q9 h9 => Or.inr (h9.elim (fun h => by have h7 : q9 = Hg_7.size := h; omega) (fun h => by have h7 : H_7.size ≤ q9 := h; omega))) (fun H_8 locs hp_8 hc_8 hS_8 => ?_)
            have hsb1 := hp_8
            obtain ⟨hsb1o, hsb1i, -, -⟩ := hp_8
            have hg_H_8 : Chg (fun q => Hg_7.size ≤ q) Hg_7 H_8 := hg_H_7.trans2 hc_8 (fun q9 _ h9 => h9.elim (fun h => by have h7 : q9 = Hg_7.size := h; omega) (fun h => by have h7 : H_7.size ≤ q9 := h; omega))
            have hz_H_8 := hg_H_8.1
            have hW_H_8 := hW_H_7.kept hc_8 (fun q9 h1 h2 => h2.elim (fun h => h ▸ hsbo) (fun h => absurd h1 (Nat.not_lt.mpr h)))
            have hsbv : Old E H_7.size := Nat.le_trans hW_7.2.2 (by omega)
            have hqv1 : Hg_7.size ≠ H_7.size := by have h8 := ho_7.lt; omega
            refine lv_iload hx hb dX0_put_47 (lv_at hl 0 rfl) ?_
            refine lv_i2c (v := nI bt) hx hb dX0_put_49 (chr_i2c (by omega)) ?_
            refine run_chA (rest := []) (kV F hW_H_8 (metJ4_append l E H_8 Hg_7.size H_7.size 16 0 0 (fun _ => 0) hsb1 hsbo hsbv hqv1 (by decide) bt (by omega)) (lw_V q857 q858 q859 q49 q860) hdJ4_append ⟨Nat.le_of_ble_eq_true rfl, Nat.le_of_ble_eq_true rfl⟩ (recv hW_H_8 hsb1.1 rfl) hl.1 rfl (Nat.le_of_ble_eq_true rfl) dX0_put_50 ⟨by show kc + 1 + 1 + 0 ≤ 41; omega, by show ks + 4 + 16 + 0 ≤ 6992; omega⟩) hS_8 (fun q9 h9 => Or.inr (h9.elim (fun h => by have h7 : q9 = Hg_7.size := h; omega) (fun h => by have h7 : q9 = H_7.size := h; omega))) (fun r_9 H_9 locs hp_9 hc_9 hS_9 => ?_)
            obtain ⟨e9, hsb2⟩ := hp_9
            subst e9
            have hg_H_9 : Chg (fun q => Hg_7.size ≤ q) Hg_7 H_9 := hg_H_8.trans2 hc_9 (fun q9 _ h9 => h9.elim (fun h => by have h7 : q9 = Hg_7.size := h; omega) (fun h => by have h7 : q9 = H_7.size := h; omega))
            have hz_H_9 := hg_H_9.1
            have hW_H_9 := hW_H_8.kept hc_9 (fun q9 h1 h2 => h2.elim (fun h => h ▸ hsbo) (fun h => h ▸ hsbv))
            have hTs2 := hTs.ext hg_H_9
            have lq2 := hsb2.1.lt; have lv2 := hsb2.2.1.lt
            refine lv_aload_n hx hb dX0_put_53 rfl (lv_at hl 1 rfl) ?_
            refine run_chA (rest := []) (kV F hW_H_9 (metJ4_append_2 l E H_9 Hg_7.size H_7.size 16 1 0 (upd (fun _ => 0) 0 (nI bt)) hsb2 t vt i ft hTs2 (by omega) hsbo hsbv hqv1 (Cb.zero.put (by omega)) (fun h9 => by omega) (fun h9 => by omega)) (lw_V q896 q897 q898 q49 q899) hdJ4_append_2 ⟨Nat.le_of_ble_eq_true rfl, Nat.le_of_ble_eq_true rfl⟩ (recv hW_H_9 hsb2.1 rfl) hl.1 rfl (Nat.le_of_ble_eq_true rfl) dX0_put_54 ⟨by show kc + 1 + 1 + 1 ≤ 41; omega, by show ks + 4 + 16 + 400 ≤ 6992; omega⟩) hS_9 (fun q9 h9 => Or.inr (h9.elim (fun h => by have h7 : q9 = Hg_7.size := h; omega) (fun h => h.elim (fun h => by have h7 : q9 = H_7.size := h; omega) (fun h => by have h7 : H_9.size ≤ q9 := h; omega)))) (fun r_10 H_10 locs hp_10 hc_10 hS_10 => ?_)
            obtain ⟨e9, v3, cap3, f3, hsb3, hcc3, hv3, hf3, hg3, hcb3⟩ := hp_10
            subst e9
            have hg_H_10 : Chg (fun q => Hg_7.size ≤ q) Hg_7 H_10 := hg_H_9.trans2 hc_10 (fun q9 _ h9 => h9.elim (fun h => by have h7 : q9 = Hg_7.size := h; omega) (fun h => h.elim (fun h => by have h7 : q9 = H_7.size := h; omega) (fun h => by have h7 : H_9.size ≤ q9 := h; omega)))
            have hz_H_10 := hg_H_10.1
            have hW_H_10 := hW_H_9.kept hc_10 (fun q9 h1 h2 => h2.elim (fun h => h ▸ hsbo) (fun h => h.elim (fun h => h ▸ hsbv) (fun h => absurd h1 (Nat.not_lt.mpr h))))
            refine run_chA (rest := []) (kV F hW_H_10 (metJ4_toString l E H_10 Hg_7.size v3 cap3 (1 + i) 0 f3 hsb3 (by omega) (by omega) hcb3) (lw_V q926 q927 q928 q49 q929) hdJ4_toString ⟨Nat.le_of_ble_eq_true rfl, Nat.le_of_ble_eq_true rfl⟩ (recv hW_H_10 hsb3.1 rfl) hl.1 rfl (Nat.le_of_ble_eq_true rfl) dX0_put_57 ⟨by show kc + 1 + 1 + 1 + 2 ≤ 41; omega, by show ks + 4 + 16 + 400 + 404 ≤ 6992; omega⟩) hS_10 (fun q9 h9 => Or.inr (by have h7 : H_10.size ≤ q9 := h9; omega)) (fun r_11 H_11 locs hp_11 hc_11 hS_11 => ?_)
            obtain ⟨hr4, v4, f4, hv4, hs4, hf4⟩ := hp_11
            have hg_H_11 : Chg (fun q => Hg_7.size ≤ q) Hg_7 H_11 := hg_H_10.trans2 hc_11 (fun q9 _ h9 => by have h7 : H_10.size ≤ q9 := h9; omega)
            have hz_H_11 := hg_H_11.1
            have hW_H_11 := hW_H_10.kept hc_11 (fun q9 h1 h2 => absurd h1 (Nat.not_lt.mpr h2))
            have hs5 : Str E r_11 v4 (i + 1) f4 H_11 := by rw [Nat.add_comm i 1]; exact hs4
            have hcg5 : Chg (fun q => H.size ≤ q) H H_11 := hcg.trans2 hg_H_11 (fun q9 _ h9 => by have h7 : Hg_7.size ≤ q9 := h9; omega)
            have hl5 := hs5.lt hW_H_11 (Nat.succ_pos i)
            refine lv_astore_n (lv' := [(3, .ref r_11), (6, .int (nI bt)), (4, .long (lN (N / 2 ^ (8 * i)))), (0, .ref x)]) hx hb dX0_put_60 rfl hl (by decide) rfl (fun ls hl => ?_)
            refine lv_lload hx hb dX0_put_61 (lv_at hl 2 rfl) ?_
            refine lv_bipush (v := 8) hx hb dX0_put_63 (by decide) ?_
            refine lv_lushr (v := lN ((N / 2 ^ (8 * i)) / 2 ^ (8))) hx hb dX0_put_65 (by rw [show (8 : Int32) = nI (8) from (rfl : (8 : Int32) = nI 8)]; exact wb_shr (by omega) (by omega)) ?_
            refine lv_vall (y := lN (N / 2 ^ (8 * (i + 1)))) (by rw [Nat.div_div_eq_div_mul, ← Nat.pow_add, show 8 * i + 8 = 8 * (i + 1) by omega]) ?_
            refine lv_lstore (lv' := [(4, .long (lN (N / 2 ^ (8 * (i + 1))))), (3, .ref r_11), (6, .int (nI bt)), (0, .ref x)]) hx hb dX0_put_66 hl (by decide) rfl (fun ls hl => ?_)
            refine lv_goto (tgt := 7) hx hb dX0_put_68 (by decide) ?_
            exact ih7 (i + 1) r_11 v4 f4 (by omega) (by omega) (hpi1) _ _ (by omega) (by omega) _ _ hS_11 hW_H_11 (⟨hcg5, ⟨hs5, tx_step hbt hf3 hg3 hf4 hTf, fun _ => ⟨by omega, by omega⟩⟩, hl5⟩) ls (lv_sub hl [1, 0, 3] rfl)
          · skip
            have nc_6 := Nat.not_le.mp (fun h9 => c_6 ((nI_leI (a := bt) (b := 126) (by omega) (by omega)).mpr h9))
            refine lv_bipush (v := (-2)) hx hb dX0_put_37 (by decide) ?_
            exact hend _ _ _ _ _ _ _ rfl dX0_put_39 (⟨_, rfl, PX6.of (T := putT pd N ln) (T' := (-2, pd, ln)) (if_pos (put_bad hpi hi8 (Or.inl he9) (by rw [← hbt]; omega))) ⟨tg, Ext.rf, hx0.grow hb9 hcg⟩⟩) hS_7 (by first | exact Nat.le_refl _ | (show (kc : Nat) ≤ 41; omega)) (by first | exact Nat.le_refl _ | (show (ks : Nat) ≤ 6992; omega))
  exact lg7 _ 0 (E.2.2.2 4) (E.2.2.2 6) (fun _ => 0) (Nat.lt_succ_self _) (by decide) (fun j hj => absurd hj (Nat.not_lt_zero _)) _ _ (by omega) (by omega) _ _ hS hW (⟨Chg.rf, ⟨Or.inl ⟨rfl, rfl, rfl⟩, fun j hj => absurd hj (Nat.not_lt_zero _), fun h => absurd h (Nat.lt_irrefl _)⟩, b4_lt hW⟩) ls (lv_sub hl [1, 0, 2] rfl)

