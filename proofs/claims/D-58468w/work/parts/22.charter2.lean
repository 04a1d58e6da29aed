/-! CHARTER: copies -/
set_option maxRecDepth 100000
theorem WK.b0 {E : EV} {s : State} {H : Heap} (hW : WK E s H) : E.2.2.2 0 < E.2.2.1 := by
  obtain ⟨cell2, z1, z2, z3, z4⟩ := hW.2.1.2.2.1
  exact Nat.lt_of_not_le z4
theorem AL.kept {E : EV} {q : Nat} {md : Int32} {arr cap : Nat} {xs : List Nat} {H H1 : Heap} {A : Nat → Prop} (h : AL E q md arr cap xs H) (hc : Chg A H H1) (hA : ¬ A q ∧ (Old E arr → ¬ A arr)) : AL E q md arr cap xs H1 := ⟨h.1.kept hc hA.1, h.2.kept hc hA.2⟩
theorem AL.ext {E : EV} {q : Nat} {md : Int32} {arr cap : Nat} {xs : List Nat} {s : State} {H H1 : Heap} (h : AL E q md arr cap xs H) (hW : WK E s H) (hc : Chg (fun q => H.size ≤ q) H H1) : AL E q md arr cap xs H1 := h.kept hc ⟨Nat.not_le.mpr h.1.lt, fun ho => Nat.not_le.mpr (h.2.lt ho hW.b0)⟩
theorem AL.cap {E : EV} {q : Nat} {md : Int32} {arr cap : Nat} {xs : List Nat} {H : Heap} (h : AL E q md arr cap xs H) : xs.length ≤ 40 := by
  rcases h.2 with ⟨_, h2, _⟩ | ⟨_, _, h3, h4, _⟩
  · subst h2; exact Nat.zero_le _
  · exact Nat.le_trans h3 h4
theorem Rls.ext {E : EV} {xs : List Nat} {n : Nat} {ru : Nat → RV} {H H1 : Heap} (h : Rls E xs n ru H) (hc : Chg (fun q => H.size ≤ q) H H1) : Rls E xs n ru H1 := ⟨h.1, h.2.1, fun i x hx => (h.2.2 i x hx).kept hc (Nat.not_le.mpr (h.2.2 i x hx).lt)⟩
theorem CR.ext {E : EV} {c n : Nat} {ru : Nat → RV} {s : State} {H H1 : Heap} (h : CR E c n ru H) (hW : WK E s H) (hc : Chg (fun q => H.size ≤ q) H H1) : CR E c n ru H1 := by
  obtain ⟨L, md, arr, cap, xs, h1, h2, h3⟩ := h
  exact ⟨L, md, arr, cap, xs, h1.kept hc (Nat.not_le.mpr h1.lt), h2.ext hW hc, h3.ext hc⟩
theorem Chg.new {H H0 H1 : Heap} {A : Nat → Prop} (h : Chg A H0 H1) (hA : ∀ q, q < H0.size → A q → H.size ≤ q) (hs : H.size ≤ H0.size) : Chg (fun q => H.size ≤ q) H0 H1 := ⟨h.1, fun q h1 h2 => h.2 q h1 (fun z => h2 (hA q h1 z))⟩
/-- the rules but for the k-th -/
def ruE (ru : Nat → RV) (k : Nat) : Nat → RV := fun i => if i < k then ru i else ru (i + 1)
theorem Rls.erase {E : EV} {xs : List Nat} {n k : Nat} {ru : Nat → RV} {H : Heap} (h : Rls E xs n ru H) (hk : k < n) : Rls E (xs.eraseIdx k) (n - 1) (ruE ru k) H := by
  obtain ⟨h1, h2, h3⟩ := h
  refine ⟨by rw [List.length_eraseIdx, if_pos (by omega), h1], by omega, fun i x hx => ?_⟩
  rw [List.getElem?_eraseIdx] at hx
  unfold ruE
  by_cases hi : i < k
  · rw [if_pos hi] at hx ⊢; exact h3 i x hx
  · rw [if_neg hi] at hx ⊢; exact h3 (i + 1) x hx
theorem rls_elt {E : EV} {xs : List Nat} {n : Nat} {ru : Nat → RV} {H : Heap} (h : Rls E xs n ru H) : ∀ x ∈ xs, Elt E x H := by
  intro x hx
  obtain ⟨i, hi⟩ := List.mem_iff_getElem?.mp hx
  exact ⟨5, _, _, h.2.2 i x hi, rfl, by decide +kernel⟩
def fiG (P : Nat → Bool) : Nat → Nat → Int32
  | 0, _ => -6
  | k + 1, i => if P i = true then nI i else fiG P k (i + 1)
theorem fiG_skip {P : Nat → Bool} : ∀ (j i k : Nat), (∀ x, i ≤ x → x < i + j → P x = false) → fiG P (j + k) i = fiG P k (i + j)
  | 0, i, k, _ => by rw [Nat.zero_add, Nat.add_zero]
  | j + 1, i, k, h => by
    rw [show j + 1 + k = (j + k) + 1 by omega, fiG, if_neg (by rw [h i (Nat.le_refl _) (by omega)]; decide), fiG_skip j (i + 1) k (fun x h1 h2 => h x (by omega) (by omega)), show i + 1 + j = i + (j + 1) by omega]
theorem fiG_none {P : Nat → Bool} {n : Nat} (h : ∀ j, j < n → P j = false) : fiG P n 0 = -6 := by
  have := fiG_skip (P := P) n 0 0 (fun x _ hx => h x (by omega))
  rw [Nat.add_zero] at this
  rw [this]; rfl
theorem fiG_some {P : Nat → Bool} {n i : Nat} (hi : i < n) (hP : P i = true) (h : ∀ j, j < i → P j = false) : fiG P n 0 = nI i := by
  have := fiG_skip (P := P) i 0 (n - i) (fun x _ hx => h x (by omega))
  rw [show i + (n - i) = n by omega, Nat.zero_add] at this
  rw [this, show n - i = (n - i - 1) + 1 by omega, fiG, if_pos hP]
theorem lt_sx {P : Nat → Bool} {i : Nat} (h : ∀ j, j < i → P j = false) (hi : P i = false) : ∀ j, j < i + 1 → P j = false := fun j hj => by
  rcases Nat.lt_or_ge j i with q | q
  · exact h j q
  · rw [show j = i by omega]; exact hi
def idX (ru : Nat → RV) (n k : Nat) : Bool := saX ru n (ruE ru k) (n - 1) 5
def fiX (ru : Nat → RV) (n : Nat) : Int32 := fiG (idX ru n) n 0
/-- a charter with its list in sight -/
def CX (E : EV) (c L : Nat) (md : Int32) (arr cap : Nat) (xs : List Nat) (H : Heap) : Prop := oat E c 2 [.ref L] H ∧ AL E L md arr cap xs H
theorem hdX2_init : Hd yX2_init 0 := by decide +kernel
set_option maxHeartbeats 1000000 in
set_option maxRecDepth 100000 in
theorem metX2_init (l : Launch) (E : EV) (H : Heap) (c : Nat) (hco : Old E c) (hc : oat E c 2 [.null] H) : Ct l yX2_init cX2_init 1 none 4 72 (1) (3) [.ref c] E H (fun q => q = c ∨ H.size ≤ q) (pN (fun H1 => CX E c H.size 0 (E.2.2.2 0) 0 [] H1)) := by
  refine Ct.ofV (by decide) (Nat.le_of_ble_eq_true rfl) ?_
  intro p e s m bl mt cd ls Q hF hW hH hl hend
  obtain ⟨F, hin⟩ := hF
  have hx := F.1
  have hb := F.2.1
  have hts := F.2.2.2.2
  have hl : lv_has ls 1 [(0, .ref c)] := hl
  have hS : va_S (fun q => q = c ∨ H.size ≤ q) H H [] := va_S.rf
  refine lv_aload_n hx hb dX2_init_0 rfl (lv_at hl 0 rfl) ?_
  refine W.objInit hx hb F.2.2.2.1 (hts _ q84) (hts _ q71) (hts _ q72) rfl (by rw [F.2.2.1]; exact hl.1) rfl dX2_init_1 (Nat.le_of_ble_eq_true rfl) (Nat.le_of_ble_eq_true rfl) ?_
  refine W.eq (g2 := F0 m 4 ls []) rfl ?_
  refine lv_aload_n hx hb dX2_init_4 rfl (lv_at hl 0 rfl) ?_
  refine xnew (ci := 6) (fs := [.int 0, .null, .int 0]) (C := RJ2) (T := TJ2) (N := 3) F in_J2 tyJ2 tyJ2_ok q85 q86 q47 hW hS rfl (fun j hj => by rcases (show j = 0 ∨ j = 1 ∨ j = 2 by omega) with rfl | rfl | rfl <;> rfl) (by show 0 + 1 ≤ 1; omega) (by show 0 + 3 ≤ 3; omega) dX2_init_5 (fun H_1 ho_1 hp_1 hS_1 => ?_)
  have hz_H_1 : H_1.size = H.size + 1 := hp_1.1
  have hW_H_1 := hW.kept (hp_1.chg (A := fun _ => False)) (fun _ _ h9 => h9.elim)
  have hc_H_1 := hc.kept (hp_1.chg (A := fun _ => False)) (fun h9 => h9)
  refine lv_dup hx hb dX2_init_8 rfl ?_
  refine run_chN (rest := [.ref H.size, .ref c]) (kI F hW_H_1 (metJ2_init l E H_1 H.size (show E.2.2.1 ≤ H.size from hW.2.2) ho_1) q89 q47 q87 q88 rfl hdJ2_init ⟨Nat.le_of_ble_eq_true rfl, Nat.le_of_ble_eq_true rfl⟩ hl.1 rfl (Nat.le_of_ble_eq_true rfl) dX2_init_9 ⟨by show 1 + 0 ≤ 1; omega, by show 3 + 0 ≤ 3; omega⟩) hS_1 (fun q9 h9 => Or.inr (h9 ▸ Nat.le_refl _)) (fun H_2 locs hp_2 hc_2 hS_2 => ?_)
  have hW_H_2 := hW_H_1.kept hc_2 (fun q9 _ h9 => h9 ▸ (show E.2.2.1 ≤ H.size from hW.2.2))
  have hc_H_2 := hc_H_1.kept hc_2 (fun h9 => Nat.ne_of_lt hc.lt (show _ = _ from h9))
  refine xputF (ref := "LayeredCharters$Charter") (ci := 2) (v := .ref H.size) (C := RX2) (T := TX2) (N := 1) F in_X2 tyX2 tyX2_ok nmX2 hW_H_2 hc_H_2 hS_2 (Or.inl rfl) rfl 0 (by decide) q111 (fun _ h9 => h9) rfl hin rfl rfl rfl (Nat.le_of_ble_eq_true rfl) dX2_init_12 (fun H_3 locs ho_3 hu_3 hS_3 => ?_)
  have ho_3 : oat E c 2 [.ref H.size] H_3 := ho_3
  have hz_H_3 : H_3.size = H_2.size := hu_3.1
  have hW_H_3 := hW_H_2.kept hu_3.chg (fun q _ hq => hq ▸ hco)
  have hp_H_3 := hp_2.kept hu_3.chg ⟨(fun h9 => Nat.ne_of_lt hc.lt (show _ = _ from h9).symm), fun h8 => absurd h8 (Nat.not_le.mpr hW.b0)⟩
  exact hend _ _ _ _ _ _ dX2_init_15 (⟨rfl, ho_3, hp_H_3⟩) hS_3 (by first | exact Nat.le_refl _ | (show (1 : Nat) ≤ 1; omega)) (by first | exact Nat.le_refl _ | (show (3 : Nat) ≤ 3; omega))

theorem hdX2_copy : Hd yX2_copy 0 := by decide +kernel
set_option maxHeartbeats 1000000 in
set_option maxRecDepth 100000 in
theorem metX2_copy (l : Launch) (E : EV) (H : Heap) (c L arr cap : Nat) (xs : List Nat) (md : Int32) (hcx : CX E c L md arr cap xs H) (hel : ∀ x ∈ xs, Elt E x H) (hlen : xs.length ≤ 25) : Ct l yX2_copy cX2_copy 2 (some (.object "LayeredCharters$Charter")) 11 525 (4) (84) [.ref c] E H (fun q => H.size ≤ q) (pA (fun r H1 => r = H.size ∧ ∃ L' arr' cap', CX E H.size L' 1 arr' cap' xs H1 ∧ H.size < L' ∧ (arr' = E.2.2.2 0 ∨ H.size < arr'))) := by
  have hc0 := hcx.1
  refine Ct.ofA (Or.inl ⟨_, rfl⟩) (by decide) (Nat.le_of_ble_eq_true rfl) ?_
  intro p e s m bl mt cd ls Q hF hW hH hl hend
  obtain ⟨F, hin⟩ := hF
  have hx := F.1
  have hb := F.2.1
  have hts := F.2.2.2.2
  have hl : lv_has ls 2 [(0, .ref c)] := hl
  have hS : va_S (fun q => H.size ≤ q) H H [] := va_S.rf
  obtain ⟨cC, hat⟩ := cat (ci := 6) hW rfl
  refine xnew (ci := 2) (fs := [.null]) (C := RX2) (T := TX2) (N := 1) F in_X2 tyX2 tyX2_ok q234 q80 q44 hW hS rfl (fun j hj => by rcases (show j = 0 by omega) with rfl <;> rfl) (by show 0 + 1 ≤ 4; omega) (by show 0 + 1 ≤ 84; omega) dX2_copy_0 (fun H_1 ho_1 hp_1 hS_1 => ?_)
  have hz_H_1 : H_1.size = H.size + 1 := hp_1.1
  have hW_H_1 := hW.kept (hp_1.chg (A := fun _ => False)) (fun _ _ h9 => h9.elim)
  have hc0_H_1 := hc0.kept (hp_1.chg (A := fun _ => False)) (fun h9 => h9)
  refine lv_dup hx hb dX2_copy_3 rfl ?_
  refine run_chN (rest := [.ref H.size]) (kI F hW_H_1 (metX2_init l E H_1 H.size (show E.2.2.1 ≤ H.size from hW.2.2) ho_1) q83 q44 q235 q82 rfl hdX2_init ⟨Nat.le_of_ble_eq_true rfl, Nat.le_of_ble_eq_true rfl⟩ hl.1 rfl (Nat.le_of_ble_eq_true rfl) dX2_copy_4 ⟨by show 1 + 1 ≤ 4; omega, by show 1 + 3 ≤ 84; omega⟩) hS_1 (fun q9 h9 => h9.elim (fun h => h ▸ Nat.le_refl _) (fun h => Nat.le_trans (Nat.le_of_lt (by rw [hz_H_1]; exact Nat.lt_succ_self _)) h)) (fun H_2 locs hp_2 hc_2 hS_2 => ?_)
  obtain ⟨hcn, haln⟩ := hp_2
  have hz_H_2 := hc_2.1
  have hW_H_2 := hW_H_1.kept hc_2 (fun q h1 h2 => h2.elim (fun h => h ▸ (show E.2.2.1 ≤ H.size from hW.2.2)) (fun h => absurd h1 (Nat.not_lt.mpr h)))
  have hc0_H_2 := hc0_H_1.kept hc_2 (fun h9 => h9.elim (fun h8 => Nat.ne_of_lt hcx.1.lt h8) (fun h8 => absurd hc0_H_1.lt (Nat.not_lt.mpr h8)))
  have hext : Chg (fun q => H.size ≤ q) H H_2 := ⟨Nat.le_trans (Nat.le_of_lt (by rw [hz_H_1]; exact Nat.lt_succ_self _)) hc_2.1, hS_2.2.1⟩
  refine lv_astore_n (lv' := [(1, .ref H.size), (0, .ref c)]) hx hb dX2_copy_7 rfl hl (by decide) rfl (fun ls hl => ?_)
  refine lv_aload_n hx hb dX2_copy_8 rfl (lv_at hl 0 rfl) ?_
  refine xget (ref := "LayeredCharters$Charter") (ci := 2) (v := .ref H_1.size) (C := RX2) (T := TX2) (N := 1) F in_X2 hW_H_2 hcn rfl 0 (by decide) q111 (fun _ h9 => h9) rfl dX2_copy_9 ?_
  refine lv_aload_n hx hb dX2_copy_12 rfl (lv_at hl 1 rfl) ?_
  refine xget (ref := "LayeredCharters$Charter") (ci := 2) (v := .ref L) (C := RX2) (T := TX2) (N := 1) F in_X2 hW_H_2 hc0_H_2 rfl 0 (by decide) q111 (fun _ h9 => h9) rfl dX2_copy_13 ?_
  have hz_c : H_1.size = H.size + 1 := hz_H_1
  refine run_ch5I (rest := []) (kF (x := ⟨"java/util/List", "addAll", "(Ljava/util/Collection;)Z"⟩) F hW_H_2 (metJ2_addAll l E H_2 (H_1.size) (E.2.2.2 0) 0 L arr cap [] xs 0 md (Nat.le_trans (show E.2.2.1 ≤ H.size from hW.2.2) (by omega)) haln (hcx.2.ext hW hext) (fun z hz => by cases hz) (fun z hz => ⟨(hel z hz).kept hext (Nat.not_le.mpr (hel z hz).lt), fun h9 => by have h8 := (hel z hz).lt; omega⟩) (by simpa using hlen)) (by decide +kernel) hat q237 q240 q242 q47 q244 hdJ2_addAllF ⟨Nat.le_of_ble_eq_true rfl, Nat.le_of_ble_eq_true rfl⟩ (recv hW_H_2 haln.1 rfl) hl.1 rfl (Nat.le_of_ble_eq_true rfl) dX2_copy_16 ⟨by show 2 + 2 ≤ 4; omega, by show 4 + 80 ≤ 84; omega⟩) hS_2 (fun q9 h9 => h9.elim (fun h8 => by show H.size ≤ q9; omega) (fun h8 => h8.elim (fun h7 => absurd h7.2 (h7.1 ▸ Nat.not_le.mpr hW.b0)) (fun h7 => Nat.le_trans hext.1 h7))) (fun r_3 H_3 locs hp_3 hc_3 hS_3 => ?_)
  obtain ⟨arr', cap', hal', hor⟩ := hp_3
  have hcn' := hcn.kept hc_3 (fun h9 => h9.elim (fun h8 => by have h7 : H.size = H_1.size := h8; omega) (fun h8 => h8.elim (fun h7 => absurd h7.2 (h7.1 ▸ Nat.not_le.mpr hW.b0)) (Nat.not_le.mpr hcn.lt)))
  refine lv_pop hx hb dX2_copy_21 rfl ?_
  refine lv_aload_n hx hb dX2_copy_22 rfl (lv_at hl 0 rfl) ?_
  exact hend _ _ _ _ _ _ _ (Or.inr ⟨_, rfl⟩) dX2_copy_23 (⟨_, rfl, rfl, _, arr', cap', ⟨hcn', hal'⟩, by omega, hor.elim Or.inl (fun h => Or.inr (by have := hext.1; have := haln.1.lt; omega))⟩) hS_3 (by first | exact Nat.le_refl _ | (show (4 : Nat) ≤ 4; omega)) (by first | exact Nat.le_refl _ | (show (84 : Nat) ≤ 84; omega))

theorem hdX2_without : Hd yX2_without 1 := by decide +kernel
set_option maxHeartbeats 1000000 in
set_option maxRecDepth 100000 in
theorem metX2_without (l : Launch) (E : EV) (H : Heap) (c L arr cap : Nat) (xs : List Nat) (md : Int32) (hcx : CX E c L md arr cap xs H) (hel : ∀ x ∈ xs, Elt E x H) (hlen : xs.length ≤ 25) (k : Nat) (hk : k < xs.length) : Ct l yX2_without cX2_without 3 (some (.object "LayeredCharters$Charter")) 12 546 (4) (84) [.ref c, .int (nI k)] E H (fun q => H.size ≤ q) (pA (fun r H1 => r = H.size ∧ ∃ L' arr' cap', CX E H.size L' 2 arr' cap' (xs.eraseIdx k) H1 ∧ H.size < L' ∧ (arr' = E.2.2.2 0 ∨ H.size < arr'))) := by
  refine Ct.ofA (Or.inl ⟨_, rfl⟩) (by decide) (Nat.le_of_ble_eq_true rfl) ?_
  intro p e s m bl mt cd ls Q hF hW hH hl hend
  obtain ⟨F, hin⟩ := hF
  have hx := F.1
  have hb := F.2.1
  have hts := F.2.2.2.2
  have hl : lv_has ls 3 [(0, .ref c), (1, .int (nI k))] := hl
  have hS : va_S (fun q => H.size ≤ q) H H [] := va_S.rf
  obtain ⟨cC, hat⟩ := cat (ci := 6) hW rfl
  refine lv_aload_n hx hb dX2_without_0 rfl (lv_at hl 0 rfl) ?_
  refine run_chA (rest := []) (kV F hW (metX2_copy l E H c L arr cap xs md hcx hel hlen) (lw_V q671 q231 q232 q44 q233) hdX2_copy ⟨Nat.le_of_ble_eq_true rfl, Nat.le_of_ble_eq_true rfl⟩ (recv hW hcx.1 rfl) hl.1 rfl (Nat.le_of_ble_eq_true rfl) dX2_without_1 ⟨by show 0 + 4 ≤ 4; omega, by show 0 + 84 ≤ 84; omega⟩) hS (fun _ h => h) (fun r_1 H_1 locs hp_1 hc_1 hS_1 => ?_)
  obtain ⟨e9, L', arr', cap', hcx', hL', harr'⟩ := hp_1
  subst e9
  have hWn := hW.kept hc_1 (fun q h1 h2 => absurd h1 (Nat.not_lt.mpr h2))
  have hext := hc_1
  have hcn := hcx'.1
  refine lv_astore_n (lv' := [(2, .ref H.size), (0, .ref c), (1, .int (nI k))]) hx hb dX2_without_4 rfl hl (by decide) rfl (fun ls hl => ?_)
  refine lv_aload_n hx hb dX2_without_5 rfl (lv_at hl 0 rfl) ?_
  refine xget (ref := "LayeredCharters$Charter") (ci := 2) (v := .ref L') (C := RX2) (T := TX2) (N := 1) F in_X2 hWn hcn rfl 0 (by decide) q111 (fun _ h9 => h9) rfl dX2_without_6 ?_
  refine lv_iload_n hx hb dX2_without_9 rfl (lv_at hl 2 rfl) ?_
  obtain ⟨x_k, hg_k⟩ : ∃ x, xs[k]? = some x := ⟨_, List.getElem?_eq_getElem hk⟩
  refine run_ch5A (rest := []) (kF (x := ⟨"java/util/List", "remove", "(I)Ljava/lang/Object;"⟩) F hWn (metJ2_remove l E H_1 L' arr' cap' k xs 1 (Nat.le_trans (show E.2.2.1 ≤ H.size from hW.2.2) (Nat.le_of_lt hL')) hcx'.2 (fun z hz => ⟨(hel z hz).kept hext (Nat.not_le.mpr (hel z hz).lt), fun h9 => by have h8 := (hel z hz).lt; omega⟩) x_k hg_k (by omega)) (by decide +kernel) hat q673 q377 q379 q47 q381 hdJ2_removeF ⟨Nat.le_of_ble_eq_true rfl, Nat.le_of_ble_eq_true rfl⟩ (recv hWn hcx'.2.1 rfl) hl.1 rfl (Nat.le_of_ble_eq_true rfl) dX2_without_10 ⟨by show 4 + 0 ≤ 4; omega, by show 84 + 0 ≤ 84; omega⟩) hS_1 (fun q9 h9 => h9.elim (fun h8 => by show H.size ≤ q9; omega) (fun h8 => harr'.elim (fun h7 => absurd h8.2 (by rw [h8.1, h7]; exact Nat.not_le.mpr hW.b0)) (fun h7 => by show H.size ≤ q9; rw [h8.1]; omega))) (fun r_2 H_2 locs hp_2 hc_2 hS_2 => ?_)
  obtain ⟨-, hal'⟩ := hp_2
  have hcn' := hcn.kept hc_2 (fun h9 => h9.elim (fun h8 => by have h7 : H.size = L' := h8; omega) (fun h8 => harr'.elim (fun h7 => absurd h8.2 (by rw [h8.1, h7]; exact Nat.not_le.mpr hW.b0)) (fun h7 => by have h6 : H.size = arr' := h8.1; omega)))
  refine lv_pop hx hb dX2_without_15 rfl ?_
  refine lv_aload_n hx hb dX2_without_16 rfl (lv_at hl 0 rfl) ?_
  exact hend _ _ _ _ _ _ _ (Or.inr ⟨_, rfl⟩) dX2_without_17 (⟨_, rfl, rfl, L', arr', cap', ⟨hcn', hal'⟩, hL', harr'⟩) hS_2 (by first | exact Nat.le_refl _ | (show (4 : Nat) ≤ 4; omega)) (by first | exact Nat.le_refl _ | (show (84 : Nat) ≤ 84; omega))

theorem hdX2_isIdle : Hd yX2_isIdle 1 := by decide +kernel
set_option maxHeartbeats 1000000 in
set_option maxRecDepth 100000 in
theorem metX2_isIdle (l : Launch) (E : EV) (H : Heap) (c n : Nat) (ru : Nat → RV) (hcr : CR E c n ru H) (k : Nat) (hk : k < n) : Ct l yX2_isIdle cX2_isIdle 2 (some .boolean) 13 568 (4) (84) [.ref c, .int (nI k)] E H (fun q => H.size ≤ q) (pI (fun r H1 => r = b2i (idX ru n k))) := by
  have hcr0 := hcr
  obtain ⟨L, md, arr, cap, xs, hc, hal, hrl⟩ := hcr
  have hn9 := hrl.1
  have h25 := hrl.2.1
  subst hn9
  refine Ct.ofZ (by decide) (Nat.le_of_ble_eq_true rfl) ?_
  intro p e s m bl mt cd ls Q hF hW hH hl hend
  obtain ⟨F, hin⟩ := hF
  have hx := F.1
  have hb := F.2.1
  have hts := F.2.2.2.2
  have hl : lv_has ls 2 [(0, .ref c), (1, .int (nI k))] := hl
  have hS : va_S (fun q => H.size ≤ q) H H [] := va_S.rf
  refine lv_aload_n hx hb dX2_isIdle_0 rfl (lv_at hl 0 rfl) ?_
  refine lv_aload_n hx hb dX2_isIdle_1 rfl (lv_at hl 0 rfl) ?_
  refine lv_iload_n hx hb dX2_isIdle_2 rfl (lv_at hl 1 rfl) ?_
  refine run_chA (rest := [.ref c]) (kV F hW (metX2_without l E H c L arr cap xs md ⟨hc, hal⟩ (rls_elt hrl) (by omega) k hk) (lw_V q667 q668 q669 q44 q670) hdX2_without ⟨Nat.le_of_ble_eq_true rfl, Nat.le_of_ble_eq_true rfl⟩ (recv hW hc rfl) hl.1 rfl (Nat.le_of_ble_eq_true rfl) dX2_isIdle_3 ⟨by show 0 + 4 ≤ 4; omega, by show 0 + 84 ≤ 84; omega⟩) hS (fun _ h => h) (fun r_1 H_1 locs hp_1 hc_1 hS_1 => ?_)
  obtain ⟨e9, L', arr', cap', hcx', hL', harr'⟩ := hp_1
  subst e9
  have hWn := hW.kept hc_1 (fun q h1 h2 => absurd h1 (Nat.not_lt.mpr h2))
  have hext := hc_1
  have hcrn : CR E H.size (xs.length - 1) (ruE ru k) H_1 := ⟨L', 2, arr', cap', _, hcx'.1, hcx'.2, (hrl.ext hext).erase hk⟩
  have hcr1 := hcr0.ext hW hext
  have hcE := hcx'.1
  have hc1 := hc.kept hext (Nat.not_le.mpr hc.lt)
  refine run_ro (w := .int (b2i (saX ru xs.length (ruE ru k) (xs.length - 1) 5))) (rest := []) (kV F hWn (metX2_allowsTheSame l E H_1 c xs.length ru hcr1 H.size (xs.length - 1) (ruE ru k) hcrn) (lw_V q674 q675 q676 q44 q677) hdX2_allowsTheSame ⟨Nat.le_of_ble_eq_true rfl, Nat.le_of_ble_eq_true rfl⟩ (recv hWn hc1 rfl) hl.1 rfl (Nat.le_of_ble_eq_true rfl) dX2_isIdle_6 ⟨Nat.le_of_ble_eq_true rfl, Nat.le_of_ble_eq_true rfl⟩) ?_
  exact hend _ _ _ _ _ _ _ (b2i_nar _) dX2_isIdle_9 (⟨_, rfl, rfl⟩) hS_1 (by first | exact Nat.le_refl _ | (show (4 : Nat) ≤ 4; omega)) (by first | exact Nat.le_refl _ | (show (84 : Nat) ≤ 84; omega))

theorem hdX2_firstIdle : Hd yX2_firstIdle 0 := by decide +kernel
set_option maxHeartbeats 1000000 in
set_option maxRecDepth 100000 in
theorem metX2_firstIdle (l : Launch) (E : EV) (H : Heap) (c n : Nat) (ru : Nat → RV) (hcr : CR E c n ru H) : Ct l yX2_firstIdle cX2_firstIdle 2 (some .int) 14 589 ((4 * 25)) ((84 * 25)) [.ref c] E H (fun q => H.size ≤ q) (pI (fun r H1 => r = fiX ru n)) := by
  have hcr0 := hcr
  obtain ⟨L, md, arr, cap, xs, hc, hal, hrl⟩ := hcr
  have hn9 := hrl.1
  have h25 := hrl.2.1
  subst hn9
  refine Ct.ofZ (by decide) (Nat.le_of_ble_eq_true rfl) ?_
  intro p e s m bl mt cd ls Q hF hW hH hl hend
  obtain ⟨F, hin⟩ := hF
  have hx := F.1
  have hb := F.2.1
  have hts := F.2.2.2.2
  have hl : lv_has ls 2 [(0, .ref c)] := hl
  have hS : va_S (fun q => H.size ≤ q) H H [] := va_S.rf
  obtain ⟨cC, hat⟩ := cat (ci := 6) hW rfl
  refine lv_iconst (v := 0) hx hb dX2_firstIdle_0 (by decide) ?_
  refine lv_istore_n (lv' := [(1, .int 0), (0, .ref c)]) hx hb dX2_firstIdle_1 rfl hl (by decide) rfl (fun ls hl => ?_)
  have loop2 : ∀ (nn i : Nat) (x1 : Int32), i + nn = xs.length → x1 = nI i → (∀ j, j < i → idX ru xs.length j = false) → ∀ (kc ks : Nat), kc ≤ 4 * i → ks ≤ 84 * i → ∀ (Hl_2 : Heap) (locs : List Loc), va_S (fun q => H.size ≤ q) H Hl_2 locs → WK E s Hl_2 → True → ∀ ls : Array Slot, lv_has ls 2 [(1, .int x1), (0, .ref c)] → W p l e ({ frames := 14, cells := (4 * 25), slots := (84 * 25), locals := 589 } : Room) s m ([.ref c] : List Value).toArray bl mt cd Hl_2 locs kc ks Q (F0 m 2 ls []) := by
    intro nn
    induction nn with
    | zero =>
      intro i x1 hn  e1 hall kc ks hkc hks Hl_2 locs hS_2 hW_2 hl_2 ls hl
      have hiN : i = xs.length := by omega
      rw [hiN] at e1
      try rw [hiN] at hl_2
      try rw [hiN] at hall
      try rw [hiN] at hkc
      try rw [hiN] at hks
      rw [e1] at hl
      clear e1
      have hext := hS_2.chg
      have hc2 := hc.kept hext (Nat.not_le.mpr hc.lt)
      have hal2 := hal.ext hW hext
      have hcr2 := hcr0.ext hW hext
      refine lv_iload_n hx hb dX2_firstIdle_2 rfl (lv_at hl 0 rfl) ?_
      refine lv_aload_n hx hb dX2_firstIdle_3 rfl (lv_at hl 1 rfl) ?_
      refine xget (ref := "LayeredCharters$Charter") (ci := 2) (v := .ref L) (C := RX2) (T := TX2) (N := 1) F in_X2 hW_2 hc2 rfl 0 (by decide) q111 (fun _ h9 => h9) rfl dX2_firstIdle_4 ?_
      refine run_ro5 (w := .int (nI xs.length)) (rest := [.int (nI xs.length)]) (kF (x := ⟨"java/util/List", "size", "()I"⟩) F hW_2 (metJ2_size l E Hl_2 L arr md (nI xs.length) hal2.1) (by decide +kernel) hat q426 q215 q217 q47 q219 hdJ2_sizeF ⟨Nat.le_of_ble_eq_true rfl, Nat.le_of_ble_eq_true rfl⟩ (recv hW_2 hal2.1 rfl) hl.1 rfl (Nat.le_of_ble_eq_true rfl) dX2_firstIdle_7 ⟨by show kc + 0 ≤ (4 * 25); omega, by show ks + 0 ≤ (84 * 25); omega⟩) ?_
      refine lv_icmp_ge (tgt := 31) hx hb dX2_firstIdle_12 (by decide) (fun _ => ?_) (fun c9 => absurd (nI_le (by omega) (by omega)) c9)
      refine lv_bipush (v := (-6)) hx hb dX2_firstIdle_31 (by decide) ?_
      exact hend _ _ _ _ _ _ _ rfl dX2_firstIdle_33 (⟨_, rfl, (fiG_none hall).symm⟩) hS_2 (by first | exact Nat.le_refl _ | (show (kc : Nat) ≤ (4 * 25); omega)) (by first | exact Nat.le_refl _ | (show (ks : Nat) ≤ (84 * 25); omega))
    | succ nn ih2 =>
      intro i x1 hn  e1 hall kc ks hkc hks Hl_2 locs hS_2 hW_2 hl_2 ls hl
      rw [e1] at hl
      clear e1
      have hext := hS_2.chg
      have hc2 := hc.kept hext (Nat.not_le.mpr hc.lt)
      have hal2 := hal.ext hW hext
      have hcr2 := hcr0.ext hW hext
      refine lv_iload_n hx hb dX2_firstIdle_2 rfl (lv_at hl 0 rfl) ?_
      refine lv_aload_n hx hb dX2_firstIdle_3 rfl (lv_at hl 1 rfl) ?_
      refine xget (ref := "LayeredCharters$Charter") (ci := 2) (v := .ref L) (C := RX2) (T := TX2) (N := 1) F in_X2 hW_2 hc2 rfl 0 (by decide) q111 (fun _ h9 => h9) rfl dX2_firstIdle_4 ?_
      refine run_ro5 (w := .int (nI xs.length)) (rest := [.int (nI i)]) (kF (x := ⟨"java/util/List", "size", "()I"⟩) F hW_2 (metJ2_size l E Hl_2 L arr md (nI xs.length) hal2.1) (by decide +kernel) hat q426 q215 q217 q47 q219 hdJ2_sizeF ⟨Nat.le_of_ble_eq_true rfl, Nat.le_of_ble_eq_true rfl⟩ (recv hW_2 hal2.1 rfl) hl.1 rfl (Nat.le_of_ble_eq_true rfl) dX2_firstIdle_7 ⟨by show kc + 0 ≤ (4 * 25); omega, by show ks + 0 ≤ (84 * 25); omega⟩) ?_
      refine lv_icmp_ge (tgt := 31) hx hb dX2_firstIdle_12 (by decide) (fun c9 => absurd c9 (nI_ge (by omega) (by omega))) (fun _ => ?_)
      refine lv_aload_n hx hb dX2_firstIdle_15 rfl (lv_at hl 1 rfl) ?_
      refine lv_iload_n hx hb dX2_firstIdle_16 rfl (lv_at hl 0 rfl) ?_
      refine run_chI (rest := []) (kV F hW_2 (metX2_isIdle l E Hl_2 c xs.length ru hcr2 i (by omega)) (lw_V q663 q664 q665 q44 q666) hdX2_isIdle ⟨Nat.le_of_ble_eq_true rfl, Nat.le_of_ble_eq_true rfl⟩ (recv hW_2 hc2 rfl) hl.1 rfl (Nat.le_of_ble_eq_true rfl) dX2_firstIdle_17 ⟨by show kc + 4 ≤ (4 * 25); omega, by show ks + 84 ≤ (84 * 25); omega⟩) hS_2 (fun q9 h9 => Nat.le_trans hext.1 h9) (fun r_1 H_1 locs hp_1 hc_1 hS_1 => ?_)
      have hWn := hW_2.kept hc_1 (fun q h1 h2 => absurd h1 (Nat.not_lt.mpr h2))
      refine lv_val (y := b2i (idX ru xs.length i)) hp_1 ?_
      refine lv_if_eq (tgt := 25) hx hb dX2_firstIdle_20 (by decide) (fun c_2 => ?_) (fun c_2 => ?_)
      · skip
        have bc_2 := c_2
        have c_2 := b2i_f c_2
        refine lv_iinc (v := nI (i + 1)) (lv' := [(1, .int (nI (i + 1))), (0, .ref c)]) hx hb dX2_firstIdle_25 hl (k := 0) rfl (nI_1 _) (by decide) rfl (fun ls hl => ?_)
        refine lv_goto (tgt := 2) hx hb dX2_firstIdle_28 (by decide) ?_
        exact ih2 (i + 1) _ (by omega)  rfl (lt_sx hall c_2) _ _ (by omega) (by omega) _ _ hS_1 hWn (trivial) ls (lv_sub hl [0, 1] rfl)
      · skip
        have bc_2 := c_2
        have c_2 := b2i_t c_2
        refine lv_iload_n hx hb dX2_firstIdle_23 rfl (lv_at hl 0 rfl) ?_
        exact hend _ _ _ _ _ _ _ rfl dX2_firstIdle_24 (⟨_, rfl, (fiG_some (by omega) c_2 hall).symm⟩) hS_1 (by first | exact Nat.le_refl _ | (show (kc + 4 : Nat) ≤ (4 * 25); omega)) (by first | exact Nat.le_refl _ | (show (ks + 84 : Nat) ≤ (84 * 25); omega))
  exact loop2 (xs.length - 0) 0 _ (by omega)  rfl (fun j h9 => absurd h9 (Nat.not_lt_zero j)) _ _ (Nat.zero_le _) (Nat.zero_le _) _ _ hS hW (trivial) ls (lv_sub hl [0, 1] rfl)

