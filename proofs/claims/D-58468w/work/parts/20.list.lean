/-! LISTS: the JDK's ArrayList -/
set_option maxRecDepth 100000
theorem mxI_n {a b : Nat} (ha : a < 2 ^ 31) (hb : b < 2 ^ 31) : mxI (nI a) (nI b) = nI (max a b) := by
  unfold mxI
  by_cases h : a < b
  · rw [if_pos ((nI_ltI ha hb).mpr h), Nat.max_eq_right (Nat.le_of_lt h)]
  · rw [if_neg (fun q => h ((nI_ltI ha hb).mp q)), Nat.max_eq_left (Nat.not_lt.mp h)]
theorem mnI_n {a b : Nat} (ha : a < 2 ^ 31) (hb : b < 2 ^ 31) : mnI (nI a) (nI b) = nI (min a b) := by
  unfold mnI
  by_cases h : b < a
  · rw [if_pos ((nI_ltI hb ha).mpr h), Nat.min_eq_right (Nat.le_of_lt h)]
  · rw [if_neg (fun q => h ((nI_ltI hb ha).mp q)), Nat.min_eq_left (Nat.not_lt.mp h)]
theorem up_app {xs : List Nat} {v : Nat} : va_up (fun j => xs[j]?) xs.length (some v) = fun j => (xs ++ [v])[j]? := by
  funext j
  by_cases h : j = xs.length
  · subst h; simp [va_up]
  · by_cases h2 : j < xs.length
    · simp [va_up, h, List.getElem?_append_left h2]
    · have h3 : (xs ++ [v]).length ≤ j := by simp; omega
      simp [va_up, h, List.getElem?_eq_none (show xs.length ≤ j by omega), List.getElem?_eq_none h3]
theorem up_set {xs : List Nat} {i v : Nat} (hi : i < xs.length) : va_up (fun j => xs[j]?) i (some v) = fun j => (xs.set i v)[j]? := by
  funext j
  by_cases h : j = i
  · subst h; simp [va_up, List.getElem?_set_self hi]
  · simp [va_up, h, List.getElem?_set_ne (Ne.symm h)]
theorem er_last {xs : List Nat} {i : Nat} (hi : i + 1 = xs.length) : va_up (fun j => xs[j]?) (xs.length - 1) none = fun j => (xs.eraseIdx i)[j]? := by
  funext j
  rw [List.getElem?_eraseIdx]
  by_cases h : j = xs.length - 1
  · subst h; simp only [va_up, if_pos]; rw [if_neg (by omega), List.getElem?_eq_none (by omega)]
  · simp only [va_up, if_neg h]
    by_cases h2 : j < i
    · rw [if_pos h2]
    · rw [if_neg h2, List.getElem?_eq_none (show xs.length ≤ j by omega), List.getElem?_eq_none (by omega)]
theorem er_in {xs : List Nat} {i : Nat} (hi : i < xs.length) : va_up (va_cpy (fun j => xs[j]?) (fun j => xs[j]?) (i + 1) i (xs.length - 1 - i)) (xs.length - 1) none = fun j => (xs.eraseIdx i)[j]? := by
  funext j
  rw [List.getElem?_eraseIdx]
  by_cases h : j = xs.length - 1
  · subst h; simp only [va_up, if_pos]; rw [if_neg (by omega), List.getElem?_eq_none (by omega)]
  · simp only [va_up, if_neg h, va_cpy]
    by_cases h2 : j < i
    · rw [if_pos h2, if_neg (by omega)]
    · rw [if_neg h2]
      by_cases h3 : j < xs.length
      · rw [if_pos (by omega), show i + 1 + (j - i) = j + 1 by omega]
      · rw [if_neg (by omega), List.getElem?_eq_none (by omega), List.getElem?_eq_none (by omega)]
theorem cp_all {xs : List Nat} {n0 n : Nat} (h1 : xs.length ≤ n0) (h2 : xs.length ≤ n) : va_cpy (fun j => xs[j]?) (fun _ => none) 0 0 (min n0 n) = fun j => xs[j]? := by
  funext j
  simp only [va_cpy]
  by_cases h : j < min n0 n
  · rw [if_pos (by omega)]; simp
  · rw [if_neg (by omega), List.getElem?_eq_none (by omega)]
theorem cp_app {xs ys : List Nat} : va_cpy (fun j => ys[j]?) (fun j => xs[j]?) 0 xs.length ys.length = fun j => (xs ++ ys)[j]? := by
  funext j
  simp only [va_cpy]
  by_cases h : j < xs.length
  · rw [if_neg (by omega), List.getElem?_append_left h]
  · by_cases h2 : j < xs.length + ys.length
    · rw [if_pos (by omega), List.getElem?_append_right (by omega), Nat.zero_add]
    · rw [if_neg (by omega), List.getElem?_eq_none (by omega), List.getElem?_eq_none (by simp; omega)]
/-- what copyOf copies from -/
def Src (E : EV) (a0 n0 : Nat) (f : Nat → Option Nat) (H : Heap) : Prop := (a0 = E.2.2.2 0 ∧ n0 = 0) ∨ qat E a0 3 n0 f H
theorem hdJ11_checkIndex : Hd yJ11_checkIndex 3 := by decide +kernel
set_option maxHeartbeats 1000000 in
set_option maxRecDepth 100000 in
theorem metJ11_checkIndex (l : Launch) (E : EV) (H : Heap) (i n : Nat) (h : i < n) (hn : n < 2 ^ 31) : Ro l yJ11_checkIndex cJ11_checkIndex 3 (some .int) 0 0 [.int (nI i), .int (nI n), .null] E H (some (.int (nI i))) := by
  refine Ct.ofZ (by decide) (Nat.le_of_ble_eq_true rfl) ?_
  intro p e s m bl mt cd ls Q hF hW hH hl hend
  obtain ⟨F, hin⟩ := hF
  have hx := F.1
  have hb := F.2.1
  have hts := F.2.2.2.2
  have hl : lv_has ls 3 [(0, .int (nI i)), (1, .int (nI n)), (2, .null)] := hl
  have hS : va_S (fun _ => False) H H [] := va_S.rf
  refine lv_iload_n hx hb dJ11_checkIndex_0 rfl (lv_at hl 0 rfl) ?_
  refine lv_if_lt (tgt := 9) hx hb dJ11_checkIndex_1 (by decide) (fun c9 => absurd c9 (nI_pos (show i < 2 ^ 31 by omega))) (fun _ => ?_)
  refine lv_iload_n hx hb dJ11_checkIndex_4 rfl (lv_at hl 0 rfl) ?_
  refine lv_iload_n hx hb dJ11_checkIndex_5 rfl (lv_at hl 1 rfl) ?_
  refine lv_icmp_lt (tgt := 16) hx hb dJ11_checkIndex_6 (by decide) (fun _ => ?_) (fun c9 => absurd ((nI_ltI (show i < 2 ^ 31 by omega) hn).mpr h) c9)
  refine lv_iload_n hx hb dJ11_checkIndex_16 rfl (lv_at hl 0 rfl) ?_
  exact hend _ _ _ _ _ _ _ rfl dJ11_checkIndex_17 (⟨congrArg (fun z : Int32 => some (Value.int z)) (rfl), rfl⟩) hS (Nat.zero_le _) (Nat.zero_le _)

theorem hdJ10_checkIndex : Hd yJ10_checkIndex 2 := by decide +kernel
set_option maxHeartbeats 1000000 in
set_option maxRecDepth 100000 in
theorem metJ10_checkIndex (l : Launch) (E : EV) (H : Heap) (i n : Nat) (h : i < n) (hn : n < 2 ^ 31) : Ro l yJ10_checkIndex cJ10_checkIndex 2 (some .int) 1 22 [.int (nI i), .int (nI n)] E H (some (.int (nI i))) := by
  refine Ct.ofZ (by decide) (Nat.le_of_ble_eq_true rfl) ?_
  intro p e s m bl mt cd ls Q hF hW hH hl hend
  obtain ⟨F, hin⟩ := hF
  have hx := F.1
  have hb := F.2.1
  have hts := F.2.2.2.2
  have hl : lv_has ls 2 [(0, .int (nI i)), (1, .int (nI n))] := hl
  have hS : va_S (fun _ => False) H H [] := va_S.rf
  refine lv_iload_n hx hb dJ10_checkIndex_0 rfl (lv_at hl 0 rfl) ?_
  refine lv_iload_n hx hb dJ10_checkIndex_1 rfl (lv_at hl 1 rfl) ?_
  refine lv_null hx hb dJ10_checkIndex_2 ?_
  refine run_ro (w := .int (nI i)) (rest := []) (kS F hW (metJ11_checkIndex l E H _ _ (by omega) (by omega)) (lw_S q315 q316 q59 q317) hdJ11_checkIndex ⟨Nat.le_of_ble_eq_true rfl, Nat.le_of_ble_eq_true rfl⟩ hl.1 rfl (Nat.le_of_ble_eq_true rfl) dJ10_checkIndex_3 ⟨Nat.le_of_ble_eq_true rfl, Nat.le_of_ble_eq_true rfl⟩) ?_
  exact hend _ _ _ _ _ _ _ rfl dJ10_checkIndex_6 (⟨congrArg (fun z : Int32 => some (Value.int z)) (rfl), rfl⟩) hS (Nat.zero_le _) (Nat.zero_le _)

theorem hdJ9_newLength : Hd yJ9_newLength 3 := by decide +kernel
set_option maxHeartbeats 1000000 in
set_option maxRecDepth 100000 in
theorem metJ9_newLength (l : Launch) (E : EV) (H : Heap) (a b c : Nat) (h0 : 0 < a + max b c) (ha : a < 1000) (hb : b < 1000) (hc : c < 1000) : Ro l yJ9_newLength cJ9_newLength 4 (some .int) 1 40 [.int (nI a), .int (nI b), .int (nI c)] E H (some (.int (nI (a + max b c)))) := by
  refine Ct.ofZ (by decide) (Nat.le_of_ble_eq_true rfl) ?_
  intro p e s m bl mt cd ls Q hF hW hH hl hend
  obtain ⟨F, hin⟩ := hF
  have hx := F.1
  have hb := F.2.1
  have hts := F.2.2.2.2
  have hl : lv_has ls 4 [(0, .int (nI a)), (1, .int (nI b)), (2, .int (nI c))] := hl
  have hS : va_S (fun _ => False) H H [] := va_S.rf
  refine lv_iload_n hx hb dJ9_newLength_0 rfl (lv_at hl 0 rfl) ?_
  refine lv_iload_n hx hb dJ9_newLength_1 rfl (lv_at hl 1 rfl) ?_
  refine lv_iload_n hx hb dJ9_newLength_2 rfl (lv_at hl 2 rfl) ?_
  refine xmax (hl.1 ▸ F) q291 (Nat.le_of_ble_eq_true rfl) (Nat.le_of_ble_eq_true rfl) (by show 0 ≤ 0; omega) (by show 0 ≤ 0; omega) dJ9_newLength_3 ?_
  refine lv_val (y := nI (max b c)) (mxI_n (by omega) (by omega)) ?_
  refine lv_iadd hx hb dJ9_newLength_6 ?_
  refine lv_val (y := nI (a + (max b c))) ((nI_add (a) ((max b c)))) ?_
  refine lv_istore_n (lv' := [(3, .int (nI (a + (max b c)))), (0, .int (nI a)), (1, .int (nI b)), (2, .int (nI c))]) hx hb dJ9_newLength_7 rfl hl (by decide) rfl (fun ls hl => ?_)
  refine lv_iconst (v := 0) hx hb dJ9_newLength_8 (by decide) ?_
  refine lv_iload_n hx hb dJ9_newLength_9 rfl (lv_at hl 0 rfl) ?_
  refine lv_icmp_ge (tgt := 21) hx hb dJ9_newLength_10 (by decide) (fun c9 => absurd c9 (nI_ge (a := 0) (b := a + max b c) (by omega) (by omega))) (fun _ => ?_)
  refine lv_iload_n hx hb dJ9_newLength_13 rfl (lv_at hl 0 rfl) ?_
  refine lv_ldc (v := 2147483639) hx hb F.2.2.2.1 (hts _ q294) dJ9_newLength_14 ?_
  refine lv_icmp_gt (tgt := 21) hx hb dJ9_newLength_16 (by decide) (fun c9 => absurd c9 (fun h9 => by have h8 := (nI_ltI (a := 2147483639) (b := a + max b c) (by omega) (by omega)).mp h9; omega)) (fun _ => ?_)
  refine lv_iload_n hx hb dJ9_newLength_19 rfl (lv_at hl 0 rfl) ?_
  exact hend _ _ _ _ _ _ _ rfl dJ9_newLength_20 (⟨congrArg (fun z : Int32 => some (Value.int z)) (rfl), rfl⟩) hS (Nat.zero_le _) (Nat.zero_le _)

theorem hdJ7_copyOf_2 : Hd yJ7_copyOf_2 3 := by decide +kernel
set_option maxHeartbeats 1000000 in
set_option maxRecDepth 100000 in
theorem metJ7_copyOf_2q (l : Launch) (E : EV) (H : Heap) (a0 n0 n : Nat) (f : Nat → Option Nat) (hsrc : qat E a0 3 n0 f H) (hn0 : n0 ≤ 64) (hn : n ≤ 40) (hel : ∀ i, i < min n0 n → ∀ y, f i = some y → Elt E y H) : Ct l yJ7_copyOf_2 cJ7_copyOf_2 4 (some (.array (.object "java/lang/Object"))) 3 200 (1) (40) [.ref a0, .int (nI n), .ref (E.2.2.2 2)] E H (fun q => H.size ≤ q) (pA (fun r H1 => r = H.size ∧ qat E H.size 3 n (va_cpy f (fun _ => none) 0 0 (min n0 n)) H1)) := by
  refine Ct.ofA (Or.inr ⟨_, rfl⟩) (by decide) (Nat.le_of_ble_eq_true rfl) ?_
  intro p e s m bl mt cd ls Q hF hW hH hl hend
  obtain ⟨F, hin⟩ := hF
  have hx := F.1
  have hb := F.2.1
  have hts := F.2.2.2.2
  have hl : lv_has ls 4 [(0, .ref a0), (1, .int (nI n)), (2, .ref (E.2.2.2 2))] := hl
  have hS : va_S (fun q => H.size ≤ q) H H [] := va_S.rf
  refine lv_aload_n hx hb dJ7_copyOf_2_0 rfl (lv_at hl 2 rfl) ?_
  refine xldcM F hW q275 dJ7_copyOf_2_1 ?_
  refine lv_acmp_ne (rx := (some (E.2.2.2 2))) (ry := (some (E.2.2.2 2))) (tgt := 13) hx hb dJ7_copyOf_2_3 (by decide) (fun c9 => absurd rfl c9) (fun _ => ?_)
  refine lv_iload_n hx hb dJ7_copyOf_2_6 rfl (lv_at hl 1 rfl) ?_
  refine xnewq (C := "java/lang/Object") F q277 (by decide +kernel) hW hS 3 rfl (N' := n) (by rw [show (nI n : Int32) = nI (n) from (rfl : nI n = nI n)]; exact nI_pos (by omega)) (cl_eq (n := n) (rfl : nI n = nI n) (by omega)) (by show n * 4 ≤ 536870912; omega) (by show 0 + 1 ≤ 1; omega) (by show 0 + n ≤ 40; omega) dJ7_copyOf_2_7 (fun H_1 ho_1 hp_1 hS_1 => ?_)
  have hz_H_1 : H_1.size = H.size + 1 := hp_1.1
  have hW_H_1 := hW.kept (hp_1.chg (A := fun _ => False)) (fun _ _ h9 => h9.elim)
  have hsrc_H_1 := hsrc.kept (hp_1.chg (A := fun _ => False)) (fun h9 => h9)
  refine lv_goto (tgt := 24) hx hb dJ7_copyOf_2_10 (by decide) ?_
  refine lv_astore_n (lv' := [(3, .ref H.size), (0, .ref a0), (1, .int (nI n)), (2, .ref (E.2.2.2 2))]) hx hb dJ7_copyOf_2_24 rfl hl (by decide) rfl (fun ls hl => ?_)
  refine lv_aload_n hx hb dJ7_copyOf_2_25 rfl (lv_at hl 1 rfl) ?_
  refine lv_iconst (v := 0) hx hb dJ7_copyOf_2_26 (by decide) ?_
  refine lv_aload_n hx hb dJ7_copyOf_2_27 rfl (lv_at hl 0 rfl) ?_
  refine lv_iconst (v := 0) hx hb dJ7_copyOf_2_28 (by decide) ?_
  refine lv_aload_n hx hb dJ7_copyOf_2_29 rfl (lv_at hl 1 rfl) ?_
  refine xqlen F hW_H_1 3 hsrc_H_1 rfl dJ7_copyOf_2_30 ?_
  refine lv_iload_n hx hb dJ7_copyOf_2_31 rfl (lv_at hl 2 rfl) ?_
  refine xmin (hl.1 ▸ F) q278 (Nat.le_of_ble_eq_true rfl) (Nat.le_of_ble_eq_true rfl) (by show 1 ≤ 1; omega) (by show 0 + n ≤ 40; omega) dJ7_copyOf_2_32 ?_
  refine lv_val (y := nI (min n0 n)) (mnI_n (by omega) (by omega)) ?_
  have k1 : (0 : Int32).toNatClampNeg = 0 := rfl
  have k2 : (0 : Int32).toNatClampNeg = 0 := rfl
  have k3 : (nI (min n0 n) : Int32).toNatClampNeg = ((min n0 n)) := (cl_eq (n := (min n0 n)) (rfl : nI (min n0 n) = nI (min n0 n)) (by omega))
  refine xqcopy (hl.1 ▸ F) q281 q283 q282 q56 hW_H_1 hsrc_H_1 ho_1 hS_1 (Nat.le_refl _) (by decide) (by decide) (by rw [show (nI (min n0 n) : Int32) = nI ((min n0 n)) from (rfl : nI (min n0 n) = nI (min n0 n))]; exact nI_pos (by omega)) (by rw [k1, k3]; omega) (by rw [k2, k3]; omega) (by rw [k1, k3]; exact (fun i hi y hy => ((hel i hi y (by rw [Nat.zero_add] at hy; exact hy)).kept (hp_1.chg (A := fun _ => False)) (fun h9 => h9)).any hW_H_1)) (Nat.le_of_ble_eq_true rfl) (Nat.le_of_ble_eq_true rfl) dJ7_copyOf_2_35 (fun H_2 locs ho_2 hu_2 hS_2 => ?_)
  have ho_2 : qat E H.size 3 n (va_cpy f (fun _ => none) 0 0 ((min n0 n))) H_2 := by have h9 := ho_2; simp only [k1, k2, k3] at h9; exact h9
  have hz_H_2 : H_2.size = H_1.size := hu_2.1
  have hW_H_2 := hW_H_1.kept hu_2.chg (fun q _ hq => hq ▸ (show E.2.2.1 ≤ H.size from hW.2.2))
  have hsrc_H_2 := hsrc_H_1.kept hu_2.chg (fun h9 => Nat.ne_of_lt hsrc.lt h9)
  refine lv_aload_n hx hb dJ7_copyOf_2_38 rfl (lv_at hl 0 rfl) ?_
  exact hend _ _ _ _ _ _ _ (Or.inr ⟨_, rfl⟩) dJ7_copyOf_2_39 (⟨_, rfl, rfl, ho_2⟩) hS_2 (by first | exact Nat.le_refl _ | (show (1 : Nat) ≤ 1; omega)) (by first | exact Nat.le_refl _ | (show (0 + n : Nat) ≤ 40; omega))

set_option maxHeartbeats 1000000 in
set_option maxRecDepth 100000 in
theorem metJ7_copyOf_2e (l : Launch) (E : EV) (H : Heap) (n : Nat) (f : Nat → Option Nat) (hn : n ≤ 40) (hel : ∀ i, i < min 0 n → ∀ y, f i = some y → Elt E y H) : Ct l yJ7_copyOf_2 cJ7_copyOf_2 4 (some (.array (.object "java/lang/Object"))) 3 200 (1) (40) [.ref (E.2.2.2 0), .int (nI n), .ref (E.2.2.2 2)] E H (fun q => H.size ≤ q) (pA (fun r H1 => r = H.size ∧ qat E H.size 3 n (va_cpy f (fun _ => none) 0 0 (min 0 n)) H1)) := by
  refine Ct.ofA (Or.inr ⟨_, rfl⟩) (by decide) (Nat.le_of_ble_eq_true rfl) ?_
  intro p e s m bl mt cd ls Q hF hW hH hl hend
  obtain ⟨F, hin⟩ := hF
  have hx := F.1
  have hb := F.2.1
  have hts := F.2.2.2.2
  have hl : lv_has ls 4 [(0, .ref (E.2.2.2 0)), (1, .int (nI n)), (2, .ref (E.2.2.2 2))] := hl
  have hS : va_S (fun q => H.size ≤ q) H H [] := va_S.rf
  refine lv_aload_n hx hb dJ7_copyOf_2_0 rfl (lv_at hl 2 rfl) ?_
  refine xldcM F hW q275 dJ7_copyOf_2_1 ?_
  refine lv_acmp_ne (rx := (some (E.2.2.2 2))) (ry := (some (E.2.2.2 2))) (tgt := 13) hx hb dJ7_copyOf_2_3 (by decide) (fun c9 => absurd rfl c9) (fun _ => ?_)
  refine lv_iload_n hx hb dJ7_copyOf_2_6 rfl (lv_at hl 1 rfl) ?_
  refine xnewq (C := "java/lang/Object") F q277 (by decide +kernel) hW hS 3 rfl (N' := n) (by rw [show (nI n : Int32) = nI (n) from (rfl : nI n = nI n)]; exact nI_pos (by omega)) (cl_eq (n := n) (rfl : nI n = nI n) (by omega)) (by show n * 4 ≤ 536870912; omega) (by show 0 + 1 ≤ 1; omega) (by show 0 + n ≤ 40; omega) dJ7_copyOf_2_7 (fun H_1 ho_1 hp_1 hS_1 => ?_)
  have hz_H_1 : H_1.size = H.size + 1 := hp_1.1
  have hW_H_1 := hW.kept (hp_1.chg (A := fun _ => False)) (fun _ _ h9 => h9.elim)
  refine lv_goto (tgt := 24) hx hb dJ7_copyOf_2_10 (by decide) ?_
  refine lv_astore_n (lv' := [(3, .ref H.size), (0, .ref (E.2.2.2 0)), (1, .int (nI n)), (2, .ref (E.2.2.2 2))]) hx hb dJ7_copyOf_2_24 rfl hl (by decide) rfl (fun ls hl => ?_)
  refine lv_aload_n hx hb dJ7_copyOf_2_25 rfl (lv_at hl 1 rfl) ?_
  refine lv_iconst (v := 0) hx hb dJ7_copyOf_2_26 (by decide) ?_
  refine lv_aload_n hx hb dJ7_copyOf_2_27 rfl (lv_at hl 0 rfl) ?_
  refine lv_iconst (v := 0) hx hb dJ7_copyOf_2_28 (by decide) ?_
  refine lv_aload_n hx hb dJ7_copyOf_2_29 rfl (lv_at hl 1 rfl) ?_
  have hT0 := hW_H_1.2.1.2.1
  refine xtlen F hT0 dJ7_copyOf_2_30 ?_
  refine lv_iload_n hx hb dJ7_copyOf_2_31 rfl (lv_at hl 2 rfl) ?_
  refine xmin (hl.1 ▸ F) q278 (Nat.le_of_ble_eq_true rfl) (Nat.le_of_ble_eq_true rfl) (by show 1 ≤ 1; omega) (by show 0 + n ≤ 40; omega) dJ7_copyOf_2_32 ?_
  refine lv_val (y := nI (min 0 n)) (mnI_n (by omega) (by omega)) ?_
  have k1 : (0 : Int32).toNatClampNeg = 0 := rfl
  have k2 : (0 : Int32).toNatClampNeg = 0 := rfl
  have k3 : (nI (min 0 n) : Int32).toNatClampNeg = ((min 0 n)) := (cl_eq (n := (min 0 n)) (rfl : nI (min 0 n) = nI (min 0 n)) (by omega))
  refine xqcopy0 (hl.1 ▸ F) q281 q283 q282 q56 hW_H_1 hT0 ho_1 hS_1 (Nat.le_refl _) (by decide) (by decide) (by rw [show (nI (min 0 n) : Int32) = nI ((min 0 n)) from (rfl : nI (min 0 n) = nI (min 0 n))]; exact nI_pos (by omega)) (by rw [k1, k3]; omega) (by rw [k2, k3]; omega) (Nat.le_of_ble_eq_true rfl) (Nat.le_of_ble_eq_true rfl) dJ7_copyOf_2_35 (fun H_2 locs ho_2 hu_2 hS_2 => ?_)
  have ho_2 : qat E H.size 3 n (va_cpy (fun _ => none) (fun _ => none) 0 0 ((min 0 n))) H_2 := by have h9 := ho_2; simp only [k1, k2, k3] at h9; exact h9
  have hz_H_2 : H_2.size = H_1.size := hu_2.1
  have hW_H_2 := hW_H_1.kept hu_2.chg (fun q _ hq => hq ▸ (show E.2.2.1 ≤ H.size from hW.2.2))
  refine lv_aload_n hx hb dJ7_copyOf_2_38 rfl (lv_at hl 0 rfl) ?_
  exact hend _ _ _ _ _ _ _ (Or.inr ⟨_, rfl⟩) dJ7_copyOf_2_39 (⟨_, rfl, rfl, ho_2.congr (by funext i; simp [va_cpy])⟩) hS_2 (by first | exact Nat.le_refl _ | (show (1 : Nat) ≤ 1; omega)) (by first | exact Nat.le_refl _ | (show (0 + n : Nat) ≤ 40; omega))

theorem metJ7_copyOf_2 (l : Launch) (E : EV) (H : Heap) (a0 n0 n : Nat) (f : Nat → Option Nat) (hsrc : Src E a0 n0 f H) (hn0 : n0 ≤ 64) (hn : n ≤ 40) (hel : ∀ i, i < min n0 n → ∀ y, f i = some y → Elt E y H) : Ct l yJ7_copyOf_2 cJ7_copyOf_2 4 (some (.array (.object "java/lang/Object"))) 3 200 1 40 [.ref a0, .int (nI n), .ref (E.2.2.2 2)] E H (fun q => H.size ≤ q) (pA (fun r H1 => r = H.size ∧ qat E H.size 3 n (va_cpy f (fun _ => none) 0 0 (min n0 n)) H1)) := by
  rcases hsrc with h | h
  · obtain ⟨h1, h2⟩ := h
    subst h1 h2
    exact metJ7_copyOf_2e l E H n f hn hel
  · exact metJ7_copyOf_2q l E H a0 n0 n f h hn0 hn hel
theorem hdJ7_copyOf : Hd yJ7_copyOf 2 := by decide +kernel
set_option maxHeartbeats 1000000 in
set_option maxRecDepth 100000 in
theorem metJ7_copyOf (l : Launch) (E : EV) (H : Heap) (a0 n0 n : Nat) (f : Nat → Option Nat) (hsrc : Src E a0 n0 f H) (hn0 : n0 ≤ 64) (hn : n ≤ 40) (hel : ∀ i, i < min n0 n → ∀ y, f i = some y → Elt E y H) : Ct l yJ7_copyOf cJ7_copyOf 2 (some (.array (.object "java/lang/Object"))) 4 223 (1) (40) [.ref a0, .int (nI n)] E H (fun q => H.size ≤ q) (pA (fun r H1 => r = H.size ∧ qat E H.size 3 n (va_cpy f (fun _ => none) 0 0 (min n0 n)) H1)) := by
  refine Ct.ofA (Or.inr ⟨_, rfl⟩) (by decide) (Nat.le_of_ble_eq_true rfl) ?_
  intro p e s m bl mt cd ls Q hF hW hH hl hend
  obtain ⟨F, hin⟩ := hF
  have hx := F.1
  have hb := F.2.1
  have hts := F.2.2.2.2
  have hl : lv_has ls 2 [(0, .ref a0), (1, .int (nI n))] := hl
  have hS : va_S (fun q => H.size ≤ q) H H [] := va_S.rf
  refine lv_aload_n hx hb dJ7_copyOf_0 rfl (lv_at hl 0 rfl) ?_
  refine lv_iload_n hx hb dJ7_copyOf_1 rfl (lv_at hl 1 rfl) ?_
  refine lv_aload_n hx hb dJ7_copyOf_2 rfl (lv_at hl 0 rfl) ?_
  refine xgetC (hl.1 ▸ F) q258 q1286 q259 q271 hW (hsrc.elim (fun h => h.1 ▸ orecv hW.2.1.2.2.1) (fun h => qrecv hW h rfl)) (Nat.le_of_ble_eq_true rfl) (Nat.le_of_ble_eq_true rfl) dJ7_copyOf_3 ?_
  refine run_chA (rest := []) (kS F hW (metJ7_copyOf_2 l E H a0 n0 n f hsrc hn0 hn hel) (lw_S q272 q273 q54 q274) hdJ7_copyOf_2 ⟨Nat.le_of_ble_eq_true rfl, Nat.le_of_ble_eq_true rfl⟩ hl.1 rfl (Nat.le_of_ble_eq_true rfl) dJ7_copyOf_6 ⟨by show 0 + 1 ≤ 1; omega, by show 0 + 40 ≤ 40; omega⟩) hS (fun _ h => h) (fun r_1 H_1 locs hp_1 hc_1 hS_1 => ?_)
  obtain ⟨e9, ho_H_1⟩ := hp_1
  subst e9
  have hW_H_1 := hW.kept hc_1 (fun q h1 h2 => absurd h1 (Nat.not_lt.mpr h2))
  exact hend _ _ _ _ _ _ _ (Or.inr ⟨_, rfl⟩) dJ7_copyOf_9 (⟨_, rfl, rfl, ho_H_1⟩) hS_1 (by first | exact Nat.le_refl _ | (show (1 : Nat) ≤ 1; omega)) (by first | exact Nat.le_refl _ | (show (40 : Nat) ≤ 40; omega))

theorem hdJ0_init : Hd yJ0_init 0 := by decide +kernel
set_option maxHeartbeats 1000000 in
set_option maxRecDepth 100000 in
theorem metJ0_init (l : Launch) (E : EV) (H : Heap) (q : Nat) : Ro l yJ0_init cJ0_init 1 none 1 12 [.ref q] E H none := by
  refine Ct.ofV (by decide) (Nat.le_of_ble_eq_true rfl) ?_
  intro p e s m bl mt cd ls Q hF hW hH hl hend
  obtain ⟨F, hin⟩ := hF
  have hx := F.1
  have hb := F.2.1
  have hts := F.2.2.2.2
  have hl : lv_has ls 1 [(0, .ref q)] := hl
  have hS : va_S (fun _ => False) H H [] := va_S.rf
  refine lv_aload_n hx hb dJ0_init_0 rfl (lv_at hl 0 rfl) ?_
  refine W.objInit hx hb F.2.2.2.1 (hts _ q96) (hts _ q71) (hts _ q72) rfl (by rw [F.2.2.1]; exact hl.1) rfl dJ0_init_1 (Nat.le_of_ble_eq_true rfl) (Nat.le_of_ble_eq_true rfl) ?_
  refine W.eq (g2 := F0 m 4 ls []) rfl ?_
  exact hend _ _ _ _ _ _ dJ0_init_4 (⟨rfl, rfl⟩) hS (Nat.zero_le _) (Nat.zero_le _)

theorem hdJ1_init : Hd yJ1_init 0 := by decide +kernel
set_option maxHeartbeats 1000000 in
set_option maxRecDepth 100000 in
theorem metJ1_init (l : Launch) (E : EV) (H : Heap) (q : Nat) (ho : Old E q) (hq : oat E q 6 [.int 0, .null, .int 0] H) : Ct l yJ1_init cJ1_init 1 none 2 32 (0) (0) [.ref q] E H (fun x => x = q) (pN (fun H1 => oat E q 6 [.int 0, .null, .int 0] H1)) := by
  refine Ct.ofV (by decide) (Nat.le_of_ble_eq_true rfl) ?_
  intro p e s m bl mt cd ls Q hF hW hH hl hend
  obtain ⟨F, hin⟩ := hF
  have hx := F.1
  have hb := F.2.1
  have hts := F.2.2.2.2
  have hl : lv_has ls 1 [(0, .ref q)] := hl
  have hS : va_S (fun x => x = q) H H [] := va_S.rf
  refine lv_aload_n hx hb dJ1_init_0 rfl (lv_at hl 0 rfl) ?_
  refine run_roN (kI F hW (metJ0_init l E H q) q95 q45 q93 q94 rfl hdJ0_init ⟨Nat.le_of_ble_eq_true rfl, Nat.le_of_ble_eq_true rfl⟩ hl.1 rfl (Nat.le_of_ble_eq_true rfl) dJ1_init_1 ⟨Nat.le_of_ble_eq_true rfl, Nat.le_of_ble_eq_true rfl⟩) ?_
  refine lv_aload_n hx hb dJ1_init_4 rfl (lv_at hl 0 rfl) ?_
  refine lv_iconst (v := 0) hx hb dJ1_init_5 (by decide) ?_
  refine xput (ref := "java/util/AbstractList") (ci := 6) (v := .int 0) (C := RJ2) (T := TJ2) (N := 3) F in_J2 tyJ2 tyJ2_ok nmJ2 hW hq hS rfl rfl 0 (by decide) q101 (fun _ h9 => h9) rfl rfl rfl (Nat.le_of_ble_eq_true rfl) dJ1_init_6 (fun H_1 locs ho_1 hu_1 hS_1 => ?_)
  have ho_1 : oat E q 6 [.int 0, .null, .int 0] H_1 := ho_1
  have hz_H_1 : H_1.size = H.size := hu_1.1
  have hW_H_1 := hW.kept hu_1.chg (fun q _ hq => hq ▸ ho)
  exact hend _ _ _ _ _ _ dJ1_init_9 (⟨rfl, ho_1⟩) hS_1 (Nat.zero_le _) (Nat.zero_le _)

theorem hdJ2_init : Hd yJ2_init 0 := by decide +kernel
set_option maxHeartbeats 1000000 in
set_option maxRecDepth 100000 in
theorem metJ2_init (l : Launch) (E : EV) (H : Heap) (q : Nat) (ho : Old E q) (hq : oat E q 6 [.int 0, .null, .int 0] H) : Ct l yJ2_init cJ2_init 1 none 3 52 (0) (0) [.ref q] E H (fun x => x = q) (pN (fun H1 => AL E q 0 (E.2.2.2 0) 0 [] H1)) := by
  refine Ct.ofV (by decide) (Nat.le_of_ble_eq_true rfl) ?_
  intro p e s m bl mt cd ls Q hF hW hH hl hend
  obtain ⟨F, hin⟩ := hF
  have hx := F.1
  have hb := F.2.1
  have hts := F.2.2.2.2
  have hl : lv_has ls 1 [(0, .ref q)] := hl
  have hS : va_S (fun x => x = q) H H [] := va_S.rf
  refine lv_aload_n hx hb dJ2_init_0 rfl (lv_at hl 0 rfl) ?_
  refine run_chN (rest := []) (kI F hW (metJ1_init l E H q ho hq) q92 q46 q90 q91 rfl hdJ1_init ⟨Nat.le_of_ble_eq_true rfl, Nat.le_of_ble_eq_true rfl⟩ hl.1 rfl (Nat.le_of_ble_eq_true rfl) dJ2_init_1 ⟨by show 0 + 0 ≤ 0; omega, by show 0 + 0 ≤ 0; omega⟩) hS (fun _ h => h) (fun H_1 locs hp_1 hc_1 hS_1 => ?_)
  have hW_H_1 := hW.kept hc_1 (fun q9 _ h9 => h9 ▸ ho)
  refine lv_aload_n hx hb dJ2_init_4 rfl (lv_at hl 0 rfl) ?_
  refine xgets F hW_H_1.2.1.1 q97 dJ2_init_5 ?_
  refine xput (ref := "java/util/ArrayList") (ci := 6) (v := .ref (E.2.2.2 0)) (C := RJ2) (T := TJ2) (N := 3) F in_J2 tyJ2 tyJ2_ok nmJ2 hW_H_1 hp_1 hS_1 rfl rfl 1 (by decide) q99 (fun _ h9 => h9) rfl rfl rfl (Nat.le_of_ble_eq_true rfl) dJ2_init_8 (fun H_2 locs ho_2 hu_2 hS_2 => ?_)
  have ho_2 : oat E q 6 [.int 0, .ref (E.2.2.2 0), .int 0] H_2 := ho_2
  have hz_H_2 : H_2.size = H_1.size := hu_2.1
  have hW_H_2 := hW_H_1.kept hu_2.chg (fun q _ hq => hq ▸ ho)
  exact hend _ _ _ _ _ _ dJ2_init_11 (⟨rfl, ho_2, Or.inl ⟨rfl, rfl, rfl⟩⟩) hS_2 (Nat.zero_le _) (Nat.zero_le _)

theorem hdJ2_size : Hd yJ2_size 0 := by decide +kernel
theorem hdJ2_sizeF : Hd ⟨"java/util/List", "size", "()I"⟩ 0 := by decide +kernel
set_option maxHeartbeats 1000000 in
set_option maxRecDepth 100000 in
theorem metJ2_size (l : Launch) (E : EV) (H : Heap) (q arr : Nat) (md n : Int32) (hq : oat E q 6 [.int md, .ref arr, .int n] H) : Ro l yJ2_size cJ2_size 1 (some .int) 0 0 [.ref q] E H (some (.int (n))) := by
  refine Ct.ofZ (by decide) (Nat.le_of_ble_eq_true rfl) ?_
  intro p e s m bl mt cd ls Q hF hW hH hl hend
  obtain ⟨F, hin⟩ := hF
  have hx := F.1
  have hb := F.2.1
  have hts := F.2.2.2.2
  have hl : lv_has ls 1 [(0, .ref q)] := hl
  have hS : va_S (fun _ => False) H H [] := va_S.rf
  refine lv_aload_n hx hb dJ2_size_0 rfl (lv_at hl 0 rfl) ?_
  refine xget (ref := "java/util/ArrayList") (ci := 6) (v := .int n) (C := RJ2) (T := TJ2) (N := 3) F in_J2 hW hq rfl 2 (by decide) q100 (fun _ h9 => h9) rfl dJ2_size_1 ?_
  exact hend _ _ _ _ _ _ _ rfl dJ2_size_4 (⟨congrArg (fun z : Int32 => some (Value.int z)) (rfl), rfl⟩) hS (Nat.zero_le _) (Nat.zero_le _)

theorem hdJ2_isEmpty : Hd yJ2_isEmpty 0 := by decide +kernel
theorem hdJ2_isEmptyF : Hd ⟨"java/util/List", "isEmpty", "()Z"⟩ 0 := by decide +kernel
set_option maxHeartbeats 1000000 in
set_option maxRecDepth 100000 in
theorem metJ2_isEmpty (l : Launch) (E : EV) (H : Heap) (q arr : Nat) (md n : Int32) (hq : oat E q 6 [.int md, .ref arr, .int n] H) : Ro l yJ2_isEmpty cJ2_isEmpty 1 (some .boolean) 0 0 [.ref q] E H (some (.int (b2i (decide (n = 0))))) := by
  refine Ct.ofZ (by decide) (Nat.le_of_ble_eq_true rfl) ?_
  intro p e s m bl mt cd ls Q hF hW hH hl hend
  obtain ⟨F, hin⟩ := hF
  have hx := F.1
  have hb := F.2.1
  have hts := F.2.2.2.2
  have hl : lv_has ls 1 [(0, .ref q)] := hl
  have hS : va_S (fun _ => False) H H [] := va_S.rf
  refine lv_aload_n hx hb dJ2_isEmpty_0 rfl (lv_at hl 0 rfl) ?_
  refine xget (ref := "java/util/ArrayList") (ci := 6) (v := .int n) (C := RJ2) (T := TJ2) (N := 3) F in_J2 hW hq rfl 2 (by decide) q100 (fun _ h9 => h9) rfl dJ2_isEmpty_1 ?_
  refine lv_if_ne (tgt := 11) hx hb dJ2_isEmpty_4 (by decide) (fun c_1 => ?_) (fun c_1 => ?_)
  · skip
    refine lv_iconst (v := 0) hx hb dJ2_isEmpty_11 (by decide) ?_
    exact hend _ _ _ _ _ _ _ rfl dJ2_isEmpty_12 (⟨congrArg (fun z : Int32 => some (Value.int z)) (by simp [b2i, c_1]), rfl⟩) hS (Nat.zero_le _) (Nat.zero_le _)
  · skip
    refine lv_iconst (v := 1) hx hb dJ2_isEmpty_7 (by decide) ?_
    refine lv_goto (tgt := 12) hx hb dJ2_isEmpty_8 (by decide) ?_
    exact hend _ _ _ _ _ _ _ rfl dJ2_isEmpty_12 (⟨congrArg (fun z : Int32 => some (Value.int z)) (by simp [b2i, c_1]), rfl⟩) hS (Nat.zero_le _) (Nat.zero_le _)

theorem hdJ2_elementData : Hd yJ2_elementData 1 := by decide +kernel
set_option maxHeartbeats 1000000 in
set_option maxRecDepth 100000 in
theorem metJ2_elementData (l : Launch) (E : EV) (H : Heap) (q arr cap i x : Nat) (xs : List Nat) (md n : Int32) (hq : oat E q 6 [.int md, .ref arr, .int n] H) (ha : qat E arr 3 cap (fun i => xs[i]?) H) (hgx : xs[i]? = some x) (hi : i < cap) (hc : cap ≤ 40) : Ro l yJ2_elementData cJ2_elementData 2 (some (.object "java/lang/Object")) 0 0 [.ref q, .int (nI i)] E H (some ((Value.ref x))) := by
  refine Ct.ofA (Or.inl ⟨_, rfl⟩) (by decide) (Nat.le_of_ble_eq_true rfl) ?_
  intro p e s m bl mt cd ls Q hF hW hH hl hend
  obtain ⟨F, hin⟩ := hF
  have hx := F.1
  have hb := F.2.1
  have hts := F.2.2.2.2
  have hl : lv_has ls 2 [(0, .ref q), (1, .int (nI i))] := hl
  have hS : va_S (fun _ => False) H H [] := va_S.rf
  refine lv_aload_n hx hb dJ2_elementData_0 rfl (lv_at hl 0 rfl) ?_
  refine xget (ref := "java/util/ArrayList") (ci := 6) (v := .ref arr) (C := RJ2) (T := TJ2) (N := 3) F in_J2 hW hq rfl 1 (by decide) q99 (fun _ h9 => h9) rfl dJ2_elementData_1 ?_
  refine lv_iload_n hx hb dJ2_elementData_4 rfl (lv_at hl 1 rfl) ?_
  refine xqld (C := "java/lang/Object") F hW 3 ha rfl (vin_eq (n := i) (rfl : nI i = nI i) (by omega) (by omega)) dJ2_elementData_5 ?_
  refine lv_valr (show (fun i => xs[i]?) (nI i : Int32).toNatClampNeg = some x by rw [show (nI i : Int32).toNatClampNeg = (i) from (cl_eq (n := i) (rfl : nI i = nI i) (by omega))]; exact hgx) ?_
  exact hend _ _ _ _ _ _ _ (Or.inr ⟨_, rfl⟩) dJ2_elementData_6 (⟨rfl, rfl⟩) hS (Nat.zero_le _) (Nat.zero_le _)

theorem hdJ2_get : Hd yJ2_get 1 := by decide +kernel
theorem hdJ2_getF : Hd ⟨"java/util/List", "get", "(I)Ljava/lang/Object;"⟩ 1 := by decide +kernel
set_option maxHeartbeats 1000000 in
set_option maxRecDepth 100000 in
theorem metJ2_get (l : Launch) (E : EV) (H : Heap) (q arr cap i x : Nat) (xs : List Nat) (md : Int32) (hal : AL E q md arr cap xs H) (hgx : xs[i]? = some x) : Ro l yJ2_get cJ2_get 2 (some (.object "java/lang/Object")) 2 43 [.ref q, .int (nI i)] E H (some ((Value.ref x))) := by
  have hi0 : i < xs.length := (List.getElem?_eq_some_iff.mp hgx).1
  obtain ⟨hq, har⟩ := hal
  rcases har with ⟨-, h9, -⟩ | ⟨hoA, h0, hle, hc, ha⟩
  · subst h9; exact absurd hi0 (Nat.not_lt_zero _)
  have hi : i < cap := by omega
  refine Ct.ofA (Or.inl ⟨_, rfl⟩) (by decide) (Nat.le_of_ble_eq_true rfl) ?_
  intro p e s m bl mt cd ls Q hF hW hH hl hend
  obtain ⟨F, hin⟩ := hF
  have hx := F.1
  have hb := F.2.1
  have hts := F.2.2.2.2
  have hl : lv_has ls 2 [(0, .ref q), (1, .int (nI i))] := hl
  have hS : va_S (fun _ => False) H H [] := va_S.rf
  refine lv_iload_n hx hb dJ2_get_0 rfl (lv_at hl 1 rfl) ?_
  refine lv_aload_n hx hb dJ2_get_1 rfl (lv_at hl 0 rfl) ?_
  refine xget (ref := "java/util/ArrayList") (ci := 6) (v := .int (nI xs.length)) (C := RJ2) (T := TJ2) (N := 3) F in_J2 hW hq rfl 2 (by decide) q100 (fun _ h9 => h9) rfl dJ2_get_2 ?_
  refine run_ro (w := .int (nI i)) (rest := []) (kS F hW (metJ10_checkIndex l E H _ _ (by omega) (by omega)) (lw_S q312 q313 q58 q314) hdJ10_checkIndex ⟨Nat.le_of_ble_eq_true rfl, Nat.le_of_ble_eq_true rfl⟩ hl.1 rfl (Nat.le_of_ble_eq_true rfl) dJ2_get_5 ⟨Nat.le_of_ble_eq_true rfl, Nat.le_of_ble_eq_true rfl⟩) ?_
  refine lv_pop hx hb dJ2_get_8 rfl ?_
  refine lv_aload_n hx hb dJ2_get_9 rfl (lv_at hl 0 rfl) ?_
  refine lv_iload_n hx hb dJ2_get_10 rfl (lv_at hl 1 rfl) ?_
  refine run_ro (w := .ref x) (rest := []) (kV F hW (metJ2_elementData l E H q arr cap i x xs md (nI xs.length) hq ha hgx hi hc) (lw_V q318 q319 q320 q47 q321) hdJ2_elementData ⟨Nat.le_of_ble_eq_true rfl, Nat.le_of_ble_eq_true rfl⟩ (recv hW hq rfl) hl.1 rfl (Nat.le_of_ble_eq_true rfl) dJ2_get_11 ⟨Nat.le_of_ble_eq_true rfl, Nat.le_of_ble_eq_true rfl⟩) ?_
  exact hend _ _ _ _ _ _ _ (Or.inr ⟨_, rfl⟩) dJ2_get_14 (⟨rfl, rfl⟩) hS (Nat.zero_le _) (Nat.zero_le _)

theorem hdJ2_set : Hd yJ2_set 2 := by decide +kernel
theorem hdJ2_setF : Hd ⟨"java/util/List", "set", "(ILjava/lang/Object;)Ljava/lang/Object;"⟩ 2 := by decide +kernel
set_option maxHeartbeats 1000000 in
set_option maxRecDepth 100000 in
theorem metJ2_set (l : Launch) (E : EV) (H : Heap) (q arr cap i x : Nat) (xs : List Nat) (md : Int32) (hal : AL E q md arr cap xs H) (hgx : xs[i]? = some x) (v : Nat) (hv : Elt E v H) (hv2 : ¬ LA E q arr H.size v) : Ct l yJ2_set cJ2_set 4 (some (.object "java/lang/Object")) 2 43 (0) (0) [.ref q, .int (nI i), .ref v] E H (LA E q arr H.size) (pA (fun r H1 => r = x ∧ AL E q md arr cap (xs.set i v) H1)) := by
  have hi0 : i < xs.length := (List.getElem?_eq_some_iff.mp hgx).1
  obtain ⟨hq, har⟩ := hal
  rcases har with ⟨-, h9, -⟩ | ⟨hoA, h0, hle, hc, ha⟩
  · subst h9; exact absurd hi0 (Nat.not_lt_zero _)
  have hi : i < cap := by omega
  refine Ct.ofA (Or.inl ⟨_, rfl⟩) (by decide) (Nat.le_of_ble_eq_true rfl) ?_
  intro p e s m bl mt cd ls Q hF hW hH hl hend
  obtain ⟨F, hin⟩ := hF
  have hx := F.1
  have hb := F.2.1
  have hts := F.2.2.2.2
  have hl : lv_has ls 4 [(0, .ref q), (1, .int (nI i)), (2, .ref v)] := hl
  have hS : va_S (LA E q arr H.size) H H [] := va_S.rf
  have hqa : q ≠ arr := fun h9 => by subst h9; exact oat_qat hW hq ha rfl
  refine lv_iload_n hx hb dJ2_set_0 rfl (lv_at hl 1 rfl) ?_
  refine lv_aload_n hx hb dJ2_set_1 rfl (lv_at hl 0 rfl) ?_
  refine xget (ref := "java/util/ArrayList") (ci := 6) (v := .int (nI xs.length)) (C := RJ2) (T := TJ2) (N := 3) F in_J2 hW hq rfl 2 (by decide) q100 (fun _ h9 => h9) rfl dJ2_set_2 ?_
  refine run_ro (w := .int (nI i)) (rest := []) (kS F hW (metJ10_checkIndex l E H _ _ (by omega) (by omega)) (lw_S q312 q313 q58 q314) hdJ10_checkIndex ⟨Nat.le_of_ble_eq_true rfl, Nat.le_of_ble_eq_true rfl⟩ hl.1 rfl (Nat.le_of_ble_eq_true rfl) dJ2_set_5 ⟨Nat.le_of_ble_eq_true rfl, Nat.le_of_ble_eq_true rfl⟩) ?_
  refine lv_pop hx hb dJ2_set_8 rfl ?_
  refine lv_aload_n hx hb dJ2_set_9 rfl (lv_at hl 0 rfl) ?_
  refine lv_iload_n hx hb dJ2_set_10 rfl (lv_at hl 1 rfl) ?_
  refine run_ro (w := .ref x) (rest := []) (kV F hW (metJ2_elementData l E H q arr cap i x xs md (nI xs.length) hq ha hgx hi hc) (lw_V q318 q319 q320 q47 q321) hdJ2_elementData ⟨Nat.le_of_ble_eq_true rfl, Nat.le_of_ble_eq_true rfl⟩ (recv hW hq rfl) hl.1 rfl (Nat.le_of_ble_eq_true rfl) dJ2_set_11 ⟨Nat.le_of_ble_eq_true rfl, Nat.le_of_ble_eq_true rfl⟩) ?_
  refine lv_astore_n (lv' := [(3, .ref x), (0, .ref q), (1, .int (nI i)), (2, .ref v)]) hx hb dJ2_set_14 rfl hl (by decide) rfl (fun ls hl => ?_)
  refine lv_aload_n hx hb dJ2_set_15 rfl (lv_at hl 1 rfl) ?_
  refine xget (ref := "java/util/ArrayList") (ci := 6) (v := .ref arr) (C := RJ2) (T := TJ2) (N := 3) F in_J2 hW hq rfl 1 (by decide) q99 (fun _ h9 => h9) rfl dJ2_set_16 ?_
  refine lv_iload_n hx hb dJ2_set_19 rfl (lv_at hl 2 rfl) ?_
  refine lv_aload_n hx hb dJ2_set_20 rfl (lv_at hl 3 rfl) ?_
  refine xqst (C := "java/lang/Object") F hW 3 ha rfl hS (Or.inr (Or.inl ⟨rfl, hoA⟩)) (hv.any hW) (vin_eq (n := i) (rfl : nI i = nI i) (by omega) (by omega)) dJ2_set_21 (fun H_1 locs ho_1 hu_1 hS_1 => ?_)
  have ho_1 : qat E arr 3 cap (va_up (fun i => xs[i]?) (i) (some v)) H_1 := by have h9 := ho_1; rw [show (nI i : Int32).toNatClampNeg = (i) from (cl_eq (n := i) (rfl : nI i = nI i) (by omega))] at h9; exact h9
  have hz_H_1 : H_1.size = H.size := hu_1.1
  have hW_H_1 := hW.kept hu_1.chg (fun q _ hq => hq ▸ hoA)
  have hq_H_1 := hq.kept hu_1.chg hqa
  refine lv_aload_n hx hb dJ2_set_22 rfl (lv_at hl 0 rfl) ?_
  exact hend _ _ _ _ _ _ _ (Or.inr ⟨_, rfl⟩) dJ2_set_23 (⟨_, rfl, rfl, by rw [List.length_set]; exact hq_H_1, Or.inr ⟨hoA, h0, by rw [List.length_set]; exact hle, hc, ho_1.congr (up_set hi0)⟩⟩) hS_1 (Nat.zero_le _) (Nat.zero_le _)

theorem hdJ2_grow : Hd yJ2_grow 1 := by decide +kernel
set_option maxHeartbeats 1000000 in
set_option maxRecDepth 100000 in
theorem metJ2_growE (l : Launch) (E : EV) (H : Heap) (q mn : Nat) (md n : Int32) (hq0 : Old E q) (hq : oat E q 6 [.int md, .ref (E.2.2.2 0), .int n] H) (hmn : mn ≤ 25) : Ct l yJ2_grow cJ2_grow 4 (some (.array (.object "java/lang/Object"))) 6 300 (1) (40) [.ref q, .int (nI mn)] E H (fun x => x = q ∨ H.size ≤ x) (pA (fun r H1 => r = H.size ∧ oat E q 6 [.int md, .ref H.size, .int n] H1 ∧ ∃ N, mn ≤ N ∧ N ≤ 40 ∧ qat E H.size 3 N (fun j => ([] : List Nat)[j]?) H1)) := by
  refine Ct.ofA (Or.inr ⟨_, rfl⟩) (by decide) (Nat.le_of_ble_eq_true rfl) ?_
  intro p e s m bl mt cd ls Q hF hW hH hl hend
  obtain ⟨F, hin⟩ := hF
  have hx := F.1
  have hb := F.2.1
  have hts := F.2.2.2.2
  have hl : lv_has ls 4 [(0, .ref q), (1, .int (nI mn))] := hl
  have hS : va_S (fun x => x = q ∨ H.size ≤ x) H H [] := va_S.rf
  refine lv_aload_n hx hb dJ2_grow_0 rfl (lv_at hl 0 rfl) ?_
  refine xget (ref := "java/util/ArrayList") (ci := 6) (v := .ref (E.2.2.2 0)) (C := RJ2) (T := TJ2) (N := 3) F in_J2 hW hq rfl 1 (by decide) q99 (fun _ h9 => h9) rfl dJ2_grow_1 ?_
  refine xtlen F hW.2.1.2.1 dJ2_grow_4 ?_
  refine lv_istore_n (lv' := [(2, .int (nI 0)), (0, .ref q), (1, .int (nI mn))]) hx hb dJ2_grow_5 rfl hl (by decide) rfl (fun ls hl => ?_)
  refine lv_iload_n hx hb dJ2_grow_6 rfl (lv_at hl 0 rfl) ?_
  refine lv_if_gt (tgt := 20) hx hb dJ2_grow_7 (by decide) (fun c9 => absurd c9 (show ¬ ((0 : Int32) < nI 0) by decide)) (fun _ => ?_)
  refine lv_aload_n hx hb dJ2_grow_10 rfl (lv_at hl 1 rfl) ?_
  refine xget (ref := "java/util/ArrayList") (ci := 6) (v := .ref (E.2.2.2 0)) (C := RJ2) (T := TJ2) (N := 3) F in_J2 hW hq rfl 1 (by decide) q99 (fun _ h9 => h9) rfl dJ2_grow_11 ?_
  refine xgets F hW.2.1.1 q97 dJ2_grow_14 ?_
  refine lv_acmp_eq (rx := (some (E.2.2.2 0))) (ry := (some (E.2.2.2 0))) (tgt := 45) hx hb dJ2_grow_17 (by decide) (fun _ => ?_) (fun c9 => absurd rfl c9)
  refine lv_aload_n hx hb dJ2_grow_45 rfl (lv_at hl 1 rfl) ?_
  refine lv_bipush (v := 10) hx hb dJ2_grow_46 (by decide) ?_
  refine lv_iload_n hx hb dJ2_grow_48 rfl (lv_at hl 2 rfl) ?_
  refine xmax (hl.1 ▸ F) q298 (Nat.le_of_ble_eq_true rfl) (Nat.le_of_ble_eq_true rfl) (by show 0 ≤ 1; omega) (by show 0 ≤ 40; omega) dJ2_grow_49 ?_
  refine lv_val (y := nI (max 10 mn)) (by rw [show (10 : Int32) = _ from (rfl : (10 : Int32) = nI 10), show (nI mn : Int32) = _ from (rfl : nI mn = nI mn)]; exact mxI_n (a := 10) (b := mn) (by omega) (by omega)) ?_
  refine xnewq (C := "java/lang/Object") F q299 (by decide +kernel) hW hS 3 rfl (N' := (max 10 mn)) (by rw [show (nI (max 10 mn) : Int32) = nI ((max 10 mn)) from (rfl : nI (max 10 mn) = nI (max 10 mn))]; exact nI_pos (by omega)) (cl_eq (n := (max 10 mn)) (rfl : nI (max 10 mn) = nI (max 10 mn)) (by omega)) (by show (max 10 mn) * 4 ≤ 536870912; omega) (by show 0 + 1 ≤ 1; omega) (by show 0 + (max 10 mn) ≤ 40; omega) dJ2_grow_52 (fun H_1 ho_1 hp_1 hS_1 => ?_)
  have hz_H_1 : H_1.size = H.size + 1 := hp_1.1
  have hW_H_1 := hW.kept (hp_1.chg (A := fun _ => False)) (fun _ _ h9 => h9.elim)
  have hq_H_1 := hq.kept (hp_1.chg (A := fun _ => False)) (fun h9 => h9)
  refine lv_dup_x1 hx hb dJ2_grow_55 rfl rfl ?_
  refine xput (ref := "java/util/ArrayList") (ci := 6) (v := .ref H.size) (C := RJ2) (T := TJ2) (N := 3) F in_J2 tyJ2 tyJ2_ok nmJ2 hW_H_1 hq_H_1 hS_1 (Or.inl rfl) rfl 1 (by decide) q99 (fun _ h9 => h9) rfl rfl rfl (Nat.le_of_ble_eq_true rfl) dJ2_grow_56 (fun H_2 locs ho_2 hu_2 hS_2 => ?_)
  have ho_2 : oat E q 6 [.int md, .ref H.size, .int n] H_2 := ho_2
  have hz_H_2 : H_2.size = H_1.size := hu_2.1
  have hW_H_2 := hW_H_1.kept hu_2.chg (fun q _ hq => hq ▸ hq0)
  have hx1_H_2 := ho_1.kept hu_2.chg (Nat.ne_of_gt hq.lt)
  exact hend _ _ _ _ _ _ _ (Or.inr ⟨_, rfl⟩) dJ2_grow_59 (⟨_, rfl, rfl, ho_2, max 10 mn, by omega, by omega, hx1_H_2⟩) hS_2 (by first | exact Nat.le_refl _ | (show (1 : Nat) ≤ 1; omega)) (by first | exact Nat.le_refl _ | (show (0 + (max 10 mn) : Nat) ≤ 40; omega))

set_option maxHeartbeats 1000000 in
set_option maxRecDepth 100000 in
theorem metJ2_growO (l : Launch) (E : EV) (H : Heap) (q arr cap mn : Nat) (xs : List Nat) (md n : Int32) (hq0 : Old E q) (hq : oat E q 6 [.int md, .ref arr, .int n] H) (hmn : mn ≤ 25) (hcm : cap < mn) (h0 : 0 < cap) (hle : xs.length ≤ cap) (ha : qat E arr 3 cap (fun i => xs[i]?) H) (hel : ∀ x ∈ xs, Elt E x H) : Ct l yJ2_grow cJ2_grow 4 (some (.array (.object "java/lang/Object"))) 6 300 (1) (40) [.ref q, .int (nI mn)] E H (fun x => x = q ∨ H.size ≤ x) (pA (fun r H1 => r = H.size ∧ oat E q 6 [.int md, .ref H.size, .int n] H1 ∧ ∃ N, mn ≤ N ∧ N ≤ 40 ∧ qat E H.size 3 N (fun j => xs[j]?) H1)) := by
  refine Ct.ofA (Or.inr ⟨_, rfl⟩) (by decide) (Nat.le_of_ble_eq_true rfl) ?_
  intro p e s m bl mt cd ls Q hF hW hH hl hend
  obtain ⟨F, hin⟩ := hF
  have hx := F.1
  have hb := F.2.1
  have hts := F.2.2.2.2
  have hl : lv_has ls 4 [(0, .ref q), (1, .int (nI mn))] := hl
  have hS : va_S (fun x => x = q ∨ H.size ≤ x) H H [] := va_S.rf
  have hqa : q ≠ arr := fun h9 => by subst h9; exact oat_qat hW hq ha rfl
  refine lv_aload_n hx hb dJ2_grow_0 rfl (lv_at hl 0 rfl) ?_
  refine xget (ref := "java/util/ArrayList") (ci := 6) (v := .ref arr) (C := RJ2) (T := TJ2) (N := 3) F in_J2 hW hq rfl 1 (by decide) q99 (fun _ h9 => h9) rfl dJ2_grow_1 ?_
  refine xqlen F hW 3 ha rfl dJ2_grow_4 ?_
  refine lv_istore_n (lv' := [(2, .int (nI cap)), (0, .ref q), (1, .int (nI mn))]) hx hb dJ2_grow_5 rfl hl (by decide) rfl (fun ls hl => ?_)
  refine lv_iload_n hx hb dJ2_grow_6 rfl (lv_at hl 0 rfl) ?_
  refine lv_if_gt (tgt := 20) hx hb dJ2_grow_7 (by decide) (fun _ => ?_) (fun c9 => absurd (nI_lt (a := 0) h0 (by omega)) c9)
  refine lv_iload_n hx hb dJ2_grow_20 rfl (lv_at hl 0 rfl) ?_
  refine lv_iload_n hx hb dJ2_grow_21 rfl (lv_at hl 2 rfl) ?_
  refine lv_iload_n hx hb dJ2_grow_22 rfl (lv_at hl 0 rfl) ?_
  refine lv_isub hx hb dJ2_grow_23 ?_
  refine lv_val (y := nI (mn - cap)) (pk_sub (a := mn) (b := cap) (by omega)) ?_
  refine lv_iload_n hx hb dJ2_grow_24 rfl (lv_at hl 0 rfl) ?_
  refine lv_iconst (v := 1) hx hb dJ2_grow_25 (by decide) ?_
  refine lv_ishr hx hb dJ2_grow_26 ?_
  refine lv_val (y := nI (cap / 2 ^ 1)) (pk_shrN (n := cap) (by omega) _ 1 (by decide)) ?_
  refine run_ro (w := .int (nI (cap + max (mn - cap) (cap / 2 ^ 1)))) (rest := []) (kS F hW (metJ9_newLength l E H cap (mn - cap) (cap / 2 ^ 1) (by omega) (by omega) (by omega) (by omega)) (lw_S q288 q289 q57 q290) hdJ9_newLength ⟨Nat.le_of_ble_eq_true rfl, Nat.le_of_ble_eq_true rfl⟩ hl.1 rfl (Nat.le_of_ble_eq_true rfl) dJ2_grow_27 ⟨Nat.le_of_ble_eq_true rfl, Nat.le_of_ble_eq_true rfl⟩) ?_
  refine lv_istore_n (lv' := [(3, .int (nI (cap + max (mn - cap) (cap / 2 ^ 1)))), (2, .int (nI cap)), (0, .ref q), (1, .int (nI mn))]) hx hb dJ2_grow_30 rfl hl (by decide) rfl (fun ls hl => ?_)
  refine lv_aload_n hx hb dJ2_grow_31 rfl (lv_at hl 2 rfl) ?_
  refine lv_aload_n hx hb dJ2_grow_32 rfl (lv_at hl 2 rfl) ?_
  refine xget (ref := "java/util/ArrayList") (ci := 6) (v := .ref arr) (C := RJ2) (T := TJ2) (N := 3) F in_J2 hW hq rfl 1 (by decide) q99 (fun _ h9 => h9) rfl dJ2_grow_33 ?_
  refine lv_iload_n hx hb dJ2_grow_36 rfl (lv_at hl 0 rfl) ?_
  refine run_chA (rest := [.ref q]) (kS F hW (metJ7_copyOf l E H arr cap (cap + max (mn - cap) (cap / 2)) (fun i => xs[i]?) (Or.inr ha) (by omega) (by omega) (fun i _ y hy => hel y (List.mem_of_getElem? hy))) (lw_S q255 q256 q54 q257) hdJ7_copyOf ⟨Nat.le_of_ble_eq_true rfl, Nat.le_of_ble_eq_true rfl⟩ hl.1 rfl (Nat.le_of_ble_eq_true rfl) dJ2_grow_37 ⟨by show 0 + 1 ≤ 1; omega, by show 0 + 40 ≤ 40; omega⟩) hS (fun _ h => Or.inr h) (fun r_1 H_1 locs hp_1 hc_1 hS_1 => ?_)
  obtain ⟨e9, ho_H_1⟩ := hp_1
  subst e9
  have hW_H_1 := hW.kept hc_1 (fun q h1 h2 => absurd h1 (Nat.not_lt.mpr h2))
  have hq_H_1 := hq.kept hc_1 (Nat.not_le.mpr hq.lt)
  have ha_H_1 := ha.kept hc_1 (Nat.not_le.mpr ha.lt)
  have ho_H_1 := ho_H_1.congr (cp_all (by omega) (by omega))
  refine lv_dup_x1 hx hb dJ2_grow_40 rfl rfl ?_
  refine xput (ref := "java/util/ArrayList") (ci := 6) (v := .ref H.size) (C := RJ2) (T := TJ2) (N := 3) F in_J2 tyJ2 tyJ2_ok nmJ2 hW_H_1 hq_H_1 hS_1 (Or.inl rfl) rfl 1 (by decide) q99 (fun _ h9 => h9) rfl rfl rfl (Nat.le_of_ble_eq_true rfl) dJ2_grow_41 (fun H_2 locs ho_2 hu_2 hS_2 => ?_)
  have ho_2 : oat E q 6 [.int md, .ref H.size, .int n] H_2 := ho_2
  have hz_H_2 : H_2.size = H_1.size := hu_2.1
  have hW_H_2 := hW_H_1.kept hu_2.chg (fun q _ hq => hq ▸ hq0)
  have ha_H_2 := ha_H_1.kept hu_2.chg (fun h9 => hqa h9.symm)
  have hxH_H_2 := ho_H_1.kept hu_2.chg (Nat.ne_of_gt hq.lt)
  exact hend _ _ _ _ _ _ _ (Or.inr ⟨_, rfl⟩) dJ2_grow_44 (⟨_, rfl, rfl, ho_2, _, by omega, by omega, hxH_H_2⟩) hS_2 (by first | exact Nat.le_refl _ | (show (1 : Nat) ≤ 1; omega)) (by first | exact Nat.le_refl _ | (show (40 : Nat) ≤ 40; omega))

theorem metJ2_grow (l : Launch) (E : EV) (H : Heap) (q arr cap mn : Nat) (xs : List Nat) (md n : Int32) (hq0 : Old E q) (hq : oat E q 6 [.int md, .ref arr, .int n] H) (har : Arr E arr cap xs H) (hmn : mn ≤ 25) (hcm : cap < mn) (hel : ∀ x ∈ xs, Elt E x H) : Ct l yJ2_grow cJ2_grow 4 (some (.array (.object "java/lang/Object"))) 6 300 1 40 [.ref q, .int (nI mn)] E H (fun x => x = q ∨ H.size ≤ x) (pA (fun r H1 => r = H.size ∧ oat E q 6 [.int md, .ref H.size, .int n] H1 ∧ ∃ N, mn ≤ N ∧ N ≤ 40 ∧ qat E H.size 3 N (fun j => xs[j]?) H1)) := by
  rcases har with ⟨h1, h2, h3⟩ | ⟨ho, h0, hle, hc, ha⟩
  · subst h1 h2 h3
    exact metJ2_growE l E H q mn md n hq0 hq hmn
  · exact metJ2_growO l E H q arr cap mn xs md n hq0 hq hmn hcm h0 hle ha hel
theorem hdJ2_grow_2 : Hd yJ2_grow_2 0 := by decide +kernel
set_option maxHeartbeats 1000000 in
set_option maxRecDepth 100000 in
theorem metJ2_grow_2 (l : Launch) (E : EV) (H : Heap) (q arr cap : Nat) (xs : List Nat) (md : Int32) (hq0 : Old E q) (hq : oat E q 6 [.int md, .ref arr, .int (nI xs.length)] H) (har : Arr E arr cap xs H) (hmn : xs.length + 1 ≤ 25) (hcm : cap < xs.length + 1) (hel : ∀ x ∈ xs, Elt E x H) : Ct l yJ2_grow_2 cJ2_grow_2 1 (some (.array (.object "java/lang/Object"))) 7 323 (1) (40) [.ref q] E H (fun x => x = q ∨ H.size ≤ x) (pA (fun r H1 => r = H.size ∧ oat E q 6 [.int md, .ref H.size, .int (nI xs.length)] H1 ∧ ∃ N, xs.length + 1 ≤ N ∧ N ≤ 40 ∧ qat E H.size 3 N (fun j => xs[j]?) H1)) := by
  refine Ct.ofA (Or.inr ⟨_, rfl⟩) (by decide) (Nat.le_of_ble_eq_true rfl) ?_
  intro p e s m bl mt cd ls Q hF hW hH hl hend
  obtain ⟨F, hin⟩ := hF
  have hx := F.1
  have hb := F.2.1
  have hts := F.2.2.2.2
  have hl : lv_has ls 1 [(0, .ref q)] := hl
  have hS : va_S (fun x => x = q ∨ H.size ≤ x) H H [] := va_S.rf
  refine lv_aload_n hx hb dJ2_grow_2_0 rfl (lv_at hl 0 rfl) ?_
  refine lv_aload_n hx hb dJ2_grow_2_1 rfl (lv_at hl 0 rfl) ?_
  refine xget (ref := "java/util/ArrayList") (ci := 6) (v := .int (nI xs.length)) (C := RJ2) (T := TJ2) (N := 3) F in_J2 hW hq rfl 2 (by decide) q100 (fun _ h9 => h9) rfl dJ2_grow_2_2 ?_
  refine lv_iconst (v := 1) hx hb dJ2_grow_2_5 (by decide) ?_
  refine lv_iadd hx hb dJ2_grow_2_6 ?_
  refine lv_val (y := nI (xs.length + 1)) ((nI_add (xs.length) (1))) ?_
  refine run_chA (rest := []) (kV F hW (metJ2_grow l E H q arr cap (xs.length + 1) xs md (nI xs.length) hq0 hq har hmn hcm hel) (lw_V q284 q286 qs1 q47 q287) hdJ2_grow ⟨Nat.le_of_ble_eq_true rfl, Nat.le_of_ble_eq_true rfl⟩ (recv hW hq rfl) hl.1 rfl (Nat.le_of_ble_eq_true rfl) dJ2_grow_2_7 ⟨by show 0 + 1 ≤ 1; omega, by show 0 + 40 ≤ 40; omega⟩) hS (fun _ h => h) (fun r_1 H_1 locs hp_1 hc_1 hS_1 => ?_)
  obtain ⟨e9, hq_H_1, N, hN1, hN2, ho_H_1⟩ := hp_1
  subst e9
  have hW_H_1 := hW.kept hc_1 (fun q9 h1 h2 => h2.elim (fun h => h ▸ hq0) (fun h => absurd h1 (Nat.not_lt.mpr h)))
  exact hend _ _ _ _ _ _ _ (Or.inr ⟨_, rfl⟩) dJ2_grow_2_10 (⟨_, rfl, rfl, hq_H_1, N, hN1, hN2, ho_H_1⟩) hS_1 (by first | exact Nat.le_refl _ | (show (1 : Nat) ≤ 1; omega)) (by first | exact Nat.le_refl _ | (show (40 : Nat) ≤ 40; omega))

theorem hdJ2_add_2 : Hd yJ2_add_2 3 := by decide +kernel
set_option maxHeartbeats 1000000 in
set_option maxRecDepth 100000 in
theorem metJ2_add_2r (l : Launch) (E : EV) (H : Heap) (q arr cap v : Nat) (xs : List Nat) (md : Int32) (hq0 : Old E q) (hal : AL E q md arr cap xs H) (hel : ∀ x ∈ xs, Elt E x H) (hv : Elt E v H) (hvq : v ≠ q) (hlen : xs.length < 25) (ho : Old E arr ∧ 0 < cap ∧ xs.length ≤ cap ∧ cap ≤ 40 ∧ qat E arr 3 cap (fun i => xs[i]?) H) (hroom : xs.length < cap) : Ct l yJ2_add_2 cJ2_add_2 4 none 8 400 (1) (40) [.ref q, .ref v, .ref arr, .int (nI xs.length)] E H (LA E q arr H.size) (pN (fun H1 => ∃ arr' cap', AL E q md arr' cap' (xs ++ [v]) H1 ∧ (arr' = arr ∨ H.size ≤ arr'))) := by
  obtain ⟨hq, har⟩ := hal
  obtain ⟨hoA, h0, hle, hcap, ha⟩ := ho
  refine Ct.ofV (by decide) (Nat.le_of_ble_eq_true rfl) ?_
  intro p e s m bl mt cd ls Q hF hW hH hl hend
  obtain ⟨F, hin⟩ := hF
  have hx := F.1
  have hb := F.2.1
  have hts := F.2.2.2.2
  have hl : lv_has ls 4 [(0, .ref q), (1, .ref v), (2, .ref arr), (3, .int (nI xs.length))] := hl
  have hS : va_S (LA E q arr H.size) H H [] := va_S.rf
  have hqa : q ≠ arr := fun h9 => by subst h9; exact oat_qat hW hq ha rfl
  refine lv_iload_n hx hb dJ2_add_2_0 rfl (lv_at hl 3 rfl) ?_
  refine lv_aload_n hx hb dJ2_add_2_1 rfl (lv_at hl 2 rfl) ?_
  refine xqlen F hW 3 ha rfl dJ2_add_2_2 ?_
  refine lv_icmp_ne (tgt := 11) hx hb dJ2_add_2_3 (by decide) (fun _ => ?_) (fun c9 => absurd c9 (fun h9 => Nat.ne_of_lt hroom ((nI_eq (by omega) (by omega)).mp h9)))
  refine lv_aload_n hx hb dJ2_add_2_11 rfl (lv_at hl 2 rfl) ?_
  refine lv_iload_n hx hb dJ2_add_2_12 rfl (lv_at hl 3 rfl) ?_
  refine lv_aload_n hx hb dJ2_add_2_13 rfl (lv_at hl 1 rfl) ?_
  refine xqst (C := "java/lang/Object") F hW 3 ha rfl hS (Or.inr (Or.inl ⟨rfl, hoA⟩)) (hv.any hW) (vin_eq (n := xs.length) (rfl : nI xs.length = nI xs.length) (by omega) (by omega)) dJ2_add_2_14 (fun H_1 locs ho_1 hu_1 hS_1 => ?_)
  have ho_1 : qat E arr 3 cap (va_up (fun i => xs[i]?) (xs.length) (some v)) H_1 := by have h9 := ho_1; rw [show (nI xs.length : Int32).toNatClampNeg = (xs.length) from (cl_eq (n := xs.length) (rfl : nI xs.length = nI xs.length) (by omega))] at h9; exact h9
  have hz_H_1 : H_1.size = H.size := hu_1.1
  have hW_H_1 := hW.kept hu_1.chg (fun q _ hq => hq ▸ hoA)
  have hq_H_1 := hq.kept hu_1.chg hqa
  refine lv_aload_n hx hb dJ2_add_2_15 rfl (lv_at hl 0 rfl) ?_
  refine lv_iload_n hx hb dJ2_add_2_16 rfl (lv_at hl 3 rfl) ?_
  refine lv_iconst (v := 1) hx hb dJ2_add_2_17 (by decide) ?_
  refine lv_iadd hx hb dJ2_add_2_18 ?_
  refine lv_val (y := nI (xs.length + 1)) ((nI_add (xs.length) (1))) ?_
  refine xput (ref := "java/util/ArrayList") (ci := 6) (v := .int (nI (xs.length + 1))) (C := RJ2) (T := TJ2) (N := 3) F in_J2 tyJ2 tyJ2_ok nmJ2 hW_H_1 hq_H_1 hS_1 (Or.inl rfl) rfl 2 (by decide) q100 (fun _ h9 => h9) rfl rfl rfl (Nat.le_of_ble_eq_true rfl) dJ2_add_2_19 (fun H_2 locs ho_2 hu_2 hS_2 => ?_)
  have ho_2 : oat E q 6 [.int md, .ref arr, .int (nI (xs.length + 1))] H_2 := ho_2
  have hz_H_2 : H_2.size = H_1.size := hu_2.1
  have hW_H_2 := hW_H_1.kept hu_2.chg (fun q _ hq => hq ▸ hq0)
  have hx1_H_2 := ho_1.kept hu_2.chg (fun h9 => hqa h9.symm)
  exact hend _ _ _ _ _ _ dJ2_add_2_22 (⟨rfl, arr, cap, ⟨by rw [show (xs ++ [v]).length = xs.length + 1 by simp]; exact ho_2, Or.inr ⟨hoA, h0, by simp; omega, hcap, hx1_H_2.congr up_app⟩⟩, Or.inl rfl⟩) hS_2 (Nat.zero_le _) (Nat.zero_le _)

set_option maxHeartbeats 1000000 in
set_option maxRecDepth 100000 in
theorem metJ2_add_2g (l : Launch) (E : EV) (H : Heap) (q arr cap v : Nat) (xs : List Nat) (md : Int32) (hq0 : Old E q) (hal : AL E q md arr cap xs H) (hel : ∀ x ∈ xs, Elt E x H) (hv : Elt E v H) (hvq : v ≠ q) (hlen : xs.length < 25) (hroom : xs.length = cap) : Ct l yJ2_add_2 cJ2_add_2 4 none 8 400 (1) (40) [.ref q, .ref v, .ref arr, .int (nI xs.length)] E H (LA E q arr H.size) (pN (fun H1 => ∃ arr' cap', AL E q md arr' cap' (xs ++ [v]) H1 ∧ (arr' = arr ∨ H.size ≤ arr'))) := by
  obtain ⟨hq, har⟩ := hal
  have hvl : v < H.size := by obtain ⟨_, _, _, h9, _⟩ := hv; exact h9.lt
  refine Ct.ofV (by decide) (Nat.le_of_ble_eq_true rfl) ?_
  intro p e s m bl mt cd ls Q hF hW hH hl hend
  obtain ⟨F, hin⟩ := hF
  have hx := F.1
  have hb := F.2.1
  have hts := F.2.2.2.2
  have hl : lv_has ls 4 [(0, .ref q), (1, .ref v), (2, .ref arr), (3, .int (nI xs.length))] := hl
  have hS : va_S (LA E q arr H.size) H H [] := va_S.rf
  refine lv_iload_n hx hb dJ2_add_2_0 rfl (lv_at hl 3 rfl) ?_
  refine lv_aload_n hx hb dJ2_add_2_1 rfl (lv_at hl 2 rfl) ?_
  refine xArrLen F hW har dJ2_add_2_2 ?_
  refine lv_icmp_ne (tgt := 11) hx hb dJ2_add_2_3 (by decide) (fun c9 => absurd (congrArg nI hroom) c9) (fun _ => ?_)
  refine lv_aload_n hx hb dJ2_add_2_6 rfl (lv_at hl 0 rfl) ?_
  refine run_chA (rest := []) (kV F hW (metJ2_grow_2 l E H q arr cap xs md hq0 hq har (by omega) (by omega) hel) (lw_V q367 q369 qs3 q47 q370) hdJ2_grow_2 ⟨Nat.le_of_ble_eq_true rfl, Nat.le_of_ble_eq_true rfl⟩ (recv hW hq rfl) hl.1 rfl (Nat.le_of_ble_eq_true rfl) dJ2_add_2_7 ⟨by show 0 + 1 ≤ 1; omega, by show 0 + 40 ≤ 40; omega⟩) hS (fun _ h => h.elim Or.inl (fun h => Or.inr (Or.inr h))) (fun r_1 H_1 locs hp_1 hc_1 hS_1 => ?_)
  obtain ⟨e9, hq_H_1, N, hN1, hN2, ho_H_1⟩ := hp_1
  subst e9
  have hW_H_1 := hW.kept hc_1 (fun q9 h1 h2 => h2.elim (fun h => h ▸ hq0) (fun h => absurd h1 (Nat.not_lt.mpr h)))
  have hv_H_1 := hv.kept hc_1 (fun h9 => h9.elim hvq (Nat.not_le.mpr hvl))
  refine lv_astore_n (lv' := [(2, .ref H.size), (0, .ref q), (1, .ref v), (3, .int (nI xs.length))]) hx hb dJ2_add_2_10 rfl hl (by decide) rfl (fun ls hl => ?_)
  refine lv_aload_n hx hb dJ2_add_2_11 rfl (lv_at hl 0 rfl) ?_
  refine lv_iload_n hx hb dJ2_add_2_12 rfl (lv_at hl 3 rfl) ?_
  refine lv_aload_n hx hb dJ2_add_2_13 rfl (lv_at hl 2 rfl) ?_
  refine xqst (C := "java/lang/Object") F hW_H_1 3 ho_H_1 rfl hS_1 (Or.inr (Or.inr (Nat.le_refl _))) (hv_H_1.any hW_H_1) (vin_eq (n := xs.length) (rfl : nI xs.length = nI xs.length) (by omega) (by omega)) dJ2_add_2_14 (fun H_2 locs ho_2 hu_2 hS_2 => ?_)
  have ho_2 : qat E H.size 3 N (va_up (fun j => xs[j]?) (xs.length) (some v)) H_2 := by have h9 := ho_2; rw [show (nI xs.length : Int32).toNatClampNeg = (xs.length) from (cl_eq (n := xs.length) (rfl : nI xs.length = nI xs.length) (by omega))] at h9; exact h9
  have hz_H_2 : H_2.size = H_1.size := hu_2.1
  have hW_H_2 := hW_H_1.kept hu_2.chg (fun q _ hq => hq ▸ (show E.2.2.1 ≤ H.size from hW.2.2))
  have hv_H_2 := hv_H_1.kept hu_2.chg (Nat.ne_of_lt hvl)
  have hq_H_2 := hq_H_1.kept hu_2.chg (Nat.ne_of_lt hq.lt)
  refine lv_aload_n hx hb dJ2_add_2_15 rfl (lv_at hl 1 rfl) ?_
  refine lv_iload_n hx hb dJ2_add_2_16 rfl (lv_at hl 3 rfl) ?_
  refine lv_iconst (v := 1) hx hb dJ2_add_2_17 (by decide) ?_
  refine lv_iadd hx hb dJ2_add_2_18 ?_
  refine lv_val (y := nI (xs.length + 1)) ((nI_add (xs.length) (1))) ?_
  refine xput (ref := "java/util/ArrayList") (ci := 6) (v := .int (nI (xs.length + 1))) (C := RJ2) (T := TJ2) (N := 3) F in_J2 tyJ2 tyJ2_ok nmJ2 hW_H_2 hq_H_2 hS_2 (Or.inl rfl) rfl 2 (by decide) q100 (fun _ h9 => h9) rfl rfl rfl (Nat.le_of_ble_eq_true rfl) dJ2_add_2_19 (fun H_3 locs ho_3 hu_3 hS_3 => ?_)
  have ho_3 : oat E q 6 [.int md, .ref H.size, .int (nI (xs.length + 1))] H_3 := ho_3
  have hz_H_3 : H_3.size = H_2.size := hu_3.1
  have hW_H_3 := hW_H_2.kept hu_3.chg (fun q _ hq => hq ▸ hq0)
  have hv_H_3 := hv_H_2.kept hu_3.chg hvq
  have hx2_H_3 := ho_2.kept hu_3.chg (Nat.ne_of_gt hq.lt)
  exact hend _ _ _ _ _ _ dJ2_add_2_22 (⟨rfl, _, N, ⟨by rw [show (xs ++ [v]).length = xs.length + 1 by simp]; exact ho_3, Or.inr ⟨show E.2.2.1 ≤ H.size from hW.2.2, by omega, by simp; omega, hN2, hx2_H_3.congr up_app⟩⟩, Or.inr (Nat.le_refl _)⟩) hS_3 (by first | exact Nat.le_refl _ | (show (1 : Nat) ≤ 1; omega)) (by first | exact Nat.le_refl _ | (show (40 : Nat) ≤ 40; omega))

theorem Arr.kept {E : EV} {arr cap : Nat} {xs : List Nat} {H H1 : Heap} {A : Nat → Prop} (h : Arr E arr cap xs H) (hc : Chg A H H1) (hA : Old E arr → ¬ A arr) : Arr E arr cap xs H1 := by
  rcases h with h | ⟨ho, h0, hle, hc2, ha⟩
  · exact Or.inl h
  · exact Or.inr ⟨ho, h0, hle, hc2, ha.kept hc (hA ho)⟩
theorem Arr.ne {E : EV} {arr cap q ci : Nat} {xs : List Nat} {H : Heap} {s : State} {fs : List Value} (hW : WK E s H) (h : Arr E arr cap xs H) (hq : oat E q ci fs H) : Old E arr → arr ≠ q := by
  intro ho e
  subst e
  rcases h with ⟨h1, h2, h3⟩ | ⟨ho, h0, hle, hc2, ha⟩
  · subst h1
    obtain ⟨r, hc, cell, q1, q2, q3, q4⟩ := hq
    obtain ⟨cell', p1, p2, p3, -⟩ := hW.2.1.2.2.1
    obtain ⟨hSl, hfc, kC, hkC, hkind⟩ := hW.K.1 ci _ hc
    cases q1.symm.trans p1
    have hlt := hW.2.1.2.2.1
    obtain ⟨cell2, z1, z2, z3, z4⟩ := hlt
    exact z4 ho
  · exact oat_qat hW hq ha rfl
theorem metJ2_add_2 (l : Launch) (E : EV) (H : Heap) (q arr cap v : Nat) (xs : List Nat) (md : Int32) (hq0 : Old E q) (hal : AL E q md arr cap xs H) (hel : ∀ x ∈ xs, Elt E x H) (hv : Elt E v H) (hvq : v ≠ q) (hlen : xs.length < 25) : Ct l yJ2_add_2 cJ2_add_2 4 none 8 400 1 40 [.ref q, .ref v, .ref arr, .int (nI xs.length)] E H (LA E q arr H.size) (pN (fun H1 => ∃ arr' cap', AL E q md arr' cap' (xs ++ [v]) H1 ∧ (arr' = arr ∨ H.size ≤ arr'))) := by
  have h := hal.2
  rcases h with ⟨h1, h2, h3⟩ | ⟨ho, h0, hle, hc, ha⟩
  · subst h1 h2 h3
    exact metJ2_add_2g l E H q _ 0 v [] md hq0 hal hel hv hvq hlen rfl
  · by_cases h : xs.length < cap
    · exact metJ2_add_2r l E H q arr cap v xs md hq0 hal hel hv hvq hlen ⟨ho, h0, hle, hc, ha⟩ h
    · exact metJ2_add_2g l E H q arr cap v xs md hq0 hal hel hv hvq hlen (by omega)
theorem hdJ2_add : Hd yJ2_add 1 := by decide +kernel
theorem hdJ2_addF : Hd ⟨"java/util/List", "add", "(Ljava/lang/Object;)Z"⟩ 1 := by decide +kernel
set_option maxHeartbeats 1000000 in
set_option maxRecDepth 100000 in
theorem metJ2_add (l : Launch) (E : EV) (H : Heap) (q arr cap v : Nat) (xs : List Nat) (md : Int32) (hq0 : Old E q) (hal : AL E q md arr cap xs H) (hel : ∀ x ∈ xs, Elt E x H ∧ x ≠ q) (hv : Elt E v H) (hvq : v ≠ q) (hlen : xs.length < 25) : Ct l yJ2_add cJ2_add 2 (some .boolean) 9 423 (1) (40) [.ref q, .ref v] E H (LA E q arr H.size) (pI (fun _ H1 => ∃ arr' cap', AL E q (md + 1) arr' cap' (xs ++ [v]) H1 ∧ (arr' = arr ∨ H.size ≤ arr'))) := by
  obtain ⟨hq, har⟩ := hal
  refine Ct.ofZ (by decide) (Nat.le_of_ble_eq_true rfl) ?_
  intro p e s m bl mt cd ls Q hF hW hH hl hend
  obtain ⟨F, hin⟩ := hF
  have hx := F.1
  have hb := F.2.1
  have hts := F.2.2.2.2
  have hl : lv_has ls 2 [(0, .ref q), (1, .ref v)] := hl
  have hS : va_S (LA E q arr H.size) H H [] := va_S.rf
  refine lv_aload_n hx hb dJ2_add_0 rfl (lv_at hl 0 rfl) ?_
  refine lv_dup hx hb dJ2_add_1 rfl ?_
  refine xget (ref := "java/util/ArrayList") (ci := 6) (v := .int md) (C := RJ2) (T := TJ2) (N := 3) F in_J2 hW hq rfl 0 (by decide) q102 (u_same (hts _ q103)) rfl dJ2_add_2 ?_
  refine lv_iconst (v := 1) hx hb dJ2_add_5 (by decide) ?_
  refine lv_iadd hx hb dJ2_add_6 ?_
  refine xput (ref := "java/util/ArrayList") (ci := 6) (v := .int (md + 1)) (C := RJ2) (T := TJ2) (N := 3) F in_J2 tyJ2 tyJ2_ok nmJ2 hW hq hS (Or.inl rfl) rfl 0 (by decide) q102 (u_same (hts _ q103)) rfl rfl rfl (Nat.le_of_ble_eq_true rfl) dJ2_add_7 (fun H_1 locs ho_1 hu_1 hS_1 => ?_)
  have ho_1 : oat E q 6 [.int (md + 1), .ref arr, .int (nI xs.length)] H_1 := ho_1
  have hz_H_1 : H_1.size = H.size := hu_1.1
  have hW_H_1 := hW.kept hu_1.chg (fun q _ hq => hq ▸ hq0)
  refine lv_aload_n hx hb dJ2_add_10 rfl (lv_at hl 0 rfl) ?_
  refine lv_aload_n hx hb dJ2_add_11 rfl (lv_at hl 1 rfl) ?_
  refine lv_aload_n hx hb dJ2_add_12 rfl (lv_at hl 0 rfl) ?_
  refine xget (ref := "java/util/ArrayList") (ci := 6) (v := .ref arr) (C := RJ2) (T := TJ2) (N := 3) F in_J2 hW_H_1 ho_1 rfl 1 (by decide) q99 (fun _ h9 => h9) rfl dJ2_add_13 ?_
  refine lv_aload_n hx hb dJ2_add_16 rfl (lv_at hl 0 rfl) ?_
  refine xget (ref := "java/util/ArrayList") (ci := 6) (v := .int (nI xs.length)) (C := RJ2) (T := TJ2) (N := 3) F in_J2 hW_H_1 ho_1 rfl 2 (by decide) q100 (fun _ h9 => h9) rfl dJ2_add_17 ?_
  refine run_chN (rest := []) (kV F hW_H_1 (metJ2_add_2 l E H_1 q arr cap v xs (md + 1) hq0 ⟨ho_1, har.kept hu_1.chg (Arr.ne hW har hq)⟩ (fun z hz => ((hel z hz).1.kept hu_1.chg (hel z hz).2)) (hv.kept hu_1.chg hvq) hvq hlen) (lw_V q363 q365 qs2 q47 q366) hdJ2_add_2 ⟨Nat.le_of_ble_eq_true rfl, Nat.le_of_ble_eq_true rfl⟩ (recv hW_H_1 ho_1 rfl) hl.1 rfl (Nat.le_of_ble_eq_true rfl) dJ2_add_20 ⟨by show 0 + 1 ≤ 1; omega, by show 0 + 40 ≤ 40; omega⟩) hS_1 (fun _ h => by rw [hz_H_1] at h; exact h) (fun H_2 locs hp_2 hc_2 hS_2 => ?_)
  obtain ⟨arr', cap', hAL, hor⟩ := hp_2
  rw [hz_H_1] at hor
  refine lv_iconst (v := 1) hx hb dJ2_add_23 (by decide) ?_
  exact hend _ _ _ _ _ _ _ rfl dJ2_add_24 (⟨_, rfl, arr', cap', hAL, hor⟩) hS_2 (by first | exact Nat.le_refl _ | (show (1 : Nat) ≤ 1; omega)) (by first | exact Nat.le_refl _ | (show (40 : Nat) ≤ 40; omega))

theorem hdJ2_toArray : Hd yJ2_toArray 0 := by decide +kernel
theorem hdJ2_toArrayF : Hd ⟨"java/util/Collection", "toArray", "()[Ljava/lang/Object;"⟩ 0 := by decide +kernel
set_option maxHeartbeats 1000000 in
set_option maxRecDepth 100000 in
theorem metJ2_toArray (l : Launch) (E : EV) (H : Heap) (q arr cap : Nat) (xs : List Nat) (md : Int32) (hal : AL E q md arr cap xs H) (hel : ∀ x ∈ xs, Elt E x H) (hlen : xs.length ≤ 40) : Ct l yJ2_toArray cJ2_toArray 1 (some (.array (.object "java/lang/Object"))) 5 244 (1) (40) [.ref q] E H (fun q => H.size ≤ q) (pA (fun r H1 => r = H.size ∧ qat E H.size 3 xs.length (fun j => xs[j]?) H1)) := by
  obtain ⟨hq, har⟩ := hal
  have hsrc : Src E arr cap (fun j => xs[j]?) H ∧ xs.length ≤ cap ∧ cap ≤ 40 := by
    rcases har with ⟨h1, h2, h3⟩ | ⟨ho, h0, hle, hc, ha⟩
    · subst h1 h2 h3; exact ⟨Or.inl ⟨rfl, rfl⟩, Nat.le_refl _, by decide⟩
    · exact ⟨Or.inr ha, hle, hc⟩
  obtain ⟨hsrc, hcl, hcap⟩ := hsrc
  refine Ct.ofA (Or.inr ⟨_, rfl⟩) (by decide) (Nat.le_of_ble_eq_true rfl) ?_
  intro p e s m bl mt cd ls Q hF hW hH hl hend
  obtain ⟨F, hin⟩ := hF
  have hx := F.1
  have hb := F.2.1
  have hts := F.2.2.2.2
  have hl : lv_has ls 1 [(0, .ref q)] := hl
  have hS : va_S (fun q => H.size ≤ q) H H [] := va_S.rf
  refine lv_aload_n hx hb dJ2_toArray_0 rfl (lv_at hl 0 rfl) ?_
  refine xget (ref := "java/util/ArrayList") (ci := 6) (v := .ref arr) (C := RJ2) (T := TJ2) (N := 3) F in_J2 hW hq rfl 1 (by decide) q99 (fun _ h9 => h9) rfl dJ2_toArray_1 ?_
  refine lv_aload_n hx hb dJ2_toArray_4 rfl (lv_at hl 0 rfl) ?_
  refine xget (ref := "java/util/ArrayList") (ci := 6) (v := .int (nI xs.length)) (C := RJ2) (T := TJ2) (N := 3) F in_J2 hW hq rfl 2 (by decide) q100 (fun _ h9 => h9) rfl dJ2_toArray_5 ?_
  refine run_chA (rest := []) (kS F hW (metJ7_copyOf l E H arr cap xs.length (fun j => xs[j]?) hsrc (by omega) (by omega) (fun i _ y hy => hel y (List.mem_of_getElem? hy))) (lw_S q255 q256 q54 q257) hdJ7_copyOf ⟨Nat.le_of_ble_eq_true rfl, Nat.le_of_ble_eq_true rfl⟩ hl.1 rfl (Nat.le_of_ble_eq_true rfl) dJ2_toArray_8 ⟨by show 0 + 1 ≤ 1; omega, by show 0 + 40 ≤ 40; omega⟩) hS (fun _ h => h) (fun r_1 H_1 locs hp_1 hc_1 hS_1 => ?_)
  obtain ⟨e9, ho_H_1⟩ := hp_1
  subst e9
  have ho_H_1 := ho_H_1.congr (cp_all hcl (Nat.le_refl _))
  exact hend _ _ _ _ _ _ _ (Or.inr ⟨_, rfl⟩) dJ2_toArray_11 (⟨_, rfl, rfl, ho_H_1⟩) hS_1 (by first | exact Nat.le_refl _ | (show (1 : Nat) ≤ 1; omega)) (by first | exact Nat.le_refl _ | (show (40 : Nat) ≤ 40; omega))

theorem hdJ2_fastRemove : Hd yJ2_fastRemove 2 := by decide +kernel
set_option maxHeartbeats 1000000 in
set_option maxRecDepth 100000 in
theorem metJ2_fastRemove (l : Launch) (E : EV) (H : Heap) (q arr cap i : Nat) (xs : List Nat) (md : Int32) (hq0 : Old E q) (hal : AL E q md arr cap xs H) (hel : ∀ x ∈ xs, Elt E x H ∧ x ≠ q) (hi : i < xs.length) : Ct l yJ2_fastRemove cJ2_fastRemove 4 none 1 64 (0) (0) [.ref q, .ref arr, .int (nI i)] E H (fun x => x = q ∨ (x = arr ∧ Old E x)) (pN (fun H1 => AL E q (md + 1) arr cap (xs.eraseIdx i) H1)) := by
  obtain ⟨hq, har⟩ := hal
  rcases har with ⟨-, h9, -⟩ | ⟨hoA, h0, hle, hcap, ha⟩
  · subst h9; exact absurd hi (Nat.not_lt_zero _)
  refine Ct.ofV (by decide) (Nat.le_of_ble_eq_true rfl) ?_
  intro p e s m bl mt cd ls Q hF hW hH hl hend
  obtain ⟨F, hin⟩ := hF
  have hx := F.1
  have hb := F.2.1
  have hts := F.2.2.2.2
  have hl : lv_has ls 4 [(0, .ref q), (1, .ref arr), (2, .int (nI i))] := hl
  have hS : va_S (fun x => x = q ∨ (x = arr ∧ Old E x)) H H [] := va_S.rf
  have hqa : q ≠ arr := fun h9 => by subst h9; exact oat_qat hW hq ha rfl
  refine lv_aload_n hx hb dJ2_fastRemove_0 rfl (lv_at hl 0 rfl) ?_
  refine lv_dup hx hb dJ2_fastRemove_1 rfl ?_
  refine xget (ref := "java/util/ArrayList") (ci := 6) (v := .int md) (C := RJ2) (T := TJ2) (N := 3) F in_J2 hW hq rfl 0 (by decide) q102 (u_same (hts _ q103)) rfl dJ2_fastRemove_2 ?_
  refine lv_iconst (v := 1) hx hb dJ2_fastRemove_5 (by decide) ?_
  refine lv_iadd hx hb dJ2_fastRemove_6 ?_
  refine xput (ref := "java/util/ArrayList") (ci := 6) (v := .int (md + 1)) (C := RJ2) (T := TJ2) (N := 3) F in_J2 tyJ2 tyJ2_ok nmJ2 hW hq hS (Or.inl rfl) rfl 0 (by decide) q102 (u_same (hts _ q103)) rfl rfl rfl (Nat.le_of_ble_eq_true rfl) dJ2_fastRemove_7 (fun H_1 locs ho_1 hu_1 hS_1 => ?_)
  have ho_1 : oat E q 6 [.int (md + 1), .ref arr, .int (nI xs.length)] H_1 := ho_1
  have hz_H_1 : H_1.size = H.size := hu_1.1
  have hW_H_1 := hW.kept hu_1.chg (fun q _ hq => hq ▸ hq0)
  have ha_H_1 := ha.kept hu_1.chg (fun h9 => hqa h9.symm)
  refine lv_aload_n hx hb dJ2_fastRemove_10 rfl (lv_at hl 0 rfl) ?_
  refine xget (ref := "java/util/ArrayList") (ci := 6) (v := .int (nI xs.length)) (C := RJ2) (T := TJ2) (N := 3) F in_J2 hW_H_1 ho_1 rfl 2 (by decide) q100 (fun _ h9 => h9) rfl dJ2_fastRemove_11 ?_
  refine lv_iconst (v := 1) hx hb dJ2_fastRemove_14 (by decide) ?_
  refine lv_isub hx hb dJ2_fastRemove_15 ?_
  refine lv_val (y := nI (xs.length - 1)) (pk_sub (a := xs.length) (b := 1) (by omega)) ?_
  refine lv_dup hx hb dJ2_fastRemove_16 rfl ?_
  refine lv_istore_n (lv' := [(3, .int (nI (xs.length - 1))), (0, .ref q), (1, .ref arr), (2, .int (nI i))]) hx hb dJ2_fastRemove_17 rfl hl (by decide) rfl (fun ls hl => ?_)
  refine lv_iload_n hx hb dJ2_fastRemove_18 rfl (lv_at hl 3 rfl) ?_
  refine lv_icmp_le (tgt := 34) hx hb dJ2_fastRemove_19 (by decide) (fun c_2 => ?_) (fun c_2 => ?_)
  · skip
    have nc_2 := (nI_leI (a := (xs.length - 1)) (b := i) (by omega) (by omega)).mp c_2
    refine lv_aload_n hx hb dJ2_fastRemove_34 rfl (lv_at hl 2 rfl) ?_
    refine lv_aload_n hx hb dJ2_fastRemove_35 rfl (lv_at hl 1 rfl) ?_
    refine lv_iload_n hx hb dJ2_fastRemove_36 rfl (lv_at hl 0 rfl) ?_
    refine lv_dup_x1 hx hb dJ2_fastRemove_37 rfl rfl ?_
    refine xput (ref := "java/util/ArrayList") (ci := 6) (v := .int (nI (xs.length - 1))) (C := RJ2) (T := TJ2) (N := 3) F in_J2 tyJ2 tyJ2_ok nmJ2 hW_H_1 ho_1 hS_1 (Or.inl rfl) rfl 2 (by decide) q100 (fun _ h9 => h9) rfl rfl rfl (Nat.le_of_ble_eq_true rfl) dJ2_fastRemove_38 (fun H_3 locs ho_3 hu_3 hS_3 => ?_)
    have ho_3 : oat E q 6 [.int (md + 1), .ref arr, .int (nI (xs.length - 1))] H_3 := ho_3
    have hz_H_3 : H_3.size = H_1.size := hu_3.1
    have hW_H_3 := hW_H_1.kept hu_3.chg (fun q _ hq => hq ▸ hq0)
    have ha_H_3 := ha_H_1.kept hu_3.chg (fun h9 => hqa h9.symm)
    refine lv_null hx hb dJ2_fastRemove_41 ?_
    refine xqstN (C := "java/lang/Object") F hW_H_3 3 ha_H_3 rfl hS_3 (Or.inr ⟨rfl, hoA⟩) (vin_eq (n := (xs.length - 1)) (rfl : nI (xs.length - 1) = nI (xs.length - 1)) (by omega) (by omega)) dJ2_fastRemove_42 (fun H_4 locs ho_4 hu_4 hS_4 => ?_)
    have ho_4 : qat E arr 3 cap (va_up (fun i => xs[i]?) ((xs.length - 1)) none) H_4 := by have h9 := ho_4; rw [show (nI (xs.length - 1) : Int32).toNatClampNeg = ((xs.length - 1)) from (cl_eq (n := (xs.length - 1)) (rfl : nI (xs.length - 1) = nI (xs.length - 1)) (by omega))] at h9; exact h9
    have hz_H_4 : H_4.size = H_3.size := hu_4.1
    have hW_H_4 := hW_H_3.kept hu_4.chg (fun q _ hq => hq ▸ hoA)
    have hx3_H_4 := ho_3.kept hu_4.chg hqa
    exact hend _ _ _ _ _ _ dJ2_fastRemove_43 (⟨rfl, by rw [show (xs.eraseIdx i).length = xs.length - 1 by rw [List.length_eraseIdx, if_pos hi]]; exact hx3_H_4, Or.inr ⟨hoA, h0, by rw [List.length_eraseIdx, if_pos hi]; omega, hcap, ho_4.congr (er_last (by omega))⟩⟩) hS_4 (Nat.zero_le _) (Nat.zero_le _)
  · skip
    have nc_2 := Nat.not_le.mp (fun h9 => c_2 ((nI_leI (a := (xs.length - 1)) (b := i) (by omega) (by omega)).mpr h9))
    refine lv_aload_n hx hb dJ2_fastRemove_22 rfl (lv_at hl 2 rfl) ?_
    refine lv_iload_n hx hb dJ2_fastRemove_23 rfl (lv_at hl 3 rfl) ?_
    refine lv_iconst (v := 1) hx hb dJ2_fastRemove_24 (by decide) ?_
    refine lv_iadd hx hb dJ2_fastRemove_25 ?_
    refine lv_val (y := nI (i + 1)) ((nI_add (i) (1))) ?_
    refine lv_aload_n hx hb dJ2_fastRemove_26 rfl (lv_at hl 2 rfl) ?_
    refine lv_iload_n hx hb dJ2_fastRemove_27 rfl (lv_at hl 3 rfl) ?_
    refine lv_iload_n hx hb dJ2_fastRemove_28 rfl (lv_at hl 0 rfl) ?_
    refine lv_iload_n hx hb dJ2_fastRemove_29 rfl (lv_at hl 3 rfl) ?_
    refine lv_isub hx hb dJ2_fastRemove_30 ?_
    refine lv_val (y := nI ((xs.length - 1) - i)) (pk_sub (a := (xs.length - 1)) (b := i) (by omega)) ?_
    have k1 : (nI (i + 1) : Int32).toNatClampNeg = ((i + 1)) := (cl_eq (n := (i + 1)) (rfl : nI (i + 1) = nI (i + 1)) (by omega))
    have k2 : (nI i : Int32).toNatClampNeg = (i) := (cl_eq (n := i) (rfl : nI i = nI i) (by omega))
    have k3 : (nI ((xs.length - 1) - i) : Int32).toNatClampNeg = (((xs.length - 1) - i)) := (cl_eq (n := ((xs.length - 1) - i)) (rfl : nI ((xs.length - 1) - i) = nI ((xs.length - 1) - i)) (by omega))
    refine xqcopy (hl.1 ▸ F) q300 q283 q282 q56 hW_H_1 ha_H_1 ha_H_1 hS_1 (Or.inr ⟨rfl, hoA⟩) (by rw [show (nI (i + 1) : Int32) = nI ((i + 1)) from (rfl : nI (i + 1) = nI (i + 1))]; exact nI_pos (by omega)) (by rw [show (nI i : Int32) = nI (i) from (rfl : nI i = nI i)]; exact nI_pos (by omega)) (by rw [show (nI ((xs.length - 1) - i) : Int32) = nI (((xs.length - 1) - i)) from (rfl : nI ((xs.length - 1) - i) = nI ((xs.length - 1) - i))]; exact nI_pos (by omega)) (by rw [k1, k3]; omega) (by rw [k2, k3]; omega) (by rw [k1, k3]; exact (fun j _ y hy => ((hel y (List.mem_of_getElem? hy)).1.kept hu_1.chg (hel y (List.mem_of_getElem? hy)).2).any hW_H_1)) (Nat.le_of_ble_eq_true rfl) (Nat.le_of_ble_eq_true rfl) dJ2_fastRemove_31 (fun H_5 locs ho_5 hu_5 hS_5 => ?_)
    have ho_5 : qat E arr 3 cap (va_cpy (fun i => xs[i]?) (fun i => xs[i]?) ((i + 1)) (i) (((xs.length - 1) - i))) H_5 := by have h9 := ho_5; simp only [k1, k2, k3] at h9; exact h9
    have hz_H_5 : H_5.size = H_1.size := hu_5.1
    have hW_H_5 := hW_H_1.kept hu_5.chg (fun q _ hq => hq ▸ hoA)
    have hx1_H_5 := ho_1.kept hu_5.chg hqa
    refine lv_aload_n hx hb dJ2_fastRemove_34 rfl (lv_at hl 2 rfl) ?_
    refine lv_aload_n hx hb dJ2_fastRemove_35 rfl (lv_at hl 1 rfl) ?_
    refine lv_iload_n hx hb dJ2_fastRemove_36 rfl (lv_at hl 0 rfl) ?_
    refine lv_dup_x1 hx hb dJ2_fastRemove_37 rfl rfl ?_
    refine xput (ref := "java/util/ArrayList") (ci := 6) (v := .int (nI (xs.length - 1))) (C := RJ2) (T := TJ2) (N := 3) F in_J2 tyJ2 tyJ2_ok nmJ2 hW_H_5 hx1_H_5 hS_5 (Or.inl rfl) rfl 2 (by decide) q100 (fun _ h9 => h9) rfl rfl rfl (Nat.le_of_ble_eq_true rfl) dJ2_fastRemove_38 (fun H_6 locs ho_6 hu_6 hS_6 => ?_)
    have ho_6 : oat E q 6 [.int (md + 1), .ref arr, .int (nI (xs.length - 1))] H_6 := ho_6
    have hz_H_6 : H_6.size = H_5.size := hu_6.1
    have hW_H_6 := hW_H_5.kept hu_6.chg (fun q _ hq => hq ▸ hq0)
    have hx5_H_6 := ho_5.kept hu_6.chg (fun h9 => hqa h9.symm)
    refine lv_null hx hb dJ2_fastRemove_41 ?_
    refine xqstN (C := "java/lang/Object") F hW_H_6 3 hx5_H_6 rfl hS_6 (Or.inr ⟨rfl, hoA⟩) (vin_eq (n := (xs.length - 1)) (rfl : nI (xs.length - 1) = nI (xs.length - 1)) (by omega) (by omega)) dJ2_fastRemove_42 (fun H_7 locs ho_7 hu_7 hS_7 => ?_)
    have ho_7 : qat E arr 3 cap (va_up (va_cpy (fun i => xs[i]?) (fun i => xs[i]?) ((i + 1)) (i) (((xs.length - 1) - i))) ((xs.length - 1)) none) H_7 := by have h9 := ho_7; rw [show (nI (xs.length - 1) : Int32).toNatClampNeg = ((xs.length - 1)) from (cl_eq (n := (xs.length - 1)) (rfl : nI (xs.length - 1) = nI (xs.length - 1)) (by omega))] at h9; exact h9
    have hz_H_7 : H_7.size = H_6.size := hu_7.1
    have hW_H_7 := hW_H_6.kept hu_7.chg (fun q _ hq => hq ▸ hoA)
    have hx6_H_7 := ho_6.kept hu_7.chg hqa
    exact hend _ _ _ _ _ _ dJ2_fastRemove_43 (⟨rfl, by rw [show (xs.eraseIdx i).length = xs.length - 1 by rw [List.length_eraseIdx, if_pos hi]]; exact hx6_H_7, Or.inr ⟨hoA, h0, by rw [List.length_eraseIdx, if_pos hi]; omega, hcap, ho_7.congr (er_in hi)⟩⟩) hS_7 (Nat.zero_le _) (Nat.zero_le _)

theorem hdJ2_remove : Hd yJ2_remove 1 := by decide +kernel
theorem hdJ2_removeF : Hd ⟨"java/util/List", "remove", "(I)Ljava/lang/Object;"⟩ 1 := by decide +kernel
set_option maxHeartbeats 1000000 in
set_option maxRecDepth 100000 in
theorem metJ2_remove (l : Launch) (E : EV) (H : Heap) (q arr cap i : Nat) (xs : List Nat) (md : Int32) (hq0 : Old E q) (hal : AL E q md arr cap xs H) (hel : ∀ x ∈ xs, Elt E x H ∧ x ≠ q) (x : Nat) (hgx : xs[i]? = some x) (hlen : xs.length ≤ 40) : Ct l yJ2_remove cJ2_remove 4 (some (.object "java/lang/Object")) 2 87 (0) (0) [.ref q, .int (nI i)] E H (fun x => x = q ∨ (x = arr ∧ Old E x)) (pA (fun r H1 => r = x ∧ AL E q (md + 1) arr cap (xs.eraseIdx i) H1)) := by
  have hi : i < xs.length := (List.getElem?_eq_some_iff.mp hgx).1
  obtain ⟨hq, har⟩ := hal
  rcases har with ⟨-, h9, -⟩ | ⟨hoA, h0, hle, hcap, ha⟩
  · subst h9; exact absurd hi (Nat.not_lt_zero _)
  refine Ct.ofA (Or.inl ⟨_, rfl⟩) (by decide) (Nat.le_of_ble_eq_true rfl) ?_
  intro p e s m bl mt cd ls Q hF hW hH hl hend
  obtain ⟨F, hin⟩ := hF
  have hx := F.1
  have hb := F.2.1
  have hts := F.2.2.2.2
  have hl : lv_has ls 4 [(0, .ref q), (1, .int (nI i))] := hl
  have hS : va_S (fun x => x = q ∨ (x = arr ∧ Old E x)) H H [] := va_S.rf
  refine lv_iload_n hx hb dJ2_remove_0 rfl (lv_at hl 1 rfl) ?_
  refine lv_aload_n hx hb dJ2_remove_1 rfl (lv_at hl 0 rfl) ?_
  refine xget (ref := "java/util/ArrayList") (ci := 6) (v := .int (nI xs.length)) (C := RJ2) (T := TJ2) (N := 3) F in_J2 hW hq rfl 2 (by decide) q100 (fun _ h9 => h9) rfl dJ2_remove_2 ?_
  refine run_ro (w := .int (nI i)) (rest := []) (kS F hW (metJ10_checkIndex l E H _ _ (by omega) (by omega)) (lw_S q312 q313 q58 q314) hdJ10_checkIndex ⟨Nat.le_of_ble_eq_true rfl, Nat.le_of_ble_eq_true rfl⟩ hl.1 rfl (Nat.le_of_ble_eq_true rfl) dJ2_remove_5 ⟨Nat.le_of_ble_eq_true rfl, Nat.le_of_ble_eq_true rfl⟩) ?_
  refine lv_pop hx hb dJ2_remove_8 rfl ?_
  refine lv_aload_n hx hb dJ2_remove_9 rfl (lv_at hl 0 rfl) ?_
  refine xget (ref := "java/util/ArrayList") (ci := 6) (v := .ref arr) (C := RJ2) (T := TJ2) (N := 3) F in_J2 hW hq rfl 1 (by decide) q99 (fun _ h9 => h9) rfl dJ2_remove_10 ?_
  refine lv_astore_n (lv' := [(2, .ref arr), (0, .ref q), (1, .int (nI i))]) hx hb dJ2_remove_13 rfl hl (by decide) rfl (fun ls hl => ?_)
  refine lv_aload_n hx hb dJ2_remove_14 rfl (lv_at hl 0 rfl) ?_
  refine lv_iload_n hx hb dJ2_remove_15 rfl (lv_at hl 2 rfl) ?_
  refine xqld (C := "java/lang/Object") F hW 3 ha rfl (vin_eq (n := i) (rfl : nI i = nI i) (by omega) (by omega)) dJ2_remove_16 ?_
  refine lv_valr (show (fun i => xs[i]?) (nI i : Int32).toNatClampNeg = some x by rw [show (nI i : Int32).toNatClampNeg = (i) from (cl_eq (n := i) (rfl : nI i = nI i) (by omega))]; exact hgx) ?_
  refine lv_astore_n (lv' := [(3, .ref x), (2, .ref arr), (0, .ref q), (1, .int (nI i))]) hx hb dJ2_remove_17 rfl hl (by decide) rfl (fun ls hl => ?_)
  refine lv_aload_n hx hb dJ2_remove_18 rfl (lv_at hl 2 rfl) ?_
  refine lv_aload_n hx hb dJ2_remove_19 rfl (lv_at hl 1 rfl) ?_
  refine lv_iload_n hx hb dJ2_remove_20 rfl (lv_at hl 3 rfl) ?_
  refine run_chN (rest := []) (kV F hW (metJ2_fastRemove l E H q arr cap i xs md hq0 ⟨hq, Or.inr ⟨hoA, h0, hle, hcap, ha⟩⟩ hel hi) (lw_V q382 q384 qs4 q47 q385) hdJ2_fastRemove ⟨Nat.le_of_ble_eq_true rfl, Nat.le_of_ble_eq_true rfl⟩ (recv hW hq rfl) hl.1 rfl (Nat.le_of_ble_eq_true rfl) dJ2_remove_21 ⟨by show 0 + 0 ≤ 0; omega, by show 0 + 0 ≤ 0; omega⟩) hS (fun _ h => h) (fun H_1 locs hp_1 hc_1 hS_1 => ?_)
  refine lv_aload_n hx hb dJ2_remove_24 rfl (lv_at hl 0 rfl) ?_
  exact hend _ _ _ _ _ _ _ (Or.inr ⟨_, rfl⟩) dJ2_remove_25 (⟨_, rfl, rfl, hp_1⟩) hS_1 (Nat.zero_le _) (Nat.zero_le _)

theorem Elt.lt {E : EV} {q : Nat} {H : Heap} (h : Elt E q H) : q < H.size := by
  obtain ⟨_, _, _, h1, -⟩ := h
  exact h1.lt
theorem Arr.lt {E : EV} {arr cap : Nat} {xs : List Nat} {H : Heap} (h : Arr E arr cap xs H) (ho : Old E arr) (hb : E.2.2.2 0 < E.2.2.1 := by assumption) : arr < H.size := by
  rcases h with ⟨h1, -, -⟩ | ⟨_, _, _, _, ha⟩
  · subst h1; exact absurd ho (Nat.not_le.mpr hb)
  · exact ha.lt
theorem hdJ2_addAll : Hd yJ2_addAll 1 := by decide +kernel
theorem hdJ2_addAllF : Hd ⟨"java/util/List", "addAll", "(Ljava/util/Collection;)Z"⟩ 1 := by decide +kernel
set_option maxHeartbeats 1000000 in
set_option maxRecDepth 100000 in
theorem metJ2_addAllE (l : Launch) (E : EV) (H : Heap) (q arr cap q2 arr2 cap2 : Nat) (xs ys : List Nat) (md md2 : Int32) (hq0 : Old E q) (hal : AL E q md arr cap xs H) (hal2 : AL E q2 md2 arr2 cap2 ys H) (hel : ∀ x ∈ xs, Elt E x H ∧ x ≠ q) (hel2 : ∀ y ∈ ys, Elt E y H ∧ y ≠ q) (hlen : xs.length + ys.length ≤ 25) (hy : ys = []) : Ct l yJ2_addAll cJ2_addAll 6 (some .boolean) 10 500 (2) (80) [.ref q, .ref q2] E H (LA E q arr H.size) (pI (fun _ H1 => ∃ arr' cap', AL E q (md + 1) arr' cap' (xs ++ ys) H1 ∧ (arr' = arr ∨ H.size ≤ arr'))) := by
  obtain ⟨hq, har⟩ := hal
  refine Ct.ofZ (by decide) (Nat.le_of_ble_eq_true rfl) ?_
  intro p e s m bl mt cd ls Q hF hW hH hl hend
  obtain ⟨F, hin⟩ := hF
  have hx := F.1
  have hb := F.2.1
  have hts := F.2.2.2.2
  have hl : lv_has ls 6 [(0, .ref q), (1, .ref q2)] := hl
  have hS : va_S (LA E q arr H.size) H H [] := va_S.rf
  have hb0 : E.2.2.2 0 < E.2.2.1 := by obtain ⟨cell2, z1, z2, z3, z4⟩ := hW.2.1.2.2.1; exact Nat.lt_of_not_le z4
  refine lv_aload_n hx hb dJ2_addAll_0 rfl (lv_at hl 1 rfl) ?_
  obtain ⟨cC, hat⟩ := cat (ci := 6) hW rfl
  refine run_ch5A (rest := []) (kF (x := ⟨"java/util/Collection", "toArray", "()[Ljava/lang/Object;"⟩) F hW (metJ2_toArray l E H q2 arr2 cap2 ys md2 hal2 (fun z hz => (hel2 z hz).1) (by omega)) (by decide +kernel) hat q246 q250 q252 q47 q254 hdJ2_toArrayF ⟨Nat.le_of_ble_eq_true rfl, Nat.le_of_ble_eq_true rfl⟩ (recv hW hal2.1 rfl) hl.1 rfl (Nat.le_of_ble_eq_true rfl) dJ2_addAll_1 ⟨by show 0 + 1 ≤ 2; omega, by show 0 + 40 ≤ 80; omega⟩) hS (fun _ h => Or.inr (Or.inr h)) (fun r_1 H_1 locs hp_1 hc_1 hS_1 => ?_)
  obtain ⟨e9, ho_H_1⟩ := hp_1
  subst e9
  have hW_H_1 := hW.kept hc_1 (fun q h1 h2 => absurd h1 (Nat.not_lt.mpr h2))
  have hq_H_1 := hq.kept hc_1 (Nat.not_le.mpr hq.lt)
  have hz_H_1 := hc_1.1
  have hlt_H_1 := ho_H_1.lt
  have har_1 := har.kept hc_1 (fun h8 h9 => absurd (har.lt h8) (Nat.not_lt.mpr h9))
  have hel_1 := fun z hz => (⟨(hel z hz).1.kept hc_1 (Nat.not_le.mpr (hel z hz).1.lt), (hel z hz).2⟩ : Elt E z H_1 ∧ z ≠ q)
  have hel2_1 := fun z hz => (⟨(hel2 z hz).1.kept hc_1 (Nat.not_le.mpr (hel2 z hz).1.lt), (hel2 z hz).2⟩ : Elt E z H_1 ∧ z ≠ q)
  refine lv_astore_n (lv' := [(2, .ref H.size), (0, .ref q), (1, .ref q2)]) hx hb dJ2_addAll_6 rfl hl (by decide) rfl (fun ls hl => ?_)
  refine lv_aload_n hx hb dJ2_addAll_7 rfl (lv_at hl 1 rfl) ?_
  refine lv_dup hx hb dJ2_addAll_8 rfl ?_
  refine xget (ref := "java/util/ArrayList") (ci := 6) (v := .int md) (C := RJ2) (T := TJ2) (N := 3) F in_J2 hW_H_1 hq_H_1 rfl 0 (by decide) q102 (u_same (hts _ q103)) rfl dJ2_addAll_9 ?_
  refine lv_iconst (v := 1) hx hb dJ2_addAll_12 (by decide) ?_
  refine lv_iadd hx hb dJ2_addAll_13 ?_
  refine xput (ref := "java/util/ArrayList") (ci := 6) (v := .int (md + 1)) (C := RJ2) (T := TJ2) (N := 3) F in_J2 tyJ2 tyJ2_ok nmJ2 hW_H_1 hq_H_1 hS_1 (Or.inl rfl) rfl 0 (by decide) q102 (u_same (hts _ q103)) rfl rfl rfl (Nat.le_of_ble_eq_true rfl) dJ2_addAll_14 (fun H_2 locs ho_2 hu_2 hS_2 => ?_)
  have ho_2 : oat E q 6 [.int (md + 1), .ref arr, .int (nI xs.length)] H_2 := ho_2
  have hz_H_2 : H_2.size = H_1.size := hu_2.1
  have hW_H_2 := hW_H_1.kept hu_2.chg (fun q _ hq => hq ▸ hq0)
  have hxH_H_2 := ho_H_1.kept hu_2.chg (fun h9 => by have h8 : H.size = q := h9; have h7 := hq.lt; omega)
  refine lv_aload_n hx hb dJ2_addAll_17 rfl (lv_at hl 0 rfl) ?_
  refine xqlen F hW_H_2 3 hxH_H_2 rfl dJ2_addAll_18 ?_
  refine lv_istore_n (lv' := [(3, .int (nI ys.length)), (2, .ref H.size), (0, .ref q), (1, .ref q2)]) hx hb dJ2_addAll_19 rfl hl (by decide) rfl (fun ls hl => ?_)
  refine lv_iload_n hx hb dJ2_addAll_20 rfl (lv_at hl 0 rfl) ?_
  refine lv_if_ne (tgt := 26) hx hb dJ2_addAll_21 (by decide) (fun c9 => absurd (show nI ys.length = 0 by rw [hy]; rfl) c9) (fun _ => ?_)
  refine lv_iconst (v := 0) hx hb dJ2_addAll_24 (by decide) ?_
  exact hend _ _ _ _ _ _ _ rfl dJ2_addAll_25 (⟨_, rfl, arr, cap, ⟨by subst hy; simpa using ho_2, by subst hy; simpa using har_1.kept hu_2.chg (fun h8 => Arr.ne hW har hq h8)⟩, Or.inl rfl⟩) hS_2 (by first | exact Nat.le_refl _ | (show (1 : Nat) ≤ 2; omega)) (by first | exact Nat.le_refl _ | (show (40 : Nat) ≤ 80; omega))

set_option maxHeartbeats 1000000 in
set_option maxRecDepth 100000 in
theorem metJ2_addAllR (l : Launch) (E : EV) (H : Heap) (q arr cap q2 arr2 cap2 : Nat) (xs ys : List Nat) (md md2 : Int32) (hq0 : Old E q) (hal : AL E q md arr cap xs H) (hal2 : AL E q2 md2 arr2 cap2 ys H) (hel : ∀ x ∈ xs, Elt E x H ∧ x ≠ q) (hel2 : ∀ y ∈ ys, Elt E y H ∧ y ≠ q) (hlen : xs.length + ys.length ≤ 25) (hy : 0 < ys.length) (hgr : xs.length + ys.length ≤ cap) : Ct l yJ2_addAll cJ2_addAll 6 (some .boolean) 10 500 (2) (80) [.ref q, .ref q2] E H (LA E q arr H.size) (pI (fun _ H1 => ∃ arr' cap', AL E q (md + 1) arr' cap' (xs ++ ys) H1 ∧ (arr' = arr ∨ H.size ≤ arr'))) := by
  obtain ⟨hq, har⟩ := hal
  have har0 := har
  rcases har0 with ⟨-, h9, h8⟩ | ⟨hoA, h0, hle, hcap, ha⟩
  · omega
  refine Ct.ofZ (by decide) (Nat.le_of_ble_eq_true rfl) ?_
  intro p e s m bl mt cd ls Q hF hW hH hl hend
  obtain ⟨F, hin⟩ := hF
  have hx := F.1
  have hb := F.2.1
  have hts := F.2.2.2.2
  have hl : lv_has ls 6 [(0, .ref q), (1, .ref q2)] := hl
  have hS : va_S (LA E q arr H.size) H H [] := va_S.rf
  have hb0 : E.2.2.2 0 < E.2.2.1 := by obtain ⟨cell2, z1, z2, z3, z4⟩ := hW.2.1.2.2.1; exact Nat.lt_of_not_le z4
  have hqa : q ≠ arr := fun h9 => by subst h9; exact oat_qat hW hq ha rfl
  refine lv_aload_n hx hb dJ2_addAll_0 rfl (lv_at hl 1 rfl) ?_
  obtain ⟨cC, hat⟩ := cat (ci := 6) hW rfl
  refine run_ch5A (rest := []) (kF (x := ⟨"java/util/Collection", "toArray", "()[Ljava/lang/Object;"⟩) F hW (metJ2_toArray l E H q2 arr2 cap2 ys md2 hal2 (fun z hz => (hel2 z hz).1) (by omega)) (by decide +kernel) hat q246 q250 q252 q47 q254 hdJ2_toArrayF ⟨Nat.le_of_ble_eq_true rfl, Nat.le_of_ble_eq_true rfl⟩ (recv hW hal2.1 rfl) hl.1 rfl (Nat.le_of_ble_eq_true rfl) dJ2_addAll_1 ⟨by show 0 + 1 ≤ 2; omega, by show 0 + 40 ≤ 80; omega⟩) hS (fun _ h => Or.inr (Or.inr h)) (fun r_1 H_1 locs hp_1 hc_1 hS_1 => ?_)
  obtain ⟨e9, ho_H_1⟩ := hp_1
  subst e9
  have hW_H_1 := hW.kept hc_1 (fun q h1 h2 => absurd h1 (Nat.not_lt.mpr h2))
  have hq_H_1 := hq.kept hc_1 (Nat.not_le.mpr hq.lt)
  have ha_H_1 := ha.kept hc_1 (Nat.not_le.mpr ha.lt)
  have hz_H_1 := hc_1.1
  have hlt_H_1 := ho_H_1.lt
  have har_1 := har.kept hc_1 (fun h8 h9 => absurd (har.lt h8) (Nat.not_lt.mpr h9))
  have hel_1 := fun z hz => (⟨(hel z hz).1.kept hc_1 (Nat.not_le.mpr (hel z hz).1.lt), (hel z hz).2⟩ : Elt E z H_1 ∧ z ≠ q)
  have hel2_1 := fun z hz => (⟨(hel2 z hz).1.kept hc_1 (Nat.not_le.mpr (hel2 z hz).1.lt), (hel2 z hz).2⟩ : Elt E z H_1 ∧ z ≠ q)
  refine lv_astore_n (lv' := [(2, .ref H.size), (0, .ref q), (1, .ref q2)]) hx hb dJ2_addAll_6 rfl hl (by decide) rfl (fun ls hl => ?_)
  refine lv_aload_n hx hb dJ2_addAll_7 rfl (lv_at hl 1 rfl) ?_
  refine lv_dup hx hb dJ2_addAll_8 rfl ?_
  refine xget (ref := "java/util/ArrayList") (ci := 6) (v := .int md) (C := RJ2) (T := TJ2) (N := 3) F in_J2 hW_H_1 hq_H_1 rfl 0 (by decide) q102 (u_same (hts _ q103)) rfl dJ2_addAll_9 ?_
  refine lv_iconst (v := 1) hx hb dJ2_addAll_12 (by decide) ?_
  refine lv_iadd hx hb dJ2_addAll_13 ?_
  refine xput (ref := "java/util/ArrayList") (ci := 6) (v := .int (md + 1)) (C := RJ2) (T := TJ2) (N := 3) F in_J2 tyJ2 tyJ2_ok nmJ2 hW_H_1 hq_H_1 hS_1 (Or.inl rfl) rfl 0 (by decide) q102 (u_same (hts _ q103)) rfl rfl rfl (Nat.le_of_ble_eq_true rfl) dJ2_addAll_14 (fun H_2 locs ho_2 hu_2 hS_2 => ?_)
  have ho_2 : oat E q 6 [.int (md + 1), .ref arr, .int (nI xs.length)] H_2 := ho_2
  have hz_H_2 : H_2.size = H_1.size := hu_2.1
  have hW_H_2 := hW_H_1.kept hu_2.chg (fun q _ hq => hq ▸ hq0)
  have ha_H_2 := ha_H_1.kept hu_2.chg (fun h9 => hqa h9.symm)
  have hxH_H_2 := ho_H_1.kept hu_2.chg (fun h9 => by have h8 : H.size = q := h9; have h7 := hq.lt; omega)
  refine lv_aload_n hx hb dJ2_addAll_17 rfl (lv_at hl 0 rfl) ?_
  refine xqlen F hW_H_2 3 hxH_H_2 rfl dJ2_addAll_18 ?_
  refine lv_istore_n (lv' := [(3, .int (nI ys.length)), (2, .ref H.size), (0, .ref q), (1, .ref q2)]) hx hb dJ2_addAll_19 rfl hl (by decide) rfl (fun ls hl => ?_)
  refine lv_iload_n hx hb dJ2_addAll_20 rfl (lv_at hl 0 rfl) ?_
  refine lv_if_ne (tgt := 26) hx hb dJ2_addAll_21 (by decide) (fun _ => ?_) (fun c9 => absurd c9 (fun h9 : nI ys.length = 0 => by have := (nI_eq (a := ys.length) (b := 0) (by omega) (by omega)).mp h9; omega))
  refine lv_iload_n hx hb dJ2_addAll_26 rfl (lv_at hl 0 rfl) ?_
  refine lv_aload_n hx hb dJ2_addAll_27 rfl (lv_at hl 2 rfl) ?_
  refine xget (ref := "java/util/ArrayList") (ci := 6) (v := .ref arr) (C := RJ2) (T := TJ2) (N := 3) F in_J2 hW_H_2 ho_2 rfl 1 (by decide) q99 (fun _ h9 => h9) rfl dJ2_addAll_28 ?_
  refine lv_dup hx hb dJ2_addAll_31 rfl ?_
  refine lv_astore (lv' := [(4, .ref arr), (3, .int (nI ys.length)), (2, .ref H.size), (0, .ref q), (1, .ref q2)]) hx hb dJ2_addAll_32 hl (by decide) rfl (fun ls hl => ?_)
  refine xqlen F hW_H_2 3 ha_H_2 rfl dJ2_addAll_34 ?_
  refine lv_aload_n hx hb dJ2_addAll_35 rfl (lv_at hl 3 rfl) ?_
  refine xget (ref := "java/util/ArrayList") (ci := 6) (v := .int (nI xs.length)) (C := RJ2) (T := TJ2) (N := 3) F in_J2 hW_H_2 ho_2 rfl 2 (by decide) q100 (fun _ h9 => h9) rfl dJ2_addAll_36 ?_
  refine lv_dup hx hb dJ2_addAll_39 rfl ?_
  refine lv_istore (lv' := [(5, .int (nI xs.length)), (4, .ref arr), (3, .int (nI ys.length)), (2, .ref H.size), (0, .ref q), (1, .ref q2)]) hx hb dJ2_addAll_40 hl (by decide) rfl (fun ls hl => ?_)
  refine lv_isub hx hb dJ2_addAll_42 ?_
  refine lv_val (y := nI (cap - xs.length)) (pk_sub (a := cap) (b := xs.length) (by omega)) ?_
  refine lv_icmp_le (tgt := 56) hx hb dJ2_addAll_43 (by decide) (fun _ => ?_) (fun c9 => absurd ((nI_leI (by omega) (by omega)).mpr (by omega)) c9)
  refine lv_aload_n hx hb dJ2_addAll_56 rfl (lv_at hl 3 rfl) ?_
  refine lv_iconst (v := 0) hx hb dJ2_addAll_57 (by decide) ?_
  refine lv_aload hx hb dJ2_addAll_58 (lv_at hl 1 rfl) ?_
  refine lv_iload hx hb dJ2_addAll_60 (lv_at hl 0 rfl) ?_
  refine lv_iload_n hx hb dJ2_addAll_62 rfl (lv_at hl 2 rfl) ?_
  have k1 : (0 : Int32).toNatClampNeg = 0 := rfl
  have k2 : (nI xs.length : Int32).toNatClampNeg = (xs.length) := (cl_eq (n := xs.length) (rfl : nI xs.length = nI xs.length) (by omega))
  have k3 : (nI ys.length : Int32).toNatClampNeg = (ys.length) := (cl_eq (n := ys.length) (rfl : nI ys.length = nI ys.length) (by omega))
  refine xqcopy (hl.1 ▸ F) q300 q283 q282 q56 hW_H_2 hxH_H_2 ha_H_2 hS_2 (Or.inr (Or.inl ⟨rfl, hoA⟩)) (by decide) (by rw [show (nI xs.length : Int32) = nI (xs.length) from (rfl : nI xs.length = nI xs.length)]; exact nI_pos (by omega)) (by rw [show (nI ys.length : Int32) = nI (ys.length) from (rfl : nI ys.length = nI ys.length)]; exact nI_pos (by omega)) (by rw [k1, k3]; omega) (by rw [k2, k3]; omega) (by rw [k1, k3]; exact (fun j _ y hy => ((hel2_1 y (List.mem_of_getElem? (by rw [Nat.zero_add] at hy; exact hy))).1.kept hu_2.chg (hel2_1 y (List.mem_of_getElem? (by rw [Nat.zero_add] at hy; exact hy))).2).any hW_H_2)) (Nat.le_of_ble_eq_true rfl) (Nat.le_of_ble_eq_true rfl) dJ2_addAll_63 (fun H_3 locs ho_3 hu_3 hS_3 => ?_)
  have ho_3 : qat E arr 3 cap (va_cpy (fun j => ys[j]?) (fun i => xs[i]?) 0 (xs.length) (ys.length)) H_3 := by have h9 := ho_3; simp only [k1, k2, k3] at h9; exact h9
  have hz_H_3 : H_3.size = H_2.size := hu_3.1
  have hW_H_3 := hW_H_2.kept hu_3.chg (fun q _ hq => hq ▸ hoA)
  have hx2_H_3 := ho_2.kept hu_3.chg hqa
  have hxH_H_3 := hxH_H_2.kept hu_3.chg (fun h9 => by have h8 : H.size = arr := h9; have h7 := hq.lt; have h6 := ha.lt; omega)
  refine lv_aload_n hx hb dJ2_addAll_66 rfl (lv_at hl 4 rfl) ?_
  refine lv_iload hx hb dJ2_addAll_67 (lv_at hl 0 rfl) ?_
  refine lv_iload_n hx hb dJ2_addAll_69 rfl (lv_at hl 2 rfl) ?_
  refine lv_iadd hx hb dJ2_addAll_70 ?_
  refine lv_val (y := nI (xs.length + ys.length)) ((nI_add (xs.length) (ys.length))) ?_
  refine xput (ref := "java/util/ArrayList") (ci := 6) (v := .int (nI (xs.length + ys.length))) (C := RJ2) (T := TJ2) (N := 3) F in_J2 tyJ2 tyJ2_ok nmJ2 hW_H_3 hx2_H_3 hS_3 (Or.inl rfl) rfl 2 (by decide) q100 (fun _ h9 => h9) rfl rfl rfl (Nat.le_of_ble_eq_true rfl) dJ2_addAll_71 (fun H_4 locs ho_4 hu_4 hS_4 => ?_)
  have ho_4 : oat E q 6 [.int (md + 1), .ref arr, .int (nI (xs.length + ys.length))] H_4 := ho_4
  have hz_H_4 : H_4.size = H_3.size := hu_4.1
  have hW_H_4 := hW_H_3.kept hu_4.chg (fun q _ hq => hq ▸ hq0)
  have hx3_H_4 := ho_3.kept hu_4.chg (fun h9 => hqa h9.symm)
  have hxH_H_4 := hxH_H_3.kept hu_4.chg (fun h9 => by have h8 : H.size = q := h9; have h7 := hq.lt; omega)
  refine lv_iconst (v := 1) hx hb dJ2_addAll_74 (by decide) ?_
  exact hend _ _ _ _ _ _ _ rfl dJ2_addAll_75 (⟨_, rfl, arr, cap, ⟨by rw [show (xs ++ ys).length = xs.length + ys.length by simp]; exact ho_4, Or.inr ⟨hoA, h0, by simp; omega, hcap, hx3_H_4.congr cp_app⟩⟩, Or.inl rfl⟩) hS_4 (by first | exact Nat.le_refl _ | (show (1 : Nat) ≤ 2; omega)) (by first | exact Nat.le_refl _ | (show (40 : Nat) ≤ 80; omega))

set_option maxHeartbeats 1000000 in
set_option maxRecDepth 100000 in
theorem metJ2_addAllG (l : Launch) (E : EV) (H : Heap) (q arr cap q2 arr2 cap2 : Nat) (xs ys : List Nat) (md md2 : Int32) (hq0 : Old E q) (hal : AL E q md arr cap xs H) (hal2 : AL E q2 md2 arr2 cap2 ys H) (hel : ∀ x ∈ xs, Elt E x H ∧ x ≠ q) (hel2 : ∀ y ∈ ys, Elt E y H ∧ y ≠ q) (hlen : xs.length + ys.length ≤ 25) (hy : 0 < ys.length) (hgr : cap < xs.length + ys.length) (hxc : xs.length ≤ cap) (hcap : cap ≤ 40) : Ct l yJ2_addAll cJ2_addAll 6 (some .boolean) 10 500 (2) (80) [.ref q, .ref q2] E H (LA E q arr H.size) (pI (fun _ H1 => ∃ arr' cap', AL E q (md + 1) arr' cap' (xs ++ ys) H1 ∧ (arr' = arr ∨ H.size ≤ arr'))) := by
  obtain ⟨hq, har⟩ := hal
  refine Ct.ofZ (by decide) (Nat.le_of_ble_eq_true rfl) ?_
  intro p e s m bl mt cd ls Q hF hW hH hl hend
  obtain ⟨F, hin⟩ := hF
  have hx := F.1
  have hb := F.2.1
  have hts := F.2.2.2.2
  have hl : lv_has ls 6 [(0, .ref q), (1, .ref q2)] := hl
  have hS : va_S (LA E q arr H.size) H H [] := va_S.rf
  have hb0 : E.2.2.2 0 < E.2.2.1 := by obtain ⟨cell2, z1, z2, z3, z4⟩ := hW.2.1.2.2.1; exact Nat.lt_of_not_le z4
  refine lv_aload_n hx hb dJ2_addAll_0 rfl (lv_at hl 1 rfl) ?_
  obtain ⟨cC, hat⟩ := cat (ci := 6) hW rfl
  refine run_ch5A (rest := []) (kF (x := ⟨"java/util/Collection", "toArray", "()[Ljava/lang/Object;"⟩) F hW (metJ2_toArray l E H q2 arr2 cap2 ys md2 hal2 (fun z hz => (hel2 z hz).1) (by omega)) (by decide +kernel) hat q246 q250 q252 q47 q254 hdJ2_toArrayF ⟨Nat.le_of_ble_eq_true rfl, Nat.le_of_ble_eq_true rfl⟩ (recv hW hal2.1 rfl) hl.1 rfl (Nat.le_of_ble_eq_true rfl) dJ2_addAll_1 ⟨by show 0 + 1 ≤ 2; omega, by show 0 + 40 ≤ 80; omega⟩) hS (fun _ h => Or.inr (Or.inr h)) (fun r_1 H_1 locs hp_1 hc_1 hS_1 => ?_)
  obtain ⟨e9, ho_H_1⟩ := hp_1
  subst e9
  have hW_H_1 := hW.kept hc_1 (fun q h1 h2 => absurd h1 (Nat.not_lt.mpr h2))
  have hq_H_1 := hq.kept hc_1 (Nat.not_le.mpr hq.lt)
  have hz_H_1 := hc_1.1
  have hlt_H_1 := ho_H_1.lt
  have har_1 := har.kept hc_1 (fun h8 h9 => absurd (har.lt h8) (Nat.not_lt.mpr h9))
  have hel_1 := fun z hz => (⟨(hel z hz).1.kept hc_1 (Nat.not_le.mpr (hel z hz).1.lt), (hel z hz).2⟩ : Elt E z H_1 ∧ z ≠ q)
  have hel2_1 := fun z hz => (⟨(hel2 z hz).1.kept hc_1 (Nat.not_le.mpr (hel2 z hz).1.lt), (hel2 z hz).2⟩ : Elt E z H_1 ∧ z ≠ q)
  refine lv_astore_n (lv' := [(2, .ref H.size), (0, .ref q), (1, .ref q2)]) hx hb dJ2_addAll_6 rfl hl (by decide) rfl (fun ls hl => ?_)
  refine lv_aload_n hx hb dJ2_addAll_7 rfl (lv_at hl 1 rfl) ?_
  refine lv_dup hx hb dJ2_addAll_8 rfl ?_
  refine xget (ref := "java/util/ArrayList") (ci := 6) (v := .int md) (C := RJ2) (T := TJ2) (N := 3) F in_J2 hW_H_1 hq_H_1 rfl 0 (by decide) q102 (u_same (hts _ q103)) rfl dJ2_addAll_9 ?_
  refine lv_iconst (v := 1) hx hb dJ2_addAll_12 (by decide) ?_
  refine lv_iadd hx hb dJ2_addAll_13 ?_
  refine xput (ref := "java/util/ArrayList") (ci := 6) (v := .int (md + 1)) (C := RJ2) (T := TJ2) (N := 3) F in_J2 tyJ2 tyJ2_ok nmJ2 hW_H_1 hq_H_1 hS_1 (Or.inl rfl) rfl 0 (by decide) q102 (u_same (hts _ q103)) rfl rfl rfl (Nat.le_of_ble_eq_true rfl) dJ2_addAll_14 (fun H_2 locs ho_2 hu_2 hS_2 => ?_)
  have ho_2 : oat E q 6 [.int (md + 1), .ref arr, .int (nI xs.length)] H_2 := ho_2
  have hz_H_2 : H_2.size = H_1.size := hu_2.1
  have hW_H_2 := hW_H_1.kept hu_2.chg (fun q _ hq => hq ▸ hq0)
  have hxH_H_2 := ho_H_1.kept hu_2.chg (fun h9 => by have h8 : H.size = q := h9; have h7 := hq.lt; omega)
  refine lv_aload_n hx hb dJ2_addAll_17 rfl (lv_at hl 0 rfl) ?_
  refine xqlen F hW_H_2 3 hxH_H_2 rfl dJ2_addAll_18 ?_
  refine lv_istore_n (lv' := [(3, .int (nI ys.length)), (2, .ref H.size), (0, .ref q), (1, .ref q2)]) hx hb dJ2_addAll_19 rfl hl (by decide) rfl (fun ls hl => ?_)
  refine lv_iload_n hx hb dJ2_addAll_20 rfl (lv_at hl 0 rfl) ?_
  refine lv_if_ne (tgt := 26) hx hb dJ2_addAll_21 (by decide) (fun _ => ?_) (fun c9 => absurd c9 (fun h9 : nI ys.length = 0 => by have := (nI_eq (a := ys.length) (b := 0) (by omega) (by omega)).mp h9; omega))
  refine lv_iload_n hx hb dJ2_addAll_26 rfl (lv_at hl 0 rfl) ?_
  refine lv_aload_n hx hb dJ2_addAll_27 rfl (lv_at hl 2 rfl) ?_
  refine xget (ref := "java/util/ArrayList") (ci := 6) (v := .ref arr) (C := RJ2) (T := TJ2) (N := 3) F in_J2 hW_H_2 ho_2 rfl 1 (by decide) q99 (fun _ h9 => h9) rfl dJ2_addAll_28 ?_
  refine lv_dup hx hb dJ2_addAll_31 rfl ?_
  refine lv_astore (lv' := [(4, .ref arr), (3, .int (nI ys.length)), (2, .ref H.size), (0, .ref q), (1, .ref q2)]) hx hb dJ2_addAll_32 hl (by decide) rfl (fun ls hl => ?_)
  refine xArrLen F hW_H_2 (har_1.kept hu_2.chg (fun h8 => Arr.ne hW har hq h8)) dJ2_addAll_34 ?_
  refine lv_aload_n hx hb dJ2_addAll_35 rfl (lv_at hl 3 rfl) ?_
  refine xget (ref := "java/util/ArrayList") (ci := 6) (v := .int (nI xs.length)) (C := RJ2) (T := TJ2) (N := 3) F in_J2 hW_H_2 ho_2 rfl 2 (by decide) q100 (fun _ h9 => h9) rfl dJ2_addAll_36 ?_
  refine lv_dup hx hb dJ2_addAll_39 rfl ?_
  refine lv_istore (lv' := [(5, .int (nI xs.length)), (4, .ref arr), (3, .int (nI ys.length)), (2, .ref H.size), (0, .ref q), (1, .ref q2)]) hx hb dJ2_addAll_40 hl (by decide) rfl (fun ls hl => ?_)
  refine lv_isub hx hb dJ2_addAll_42 ?_
  refine lv_val (y := nI (cap - xs.length)) (pk_sub (a := cap) (b := xs.length) (by omega)) ?_
  refine lv_icmp_le (tgt := 56) hx hb dJ2_addAll_43 (by decide) (fun c9 => absurd c9 (fun h9 => by have := (nI_leI (a := ys.length) (b := cap - xs.length) (by omega) (by omega)).mp h9; omega)) (fun _ => ?_)
  refine lv_aload_n hx hb dJ2_addAll_46 rfl (lv_at hl 4 rfl) ?_
  refine lv_iload hx hb dJ2_addAll_47 (lv_at hl 0 rfl) ?_
  refine lv_iload_n hx hb dJ2_addAll_49 rfl (lv_at hl 2 rfl) ?_
  refine lv_iadd hx hb dJ2_addAll_50 ?_
  refine lv_val (y := nI (xs.length + ys.length)) ((nI_add (xs.length) (ys.length))) ?_
  have har_2 := har_1.kept hu_2.chg (fun h8 => Arr.ne hW har hq h8)
  have hel_2 := fun z hz => (hel_1 z hz).1.kept hu_2.chg (hel_1 z hz).2
  refine run_chA (rest := []) (kV F hW_H_2 (metJ2_grow l E H_2 q arr cap (xs.length + ys.length) xs (md + 1) (nI xs.length) hq0 ho_2 har_2 (by omega) (by omega) hel_2) (lw_V q284 q286 qs1 q47 q287) hdJ2_grow ⟨Nat.le_of_ble_eq_true rfl, Nat.le_of_ble_eq_true rfl⟩ (recv hW_H_2 ho_2 rfl) hl.1 rfl (Nat.le_of_ble_eq_true rfl) dJ2_addAll_51 ⟨by show 1 + 1 ≤ 2; omega, by show 40 + 40 ≤ 80; omega⟩) hS_2 (fun _ h => h.elim Or.inl (fun h => Or.inr (Or.inr (by omega)))) (fun r_3 H_3 locs hp_3 hc_3 hS_3 => ?_)
  obtain ⟨e9, hq_H_3, N, hN1, hN2, ho_H_3⟩ := hp_3
  subst e9
  have hz_H_3 := hc_3.1
  have hlt_H_3 := ho_H_3.lt
  have hW_H_3 := hW_H_2.kept hc_3 (fun q9 h1 h2 => h2.elim (fun h => h ▸ hq0) (fun h => absurd h1 (Nat.not_lt.mpr h)))
  have hxH_H_3 := hxH_H_2.kept hc_3 (fun h9 => h9.elim (fun h8 => Nat.ne_of_lt hq.lt (by omega)) (Nat.not_le.mpr hxH_H_2.lt))
  refine lv_astore (lv' := [(4, .ref H_2.size), (5, .int (nI xs.length)), (3, .int (nI ys.length)), (2, .ref H.size), (0, .ref q), (1, .ref q2)]) hx hb dJ2_addAll_54 hl (by decide) rfl (fun ls hl => ?_)
  refine lv_aload_n hx hb dJ2_addAll_56 rfl (lv_at hl 3 rfl) ?_
  refine lv_iconst (v := 0) hx hb dJ2_addAll_57 (by decide) ?_
  refine lv_aload hx hb dJ2_addAll_58 (lv_at hl 0 rfl) ?_
  refine lv_iload hx hb dJ2_addAll_60 (lv_at hl 1 rfl) ?_
  refine lv_iload_n hx hb dJ2_addAll_62 rfl (lv_at hl 2 rfl) ?_
  have k1 : (0 : Int32).toNatClampNeg = 0 := rfl
  have k2 : (nI xs.length : Int32).toNatClampNeg = (xs.length) := (cl_eq (n := xs.length) (rfl : nI xs.length = nI xs.length) (by omega))
  have k3 : (nI ys.length : Int32).toNatClampNeg = (ys.length) := (cl_eq (n := ys.length) (rfl : nI ys.length = nI ys.length) (by omega))
  refine xqcopy (hl.1 ▸ F) q300 q283 q282 q56 hW_H_3 hxH_H_3 ho_H_3 hS_3 (Or.inr (Or.inr (by omega))) (by decide) (by rw [show (nI xs.length : Int32) = nI (xs.length) from (rfl : nI xs.length = nI xs.length)]; exact nI_pos (by omega)) (by rw [show (nI ys.length : Int32) = nI (ys.length) from (rfl : nI ys.length = nI ys.length)]; exact nI_pos (by omega)) (by rw [k1, k3]; omega) (by rw [k2, k3]; omega) (by rw [k1, k3]; exact (fun j _ y hy => (((hel2_1 y (List.mem_of_getElem? (by rw [Nat.zero_add] at hy; exact hy))).1.kept hu_2.chg (hel2_1 y (List.mem_of_getElem? (by rw [Nat.zero_add] at hy; exact hy))).2).kept hc_3 (fun h9 => h9.elim (hel2_1 y (List.mem_of_getElem? (by rw [Nat.zero_add] at hy; exact hy))).2 (Nat.not_le.mpr ((hel2_1 y (List.mem_of_getElem? (by rw [Nat.zero_add] at hy; exact hy))).1.kept hu_2.chg (hel2_1 y (List.mem_of_getElem? (by rw [Nat.zero_add] at hy; exact hy))).2).lt))).any hW_H_3)) (Nat.le_of_ble_eq_true rfl) (Nat.le_of_ble_eq_true rfl) dJ2_addAll_63 (fun H_4 locs ho_4 hu_4 hS_4 => ?_)
  have ho_4 : qat E H_2.size 3 N (va_cpy (fun j => ys[j]?) (fun j => xs[j]?) 0 (xs.length) (ys.length)) H_4 := by have h9 := ho_4; simp only [k1, k2, k3] at h9; exact h9
  have hz_H_4 : H_4.size = H_3.size := hu_4.1
  have hW_H_4 := hW_H_3.kept hu_4.chg (fun q _ hq => hq ▸ (Nat.le_trans (show E.2.2.1 ≤ H.size from hW.2.2) (by omega)))
  have hxH_H_4 := hxH_H_3.kept hu_4.chg (fun h9 => by have h8 : H.size = H_2.size := h9; have h7 := hq.lt; omega)
  have hq_H_4 := hq_H_3.kept hu_4.chg (fun h9 => by have h8 : q = H_2.size := h9; have h7 := hq.lt; omega)
  refine lv_aload_n hx hb dJ2_addAll_66 rfl (lv_at hl 4 rfl) ?_
  refine lv_iload hx hb dJ2_addAll_67 (lv_at hl 1 rfl) ?_
  refine lv_iload_n hx hb dJ2_addAll_69 rfl (lv_at hl 2 rfl) ?_
  refine lv_iadd hx hb dJ2_addAll_70 ?_
  refine lv_val (y := nI (xs.length + ys.length)) ((nI_add (xs.length) (ys.length))) ?_
  refine xput (ref := "java/util/ArrayList") (ci := 6) (v := .int (nI (xs.length + ys.length))) (C := RJ2) (T := TJ2) (N := 3) F in_J2 tyJ2 tyJ2_ok nmJ2 hW_H_4 hq_H_4 hS_4 (Or.inl rfl) rfl 2 (by decide) q100 (fun _ h9 => h9) rfl rfl rfl (Nat.le_of_ble_eq_true rfl) dJ2_addAll_71 (fun H_5 locs ho_5 hu_5 hS_5 => ?_)
  have ho_5 : oat E q 6 [.int (md + 1), .ref H_2.size, .int (nI (xs.length + ys.length))] H_5 := ho_5
  have hz_H_5 : H_5.size = H_4.size := hu_5.1
  have hW_H_5 := hW_H_4.kept hu_5.chg (fun q _ hq => hq ▸ hq0)
  have hxH_H_5 := hxH_H_4.kept hu_5.chg (fun h9 => by have h8 : H.size = q := h9; have h7 := hq.lt; omega)
  have hx4_H_5 := ho_4.kept hu_5.chg (fun h9 => by have h8 : H_2.size = q := h9; have h7 := hq.lt; omega)
  refine lv_iconst (v := 1) hx hb dJ2_addAll_74 (by decide) ?_
  exact hend _ _ _ _ _ _ _ rfl dJ2_addAll_75 (⟨_, rfl, _, N, ⟨by rw [show (xs ++ ys).length = xs.length + ys.length by simp]; exact ho_5, Or.inr ⟨Nat.le_trans (show E.2.2.1 ≤ H.size from hW.2.2) (by omega), by omega, by simp; omega, hN2, hx4_H_5.congr cp_app⟩⟩, Or.inr (by omega)⟩) hS_5 (by first | exact Nat.le_refl _ | (show (2 : Nat) ≤ 2; omega)) (by first | exact Nat.le_refl _ | (show (80 : Nat) ≤ 80; omega))

theorem metJ2_addAll (l : Launch) (E : EV) (H : Heap) (q arr cap q2 arr2 cap2 : Nat) (xs ys : List Nat) (md md2 : Int32) (hq0 : Old E q) (hal : AL E q md arr cap xs H) (hal2 : AL E q2 md2 arr2 cap2 ys H) (hel : ∀ x ∈ xs, Elt E x H ∧ x ≠ q) (hel2 : ∀ y ∈ ys, Elt E y H ∧ y ≠ q) (hlen : xs.length + ys.length ≤ 25) : Ct l yJ2_addAll cJ2_addAll 6 (some .boolean) 10 500 2 80 [.ref q, .ref q2] E H (LA E q arr H.size) (pI (fun _ H1 => ∃ arr' cap', AL E q (md + 1) arr' cap' (xs ++ ys) H1 ∧ (arr' = arr ∨ H.size ≤ arr'))) := by
  by_cases hy : ys = []
  · exact metJ2_addAllE l E H q arr cap q2 arr2 cap2 xs ys md md2 hq0 hal hal2 hel hel2 hlen hy
  · have hy : 0 < ys.length := List.length_pos_iff.mpr hy
    have hc : xs.length ≤ cap ∧ cap ≤ 40 := by
      rcases hal.2 with ⟨h1, h2, h3⟩ | ⟨ho, h0, hle, hc, ha⟩
      · subst h2 h3; exact ⟨Nat.le_refl _, by decide⟩
      · exact ⟨hle, hc⟩
    by_cases h : xs.length + ys.length ≤ cap
    · exact metJ2_addAllR l E H q arr cap q2 arr2 cap2 xs ys md md2 hq0 hal hal2 hel hel2 hlen hy h
    · exact metJ2_addAllG l E H q arr cap q2 arr2 cap2 xs ys md md2 hq0 hal hal2 hel hel2 hlen hy (by omega) hc.1 hc.2
