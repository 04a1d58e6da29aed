/-! THE TWIN: its public changes -/
set_option maxRecDepth 100000
/-- answer, s, history, how many states are kept -/
abbrev T4 : Type := Int32 × (Nat → Int32) × (Nat → Int32) × Nat
def P4 (E : EV) (ad : Nat → Nat) (sl z pd : Nat → Int32) (len told : Int32) (T : T4) (r : Int32) (H1 : Heap) : Prop := r = T.1 ∧ MPx E ad T.2.1 T.2.2.1 sl z pd (nI T.2.2.2) len told H1
theorem P4.of {E : EV} {ad : Nat → Nat} {sl z pd : Nat → Int32} {len told : Int32} {T T' : T4} {H1 : Heap} (h : T = T') (k : MPx E ad T'.2.1 T'.2.2.1 sl z pd (nI T'.2.2.2) len told H1) : P4 E ad sl z pd len told T T'.1 H1 := by
  subst h; exact ⟨rfl, k⟩
theorem inR002 : inR 0 0 2 = true := by decide
def sealT (f h : Nat → Int32) (gl n : Nat) (r v : Int32) : T4 :=
  if inR r 0 (nI n - 1) = true then (if inR v 1 9 = true then (f (9 + 5 * ix r + 4), upd f (9 + 5 * ix r + 4) v, recH f h gl, recK gl) else (-2, f, h, gl)) else (-1, f, h, gl)
def moveT (f h : Nat → Int32) (gl n : Nat) (r v : Int32) : T4 :=
  if inR r 0 (nI n - 1) = true then (if inR v 0 4 = true then (if (ruA f (ix r)).2.1 = 0 then (if v ≤ 0 then (f (9 + 5 * ix r), upd f (9 + 5 * ix r) v, recH f h gl, recK gl) else (-5, f, h, gl)) else (f (9 + 5 * ix r), upd f (9 + 5 * ix r) v, recH f h gl, recK gl)) else (-1, f, h, gl)) else (-1, f, h, gl)
def addT (f h : Nat → Int32) (gl n : Nat) (la ki cr de se : Int32) : T4 :=
  if inR la 0 4 = true then (if inR cr 0 5 = true then (if inR de 0 6 = true then (if inR ki 0 2 = true then (if inR se 1 9 = true then (if ki = 0 then (if la ≤ 0 then (if n = 24 then (-4, f, h, gl) else (nI n, addF f n la ki cr de se, recH f h gl, recK gl)) else (-5, f, h, gl)) else (if n = 24 then (-4, f, h, gl) else (nI n, addF f n la ki cr de se, recH f h gl, recK gl))) else (-2, f, h, gl)) else (-2, f, h, gl)) else (-1, f, h, gl)) else (-1, f, h, gl)) else (-1, f, h, gl)
def strikeT (f h : Nat → Int32) (gl n : Nat) (r : Int32) : T4 := if inR r 0 (nI n - 1) = true then (nI (n - 1), strF f n (ix r), recH f h gl, recK gl) else (-1, f, h, gl)
def rankT (f h : Nat → Int32) (gl mm : Nat) (j v : Int32) : T4 :=
  if inR j 0 (nI mm - 1) = true then (if inR v 0 9 = true then (f (129 + 4 * ix j + 1), upd f (129 + 4 * ix j + 1) v, recH f h gl, recK gl) else (-2, f, h, gl)) else (-1, f, h, gl)
def joinF (f : Nat → Int32) (mm : Nat) (c v : Int32) : Nat → Int32 := upd (upd (upd (upd (upd f 1 (nI (mm + 1))) (129 + 4 * mm) c) (129 + 4 * mm + 1) v) (129 + 4 * mm + 2) 0) (129 + 4 * mm + 3) 0
def joinT (f h : Nat → Int32) (gl mm : Nat) (c v : Int32) : T4 :=
  if inR c 0 4 = true then (if inR v 0 9 = true then (if mm = 10 then (-4, f, h, gl) else (nI mm, joinF f mm c v, recH f h gl, recK gl)) else (-2, f, h, gl)) else (-1, f, h, gl)
def leaF (f : Nat → Int32) (mm j : Nat) : Nat → Int32 := zrA (stA 4 (upd f 1 (nI (mm - 1))) (129 + 4 * j) (129 + 4 * (mm - 1))) (129 + 4 * (mm - 1)) 4
def leaveT (f h : Nat → Int32) (gl mm : Nat) (j : Int32) : T4 := if inR j 0 (nI mm - 1) = true then (f (129 + 4 * ix j + 2), leaF f mm (ix j), recH f h gl, recK gl) else (-1, f, h, gl)
def actR (f : Nat → Int32) (n j : Nat) (d : Int32) : Int32 := reasonM (ruA f) n (f (129 + 4 * j)) d (f (129 + 4 * j + 1))
def actF1 (f : Nat → Int32) (j : Nat) (r : Int32) : Nat → Int32 := if r = -6 then upd f (129 + 4 * j + 2) (f (129 + 4 * j + 2) + 1) else upd f (129 + 4 * j + 3) (f (129 + 4 * j + 3) + 1)
def actC (f : Nat → Int32) (r : Int32) : Nat := if r = -6 then 2 else if r = 100 then 8 else 3 + ix (ruA f (ix r)).1
def actF (f : Nat → Int32) (j : Nat) (r : Int32) : Nat → Int32 := upd (actF1 f j r) (actC (actF1 f j r) r) (actF1 f j r (actC (actF1 f j r) r) + 1)
def actT (f h : Nat → Int32) (gl n mm : Nat) (j d : Int32) : T4 :=
  if inR j 0 (nI mm - 1) = true then (if inR d 0 5 = true then (actR f n (ix j) d, actF f (ix j) (actR f n (ix j) d), recH f h gl, recK gl) else (-1, f, h, gl)) else (-1, f, h, gl)
def undoT (f h : Nat → Int32) (gl : Nat) : T4 := if gl = 0 then (-5, f, h, gl) else (nI (gl - 1), cpB f h (169 * (gl - 1)) 169, h, gl - 1)
def restoreT (f h sl z : Nat → Int32) (gl : Nat) (s : Int32) : T4 :=
  if inR s 0 1 = true then (if z (ix s) = 0 then (-5, f, h, gl) else (sl (169 * ix s), cpB f sl (169 * ix s) 169, recH f h gl, recK gl)) else (-2, f, h, gl)
theorem reasonM_in {ru : Nat → RV} {n : Nat} {c d rank : Int32} : reasonM ru n c d rank = 100 ∨ reasonM ru n c d rank = -6 ∨ ∃ q, q < n ∧ reasonM ru n c d rank = nI q := by
  unfold reasonM
  split
  · exact Or.inl rfl
  · split
    · exact Or.inr (Or.inl rfl)
    · exact Or.inr (rsM_in n (Nat.le_refl n))
theorem fiM_in {ru : Nat → RV} {n : Nat} : fiM ru n = -6 ∨ ∃ i, i < n ∧ fiM ru n = nI i := by
  have key : ∀ k i, fiF ru n k i = -6 ∨ ∃ j, j < i + k ∧ fiF ru n k i = nI j := by
    intro k
    induction k with
    | zero => intro i; exact Or.inl rfl
    | succ k ih =>
      intro i
      have e : fiF ru n (k + 1) i = if idM ru n (nI i) 30 = true then nI i else fiF ru n k (i + 1) := rfl
      rw [e]
      by_cases h : idM ru n (nI i) 30 = true
      · rw [if_pos h]; exact Or.inr ⟨i, by omega, rfl⟩
      · rw [if_neg h]
        rcases ih (i + 1) with h1 | ⟨j, h1, h2⟩
        · exact Or.inl h1
        · exact Or.inr ⟨j, by omega, h2⟩
  rcases key n 0 with h | ⟨j, h1, h2⟩
  · exact Or.inl h
  · exact Or.inr ⟨j, by omega, h2⟩
theorem strF_0 {f : Nat → Int32} {n r : Nat} : strF f n r 0 = nI (n - 1) := by
  unfold strF zrA stA upd
  rw [if_neg (by omega), if_neg (by omega), if_pos rfl]
theorem strF_lo {f : Nat → Int32} {n r k : Nat} (h0 : k ≠ 0) (h : k < 9 + 5 * r) (hr : r < n) : strF f n r k = f k := by
  unfold strF zrA stA upd
  rw [if_neg (by omega), if_neg (by omega), if_neg h0]
theorem strF_mid {f : Nat → Int32} {n r k : Nat} (h : 9 + 5 * r ≤ k) (h2 : k < 9 + 5 * (n - 1)) : strF f n r k = f (k + 5) := by
  unfold strF zrA stA upd
  rw [if_neg (by omega), if_pos (by omega), if_neg (by omega)]
theorem strF_hi {f : Nat → Int32} {n r k : Nat} (hr : r < n) (h : 9 + 5 * n ≤ k) : strF f n r k = f k := by
  unfold strF zrA stA upd
  rw [if_neg (by omega), if_neg (by omega), if_neg (by omega)]
theorem strF_ru {f : Nat → Int32} {n r i : Nat} (hr : r < n) (hi : i < n - 1) : ruA (strF f n r) i = ruA f (if i < r then i else i + 1) := by
  unfold ruA
  by_cases e : i < r
  · rw [if_pos e, strF_lo (by omega) (by omega) hr, strF_lo (by omega) (by omega) hr, strF_lo (by omega) (by omega) hr, strF_lo (by omega) (by omega) hr, strF_lo (by omega) (by omega) hr]
  · rw [if_neg e, strF_mid (by omega) (by omega), strF_mid (by omega) (by omega), strF_mid (by omega) (by omega), strF_mid (by omega) (by omega), strF_mid (by omega) (by omega)]
    rw [show 9 + 5 * (i + 1) = 9 + 5 * i + 5 by omega, show 9 + 5 * i + 1 + 5 = 9 + 5 * i + 5 + 1 by omega, show 9 + 5 * i + 2 + 5 = 9 + 5 * i + 5 + 2 by omega, show 9 + 5 * i + 3 + 5 = 9 + 5 * i + 5 + 3 by omega, show 9 + 5 * i + 4 + 5 = 9 + 5 * i + 5 + 4 by omega]
theorem strF_v {f : Nat → Int32} {n r : Nat} (hr : r < n) (hv : ∀ i, i < n → vp_in (ruA f i).1 5) : ∀ i, i < n - 1 → vp_in (ruA (strF f n r) i).1 5 := by
  intro i hi
  rw [strF_ru hr hi]
  apply hv
  split <;> omega
/-- idle rules struck till there is none -/
def tdF : Nat → (Nat → Int32) → Nat → Nat × (Nat → Int32) × Nat
  | 0, f, n => (0, f, n)
  | k + 1, f, n => if fiM (ruA f) n = -6 then (0, f, n) else ((tdF k (strF f n (ix (fiM (ruA f) n))) (n - 1)).1 + 1, (tdF k (strF f n (ix (fiM (ruA f) n))) (n - 1)).2)
theorem tdF_0 {k : Nat} {f : Nat → Int32} {n : Nat} (h : fiM (ruA f) n = -6) : tdF k f n = (0, f, n) := by
  cases k with
  | zero => rfl
  | succ k => show (if _ then _ else _) = _; rw [if_pos h]
theorem tdF_s {k i : Nat} {f : Nat → Int32} {n : Nat} (h : fiM (ruA f) n = nI i) (hi : i < n) (hn : n ≤ 24) : tdF (k + 1) f n = ((tdF k (strF f n i) (n - 1)).1 + 1, (tdF k (strF f n i) (n - 1)).2) := by
  have hx : ix (nI i) = i := ix_nI (by omega)
  show (if _ then _ else _) = _
  rw [if_neg, h, hx]
  rw [h]
  intro e
  have := congrArg Int32.toInt e
  rw [nI_toInt (by omega)] at this
  revert this
  show (i : Int) = -6 → False
  omega
/-- answer, slots, which are saved -/
abbrev T3 : Type := Int32 × (Nat → Int32) × (Nat → Int32)
def P3 (E : EV) (ad : Nat → Nat) (f hst pd : Nat → Int32) (kept len told : Int32) (T : T3) (r : Int32) (H1 : Heap) : Prop := r = T.1 ∧ MPx E ad f hst T.2.1 T.2.2 pd kept len told H1
theorem P3.of {E : EV} {ad : Nat → Nat} {f hst pd : Nat → Int32} {kept len told : Int32} {T T' : T3} {H1 : Heap} (h : T = T') (k : MPx E ad f hst T'.2.1 T'.2.2 pd kept len told H1) : P3 E ad f hst pd kept len told T T'.1 H1 := by
  subst h; exact ⟨rfl, k⟩
def saveT (f sl z : Nat → Int32) (n : Nat) (s : Int32) : T3 := if inR s 0 1 = true then (nI n, cpA f sl (169 * ix s) 169, upd z (ix s) 1) else (-2, sl, z)
theorem hdX3_lays : Hd yX3_lays 2 := by decide +kernel
set_option maxHeartbeats 1000000 in
set_option maxRecDepth 100000 in
theorem metX3_lays (l : Launch) (E : EV) (H : Heap) (ad : Nat → Nat) (f hst sl z pd : Nat → Int32) (len told : Int32) (gl : Nat) (hgl : gl ≤ 6) (a : Int32) (k : Nat) (ha : a = nI k) (hk : k < 169) (v : Int32) (hM : MPx E ad f hst sl z pd (nI gl) len told H) (hT : TW E ad) : Ct l yX3_lays cX3_lays 4 (some .int) 1 21 (0) (0) [.ref (ad 0), .int a, .int v] E H (TA ad) (pI (fun r H1 => r = f k ∧ MPx E ad (upd f k v) (recH f hst gl) sl z pd (nI (recK gl)) len told H1)) := by
  obtain ⟨g, k0, k1, k2, k3, k4, k5, k6⟩ := hM
  refine Ct.ofZ (by decide) (Nat.le_of_ble_eq_true rfl) ?_
  intro p e s m bl mt cd ls Q hF hW hH hl hend
  obtain ⟨F, hin⟩ := hF
  have hx := F.1
  have hb := F.2.1
  have hts := F.2.2.2.2
  have hl : lv_has ls 4 [(0, .ref (ad 0)), (1, .int a), (2, .int v)] := hl
  have hS : va_S (TA ad) H H [] := va_S.rf
  refine lv_aload_n hx hb dX3_lays_0 rfl (lv_at hl 0 rfl) ?_
  refine run_chN (rest := []) (kV F hW (metX3_record l E H ad f hst sl z pd len told gl (by omega) ⟨_, k0, k1, k2, k3, k4, k5, k6⟩ hT) (lw_V q1052 q1054 qs16 q52 q1055) hdX3_record ⟨Nat.le_of_ble_eq_true rfl, Nat.le_of_ble_eq_true rfl⟩ (recv hW k0 rfl) hl.1 rfl (Nat.le_of_ble_eq_true rfl) dX3_lays_1 ⟨Nat.le_of_ble_eq_true rfl, Nat.le_of_ble_eq_true rfl⟩) hS (fun _ h9 => h9) (fun H_1 locs hp_1 hc_1 hS_1 => ?_)
  have hW_1 := hW.kept hc_1 hT.old
  obtain ⟨g_2, k0_2, k1_2, k2_2, k3_2, k4_2, k5_2, k6_2⟩ := hp_1
  refine lv_aload_n hx hb dX3_lays_4 rfl (lv_at hl 0 rfl) ?_
  refine xget (ref := "LayeredChartersModel") (ci := 3) (v := .ref (ad 1)) (C := RX3) (T := TX3) (N := 9) F in_X3 hW_1 k0_2 rfl 0 (by decide) q1016 (fun _ h9 => h9) rfl dX3_lays_5 ?_
  refine lv_iload_n hx hb dX3_lays_8 rfl (lv_at hl 1 rfl) ?_
  refine xild F hW_1 k1_2 (vin_eq (n := k) ha (by omega) (by omega)) dX3_lays_9 ?_
  refine lv_val (y := f (k)) (congrArg (f) (cl_eq (n := k) ha (by omega))) ?_
  refine lv_istore_n (lv' := [(3, .int (f (k))), (0, .ref (ad 0)), (1, .int a), (2, .int v)]) hx hb dX3_lays_10 rfl hl (by decide) rfl (fun ls hl => ?_)
  refine lv_aload_n hx hb dX3_lays_11 rfl (lv_at hl 1 rfl) ?_
  refine xget (ref := "LayeredChartersModel") (ci := 3) (v := .ref (ad 1)) (C := RX3) (T := TX3) (N := 9) F in_X3 hW_1 k0_2 rfl 0 (by decide) q1016 (fun _ h9 => h9) rfl dX3_lays_12 ?_
  refine lv_iload_n hx hb dX3_lays_15 rfl (lv_at hl 2 rfl) ?_
  refine lv_iload_n hx hb dX3_lays_16 rfl (lv_at hl 3 rfl) ?_
  refine xist F hW_1 k1_2 hS_1 ⟨1, by decide, rfl⟩ (vin_eq (n := k) ha (by omega) (by omega)) dX3_lays_17 (fun H_3 locs ho_3 hu_3 hS_3 => ?_)
  have ho_3 : iat E (ad 1) 0 169 (upd f (k) v) H_3 := by have h9 := ho_3; rw [(cl_eq (n := k) ha (by omega))] at h9; exact h9
  have hW_H_3 := hW_1.kept hu_3.chg (fun q _ hq => hq ▸ (hT.2 1 (by decide)))
  have k0_H_3 := k0_2.kept hu_3.chg (fun h9 => absurd (hT.1 0 1 (by decide) (by decide) h9) (by decide))
  have k2_H_3 := k2_2.kept hu_3.chg (fun h9 => absurd (hT.1 2 1 (by decide) (by decide) h9) (by decide))
  have k3_H_3 := k3_2.kept hu_3.chg (fun h9 => absurd (hT.1 3 1 (by decide) (by decide) h9) (by decide))
  have k4_H_3 := k4_2.kept hu_3.chg (fun h9 => absurd (hT.1 4 1 (by decide) (by decide) h9) (by decide))
  have k5_H_3 := k5_2.kept hu_3.chg (fun h9 => absurd (hT.1 5 1 (by decide) (by decide) h9) (by decide))
  have k6_H_3 := k6_2.kept hu_3.chg (fun h9 => absurd (hT.1 6 1 (by decide) (by decide) h9) (by decide))
  refine lv_iload_n hx hb dX3_lays_18 rfl (lv_at hl 0 rfl) ?_
  exact hend _ _ _ _ _ _ _ rfl dX3_lays_19 (⟨_, rfl, rfl, ⟨_, k0_H_3, ho_3, k2_H_3, k3_H_3, k4_H_3, k5_H_3, k6_H_3⟩⟩) hS_3 (Nat.zero_le _) (Nat.zero_le _)

theorem hdX3_seal : Hd yX3_seal 2 := by decide +kernel
set_option maxHeartbeats 1000000 in
set_option maxRecDepth 100000 in
theorem metX3_seal (l : Launch) (E : EV) (H : Heap) (ad : Nat → Nat) (f hst sl z pd : Nat → Int32) (len told : Int32) (n : Nat) (hn0 : f 0 = nI n) (hn24 : n ≤ 24) (gl : Nat) (hgl : gl ≤ 6) (r v : Int32) (hM : MPx E ad f hst sl z pd (nI gl) len told H) (hT : TW E ad) : Ct l yX3_seal cX3_seal 3 (some .int) 2 44 (0) (0) [.ref (ad 0), .int r, .int v] E H (TA ad) (pI (fun r' H1 => P4 E ad sl z pd len told (sealT f hst gl n r v) r' H1)) := by
  obtain ⟨g, k0, k1, k2, k3, k4, k5, k6⟩ := hM
  refine Ct.ofZ (by decide) (Nat.le_of_ble_eq_true rfl) ?_
  intro p e s m bl mt cd ls Q hF hW hH hl hend
  obtain ⟨F, hin⟩ := hF
  have hx := F.1
  have hb := F.2.1
  have hts := F.2.2.2.2
  have hl : lv_has ls 3 [(0, .ref (ad 0)), (1, .int r), (2, .int v)] := hl
  have hS : va_S (TA ad) H H [] := va_S.rf
  refine lv_aload_n hx hb dX3_seal_0 rfl (lv_at hl 0 rfl) ?_
  refine lv_iload_n hx hb dX3_seal_1 rfl (lv_at hl 1 rfl) ?_
  refine run_ro (w := .int (b2i (inR r 0 (nI n - 1)))) (rest := []) (kV F hW (metX3_isRule l E H ad (nI gl) len told k0 f k1 n hn0 hn24 r) (lw_V q1067 q1069 qs18 q52 q1070) hdX3_isRule ⟨Nat.le_of_ble_eq_true rfl, Nat.le_of_ble_eq_true rfl⟩ (recv hW k0 rfl) hl.1 rfl (Nat.le_of_ble_eq_true rfl) dX3_seal_2 ⟨Nat.le_of_ble_eq_true rfl, Nat.le_of_ble_eq_true rfl⟩) ?_
  refine lv_if_ne (tgt := 10) hx hb dX3_seal_5 (by decide) (fun c_1 => ?_) (fun c_1 => ?_)
  · skip
    have bc_1 := c_1
    have c_1 := b2i_t c_1
    obtain ⟨i, hi, ei0⟩ := idx_of c_1 (by omega)
    subst ei0
    have ei : ix (nI i) = i := ix_nI (by omega)
    refine lv_iload_n hx hb dX3_seal_10 rfl (lv_at hl 2 rfl) ?_
    refine lv_iconst (v := 1) hx hb dX3_seal_11 (by decide) ?_
    refine lv_bipush (v := 9) hx hb dX3_seal_12 (by decide) ?_
    refine run_ro (w := .int (b2i (inR v 1 9))) (rest := []) (kS F hW (metX3_in l E H v 1 9) (lw_S q1049 q1050 q52 q1051) hdX3_in ⟨Nat.le_of_ble_eq_true rfl, Nat.le_of_ble_eq_true rfl⟩ hl.1 rfl (Nat.le_of_ble_eq_true rfl) dX3_seal_14 ⟨Nat.le_of_ble_eq_true rfl, Nat.le_of_ble_eq_true rfl⟩) ?_
    refine lv_if_eq (tgt := 33) hx hb dX3_seal_17 (by decide) (fun c_2 => ?_) (fun c_2 => ?_)
    · skip
      have bc_2 := c_2
      have c_2 := b2i_f c_2
      refine lv_bipush (v := (-2)) hx hb dX3_seal_33 (by decide) ?_
      exact hend _ _ _ _ _ _ _ rfl dX3_seal_35 (⟨_, rfl, P4.of (T' := ((-2), f, hst, gl)) (by simp [sealT, c_1, ei, c_2]) ⟨_, k0, k1, k2, k3, k4, k5, k6⟩⟩) hS (Nat.zero_le _) (Nat.zero_le _)
    · skip
      have bc_2 := c_2
      have c_2 := b2i_t c_2
      refine lv_aload_n hx hb dX3_seal_20 rfl (lv_at hl 0 rfl) ?_
      refine lv_iload_n hx hb dX3_seal_21 rfl (lv_at hl 1 rfl) ?_
      refine lv_iconst (v := 4) hx hb dX3_seal_22 (by decide) ?_
      refine run_ro (w := .int (9 + 5 * (nI i) + 4)) (rest := [.ref (ad 0)]) (kS F hW (metX3_at l E H (nI i) 4) (lw_S q1060 q1061 q52 q1062) hdX3_at ⟨Nat.le_of_ble_eq_true rfl, Nat.le_of_ble_eq_true rfl⟩ hl.1 rfl (Nat.le_of_ble_eq_true rfl) dX3_seal_23 ⟨Nat.le_of_ble_eq_true rfl, Nat.le_of_ble_eq_true rfl⟩) ?_
      refine lv_iload_n hx hb dX3_seal_26 rfl (lv_at hl 2 rfl) ?_
      refine run_chI (rest := []) (kV F hW (metX3_lays l E H ad f hst sl z pd len told gl (by omega) (9 + 5 * (nI i) + 4) (9 + 5 * i + 4) (nI_addx (nI_addx (rfl : (9 : Int32) = nI 9) (nI_mulx (rfl : (5 : Int32) = nI 5) (rfl : nI i = nI i))) (rfl : (4 : Int32) = nI 4)) (by omega) v ⟨_, k0, k1, k2, k3, k4, k5, k6⟩ hT) (lw_V q1079 q1081 qs20 q52 q1082) hdX3_lays ⟨Nat.le_of_ble_eq_true rfl, Nat.le_of_ble_eq_true rfl⟩ (recv hW k0 rfl) hl.1 rfl (Nat.le_of_ble_eq_true rfl) dX3_seal_27 ⟨Nat.le_of_ble_eq_true rfl, Nat.le_of_ble_eq_true rfl⟩) hS (fun _ h9 => h9) (fun r_3 H_3 locs hp_3 hc_3 hS_3 => ?_)
      have hW_3 := hW.kept hc_3 hT.old
      obtain ⟨hr_3, hp_3⟩ := hp_3
      obtain ⟨g_4, k0_4, k1_4, k2_4, k3_4, k4_4, k5_4, k6_4⟩ := hp_3
      have hr_3 : r_3 = f (9 + 5 * i + 4) := hr_3
      subst hr_3
      refine lv_goto (tgt := 35) hx hb dX3_seal_30 (by decide) ?_
      exact hend _ _ _ _ _ _ _ rfl dX3_seal_35 (⟨_, rfl, P4.of (T' := (f (9 + 5 * i + 4), upd f (9 + 5 * i + 4) v, recH f hst gl, (recK gl))) (by simp [sealT, c_1, ei, c_2]) ⟨_, k0_4, k1_4, k2_4, k3_4, k4_4, k5_4, k6_4⟩⟩) hS_3 (Nat.zero_le _) (Nat.zero_le _)
  · skip
    have bc_1 := c_1
    have c_1 := b2i_f c_1
    refine lv_iconst (v := (-1)) hx hb dX3_seal_8 (by decide) ?_
    exact hend _ _ _ _ _ _ _ rfl dX3_seal_9 (⟨_, rfl, P4.of (T' := ((-1), f, hst, gl)) (by simp [sealT, c_1]) ⟨_, k0, k1, k2, k3, k4, k5, k6⟩⟩) hS (Nat.zero_le _) (Nat.zero_le _)

theorem hdX3_move : Hd yX3_move 2 := by decide +kernel
set_option maxHeartbeats 1000000 in
set_option maxRecDepth 100000 in
theorem metX3_move (l : Launch) (E : EV) (H : Heap) (ad : Nat → Nat) (f hst sl z pd : Nat → Int32) (len told : Int32) (n : Nat) (hn0 : f 0 = nI n) (hn24 : n ≤ 24) (gl : Nat) (hgl : gl ≤ 6) (r v : Int32) (hM : MPx E ad f hst sl z pd (nI gl) len told H) (hT : TW E ad) : Ct l yX3_move cX3_move 3 (some .int) 2 44 (0) (0) [.ref (ad 0), .int r, .int v] E H (TA ad) (pI (fun r' H1 => P4 E ad sl z pd len told (moveT f hst gl n r v) r' H1)) := by
  obtain ⟨g, k0, k1, k2, k3, k4, k5, k6⟩ := hM
  refine Ct.ofZ (by decide) (Nat.le_of_ble_eq_true rfl) ?_
  intro p e s m bl mt cd ls Q hF hW hH hl hend
  obtain ⟨F, hin⟩ := hF
  have hx := F.1
  have hb := F.2.1
  have hts := F.2.2.2.2
  have hl : lv_has ls 3 [(0, .ref (ad 0)), (1, .int r), (2, .int v)] := hl
  have hS : va_S (TA ad) H H [] := va_S.rf
  refine lv_aload_n hx hb dX3_move_0 rfl (lv_at hl 0 rfl) ?_
  refine lv_iload_n hx hb dX3_move_1 rfl (lv_at hl 1 rfl) ?_
  refine run_ro (w := .int (b2i (inR r 0 (nI n - 1)))) (rest := []) (kV F hW (metX3_isRule l E H ad (nI gl) len told k0 f k1 n hn0 hn24 r) (lw_V q1067 q1069 qs18 q52 q1070) hdX3_isRule ⟨Nat.le_of_ble_eq_true rfl, Nat.le_of_ble_eq_true rfl⟩ (recv hW k0 rfl) hl.1 rfl (Nat.le_of_ble_eq_true rfl) dX3_move_2 ⟨Nat.le_of_ble_eq_true rfl, Nat.le_of_ble_eq_true rfl⟩) ?_
  refine lv_if_eq (tgt := 17) hx hb dX3_move_5 (by decide) (fun c_1 => ?_) (fun c_1 => ?_)
  · skip
    have bc_1 := c_1
    have c_1 := b2i_f c_1
    refine lv_iconst (v := (-1)) hx hb dX3_move_17 (by decide) ?_
    exact hend _ _ _ _ _ _ _ rfl dX3_move_18 (⟨_, rfl, P4.of (T' := ((-1), f, hst, gl)) (by simp [moveT, c_1]) ⟨_, k0, k1, k2, k3, k4, k5, k6⟩⟩) hS (Nat.zero_le _) (Nat.zero_le _)
  · skip
    have bc_1 := c_1
    have c_1 := b2i_t c_1
    obtain ⟨i, hi, ei0⟩ := idx_of c_1 (by omega)
    subst ei0
    have ei : ix (nI i) = i := ix_nI (by omega)
    refine lv_iload_n hx hb dX3_move_8 rfl (lv_at hl 2 rfl) ?_
    refine lv_iconst (v := 0) hx hb dX3_move_9 (by decide) ?_
    refine lv_iconst (v := 4) hx hb dX3_move_10 (by decide) ?_
    refine run_ro (w := .int (b2i (inR v 0 4))) (rest := []) (kS F hW (metX3_in l E H v 0 4) (lw_S q1049 q1050 q52 q1051) hdX3_in ⟨Nat.le_of_ble_eq_true rfl, Nat.le_of_ble_eq_true rfl⟩ hl.1 rfl (Nat.le_of_ble_eq_true rfl) dX3_move_11 ⟨Nat.le_of_ble_eq_true rfl, Nat.le_of_ble_eq_true rfl⟩) ?_
    refine lv_if_ne (tgt := 19) hx hb dX3_move_14 (by decide) (fun c_2 => ?_) (fun c_2 => ?_)
    · skip
      have bc_2 := c_2
      have c_2 := b2i_t c_2
      refine lv_aload_n hx hb dX3_move_19 rfl (lv_at hl 0 rfl) ?_
      refine lv_iload_n hx hb dX3_move_20 rfl (lv_at hl 1 rfl) ?_
      refine lv_iconst (v := 1) hx hb dX3_move_21 (by decide) ?_
      refine run_ro (w := .int ((ruA f i).2.1)) (rest := []) (kV F hW (metX3_of l E H ad (nI gl) len told k0 f k1 (nI i) 1 (9 + 5 * i + 1) (at1 _) (by omega)) (lw_V q1087 q1089 qs21 q52 q1090) hdX3_of ⟨Nat.le_of_ble_eq_true rfl, Nat.le_of_ble_eq_true rfl⟩ (recv hW k0 rfl) hl.1 rfl (Nat.le_of_ble_eq_true rfl) dX3_move_22 ⟨Nat.le_of_ble_eq_true rfl, Nat.le_of_ble_eq_true rfl⟩) ?_
      refine lv_if_ne (tgt := 37) hx hb dX3_move_25 (by decide) (fun c_3 => ?_) (fun c_3 => ?_)
      · skip
        refine lv_aload_n hx hb dX3_move_37 rfl (lv_at hl 0 rfl) ?_
        refine lv_iload_n hx hb dX3_move_38 rfl (lv_at hl 1 rfl) ?_
        refine lv_iconst (v := 0) hx hb dX3_move_39 (by decide) ?_
        refine run_ro (w := .int (9 + 5 * (nI i) + 0)) (rest := [.ref (ad 0)]) (kS F hW (metX3_at l E H (nI i) 0) (lw_S q1060 q1061 q52 q1062) hdX3_at ⟨Nat.le_of_ble_eq_true rfl, Nat.le_of_ble_eq_true rfl⟩ hl.1 rfl (Nat.le_of_ble_eq_true rfl) dX3_move_40 ⟨Nat.le_of_ble_eq_true rfl, Nat.le_of_ble_eq_true rfl⟩) ?_
        refine lv_iload_n hx hb dX3_move_43 rfl (lv_at hl 2 rfl) ?_
        refine run_chI (rest := []) (kV F hW (metX3_lays l E H ad f hst sl z pd len told gl (by omega) (9 + 5 * (nI i) + 0) (9 + 5 * i) (nI_add0x (nI_addx (rfl : (9 : Int32) = nI 9) (nI_mulx (rfl : (5 : Int32) = nI 5) (rfl : nI i = nI i)))) (by omega) v ⟨_, k0, k1, k2, k3, k4, k5, k6⟩ hT) (lw_V q1079 q1081 qs20 q52 q1082) hdX3_lays ⟨Nat.le_of_ble_eq_true rfl, Nat.le_of_ble_eq_true rfl⟩ (recv hW k0 rfl) hl.1 rfl (Nat.le_of_ble_eq_true rfl) dX3_move_44 ⟨Nat.le_of_ble_eq_true rfl, Nat.le_of_ble_eq_true rfl⟩) hS (fun _ h9 => h9) (fun r_4 H_4 locs hp_4 hc_4 hS_4 => ?_)
        have hW_4 := hW.kept hc_4 hT.old
        obtain ⟨hr_4, hp_4⟩ := hp_4
        obtain ⟨g_5, k0_5, k1_5, k2_5, k3_5, k4_5, k5_5, k6_5⟩ := hp_4
        have hr_4 : r_4 = f (9 + 5 * i) := hr_4
        subst hr_4
        exact hend _ _ _ _ _ _ _ rfl dX3_move_47 (⟨_, rfl, P4.of (T' := (f (9 + 5 * i), upd f (9 + 5 * i) v, recH f hst gl, (recK gl))) (by simp [moveT, c_1, ei, c_2, c_3]) ⟨_, k0_5, k1_5, k2_5, k3_5, k4_5, k5_5, k6_5⟩⟩) hS_4 (Nat.zero_le _) (Nat.zero_le _)
      · skip
        refine lv_iload_n hx hb dX3_move_28 rfl (lv_at hl 2 rfl) ?_
        refine lv_if_le (tgt := 37) hx hb dX3_move_29 (by decide) (fun c_6 => ?_) (fun c_6 => ?_)
        · skip
          refine lv_aload_n hx hb dX3_move_37 rfl (lv_at hl 0 rfl) ?_
          refine lv_iload_n hx hb dX3_move_38 rfl (lv_at hl 1 rfl) ?_
          refine lv_iconst (v := 0) hx hb dX3_move_39 (by decide) ?_
          refine run_ro (w := .int (9 + 5 * (nI i) + 0)) (rest := [.ref (ad 0)]) (kS F hW (metX3_at l E H (nI i) 0) (lw_S q1060 q1061 q52 q1062) hdX3_at ⟨Nat.le_of_ble_eq_true rfl, Nat.le_of_ble_eq_true rfl⟩ hl.1 rfl (Nat.le_of_ble_eq_true rfl) dX3_move_40 ⟨Nat.le_of_ble_eq_true rfl, Nat.le_of_ble_eq_true rfl⟩) ?_
          refine lv_iload_n hx hb dX3_move_43 rfl (lv_at hl 2 rfl) ?_
          refine run_chI (rest := []) (kV F hW (metX3_lays l E H ad f hst sl z pd len told gl (by omega) (9 + 5 * (nI i) + 0) (9 + 5 * i) (nI_add0x (nI_addx (rfl : (9 : Int32) = nI 9) (nI_mulx (rfl : (5 : Int32) = nI 5) (rfl : nI i = nI i)))) (by omega) v ⟨_, k0, k1, k2, k3, k4, k5, k6⟩ hT) (lw_V q1079 q1081 qs20 q52 q1082) hdX3_lays ⟨Nat.le_of_ble_eq_true rfl, Nat.le_of_ble_eq_true rfl⟩ (recv hW k0 rfl) hl.1 rfl (Nat.le_of_ble_eq_true rfl) dX3_move_44 ⟨Nat.le_of_ble_eq_true rfl, Nat.le_of_ble_eq_true rfl⟩) hS (fun _ h9 => h9) (fun r_7 H_7 locs hp_7 hc_7 hS_7 => ?_)
          have hW_7 := hW.kept hc_7 hT.old
          obtain ⟨hr_7, hp_7⟩ := hp_7
          obtain ⟨g_8, k0_8, k1_8, k2_8, k3_8, k4_8, k5_8, k6_8⟩ := hp_7
          have hr_7 : r_7 = f (9 + 5 * i) := hr_7
          subst hr_7
          exact hend _ _ _ _ _ _ _ rfl dX3_move_47 (⟨_, rfl, P4.of (T' := (f (9 + 5 * i), upd f (9 + 5 * i) v, recH f hst gl, (recK gl))) (by simp [moveT, c_1, ei, c_2, c_3, c_6]) ⟨_, k0_8, k1_8, k2_8, k3_8, k4_8, k5_8, k6_8⟩⟩) hS_7 (Nat.zero_le _) (Nat.zero_le _)
        · skip
          refine lv_bipush (v := (-5)) hx hb dX3_move_32 (by decide) ?_
          refine lv_goto (tgt := 47) hx hb dX3_move_34 (by decide) ?_
          exact hend _ _ _ _ _ _ _ rfl dX3_move_47 (⟨_, rfl, P4.of (T' := ((-5), f, hst, gl)) (by simp [moveT, c_1, ei, c_2, c_3, c_6]) ⟨_, k0, k1, k2, k3, k4, k5, k6⟩⟩) hS (Nat.zero_le _) (Nat.zero_le _)
    · skip
      have bc_2 := c_2
      have c_2 := b2i_f c_2
      refine lv_iconst (v := (-1)) hx hb dX3_move_17 (by decide) ?_
      exact hend _ _ _ _ _ _ _ rfl dX3_move_18 (⟨_, rfl, P4.of (T' := ((-1), f, hst, gl)) (by simp [moveT, c_1, ei, c_2]) ⟨_, k0, k1, k2, k3, k4, k5, k6⟩⟩) hS (Nat.zero_le _) (Nat.zero_le _)

theorem hdX3_add : Hd yX3_add 5 := by decide +kernel
set_option maxHeartbeats 1000000 in
set_option maxRecDepth 100000 in
theorem metX3_add (l : Launch) (E : EV) (H : Heap) (ad : Nat → Nat) (f hst sl z pd : Nat → Int32) (len told : Int32) (n : Nat) (hn0 : f 0 = nI n) (hn24 : n ≤ 24) (gl : Nat) (hgl : gl ≤ 6) (la ki cr de se : Int32) (hM : MPx E ad f hst sl z pd (nI gl) len told H) (hT : TW E ad) : Ct l yX3_add cX3_add 6 (some .int) 2 47 (0) (0) [.ref (ad 0), .int la, .int ki, .int cr, .int de, .int se] E H (TA ad) (pI (fun r' H1 => P4 E ad sl z pd len told (addT f hst gl n la ki cr de se) r' H1)) := by
  obtain ⟨g, k0, k1, k2, k3, k4, k5, k6⟩ := hM
  refine Ct.ofZ (by decide) (Nat.le_of_ble_eq_true rfl) ?_
  intro p e s m bl mt cd ls Q hF hW hH hl hend
  obtain ⟨F, hin⟩ := hF
  have hx := F.1
  have hb := F.2.1
  have hts := F.2.2.2.2
  have hl : lv_has ls 6 [(0, .ref (ad 0)), (1, .int la), (2, .int ki), (3, .int cr), (4, .int de), (5, .int se)] := hl
  have hS : va_S (TA ad) H H [] := va_S.rf
  refine lv_iload_n hx hb dX3_add_0 rfl (lv_at hl 1 rfl) ?_
  refine lv_iconst (v := 0) hx hb dX3_add_1 (by decide) ?_
  refine lv_iconst (v := 4) hx hb dX3_add_2 (by decide) ?_
  refine run_ro (w := .int (b2i (inR la 0 4))) (rest := []) (kS F hW (metX3_in l E H la 0 4) (lw_S q1049 q1050 q52 q1051) hdX3_in ⟨Nat.le_of_ble_eq_true rfl, Nat.le_of_ble_eq_true rfl⟩ hl.1 rfl (Nat.le_of_ble_eq_true rfl) dX3_add_3 ⟨Nat.le_of_ble_eq_true rfl, Nat.le_of_ble_eq_true rfl⟩) ?_
  refine lv_if_eq (tgt := 29) hx hb dX3_add_6 (by decide) (fun c_1 => ?_) (fun c_1 => ?_)
  · skip
    have bc_1 := c_1
    have c_1 := b2i_f c_1
    refine lv_iconst (v := (-1)) hx hb dX3_add_29 (by decide) ?_
    exact hend _ _ _ _ _ _ _ rfl dX3_add_30 (⟨_, rfl, P4.of (T' := ((-1), f, hst, gl)) (by simp [addT, inR002, c_1]) ⟨_, k0, k1, k2, k3, k4, k5, k6⟩⟩) hS (Nat.zero_le _) (Nat.zero_le _)
  · skip
    have bc_1 := c_1
    have c_1 := b2i_t c_1
    refine lv_iload_n hx hb dX3_add_9 rfl (lv_at hl 3 rfl) ?_
    refine lv_iconst (v := 0) hx hb dX3_add_10 (by decide) ?_
    refine lv_iconst (v := 5) hx hb dX3_add_11 (by decide) ?_
    refine run_ro (w := .int (b2i (inR cr 0 5))) (rest := []) (kS F hW (metX3_in l E H cr 0 5) (lw_S q1049 q1050 q52 q1051) hdX3_in ⟨Nat.le_of_ble_eq_true rfl, Nat.le_of_ble_eq_true rfl⟩ hl.1 rfl (Nat.le_of_ble_eq_true rfl) dX3_add_12 ⟨Nat.le_of_ble_eq_true rfl, Nat.le_of_ble_eq_true rfl⟩) ?_
    refine lv_if_eq (tgt := 29) hx hb dX3_add_15 (by decide) (fun c_2 => ?_) (fun c_2 => ?_)
    · skip
      have bc_2 := c_2
      have c_2 := b2i_f c_2
      refine lv_iconst (v := (-1)) hx hb dX3_add_29 (by decide) ?_
      exact hend _ _ _ _ _ _ _ rfl dX3_add_30 (⟨_, rfl, P4.of (T' := ((-1), f, hst, gl)) (by simp [addT, inR002, c_1, c_2]) ⟨_, k0, k1, k2, k3, k4, k5, k6⟩⟩) hS (Nat.zero_le _) (Nat.zero_le _)
    · skip
      have bc_2 := c_2
      have c_2 := b2i_t c_2
      refine lv_iload hx hb dX3_add_18 (lv_at hl 4 rfl) ?_
      refine lv_iconst (v := 0) hx hb dX3_add_20 (by decide) ?_
      refine lv_bipush (v := 6) hx hb dX3_add_21 (by decide) ?_
      refine run_ro (w := .int (b2i (inR de 0 6))) (rest := []) (kS F hW (metX3_in l E H de 0 6) (lw_S q1049 q1050 q52 q1051) hdX3_in ⟨Nat.le_of_ble_eq_true rfl, Nat.le_of_ble_eq_true rfl⟩ hl.1 rfl (Nat.le_of_ble_eq_true rfl) dX3_add_23 ⟨Nat.le_of_ble_eq_true rfl, Nat.le_of_ble_eq_true rfl⟩) ?_
      refine lv_if_ne (tgt := 31) hx hb dX3_add_26 (by decide) (fun c_3 => ?_) (fun c_3 => ?_)
      · skip
        have bc_3 := c_3
        have c_3 := b2i_t c_3
        refine lv_iload_n hx hb dX3_add_31 rfl (lv_at hl 2 rfl) ?_
        refine lv_iconst (v := 0) hx hb dX3_add_32 (by decide) ?_
        refine lv_iconst (v := 2) hx hb dX3_add_33 (by decide) ?_
        refine run_ro (w := .int (b2i (inR ki 0 2))) (rest := []) (kS F hW (metX3_in l E H ki 0 2) (lw_S q1049 q1050 q52 q1051) hdX3_in ⟨Nat.le_of_ble_eq_true rfl, Nat.le_of_ble_eq_true rfl⟩ hl.1 rfl (Nat.le_of_ble_eq_true rfl) dX3_add_34 ⟨Nat.le_of_ble_eq_true rfl, Nat.le_of_ble_eq_true rfl⟩) ?_
        refine lv_if_eq (tgt := 51) hx hb dX3_add_37 (by decide) (fun c_4 => ?_) (fun c_4 => ?_)
        · skip
          have bc_4 := c_4
          have c_4 := b2i_f c_4
          refine lv_bipush (v := (-2)) hx hb dX3_add_51 (by decide) ?_
          exact hend _ _ _ _ _ _ _ rfl dX3_add_53 (⟨_, rfl, P4.of (T' := ((-2), f, hst, gl)) (by simp [addT, inR002, c_1, c_2, c_3, c_4]) ⟨_, k0, k1, k2, k3, k4, k5, k6⟩⟩) hS (Nat.zero_le _) (Nat.zero_le _)
        · skip
          have bc_4 := c_4
          have c_4 := b2i_t c_4
          refine lv_iload hx hb dX3_add_40 (lv_at hl 5 rfl) ?_
          refine lv_iconst (v := 1) hx hb dX3_add_42 (by decide) ?_
          refine lv_bipush (v := 9) hx hb dX3_add_43 (by decide) ?_
          refine run_ro (w := .int (b2i (inR se 1 9))) (rest := []) (kS F hW (metX3_in l E H se 1 9) (lw_S q1049 q1050 q52 q1051) hdX3_in ⟨Nat.le_of_ble_eq_true rfl, Nat.le_of_ble_eq_true rfl⟩ hl.1 rfl (Nat.le_of_ble_eq_true rfl) dX3_add_45 ⟨Nat.le_of_ble_eq_true rfl, Nat.le_of_ble_eq_true rfl⟩) ?_
          refine lv_if_ne (tgt := 54) hx hb dX3_add_48 (by decide) (fun c_5 => ?_) (fun c_5 => ?_)
          · skip
            have bc_5 := c_5
            have c_5 := b2i_t c_5
            refine lv_iload_n hx hb dX3_add_54 rfl (lv_at hl 2 rfl) ?_
            refine lv_if_ne (tgt := 65) hx hb dX3_add_55 (by decide) (fun c_6 => ?_) (fun c_6 => ?_)
            · skip
              refine lv_aload_n hx hb dX3_add_65 rfl (lv_at hl 0 rfl) ?_
              refine xget (ref := "LayeredChartersModel") (ci := 3) (v := .ref (ad 1)) (C := RX3) (T := TX3) (N := 9) F in_X3 hW k0 rfl 0 (by decide) q1016 (fun _ h9 => h9) rfl dX3_add_66 ?_
              refine lv_iconst (v := 0) hx hb dX3_add_69 (by decide) ?_
              refine xild F hW k1 (vp_in_nI (n := 0) (by omega) (by omega)) dX3_add_70 ?_
              refine lv_val (y := nI n) (hn0) ?_
              refine lv_bipush (v := 24) hx hb dX3_add_71 (by decide) ?_
              refine lv_icmp_ne (tgt := 79) hx hb dX3_add_73 (by decide) (fun c_7 => ?_) (fun c_7 => ?_)
              · skip
                have hn_9 : ¬ n = 24 := fun h9 => c_7 (by rw [h9]; rfl)
                refine lv_aload_n hx hb dX3_add_79 rfl (lv_at hl 0 rfl) ?_
                refine run_chN (rest := []) (kV F hW (metX3_record l E H ad f hst sl z pd len told gl (by omega) ⟨_, k0, k1, k2, k3, k4, k5, k6⟩ hT) (lw_V q1052 q1054 qs16 q52 q1055) hdX3_record ⟨Nat.le_of_ble_eq_true rfl, Nat.le_of_ble_eq_true rfl⟩ (recv hW k0 rfl) hl.1 rfl (Nat.le_of_ble_eq_true rfl) dX3_add_80 ⟨Nat.le_of_ble_eq_true rfl, Nat.le_of_ble_eq_true rfl⟩) hS (fun _ h9 => h9) (fun H_8 locs hp_8 hc_8 hS_8 => ?_)
                have hW_8 := hW.kept hc_8 hT.old
                obtain ⟨g_9, k0_9, k1_9, k2_9, k3_9, k4_9, k5_9, k6_9⟩ := hp_8
                refine lv_aload_n hx hb dX3_add_83 rfl (lv_at hl 0 rfl) ?_
                refine lv_iload_n hx hb dX3_add_84 rfl (lv_at hl 1 rfl) ?_
                refine lv_iload_n hx hb dX3_add_85 rfl (lv_at hl 2 rfl) ?_
                refine lv_iload_n hx hb dX3_add_86 rfl (lv_at hl 3 rfl) ?_
                refine lv_iload hx hb dX3_add_87 (lv_at hl 4 rfl) ?_
                refine lv_iload hx hb dX3_add_89 (lv_at hl 5 rfl) ?_
                refine run_chI (rest := []) (kV F hW_8 (metX3_adds l E H_8 ad f (recH f hst gl) sl z pd (nI (recK gl)) len told n hn0 (by omega) la ki cr de se ⟨_, k0_9, k1_9, k2_9, k3_9, k4_9, k5_9, k6_9⟩ hT) (lw_V q1056 q1058 qs17 q52 q1059) hdX3_adds ⟨Nat.le_of_ble_eq_true rfl, Nat.le_of_ble_eq_true rfl⟩ (recv hW_8 k0_9 rfl) hl.1 rfl (Nat.le_of_ble_eq_true rfl) dX3_add_91 ⟨Nat.le_of_ble_eq_true rfl, Nat.le_of_ble_eq_true rfl⟩) hS_8 (fun _ h9 => h9) (fun r_10 H_10 locs hp_10 hc_10 hS_10 => ?_)
                have hW_10 := hW_8.kept hc_10 hT.old
                obtain ⟨hr_10, hp_10⟩ := hp_10
                obtain ⟨g_11, k0_11, k1_11, k2_11, k3_11, k4_11, k5_11, k6_11⟩ := hp_10
                have hr_10 : r_10 = nI n := hr_10
                subst hr_10
                exact hend _ _ _ _ _ _ _ rfl dX3_add_94 (⟨_, rfl, P4.of (T' := (nI n, addF f n la ki cr de se, recH f hst gl, (recK gl))) (by simp [addT, inR002, c_1, c_2, c_3, c_4, c_5, c_6, c_7, hn_9]) ⟨_, k0_11, k1_11, k2_11, k3_11, k4_11, k5_11, k6_11⟩⟩) hS_10 (Nat.zero_le _) (Nat.zero_le _)
              · skip
                have hn_9 : n = 24 := (nI_eq (a := n) (b := 24) (by omega) (by decide)).mp c_7
                refine lv_bipush (v := (-4)) hx hb dX3_add_76 (by decide) ?_
                exact hend _ _ _ _ _ _ _ rfl dX3_add_78 (⟨_, rfl, P4.of (T' := ((-4), f, hst, gl)) (by simp [addT, inR002, c_1, c_2, c_3, c_4, c_5, c_6, c_7, hn_9]) ⟨_, k0, k1, k2, k3, k4, k5, k6⟩⟩) hS (Nat.zero_le _) (Nat.zero_le _)
            · skip
              refine lv_iload_n hx hb dX3_add_58 rfl (lv_at hl 1 rfl) ?_
              refine lv_if_le (tgt := 65) hx hb dX3_add_59 (by decide) (fun c_12 => ?_) (fun c_12 => ?_)
              · skip
                refine lv_aload_n hx hb dX3_add_65 rfl (lv_at hl 0 rfl) ?_
                refine xget (ref := "LayeredChartersModel") (ci := 3) (v := .ref (ad 1)) (C := RX3) (T := TX3) (N := 9) F in_X3 hW k0 rfl 0 (by decide) q1016 (fun _ h9 => h9) rfl dX3_add_66 ?_
                refine lv_iconst (v := 0) hx hb dX3_add_69 (by decide) ?_
                refine xild F hW k1 (vp_in_nI (n := 0) (by omega) (by omega)) dX3_add_70 ?_
                refine lv_val (y := nI n) (hn0) ?_
                refine lv_bipush (v := 24) hx hb dX3_add_71 (by decide) ?_
                refine lv_icmp_ne (tgt := 79) hx hb dX3_add_73 (by decide) (fun c_13 => ?_) (fun c_13 => ?_)
                · skip
                  have hn_9 : ¬ n = 24 := fun h9 => c_13 (by rw [h9]; rfl)
                  refine lv_aload_n hx hb dX3_add_79 rfl (lv_at hl 0 rfl) ?_
                  refine run_chN (rest := []) (kV F hW (metX3_record l E H ad f hst sl z pd len told gl (by omega) ⟨_, k0, k1, k2, k3, k4, k5, k6⟩ hT) (lw_V q1052 q1054 qs16 q52 q1055) hdX3_record ⟨Nat.le_of_ble_eq_true rfl, Nat.le_of_ble_eq_true rfl⟩ (recv hW k0 rfl) hl.1 rfl (Nat.le_of_ble_eq_true rfl) dX3_add_80 ⟨Nat.le_of_ble_eq_true rfl, Nat.le_of_ble_eq_true rfl⟩) hS (fun _ h9 => h9) (fun H_14 locs hp_14 hc_14 hS_14 => ?_)
                  have hW_14 := hW.kept hc_14 hT.old
                  obtain ⟨g_15, k0_15, k1_15, k2_15, k3_15, k4_15, k5_15, k6_15⟩ := hp_14
                  refine lv_aload_n hx hb dX3_add_83 rfl (lv_at hl 0 rfl) ?_
                  refine lv_iload_n hx hb dX3_add_84 rfl (lv_at hl 1 rfl) ?_
                  refine lv_iload_n hx hb dX3_add_85 rfl (lv_at hl 2 rfl) ?_
                  refine lv_iload_n hx hb dX3_add_86 rfl (lv_at hl 3 rfl) ?_
                  refine lv_iload hx hb dX3_add_87 (lv_at hl 4 rfl) ?_
                  refine lv_iload hx hb dX3_add_89 (lv_at hl 5 rfl) ?_
                  refine run_chI (rest := []) (kV F hW_14 (metX3_adds l E H_14 ad f (recH f hst gl) sl z pd (nI (recK gl)) len told n hn0 (by omega) la ki cr de se ⟨_, k0_15, k1_15, k2_15, k3_15, k4_15, k5_15, k6_15⟩ hT) (lw_V q1056 q1058 qs17 q52 q1059) hdX3_adds ⟨Nat.le_of_ble_eq_true rfl, Nat.le_of_ble_eq_true rfl⟩ (recv hW_14 k0_15 rfl) hl.1 rfl (Nat.le_of_ble_eq_true rfl) dX3_add_91 ⟨Nat.le_of_ble_eq_true rfl, Nat.le_of_ble_eq_true rfl⟩) hS_14 (fun _ h9 => h9) (fun r_16 H_16 locs hp_16 hc_16 hS_16 => ?_)
                  have hW_16 := hW_14.kept hc_16 hT.old
                  obtain ⟨hr_16, hp_16⟩ := hp_16
                  obtain ⟨g_17, k0_17, k1_17, k2_17, k3_17, k4_17, k5_17, k6_17⟩ := hp_16
                  have hr_16 : r_16 = nI n := hr_16
                  subst hr_16
                  exact hend _ _ _ _ _ _ _ rfl dX3_add_94 (⟨_, rfl, P4.of (T' := (nI n, addF f n la ki cr de se, recH f hst gl, (recK gl))) (by simp [addT, inR002, c_1, c_2, c_3, c_4, c_5, c_6, c_12, c_13, hn_9]) ⟨_, k0_17, k1_17, k2_17, k3_17, k4_17, k5_17, k6_17⟩⟩) hS_16 (Nat.zero_le _) (Nat.zero_le _)
                · skip
                  have hn_9 : n = 24 := (nI_eq (a := n) (b := 24) (by omega) (by decide)).mp c_13
                  refine lv_bipush (v := (-4)) hx hb dX3_add_76 (by decide) ?_
                  exact hend _ _ _ _ _ _ _ rfl dX3_add_78 (⟨_, rfl, P4.of (T' := ((-4), f, hst, gl)) (by simp [addT, inR002, c_1, c_2, c_3, c_4, c_5, c_6, c_12, c_13, hn_9]) ⟨_, k0, k1, k2, k3, k4, k5, k6⟩⟩) hS (Nat.zero_le _) (Nat.zero_le _)
              · skip
                refine lv_bipush (v := (-5)) hx hb dX3_add_62 (by decide) ?_
                exact hend _ _ _ _ _ _ _ rfl dX3_add_64 (⟨_, rfl, P4.of (T' := ((-5), f, hst, gl)) (by simp [addT, inR002, c_1, c_2, c_3, c_4, c_5, c_6, c_12]) ⟨_, k0, k1, k2, k3, k4, k5, k6⟩⟩) hS (Nat.zero_le _) (Nat.zero_le _)
          · skip
            have bc_5 := c_5
            have c_5 := b2i_f c_5
            refine lv_bipush (v := (-2)) hx hb dX3_add_51 (by decide) ?_
            exact hend _ _ _ _ _ _ _ rfl dX3_add_53 (⟨_, rfl, P4.of (T' := ((-2), f, hst, gl)) (by simp [addT, inR002, c_1, c_2, c_3, c_4, c_5]) ⟨_, k0, k1, k2, k3, k4, k5, k6⟩⟩) hS (Nat.zero_le _) (Nat.zero_le _)
      · skip
        have bc_3 := c_3
        have c_3 := b2i_f c_3
        refine lv_iconst (v := (-1)) hx hb dX3_add_29 (by decide) ?_
        exact hend _ _ _ _ _ _ _ rfl dX3_add_30 (⟨_, rfl, P4.of (T' := ((-1), f, hst, gl)) (by simp [addT, inR002, c_1, c_2, c_3]) ⟨_, k0, k1, k2, k3, k4, k5, k6⟩⟩) hS (Nat.zero_le _) (Nat.zero_le _)

theorem hdX3_strike : Hd yX3_strike 1 := by decide +kernel
set_option maxHeartbeats 1000000 in
set_option maxRecDepth 100000 in
theorem metX3_strike (l : Launch) (E : EV) (H : Heap) (ad : Nat → Nat) (f hst sl z pd : Nat → Int32) (len told : Int32) (n : Nat) (hn0 : f 0 = nI n) (hn24 : n ≤ 24) (gl : Nat) (hgl : gl ≤ 6) (r : Int32) (hM : MPx E ad f hst sl z pd (nI gl) len told H) (hT : TW E ad) : Ct l yX3_strike cX3_strike 2 (some .int) 2 43 (0) (0) [.ref (ad 0), .int r] E H (TA ad) (pI (fun r' H1 => P4 E ad sl z pd len told (strikeT f hst gl n r) r' H1)) := by
  obtain ⟨g, k0, k1, k2, k3, k4, k5, k6⟩ := hM
  refine Ct.ofZ (by decide) (Nat.le_of_ble_eq_true rfl) ?_
  intro p e s m bl mt cd ls Q hF hW hH hl hend
  obtain ⟨F, hin⟩ := hF
  have hx := F.1
  have hb := F.2.1
  have hts := F.2.2.2.2
  have hl : lv_has ls 2 [(0, .ref (ad 0)), (1, .int r)] := hl
  have hS : va_S (TA ad) H H [] := va_S.rf
  refine lv_aload_n hx hb dX3_strike_0 rfl (lv_at hl 0 rfl) ?_
  refine lv_iload_n hx hb dX3_strike_1 rfl (lv_at hl 1 rfl) ?_
  refine run_ro (w := .int (b2i (inR r 0 (nI n - 1)))) (rest := []) (kV F hW (metX3_isRule l E H ad (nI gl) len told k0 f k1 n hn0 hn24 r) (lw_V q1067 q1069 qs18 q52 q1070) hdX3_isRule ⟨Nat.le_of_ble_eq_true rfl, Nat.le_of_ble_eq_true rfl⟩ (recv hW k0 rfl) hl.1 rfl (Nat.le_of_ble_eq_true rfl) dX3_strike_2 ⟨Nat.le_of_ble_eq_true rfl, Nat.le_of_ble_eq_true rfl⟩) ?_
  refine lv_if_ne (tgt := 10) hx hb dX3_strike_5 (by decide) (fun c_1 => ?_) (fun c_1 => ?_)
  · skip
    have bc_1 := c_1
    have c_1 := b2i_t c_1
    obtain ⟨i, hi, ei0⟩ := idx_of c_1 (by omega)
    subst ei0
    have ei : ix (nI i) = i := ix_nI (by omega)
    refine lv_aload_n hx hb dX3_strike_10 rfl (lv_at hl 0 rfl) ?_
    refine run_chN (rest := []) (kV F hW (metX3_record l E H ad f hst sl z pd len told gl (by omega) ⟨_, k0, k1, k2, k3, k4, k5, k6⟩ hT) (lw_V q1052 q1054 qs16 q52 q1055) hdX3_record ⟨Nat.le_of_ble_eq_true rfl, Nat.le_of_ble_eq_true rfl⟩ (recv hW k0 rfl) hl.1 rfl (Nat.le_of_ble_eq_true rfl) dX3_strike_11 ⟨Nat.le_of_ble_eq_true rfl, Nat.le_of_ble_eq_true rfl⟩) hS (fun _ h9 => h9) (fun H_2 locs hp_2 hc_2 hS_2 => ?_)
    have hW_2 := hW.kept hc_2 hT.old
    obtain ⟨g_3, k0_3, k1_3, k2_3, k3_3, k4_3, k5_3, k6_3⟩ := hp_2
    refine lv_aload_n hx hb dX3_strike_14 rfl (lv_at hl 0 rfl) ?_
    refine lv_iload_n hx hb dX3_strike_15 rfl (lv_at hl 1 rfl) ?_
    refine run_chN (rest := []) (kV F hW_2 (metX3_strikes l E H_2 ad f (recH f hst gl) sl z pd (nI (recK gl)) len told n hn0 (by omega) i (by omega) ⟨_, k0_3, k1_3, k2_3, k3_3, k4_3, k5_3, k6_3⟩ hT) (lw_V q1071 q1073 qs19 q52 q1074) hdX3_strikes ⟨Nat.le_of_ble_eq_true rfl, Nat.le_of_ble_eq_true rfl⟩ (recv hW_2 k0_3 rfl) hl.1 rfl (Nat.le_of_ble_eq_true rfl) dX3_strike_16 ⟨Nat.le_of_ble_eq_true rfl, Nat.le_of_ble_eq_true rfl⟩) hS_2 (fun _ h9 => h9) (fun H_4 locs hp_4 hc_4 hS_4 => ?_)
    have hW_4 := hW_2.kept hc_4 hT.old
    obtain ⟨g_5, k0_5, k1_5, k2_5, k3_5, k4_5, k5_5, k6_5⟩ := hp_4
    refine lv_aload_n hx hb dX3_strike_19 rfl (lv_at hl 0 rfl) ?_
    refine xget (ref := "LayeredChartersModel") (ci := 3) (v := .ref (ad 1)) (C := RX3) (T := TX3) (N := 9) F in_X3 hW_4 k0_5 rfl 0 (by decide) q1016 (fun _ h9 => h9) rfl dX3_strike_20 ?_
    refine lv_iconst (v := 0) hx hb dX3_strike_23 (by decide) ?_
    refine xild F hW_4 k1_5 (vp_in_nI (n := 0) (by omega) (by omega)) dX3_strike_24 ?_
    refine lv_val (y := nI (n - 1)) (strF_0) ?_
    exact hend _ _ _ _ _ _ _ rfl dX3_strike_25 (⟨_, rfl, P4.of (T' := (nI (n - 1), strF f n i, recH f hst gl, (recK gl))) (by simp [strikeT, c_1, ei]) ⟨_, k0_5, k1_5, k2_5, k3_5, k4_5, k5_5, k6_5⟩⟩) hS_4 (Nat.zero_le _) (Nat.zero_le _)
  · skip
    have bc_1 := c_1
    have c_1 := b2i_f c_1
    refine lv_iconst (v := (-1)) hx hb dX3_strike_8 (by decide) ?_
    exact hend _ _ _ _ _ _ _ rfl dX3_strike_9 (⟨_, rfl, P4.of (T' := ((-1), f, hst, gl)) (by simp [strikeT, c_1]) ⟨_, k0, k1, k2, k3, k4, k5, k6⟩⟩) hS (Nat.zero_le _) (Nat.zero_le _)

theorem hdX3_rank : Hd yX3_rank 2 := by decide +kernel
set_option maxHeartbeats 1000000 in
set_option maxRecDepth 100000 in
theorem metX3_rank (l : Launch) (E : EV) (H : Heap) (ad : Nat → Nat) (f hst sl z pd : Nat → Int32) (len told : Int32) (mm : Nat) (hm1 : f 1 = nI mm) (hm10 : mm ≤ 10) (gl : Nat) (hgl : gl ≤ 6) (j v : Int32) (hM : MPx E ad f hst sl z pd (nI gl) len told H) (hT : TW E ad) : Ct l yX3_rank cX3_rank 3 (some .int) 2 44 (0) (0) [.ref (ad 0), .int j, .int v] E H (TA ad) (pI (fun r' H1 => P4 E ad sl z pd len told (rankT f hst gl mm j v) r' H1)) := by
  obtain ⟨g, k0, k1, k2, k3, k4, k5, k6⟩ := hM
  refine Ct.ofZ (by decide) (Nat.le_of_ble_eq_true rfl) ?_
  intro p e s m bl mt cd ls Q hF hW hH hl hend
  obtain ⟨F, hin⟩ := hF
  have hx := F.1
  have hb := F.2.1
  have hts := F.2.2.2.2
  have hl : lv_has ls 3 [(0, .ref (ad 0)), (1, .int j), (2, .int v)] := hl
  have hS : va_S (TA ad) H H [] := va_S.rf
  refine lv_aload_n hx hb dX3_rank_0 rfl (lv_at hl 0 rfl) ?_
  refine lv_iload_n hx hb dX3_rank_1 rfl (lv_at hl 1 rfl) ?_
  refine run_ro (w := .int (b2i (inR j 0 (nI mm - 1)))) (rest := []) (kV F hW (metX3_isMember l E H ad (nI gl) len told k0 f k1 mm hm1 j) (lw_V q1134 q1136 qs29 q52 q1137) hdX3_isMember ⟨Nat.le_of_ble_eq_true rfl, Nat.le_of_ble_eq_true rfl⟩ (recv hW k0 rfl) hl.1 rfl (Nat.le_of_ble_eq_true rfl) dX3_rank_2 ⟨Nat.le_of_ble_eq_true rfl, Nat.le_of_ble_eq_true rfl⟩) ?_
  refine lv_if_ne (tgt := 10) hx hb dX3_rank_5 (by decide) (fun c_1 => ?_) (fun c_1 => ?_)
  · skip
    have bc_1 := c_1
    have c_1 := b2i_t c_1
    obtain ⟨i, hi, ei0⟩ := idx_of c_1 (by omega)
    subst ei0
    have ei : ix (nI i) = i := ix_nI (by omega)
    refine lv_iload_n hx hb dX3_rank_10 rfl (lv_at hl 2 rfl) ?_
    refine lv_iconst (v := 0) hx hb dX3_rank_11 (by decide) ?_
    refine lv_bipush (v := 9) hx hb dX3_rank_12 (by decide) ?_
    refine run_ro (w := .int (b2i (inR v 0 9))) (rest := []) (kS F hW (metX3_in l E H v 0 9) (lw_S q1049 q1050 q52 q1051) hdX3_in ⟨Nat.le_of_ble_eq_true rfl, Nat.le_of_ble_eq_true rfl⟩ hl.1 rfl (Nat.le_of_ble_eq_true rfl) dX3_rank_14 ⟨Nat.le_of_ble_eq_true rfl, Nat.le_of_ble_eq_true rfl⟩) ?_
    refine lv_if_eq (tgt := 33) hx hb dX3_rank_17 (by decide) (fun c_2 => ?_) (fun c_2 => ?_)
    · skip
      have bc_2 := c_2
      have c_2 := b2i_f c_2
      refine lv_bipush (v := (-2)) hx hb dX3_rank_33 (by decide) ?_
      exact hend _ _ _ _ _ _ _ rfl dX3_rank_35 (⟨_, rfl, P4.of (T' := ((-2), f, hst, gl)) (by simp [rankT, c_1, ei, c_2]) ⟨_, k0, k1, k2, k3, k4, k5, k6⟩⟩) hS (Nat.zero_le _) (Nat.zero_le _)
    · skip
      have bc_2 := c_2
      have c_2 := b2i_t c_2
      refine lv_aload_n hx hb dX3_rank_20 rfl (lv_at hl 0 rfl) ?_
      refine lv_iload_n hx hb dX3_rank_21 rfl (lv_at hl 1 rfl) ?_
      refine lv_iconst (v := 1) hx hb dX3_rank_22 (by decide) ?_
      refine run_ro (w := .int (129 + 4 * (nI i) + 1)) (rest := [.ref (ad 0)]) (kS F hW (metX3_ofGuild l E H (nI i) 1) (lw_S q1127 q1128 q52 q1129) hdX3_ofGuild ⟨Nat.le_of_ble_eq_true rfl, Nat.le_of_ble_eq_true rfl⟩ hl.1 rfl (Nat.le_of_ble_eq_true rfl) dX3_rank_23 ⟨Nat.le_of_ble_eq_true rfl, Nat.le_of_ble_eq_true rfl⟩) ?_
      refine lv_iload_n hx hb dX3_rank_26 rfl (lv_at hl 2 rfl) ?_
      refine run_chI (rest := []) (kV F hW (metX3_lays l E H ad f hst sl z pd len told gl (by omega) (129 + 4 * (nI i) + 1) (129 + 4 * i + 1) (nI_addx (nI_addx (rfl : (129 : Int32) = nI 129) (nI_mulx (rfl : (4 : Int32) = nI 4) (rfl : nI i = nI i))) (rfl : (1 : Int32) = nI 1)) (by omega) v ⟨_, k0, k1, k2, k3, k4, k5, k6⟩ hT) (lw_V q1079 q1081 qs20 q52 q1082) hdX3_lays ⟨Nat.le_of_ble_eq_true rfl, Nat.le_of_ble_eq_true rfl⟩ (recv hW k0 rfl) hl.1 rfl (Nat.le_of_ble_eq_true rfl) dX3_rank_27 ⟨Nat.le_of_ble_eq_true rfl, Nat.le_of_ble_eq_true rfl⟩) hS (fun _ h9 => h9) (fun r_3 H_3 locs hp_3 hc_3 hS_3 => ?_)
      have hW_3 := hW.kept hc_3 hT.old
      obtain ⟨hr_3, hp_3⟩ := hp_3
      obtain ⟨g_4, k0_4, k1_4, k2_4, k3_4, k4_4, k5_4, k6_4⟩ := hp_3
      have hr_3 : r_3 = f (129 + 4 * i + 1) := hr_3
      subst hr_3
      refine lv_goto (tgt := 35) hx hb dX3_rank_30 (by decide) ?_
      exact hend _ _ _ _ _ _ _ rfl dX3_rank_35 (⟨_, rfl, P4.of (T' := (f (129 + 4 * i + 1), upd f (129 + 4 * i + 1) v, recH f hst gl, (recK gl))) (by simp [rankT, c_1, ei, c_2]) ⟨_, k0_4, k1_4, k2_4, k3_4, k4_4, k5_4, k6_4⟩⟩) hS_3 (Nat.zero_le _) (Nat.zero_le _)
  · skip
    have bc_1 := c_1
    have c_1 := b2i_f c_1
    refine lv_iconst (v := (-1)) hx hb dX3_rank_8 (by decide) ?_
    exact hend _ _ _ _ _ _ _ rfl dX3_rank_9 (⟨_, rfl, P4.of (T' := ((-1), f, hst, gl)) (by simp [rankT, c_1]) ⟨_, k0, k1, k2, k3, k4, k5, k6⟩⟩) hS (Nat.zero_le _) (Nat.zero_le _)

theorem hdX3_join : Hd yX3_join 2 := by decide +kernel
set_option maxHeartbeats 1000000 in
set_option maxRecDepth 100000 in
theorem metX3_join (l : Launch) (E : EV) (H : Heap) (ad : Nat → Nat) (f hst sl z pd : Nat → Int32) (len told : Int32) (mm : Nat) (hm1 : f 1 = nI mm) (hm10 : mm ≤ 10) (gl : Nat) (hgl : gl ≤ 6) (c v : Int32) (hM : MPx E ad f hst sl z pd (nI gl) len told H) (hT : TW E ad) : Ct l yX3_join cX3_join 4 (some .int) 1 22 (0) (0) [.ref (ad 0), .int c, .int v] E H (TA ad) (pI (fun r' H1 => P4 E ad sl z pd len told (joinT f hst gl mm c v) r' H1)) := by
  obtain ⟨g, k0, k1, k2, k3, k4, k5, k6⟩ := hM
  refine Ct.ofZ (by decide) (Nat.le_of_ble_eq_true rfl) ?_
  intro p e s m bl mt cd ls Q hF hW hH hl hend
  obtain ⟨F, hin⟩ := hF
  have hx := F.1
  have hb := F.2.1
  have hts := F.2.2.2.2
  have hl : lv_has ls 4 [(0, .ref (ad 0)), (1, .int c), (2, .int v)] := hl
  have hS : va_S (TA ad) H H [] := va_S.rf
  refine lv_iload_n hx hb dX3_join_0 rfl (lv_at hl 1 rfl) ?_
  refine lv_iconst (v := 0) hx hb dX3_join_1 (by decide) ?_
  refine lv_iconst (v := 4) hx hb dX3_join_2 (by decide) ?_
  refine run_ro (w := .int (b2i (inR c 0 4))) (rest := []) (kS F hW (metX3_in l E H c 0 4) (lw_S q1049 q1050 q52 q1051) hdX3_in ⟨Nat.le_of_ble_eq_true rfl, Nat.le_of_ble_eq_true rfl⟩ hl.1 rfl (Nat.le_of_ble_eq_true rfl) dX3_join_3 ⟨Nat.le_of_ble_eq_true rfl, Nat.le_of_ble_eq_true rfl⟩) ?_
  refine lv_if_ne (tgt := 11) hx hb dX3_join_6 (by decide) (fun c_1 => ?_) (fun c_1 => ?_)
  · skip
    have bc_1 := c_1
    have c_1 := b2i_t c_1
    refine lv_iload_n hx hb dX3_join_11 rfl (lv_at hl 2 rfl) ?_
    refine lv_iconst (v := 0) hx hb dX3_join_12 (by decide) ?_
    refine lv_bipush (v := 9) hx hb dX3_join_13 (by decide) ?_
    refine run_ro (w := .int (b2i (inR v 0 9))) (rest := []) (kS F hW (metX3_in l E H v 0 9) (lw_S q1049 q1050 q52 q1051) hdX3_in ⟨Nat.le_of_ble_eq_true rfl, Nat.le_of_ble_eq_true rfl⟩ hl.1 rfl (Nat.le_of_ble_eq_true rfl) dX3_join_15 ⟨Nat.le_of_ble_eq_true rfl, Nat.le_of_ble_eq_true rfl⟩) ?_
    refine lv_if_ne (tgt := 24) hx hb dX3_join_18 (by decide) (fun c_2 => ?_) (fun c_2 => ?_)
    · skip
      have bc_2 := c_2
      have c_2 := b2i_t c_2
      refine lv_aload_n hx hb dX3_join_24 rfl (lv_at hl 0 rfl) ?_
      refine xget (ref := "LayeredChartersModel") (ci := 3) (v := .ref (ad 1)) (C := RX3) (T := TX3) (N := 9) F in_X3 hW k0 rfl 0 (by decide) q1016 (fun _ h9 => h9) rfl dX3_join_25 ?_
      refine lv_iconst (v := 1) hx hb dX3_join_28 (by decide) ?_
      refine xild F hW k1 (vp_in_nI (n := 1) (by omega) (by omega)) dX3_join_29 ?_
      refine lv_val (y := nI mm) (hm1) ?_
      refine lv_bipush (v := 10) hx hb dX3_join_30 (by decide) ?_
      refine lv_icmp_ne (tgt := 38) hx hb dX3_join_32 (by decide) (fun c_3 => ?_) (fun c_3 => ?_)
      · skip
        have hn_9 : ¬ mm = 10 := fun h9 => c_3 (by rw [h9]; rfl)
        refine lv_aload_n hx hb dX3_join_38 rfl (lv_at hl 0 rfl) ?_
        refine run_chN (rest := []) (kV F hW (metX3_record l E H ad f hst sl z pd len told gl (by omega) ⟨_, k0, k1, k2, k3, k4, k5, k6⟩ hT) (lw_V q1052 q1054 qs16 q52 q1055) hdX3_record ⟨Nat.le_of_ble_eq_true rfl, Nat.le_of_ble_eq_true rfl⟩ (recv hW k0 rfl) hl.1 rfl (Nat.le_of_ble_eq_true rfl) dX3_join_39 ⟨Nat.le_of_ble_eq_true rfl, Nat.le_of_ble_eq_true rfl⟩) hS (fun _ h9 => h9) (fun H_4 locs hp_4 hc_4 hS_4 => ?_)
        have hW_4 := hW.kept hc_4 hT.old
        obtain ⟨g_5, k0_5, k1_5, k2_5, k3_5, k4_5, k5_5, k6_5⟩ := hp_4
        refine lv_aload_n hx hb dX3_join_42 rfl (lv_at hl 0 rfl) ?_
        refine xget (ref := "LayeredChartersModel") (ci := 3) (v := .ref (ad 1)) (C := RX3) (T := TX3) (N := 9) F in_X3 hW_4 k0_5 rfl 0 (by decide) q1016 (fun _ h9 => h9) rfl dX3_join_43 ?_
        refine lv_iconst (v := 1) hx hb dX3_join_46 (by decide) ?_
        refine xild F hW_4 k1_5 (vp_in_nI (n := 1) (by omega) (by omega)) dX3_join_47 ?_
        refine lv_val (y := nI mm) (hm1) ?_
        refine lv_istore_n (lv' := [(3, .int (nI mm)), (0, .ref (ad 0)), (1, .int c), (2, .int v)]) hx hb dX3_join_48 rfl hl (by decide) rfl (fun ls hl => ?_)
        refine lv_aload_n hx hb dX3_join_49 rfl (lv_at hl 1 rfl) ?_
        refine xget (ref := "LayeredChartersModel") (ci := 3) (v := .ref (ad 1)) (C := RX3) (T := TX3) (N := 9) F in_X3 hW_4 k0_5 rfl 0 (by decide) q1016 (fun _ h9 => h9) rfl dX3_join_50 ?_
        refine lv_iconst (v := 1) hx hb dX3_join_53 (by decide) ?_
        refine lv_dup2_11 hx hb dX3_join_54 rfl rfl ?_
        refine xild F hW_4 k1_5 (vp_in_nI (n := 1) (by omega) (by omega)) dX3_join_55 ?_
        refine lv_val (y := nI mm) (hm1) ?_
        refine lv_iconst (v := 1) hx hb dX3_join_56 (by decide) ?_
        refine lv_iadd hx hb dX3_join_57 ?_
        refine lv_val (y := nI (mm + 1)) ((nI_add (mm) (1))) ?_
        refine xist F hW_4 k1_5 hS_4 ⟨1, by decide, rfl⟩ (vp_in_nI (n := 1) (by omega) (by omega)) dX3_join_58 (fun H_6 locs ho_6 hu_6 hS_6 => ?_)
        have ho_6 : iat E (ad 1) 0 169 (upd f 1 (nI (mm + 1))) H_6 := ho_6
        have hW_H_6 := hW_4.kept hu_6.chg (fun q _ hq => hq ▸ (hT.2 1 (by decide)))
        have k0_H_6 := k0_5.kept hu_6.chg (fun h9 => absurd (hT.1 0 1 (by decide) (by decide) h9) (by decide))
        have k2_H_6 := k2_5.kept hu_6.chg (fun h9 => absurd (hT.1 2 1 (by decide) (by decide) h9) (by decide))
        have k3_H_6 := k3_5.kept hu_6.chg (fun h9 => absurd (hT.1 3 1 (by decide) (by decide) h9) (by decide))
        have k4_H_6 := k4_5.kept hu_6.chg (fun h9 => absurd (hT.1 4 1 (by decide) (by decide) h9) (by decide))
        have k5_H_6 := k5_5.kept hu_6.chg (fun h9 => absurd (hT.1 5 1 (by decide) (by decide) h9) (by decide))
        have k6_H_6 := k6_5.kept hu_6.chg (fun h9 => absurd (hT.1 6 1 (by decide) (by decide) h9) (by decide))
        refine lv_aload_n hx hb dX3_join_59 rfl (lv_at hl 1 rfl) ?_
        refine xget (ref := "LayeredChartersModel") (ci := 3) (v := .ref (ad 1)) (C := RX3) (T := TX3) (N := 9) F in_X3 hW_H_6 k0_H_6 rfl 0 (by decide) q1016 (fun _ h9 => h9) rfl dX3_join_60 ?_
        refine lv_iload_n hx hb dX3_join_63 rfl (lv_at hl 0 rfl) ?_
        refine lv_iconst (v := 0) hx hb dX3_join_64 (by decide) ?_
        refine run_ro (w := .int (129 + 4 * (nI mm) + 0)) (rest := [.ref (ad 1)]) (kS F hW_H_6 (metX3_ofGuild l E H_6 (nI mm) 0) (lw_S q1127 q1128 q52 q1129) hdX3_ofGuild ⟨Nat.le_of_ble_eq_true rfl, Nat.le_of_ble_eq_true rfl⟩ hl.1 rfl (Nat.le_of_ble_eq_true rfl) dX3_join_65 ⟨Nat.le_of_ble_eq_true rfl, Nat.le_of_ble_eq_true rfl⟩) ?_
        refine lv_iload_n hx hb dX3_join_68 rfl (lv_at hl 2 rfl) ?_
        refine xist F hW_H_6 ho_6 hS_6 ⟨1, by decide, rfl⟩ (vin_eq (n := 129 + 4 * mm) (nI_add0x (nI_addx (rfl : (129 : Int32) = nI 129) (nI_mulx (rfl : (4 : Int32) = nI 4) (rfl : nI mm = nI mm)))) (by omega) (by omega)) dX3_join_69 (fun H_7 locs ho_7 hu_7 hS_7 => ?_)
        have ho_7 : iat E (ad 1) 0 169 (upd (upd f 1 (nI (mm + 1))) (129 + 4 * mm) c) H_7 := by have h9 := ho_7; rw [(cl_eq (n := 129 + 4 * mm) (nI_add0x (nI_addx (rfl : (129 : Int32) = nI 129) (nI_mulx (rfl : (4 : Int32) = nI 4) (rfl : nI mm = nI mm)))) (by omega))] at h9; exact h9
        have hW_H_7 := hW_H_6.kept hu_7.chg (fun q _ hq => hq ▸ (hT.2 1 (by decide)))
        have k0_H_7 := k0_H_6.kept hu_7.chg (fun h9 => absurd (hT.1 0 1 (by decide) (by decide) h9) (by decide))
        have k2_H_7 := k2_H_6.kept hu_7.chg (fun h9 => absurd (hT.1 2 1 (by decide) (by decide) h9) (by decide))
        have k3_H_7 := k3_H_6.kept hu_7.chg (fun h9 => absurd (hT.1 3 1 (by decide) (by decide) h9) (by decide))
        have k4_H_7 := k4_H_6.kept hu_7.chg (fun h9 => absurd (hT.1 4 1 (by decide) (by decide) h9) (by decide))
        have k5_H_7 := k5_H_6.kept hu_7.chg (fun h9 => absurd (hT.1 5 1 (by decide) (by decide) h9) (by decide))
        have k6_H_7 := k6_H_6.kept hu_7.chg (fun h9 => absurd (hT.1 6 1 (by decide) (by decide) h9) (by decide))
        refine lv_aload_n hx hb dX3_join_70 rfl (lv_at hl 1 rfl) ?_
        refine xget (ref := "LayeredChartersModel") (ci := 3) (v := .ref (ad 1)) (C := RX3) (T := TX3) (N := 9) F in_X3 hW_H_7 k0_H_7 rfl 0 (by decide) q1016 (fun _ h9 => h9) rfl dX3_join_71 ?_
        refine lv_iload_n hx hb dX3_join_74 rfl (lv_at hl 0 rfl) ?_
        refine lv_iconst (v := 1) hx hb dX3_join_75 (by decide) ?_
        refine run_ro (w := .int (129 + 4 * (nI mm) + 1)) (rest := [.ref (ad 1)]) (kS F hW_H_7 (metX3_ofGuild l E H_7 (nI mm) 1) (lw_S q1127 q1128 q52 q1129) hdX3_ofGuild ⟨Nat.le_of_ble_eq_true rfl, Nat.le_of_ble_eq_true rfl⟩ hl.1 rfl (Nat.le_of_ble_eq_true rfl) dX3_join_76 ⟨Nat.le_of_ble_eq_true rfl, Nat.le_of_ble_eq_true rfl⟩) ?_
        refine lv_iload_n hx hb dX3_join_79 rfl (lv_at hl 3 rfl) ?_
        refine xist F hW_H_7 ho_7 hS_7 ⟨1, by decide, rfl⟩ (vin_eq (n := 129 + 4 * mm + 1) (nI_addx (nI_addx (rfl : (129 : Int32) = nI 129) (nI_mulx (rfl : (4 : Int32) = nI 4) (rfl : nI mm = nI mm))) (rfl : (1 : Int32) = nI 1)) (by omega) (by omega)) dX3_join_80 (fun H_8 locs ho_8 hu_8 hS_8 => ?_)
        have ho_8 : iat E (ad 1) 0 169 (upd (upd (upd f 1 (nI (mm + 1))) (129 + 4 * mm) c) (129 + 4 * mm + 1) v) H_8 := by have h9 := ho_8; rw [(cl_eq (n := 129 + 4 * mm + 1) (nI_addx (nI_addx (rfl : (129 : Int32) = nI 129) (nI_mulx (rfl : (4 : Int32) = nI 4) (rfl : nI mm = nI mm))) (rfl : (1 : Int32) = nI 1)) (by omega))] at h9; exact h9
        have hW_H_8 := hW_H_7.kept hu_8.chg (fun q _ hq => hq ▸ (hT.2 1 (by decide)))
        have k0_H_8 := k0_H_7.kept hu_8.chg (fun h9 => absurd (hT.1 0 1 (by decide) (by decide) h9) (by decide))
        have k2_H_8 := k2_H_7.kept hu_8.chg (fun h9 => absurd (hT.1 2 1 (by decide) (by decide) h9) (by decide))
        have k3_H_8 := k3_H_7.kept hu_8.chg (fun h9 => absurd (hT.1 3 1 (by decide) (by decide) h9) (by decide))
        have k4_H_8 := k4_H_7.kept hu_8.chg (fun h9 => absurd (hT.1 4 1 (by decide) (by decide) h9) (by decide))
        have k5_H_8 := k5_H_7.kept hu_8.chg (fun h9 => absurd (hT.1 5 1 (by decide) (by decide) h9) (by decide))
        have k6_H_8 := k6_H_7.kept hu_8.chg (fun h9 => absurd (hT.1 6 1 (by decide) (by decide) h9) (by decide))
        refine lv_aload_n hx hb dX3_join_81 rfl (lv_at hl 1 rfl) ?_
        refine xget (ref := "LayeredChartersModel") (ci := 3) (v := .ref (ad 1)) (C := RX3) (T := TX3) (N := 9) F in_X3 hW_H_8 k0_H_8 rfl 0 (by decide) q1016 (fun _ h9 => h9) rfl dX3_join_82 ?_
        refine lv_iload_n hx hb dX3_join_85 rfl (lv_at hl 0 rfl) ?_
        refine lv_iconst (v := 2) hx hb dX3_join_86 (by decide) ?_
        refine run_ro (w := .int (129 + 4 * (nI mm) + 2)) (rest := [.ref (ad 1)]) (kS F hW_H_8 (metX3_ofGuild l E H_8 (nI mm) 2) (lw_S q1127 q1128 q52 q1129) hdX3_ofGuild ⟨Nat.le_of_ble_eq_true rfl, Nat.le_of_ble_eq_true rfl⟩ hl.1 rfl (Nat.le_of_ble_eq_true rfl) dX3_join_87 ⟨Nat.le_of_ble_eq_true rfl, Nat.le_of_ble_eq_true rfl⟩) ?_
        refine lv_iconst (v := 0) hx hb dX3_join_90 (by decide) ?_
        refine xist F hW_H_8 ho_8 hS_8 ⟨1, by decide, rfl⟩ (vin_eq (n := 129 + 4 * mm + 2) (nI_addx (nI_addx (rfl : (129 : Int32) = nI 129) (nI_mulx (rfl : (4 : Int32) = nI 4) (rfl : nI mm = nI mm))) (rfl : (2 : Int32) = nI 2)) (by omega) (by omega)) dX3_join_91 (fun H_9 locs ho_9 hu_9 hS_9 => ?_)
        have ho_9 : iat E (ad 1) 0 169 (upd (upd (upd (upd f 1 (nI (mm + 1))) (129 + 4 * mm) c) (129 + 4 * mm + 1) v) (129 + 4 * mm + 2) 0) H_9 := by have h9 := ho_9; rw [(cl_eq (n := 129 + 4 * mm + 2) (nI_addx (nI_addx (rfl : (129 : Int32) = nI 129) (nI_mulx (rfl : (4 : Int32) = nI 4) (rfl : nI mm = nI mm))) (rfl : (2 : Int32) = nI 2)) (by omega))] at h9; exact h9
        have hW_H_9 := hW_H_8.kept hu_9.chg (fun q _ hq => hq ▸ (hT.2 1 (by decide)))
        have k0_H_9 := k0_H_8.kept hu_9.chg (fun h9 => absurd (hT.1 0 1 (by decide) (by decide) h9) (by decide))
        have k2_H_9 := k2_H_8.kept hu_9.chg (fun h9 => absurd (hT.1 2 1 (by decide) (by decide) h9) (by decide))
        have k3_H_9 := k3_H_8.kept hu_9.chg (fun h9 => absurd (hT.1 3 1 (by decide) (by decide) h9) (by decide))
        have k4_H_9 := k4_H_8.kept hu_9.chg (fun h9 => absurd (hT.1 4 1 (by decide) (by decide) h9) (by decide))
        have k5_H_9 := k5_H_8.kept hu_9.chg (fun h9 => absurd (hT.1 5 1 (by decide) (by decide) h9) (by decide))
        have k6_H_9 := k6_H_8.kept hu_9.chg (fun h9 => absurd (hT.1 6 1 (by decide) (by decide) h9) (by decide))
        refine lv_aload_n hx hb dX3_join_92 rfl (lv_at hl 1 rfl) ?_
        refine xget (ref := "LayeredChartersModel") (ci := 3) (v := .ref (ad 1)) (C := RX3) (T := TX3) (N := 9) F in_X3 hW_H_9 k0_H_9 rfl 0 (by decide) q1016 (fun _ h9 => h9) rfl dX3_join_93 ?_
        refine lv_iload_n hx hb dX3_join_96 rfl (lv_at hl 0 rfl) ?_
        refine lv_iconst (v := 3) hx hb dX3_join_97 (by decide) ?_
        refine run_ro (w := .int (129 + 4 * (nI mm) + 3)) (rest := [.ref (ad 1)]) (kS F hW_H_9 (metX3_ofGuild l E H_9 (nI mm) 3) (lw_S q1127 q1128 q52 q1129) hdX3_ofGuild ⟨Nat.le_of_ble_eq_true rfl, Nat.le_of_ble_eq_true rfl⟩ hl.1 rfl (Nat.le_of_ble_eq_true rfl) dX3_join_98 ⟨Nat.le_of_ble_eq_true rfl, Nat.le_of_ble_eq_true rfl⟩) ?_
        refine lv_iconst (v := 0) hx hb dX3_join_101 (by decide) ?_
        refine xist F hW_H_9 ho_9 hS_9 ⟨1, by decide, rfl⟩ (vin_eq (n := 129 + 4 * mm + 3) (nI_addx (nI_addx (rfl : (129 : Int32) = nI 129) (nI_mulx (rfl : (4 : Int32) = nI 4) (rfl : nI mm = nI mm))) (rfl : (3 : Int32) = nI 3)) (by omega) (by omega)) dX3_join_102 (fun H_10 locs ho_10 hu_10 hS_10 => ?_)
        have ho_10 : iat E (ad 1) 0 169 (upd (upd (upd (upd (upd f 1 (nI (mm + 1))) (129 + 4 * mm) c) (129 + 4 * mm + 1) v) (129 + 4 * mm + 2) 0) (129 + 4 * mm + 3) 0) H_10 := by have h9 := ho_10; rw [(cl_eq (n := 129 + 4 * mm + 3) (nI_addx (nI_addx (rfl : (129 : Int32) = nI 129) (nI_mulx (rfl : (4 : Int32) = nI 4) (rfl : nI mm = nI mm))) (rfl : (3 : Int32) = nI 3)) (by omega))] at h9; exact h9
        have hW_H_10 := hW_H_9.kept hu_10.chg (fun q _ hq => hq ▸ (hT.2 1 (by decide)))
        have k0_H_10 := k0_H_9.kept hu_10.chg (fun h9 => absurd (hT.1 0 1 (by decide) (by decide) h9) (by decide))
        have k2_H_10 := k2_H_9.kept hu_10.chg (fun h9 => absurd (hT.1 2 1 (by decide) (by decide) h9) (by decide))
        have k3_H_10 := k3_H_9.kept hu_10.chg (fun h9 => absurd (hT.1 3 1 (by decide) (by decide) h9) (by decide))
        have k4_H_10 := k4_H_9.kept hu_10.chg (fun h9 => absurd (hT.1 4 1 (by decide) (by decide) h9) (by decide))
        have k5_H_10 := k5_H_9.kept hu_10.chg (fun h9 => absurd (hT.1 5 1 (by decide) (by decide) h9) (by decide))
        have k6_H_10 := k6_H_9.kept hu_10.chg (fun h9 => absurd (hT.1 6 1 (by decide) (by decide) h9) (by decide))
        refine lv_iload_n hx hb dX3_join_103 rfl (lv_at hl 0 rfl) ?_
        exact hend _ _ _ _ _ _ _ rfl dX3_join_104 (⟨_, rfl, P4.of (T' := (nI mm, upd (upd (upd (upd (upd f 1 (nI (mm + 1))) (129 + 4 * mm) c) (129 + 4 * mm + 1) v) (129 + 4 * mm + 2) 0) (129 + 4 * mm + 3) 0, recH f hst gl, (recK gl))) (by simp [joinT, joinF, c_1, c_2, c_3, hn_9]) ⟨_, k0_H_10, ho_10, k2_H_10, k3_H_10, k4_H_10, k5_H_10, k6_H_10⟩⟩) hS_10 (Nat.zero_le _) (Nat.zero_le _)
      · skip
        have hn_9 : mm = 10 := (nI_eq (a := mm) (b := 10) (by omega) (by decide)).mp c_3
        refine lv_bipush (v := (-4)) hx hb dX3_join_35 (by decide) ?_
        exact hend _ _ _ _ _ _ _ rfl dX3_join_37 (⟨_, rfl, P4.of (T' := ((-4), f, hst, gl)) (by simp [joinT, joinF, c_1, c_2, c_3, hn_9]) ⟨_, k0, k1, k2, k3, k4, k5, k6⟩⟩) hS (Nat.zero_le _) (Nat.zero_le _)
    · skip
      have bc_2 := c_2
      have c_2 := b2i_f c_2
      refine lv_bipush (v := (-2)) hx hb dX3_join_21 (by decide) ?_
      exact hend _ _ _ _ _ _ _ rfl dX3_join_23 (⟨_, rfl, P4.of (T' := ((-2), f, hst, gl)) (by simp [joinT, joinF, c_1, c_2]) ⟨_, k0, k1, k2, k3, k4, k5, k6⟩⟩) hS (Nat.zero_le _) (Nat.zero_le _)
  · skip
    have bc_1 := c_1
    have c_1 := b2i_f c_1
    refine lv_iconst (v := (-1)) hx hb dX3_join_9 (by decide) ?_
    exact hend _ _ _ _ _ _ _ rfl dX3_join_10 (⟨_, rfl, P4.of (T' := ((-1), f, hst, gl)) (by simp [joinT, joinF, c_1]) ⟨_, k0, k1, k2, k3, k4, k5, k6⟩⟩) hS (Nat.zero_le _) (Nat.zero_le _)

theorem hdX3_leave : Hd yX3_leave 1 := by decide +kernel
set_option maxHeartbeats 1000000 in
set_option maxRecDepth 100000 in
theorem metX3_leave (l : Launch) (E : EV) (H : Heap) (ad : Nat → Nat) (f hst sl z pd : Nat → Int32) (len told : Int32) (mm : Nat) (hm1 : f 1 = nI mm) (hm10 : mm ≤ 10) (gl : Nat) (hgl : gl ≤ 6) (j : Int32) (hM : MPx E ad f hst sl z pd (nI gl) len told H) (hT : TW E ad) : Ct l yX3_leave cX3_leave 4 (some .int) 2 43 (0) (0) [.ref (ad 0), .int j] E H (TA ad) (pI (fun r' H1 => P4 E ad sl z pd len told (leaveT f hst gl mm j) r' H1)) := by
  obtain ⟨g, k0, k1, k2, k3, k4, k5, k6⟩ := hM
  refine Ct.ofZ (by decide) (Nat.le_of_ble_eq_true rfl) ?_
  intro p e s m bl mt cd ls Q hF hW hH hl hend
  obtain ⟨F, hin⟩ := hF
  have hx := F.1
  have hb := F.2.1
  have hts := F.2.2.2.2
  have hl : lv_has ls 4 [(0, .ref (ad 0)), (1, .int j)] := hl
  have hS : va_S (TA ad) H H [] := va_S.rf
  refine lv_aload_n hx hb dX3_leave_0 rfl (lv_at hl 0 rfl) ?_
  refine lv_iload_n hx hb dX3_leave_1 rfl (lv_at hl 1 rfl) ?_
  refine run_ro (w := .int (b2i (inR j 0 (nI mm - 1)))) (rest := []) (kV F hW (metX3_isMember l E H ad (nI gl) len told k0 f k1 mm hm1 j) (lw_V q1134 q1136 qs29 q52 q1137) hdX3_isMember ⟨Nat.le_of_ble_eq_true rfl, Nat.le_of_ble_eq_true rfl⟩ (recv hW k0 rfl) hl.1 rfl (Nat.le_of_ble_eq_true rfl) dX3_leave_2 ⟨Nat.le_of_ble_eq_true rfl, Nat.le_of_ble_eq_true rfl⟩) ?_
  refine lv_if_ne (tgt := 10) hx hb dX3_leave_5 (by decide) (fun c_1 => ?_) (fun c_1 => ?_)
  · skip
    have bc_1 := c_1
    have c_1 := b2i_t c_1
    have hc9 := c_1
    obtain ⟨i, hi, ei0⟩ := idx_of c_1 (by omega)
    subst ei0
    have ei : ix (nI i) = i := ix_nI (by omega)
    have hc9 : inR (nI i) 0 (nI mm - 1) = true := hc9
    refine lv_aload_n hx hb dX3_leave_10 rfl (lv_at hl 0 rfl) ?_
    refine run_chN (rest := []) (kV F hW (metX3_record l E H ad f hst sl z pd len told gl (by omega) ⟨_, k0, k1, k2, k3, k4, k5, k6⟩ hT) (lw_V q1052 q1054 qs16 q52 q1055) hdX3_record ⟨Nat.le_of_ble_eq_true rfl, Nat.le_of_ble_eq_true rfl⟩ (recv hW k0 rfl) hl.1 rfl (Nat.le_of_ble_eq_true rfl) dX3_leave_11 ⟨Nat.le_of_ble_eq_true rfl, Nat.le_of_ble_eq_true rfl⟩) hS (fun _ h9 => h9) (fun H_2 locs hp_2 hc_2 hS_2 => ?_)
    have hW_2 := hW.kept hc_2 hT.old
    obtain ⟨g_3, k0_3, k1_3, k2_3, k3_3, k4_3, k5_3, k6_3⟩ := hp_2
    refine lv_aload_n hx hb dX3_leave_14 rfl (lv_at hl 0 rfl) ?_
    refine xget (ref := "LayeredChartersModel") (ci := 3) (v := .ref (ad 1)) (C := RX3) (T := TX3) (N := 9) F in_X3 hW_2 k0_3 rfl 0 (by decide) q1016 (fun _ h9 => h9) rfl dX3_leave_15 ?_
    refine lv_iload_n hx hb dX3_leave_18 rfl (lv_at hl 1 rfl) ?_
    refine lv_iconst (v := 2) hx hb dX3_leave_19 (by decide) ?_
    refine run_ro (w := .int (129 + 4 * (nI i) + 2)) (rest := [.ref (ad 1)]) (kS F hW_2 (metX3_ofGuild l E H_2 (nI i) 2) (lw_S q1127 q1128 q52 q1129) hdX3_ofGuild ⟨Nat.le_of_ble_eq_true rfl, Nat.le_of_ble_eq_true rfl⟩ hl.1 rfl (Nat.le_of_ble_eq_true rfl) dX3_leave_20 ⟨Nat.le_of_ble_eq_true rfl, Nat.le_of_ble_eq_true rfl⟩) ?_
    refine xild F hW_2 k1_3 (vin_eq (n := 129 + 4 * i + 2) (nI_addx (nI_addx (rfl : (129 : Int32) = nI 129) (nI_mulx (rfl : (4 : Int32) = nI 4) (rfl : nI i = nI i))) (rfl : (2 : Int32) = nI 2)) (by omega) (by omega)) dX3_leave_23 ?_
    refine lv_val (y := f (129 + 4 * i + 2)) (congrArg (f) (cl_eq (n := 129 + 4 * i + 2) (nI_addx (nI_addx (rfl : (129 : Int32) = nI 129) (nI_mulx (rfl : (4 : Int32) = nI 4) (rfl : nI i = nI i))) (rfl : (2 : Int32) = nI 2)) (by omega))) ?_
    refine lv_istore_n (lv' := [(2, .int (f (129 + 4 * i + 2))), (0, .ref (ad 0)), (1, .int (nI i))]) hx hb dX3_leave_24 rfl hl (by decide) rfl (fun ls hl => ?_)
    refine lv_aload_n hx hb dX3_leave_25 rfl (lv_at hl 1 rfl) ?_
    refine xget (ref := "LayeredChartersModel") (ci := 3) (v := .ref (ad 1)) (C := RX3) (T := TX3) (N := 9) F in_X3 hW_2 k0_3 rfl 0 (by decide) q1016 (fun _ h9 => h9) rfl dX3_leave_26 ?_
    refine lv_iconst (v := 1) hx hb dX3_leave_29 (by decide) ?_
    refine lv_dup2_11 hx hb dX3_leave_30 rfl rfl ?_
    refine xild F hW_2 k1_3 (vp_in_nI (n := 1) (by omega) (by omega)) dX3_leave_31 ?_
    refine lv_val (y := nI mm) (hm1) ?_
    refine lv_iconst (v := 1) hx hb dX3_leave_32 (by decide) ?_
    refine lv_isub hx hb dX3_leave_33 ?_
    refine lv_val (y := nI (mm - 1)) (pk_sub (a := mm) (b := 1) (by omega)) ?_
    refine xist F hW_2 k1_3 hS_2 ⟨1, by decide, rfl⟩ (vp_in_nI (n := 1) (by omega) (by omega)) dX3_leave_34 (fun H_4 locs ho_4 hu_4 hS_4 => ?_)
    have ho_4 : iat E (ad 1) 0 169 (upd f 1 (nI (mm - 1))) H_4 := ho_4
    have hW_H_4 := hW_2.kept hu_4.chg (fun q _ hq => hq ▸ (hT.2 1 (by decide)))
    have k0_H_4 := k0_3.kept hu_4.chg (fun h9 => absurd (hT.1 0 1 (by decide) (by decide) h9) (by decide))
    have k2_H_4 := k2_3.kept hu_4.chg (fun h9 => absurd (hT.1 2 1 (by decide) (by decide) h9) (by decide))
    have k3_H_4 := k3_3.kept hu_4.chg (fun h9 => absurd (hT.1 3 1 (by decide) (by decide) h9) (by decide))
    have k4_H_4 := k4_3.kept hu_4.chg (fun h9 => absurd (hT.1 4 1 (by decide) (by decide) h9) (by decide))
    have k5_H_4 := k5_3.kept hu_4.chg (fun h9 => absurd (hT.1 5 1 (by decide) (by decide) h9) (by decide))
    have k6_H_4 := k6_3.kept hu_4.chg (fun h9 => absurd (hT.1 6 1 (by decide) (by decide) h9) (by decide))
    refine lv_iload_n hx hb dX3_leave_35 rfl (lv_at hl 2 rfl) ?_
    refine lv_iconst (v := 0) hx hb dX3_leave_36 (by decide) ?_
    refine run_ro (w := .int (129 + 4 * (nI i) + 0)) (rest := []) (kS F hW_H_4 (metX3_ofGuild l E H_4 (nI i) 0) (lw_S q1127 q1128 q52 q1129) hdX3_ofGuild ⟨Nat.le_of_ble_eq_true rfl, Nat.le_of_ble_eq_true rfl⟩ hl.1 rfl (Nat.le_of_ble_eq_true rfl) dX3_leave_37 ⟨Nat.le_of_ble_eq_true rfl, Nat.le_of_ble_eq_true rfl⟩) ?_
    refine lv_val (y := nI (129 + 4 * i)) (mb0 _) ?_
    refine lv_istore_n (lv' := [(3, .int (nI (129 + 4 * i))), (2, .int (f (129 + 4 * i + 2))), (0, .ref (ad 0)), (1, .int (nI i))]) hx hb dX3_leave_40 rfl hl (by decide) rfl (fun ls hl => ?_)
    have loop41 : ∀ (nn i1 : Nat) (x3 : Int32), i1 + nn = (129 + 4 * (mm - 1)) → x3 = nI i1 → (129 + 4 * i ≤ i1) → ∀ (Hl_41 : Heap) (locs : List Loc), va_S (TA ad) H Hl_41 locs → WK E s Hl_41 → MPx E ad (stA 4 (upd f 1 (nI (mm - 1))) (129 + 4 * i) i1) (recH f hst gl) sl z pd (nI (recK gl)) len told Hl_41 → ∀ ls : Array Slot, lv_has ls 4 [(3, .int x3), (0, .ref (ad 0)), (2, .int (f (129 + 4 * i + 2)))] → W p l e ({ frames := 2, cells := 0, slots := 0, locals := 43 } : Room) s m ([.ref (ad 0), .int (nI i)] : List Value).toArray bl mt cd Hl_41 locs 0 0 Q (F0 m 41 ls []) := by
      intro nn
      induction nn with
      | zero =>
        intro i1 x3 hn  e3 hi1 Hl_41 locs hS_41 hW_41 hl_41 ls hl
        have hiN : i1 = (129 + 4 * (mm - 1)) := by omega
        rw [hiN] at e3
        try rw [hiN] at hl_41
        try rw [hiN] at hi1
        rw [e3] at hl
        clear e3
        obtain ⟨g_5, k0_5, k1_5, k2_5, k3_5, k4_5, k5_5, k6_5⟩ := hl_41
        refine lv_iload_n hx hb dX3_leave_41 rfl (lv_at hl 0 rfl) ?_
        refine lv_aload_n hx hb dX3_leave_42 rfl (lv_at hl 1 rfl) ?_
        refine xget (ref := "LayeredChartersModel") (ci := 3) (v := .ref (ad 1)) (C := RX3) (T := TX3) (N := 9) F in_X3 hW_41 k0_5 rfl 0 (by decide) q1016 (fun _ h9 => h9) rfl dX3_leave_43 ?_
        refine lv_iconst (v := 1) hx hb dX3_leave_46 (by decide) ?_
        refine xild F hW_41 k1_5 (vp_in_nI (n := 1) (by omega) (by omega)) dX3_leave_47 ?_
        refine lv_val (y := nI (mm - 1)) ((by show (if 129 + 4 * i ≤ 1 ∧ _ then _ else _) = _; rw [if_neg (by omega)]; rfl)) ?_
        refine lv_iconst (v := 0) hx hb dX3_leave_48 (by decide) ?_
        refine run_ro (w := .int (129 + 4 * (nI (mm - 1)) + 0)) (rest := [.int (nI (129 + 4 * (mm - 1)))]) (kS F hW_41 (metX3_ofGuild l E Hl_41 (nI (mm - 1)) 0) (lw_S q1127 q1128 q52 q1129) hdX3_ofGuild ⟨Nat.le_of_ble_eq_true rfl, Nat.le_of_ble_eq_true rfl⟩ hl.1 rfl (Nat.le_of_ble_eq_true rfl) dX3_leave_49 ⟨Nat.le_of_ble_eq_true rfl, Nat.le_of_ble_eq_true rfl⟩) ?_
        refine lv_val (y := nI (129 + 4 * (mm - 1))) (mb0 _) ?_
        refine lv_icmp_ge (tgt := 75) hx hb dX3_leave_52 (by decide) (fun _ => ?_) (fun c9 => absurd (nI_le (by omega) (by omega)) c9)
        refine lv_iconst (v := 0) hx hb dX3_leave_75 (by decide) ?_
        refine lv_istore_n (lv' := [(3, .int 0), (0, .ref (ad 0)), (2, .int (f (129 + 4 * i + 2)))]) hx hb dX3_leave_76 rfl hl (by decide) rfl (fun ls hl => ?_)
        have loop77 : ∀ (nn i1 : Nat) (x3 : Int32), i1 + nn = 4 → x3 = nI i1 → ∀ (Hl_77 : Heap) (locs : List Loc), va_S (TA ad) H Hl_77 locs → WK E s Hl_77 → MPx E ad (zrA (stA 4 (upd f 1 (nI (mm - 1))) (129 + 4 * i) (129 + 4 * (mm - 1))) (129 + 4 * (mm - 1)) i1) (recH f hst gl) sl z pd (nI (recK gl)) len told Hl_77 → ∀ ls : Array Slot, lv_has ls 4 [(3, .int x3), (0, .ref (ad 0)), (2, .int (f (129 + 4 * i + 2)))] → W p l e ({ frames := 2, cells := 0, slots := 0, locals := 43 } : Room) s m ([.ref (ad 0), .int (nI i)] : List Value).toArray bl mt cd Hl_77 locs 0 0 Q (F0 m 77 ls []) := by
          intro nn
          induction nn with
          | zero =>
            intro i1 x3 hn  e3 Hl_77 locs hS_77 hW_77 hl_77 ls hl
            have hiN : i1 = 4 := by omega
            rw [hiN] at e3
            try rw [hiN] at hl_77
            rw [e3] at hl
            clear e3
            obtain ⟨g_6, k0_6, k1_6, k2_6, k3_6, k4_6, k5_6, k6_6⟩ := hl_77
            refine lv_iload_n hx hb dX3_leave_77 rfl (lv_at hl 0 rfl) ?_
            refine lv_iconst (v := 4) hx hb dX3_leave_78 (by decide) ?_
            refine lv_icmp_ge (tgt := 104) hx hb dX3_leave_79 (by decide) (fun _ => ?_) (fun c9 => absurd (nI_le (a := 4) (b := 4) (by decide) (by decide)) c9)
            refine lv_iload_n hx hb dX3_leave_104 rfl (lv_at hl 2 rfl) ?_
            exact hend _ _ _ _ _ _ _ rfl dX3_leave_105 (⟨_, rfl, P4.of (T' := (f (129 + 4 * i + 2), zrA (stA 4 (upd f 1 (nI (mm - 1))) (129 + 4 * i) (129 + 4 * (mm - 1))) (129 + 4 * (mm - 1)) 4, recH f hst gl, (recK gl))) (by simp [leaveT, leaF, hc9, ei]) ⟨_, k0_6, k1_6, k2_6, k3_6, k4_6, k5_6, k6_6⟩⟩) hS_77 (Nat.zero_le _) (Nat.zero_le _)
          | succ nn ih77 =>
            intro i1 x3 hn  e3 Hl_77 locs hS_77 hW_77 hl_77 ls hl
            rw [e3] at hl
            clear e3
            obtain ⟨g_7, k0_7, k1_7, k2_7, k3_7, k4_7, k5_7, k6_7⟩ := hl_77
            refine lv_iload_n hx hb dX3_leave_77 rfl (lv_at hl 0 rfl) ?_
            refine lv_iconst (v := 4) hx hb dX3_leave_78 (by decide) ?_
            refine lv_icmp_ge (tgt := 104) hx hb dX3_leave_79 (by decide) (fun c9 => absurd c9 (nI_ge (a := i1) (b := 4) (by omega) (by decide))) (fun _ => ?_)
            refine lv_aload_n hx hb dX3_leave_82 rfl (lv_at hl 1 rfl) ?_
            refine xget (ref := "LayeredChartersModel") (ci := 3) (v := .ref (ad 1)) (C := RX3) (T := TX3) (N := 9) F in_X3 hW_77 k0_7 rfl 0 (by decide) q1016 (fun _ h9 => h9) rfl dX3_leave_83 ?_
            refine lv_aload_n hx hb dX3_leave_86 rfl (lv_at hl 1 rfl) ?_
            refine xget (ref := "LayeredChartersModel") (ci := 3) (v := .ref (ad 1)) (C := RX3) (T := TX3) (N := 9) F in_X3 hW_77 k0_7 rfl 0 (by decide) q1016 (fun _ h9 => h9) rfl dX3_leave_87 ?_
            refine lv_iconst (v := 1) hx hb dX3_leave_90 (by decide) ?_
            refine xild F hW_77 k1_7 (vp_in_nI (n := 1) (by omega) (by omega)) dX3_leave_91 ?_
            refine lv_val (y := nI (mm - 1)) ((by show (if 129 + 4 * (mm - 1) ≤ 1 ∧ _ then _ else (if 129 + 4 * i ≤ 1 ∧ _ then _ else _)) = _; rw [if_neg (by omega), if_neg (by omega)]; rfl)) ?_
            refine lv_iload_n hx hb dX3_leave_92 rfl (lv_at hl 0 rfl) ?_
            refine run_ro (w := .int (129 + 4 * (nI (mm - 1)) + (nI i1))) (rest := [.ref (ad 1)]) (kS F hW_77 (metX3_ofGuild l E Hl_77 (nI (mm - 1)) (nI i1)) (lw_S q1127 q1128 q52 q1129) hdX3_ofGuild ⟨Nat.le_of_ble_eq_true rfl, Nat.le_of_ble_eq_true rfl⟩ hl.1 rfl (Nat.le_of_ble_eq_true rfl) dX3_leave_93 ⟨Nat.le_of_ble_eq_true rfl, Nat.le_of_ble_eq_true rfl⟩) ?_
            refine lv_iconst (v := 0) hx hb dX3_leave_96 (by decide) ?_
            refine xist F hW_77 k1_7 hS_77 ⟨1, by decide, rfl⟩ (vin_eq (n := 129 + 4 * (mm - 1) + i1) (nI_addx (nI_addx (rfl : (129 : Int32) = nI 129) (nI_mulx (rfl : (4 : Int32) = nI 4) (rfl : nI (mm - 1) = nI (mm - 1)))) (rfl : nI i1 = nI i1)) (by omega) (by omega)) dX3_leave_97 (fun H_8 locs ho_8 hu_8 hS_8 => ?_)
            have ho_8 : iat E (ad 1) 0 169 (upd (zrA (stA 4 (upd f 1 (nI (mm - 1))) (129 + 4 * i) (129 + 4 * (mm - 1))) (129 + 4 * (mm - 1)) i1) (129 + 4 * (mm - 1) + i1) 0) H_8 := by have h9 := ho_8; rw [(cl_eq (n := 129 + 4 * (mm - 1) + i1) (nI_addx (nI_addx (rfl : (129 : Int32) = nI 129) (nI_mulx (rfl : (4 : Int32) = nI 4) (rfl : nI (mm - 1) = nI (mm - 1)))) (rfl : nI i1 = nI i1)) (by omega))] at h9; exact h9
            have hW_H_8 := hW_77.kept hu_8.chg (fun q _ hq => hq ▸ (hT.2 1 (by decide)))
            have k0_H_8 := k0_7.kept hu_8.chg (fun h9 => absurd (hT.1 0 1 (by decide) (by decide) h9) (by decide))
            have k2_H_8 := k2_7.kept hu_8.chg (fun h9 => absurd (hT.1 2 1 (by decide) (by decide) h9) (by decide))
            have k3_H_8 := k3_7.kept hu_8.chg (fun h9 => absurd (hT.1 3 1 (by decide) (by decide) h9) (by decide))
            have k4_H_8 := k4_7.kept hu_8.chg (fun h9 => absurd (hT.1 4 1 (by decide) (by decide) h9) (by decide))
            have k5_H_8 := k5_7.kept hu_8.chg (fun h9 => absurd (hT.1 5 1 (by decide) (by decide) h9) (by decide))
            have k6_H_8 := k6_7.kept hu_8.chg (fun h9 => absurd (hT.1 6 1 (by decide) (by decide) h9) (by decide))
            refine lv_iinc (v := nI (i1 + 1)) (lv' := [(3, .int (nI (i1 + 1))), (0, .ref (ad 0)), (2, .int (f (129 + 4 * i + 2)))]) hx hb dX3_leave_98 hl (k := 0) rfl (nI_1 _) (by decide) rfl (fun ls hl => ?_)
            refine lv_goto (tgt := 77) hx hb dX3_leave_101 (by decide) ?_
            exact ih77 (i1 + 1) _ (by omega)  rfl _ _ hS_8 hW_H_8 (⟨_, k0_H_8, (by rw [zrA_s]; exact ho_8), k2_H_8, k3_H_8, k4_H_8, k5_H_8, k6_H_8⟩) ls (lv_sub hl [0, 1, 2] rfl)
        exact loop77 (4 - 0) 0 _ (by omega)  rfl _ _ hS_41 hW_41 (⟨_, k0_5, (by rw [zrA_0]; exact k1_5), k2_5, k3_5, k4_5, k5_5, k6_5⟩) ls (lv_sub hl [0, 1, 2] rfl)
      | succ nn ih41 =>
        intro i1 x3 hn  e3 hi1 Hl_41 locs hS_41 hW_41 hl_41 ls hl
        rw [e3] at hl
        clear e3
        obtain ⟨g_9, k0_9, k1_9, k2_9, k3_9, k4_9, k5_9, k6_9⟩ := hl_41
        refine lv_iload_n hx hb dX3_leave_41 rfl (lv_at hl 0 rfl) ?_
        refine lv_aload_n hx hb dX3_leave_42 rfl (lv_at hl 1 rfl) ?_
        refine xget (ref := "LayeredChartersModel") (ci := 3) (v := .ref (ad 1)) (C := RX3) (T := TX3) (N := 9) F in_X3 hW_41 k0_9 rfl 0 (by decide) q1016 (fun _ h9 => h9) rfl dX3_leave_43 ?_
        refine lv_iconst (v := 1) hx hb dX3_leave_46 (by decide) ?_
        refine xild F hW_41 k1_9 (vp_in_nI (n := 1) (by omega) (by omega)) dX3_leave_47 ?_
        refine lv_val (y := nI (mm - 1)) ((by show (if 129 + 4 * i ≤ 1 ∧ _ then _ else _) = _; rw [if_neg (by omega)]; rfl)) ?_
        refine lv_iconst (v := 0) hx hb dX3_leave_48 (by decide) ?_
        refine run_ro (w := .int (129 + 4 * (nI (mm - 1)) + 0)) (rest := [.int (nI i1)]) (kS F hW_41 (metX3_ofGuild l E Hl_41 (nI (mm - 1)) 0) (lw_S q1127 q1128 q52 q1129) hdX3_ofGuild ⟨Nat.le_of_ble_eq_true rfl, Nat.le_of_ble_eq_true rfl⟩ hl.1 rfl (Nat.le_of_ble_eq_true rfl) dX3_leave_49 ⟨Nat.le_of_ble_eq_true rfl, Nat.le_of_ble_eq_true rfl⟩) ?_
        refine lv_val (y := nI (129 + 4 * (mm - 1))) (mb0 _) ?_
        refine lv_icmp_ge (tgt := 75) hx hb dX3_leave_52 (by decide) (fun c9 => absurd c9 (nI_ge (by omega) (by omega))) (fun _ => ?_)
        refine lv_aload_n hx hb dX3_leave_55 rfl (lv_at hl 1 rfl) ?_
        refine xget (ref := "LayeredChartersModel") (ci := 3) (v := .ref (ad 1)) (C := RX3) (T := TX3) (N := 9) F in_X3 hW_41 k0_9 rfl 0 (by decide) q1016 (fun _ h9 => h9) rfl dX3_leave_56 ?_
        refine lv_iload_n hx hb dX3_leave_59 rfl (lv_at hl 0 rfl) ?_
        refine lv_aload_n hx hb dX3_leave_60 rfl (lv_at hl 1 rfl) ?_
        refine xget (ref := "LayeredChartersModel") (ci := 3) (v := .ref (ad 1)) (C := RX3) (T := TX3) (N := 9) F in_X3 hW_41 k0_9 rfl 0 (by decide) q1016 (fun _ h9 => h9) rfl dX3_leave_61 ?_
        refine lv_iload_n hx hb dX3_leave_64 rfl (lv_at hl 0 rfl) ?_
        refine lv_iconst (v := 4) hx hb dX3_leave_65 (by decide) ?_
        refine lv_iadd hx hb dX3_leave_66 ?_
        refine lv_val (y := nI (i1 + 4)) ((nI_add (i1) (4))) ?_
        refine xild F hW_41 k1_9 (vp_in_nI (by omega) (by omega)) dX3_leave_67 ?_
        refine lv_val (y := (stA 4 (upd f 1 (nI (mm - 1))) (129 + 4 * i) i1) (i1 + 4)) ((by rw [nI_clamp (by omega)])) ?_
        refine xist F hW_41 k1_9 hS_41 ⟨1, by decide, rfl⟩ (vp_in_nI (by omega) (by omega)) dX3_leave_68 (fun H_10 locs ho_10 hu_10 hS_10 => ?_)
        have ho_10 : iat E (ad 1) 0 169 (upd (stA 4 (upd f 1 (nI (mm - 1))) (129 + 4 * i) i1) i1 ((stA 4 (upd f 1 (nI (mm - 1))) (129 + 4 * i) i1) (i1 + 4))) H_10 := by have h9 := ho_10; rw [show (nI i1 : Int32).toNatClampNeg = i1 from by rw [nI_clamp (by omega)]] at h9; exact h9
        have hW_H_10 := hW_41.kept hu_10.chg (fun q _ hq => hq ▸ (hT.2 1 (by decide)))
        have k0_H_10 := k0_9.kept hu_10.chg (fun h9 => absurd (hT.1 0 1 (by decide) (by decide) h9) (by decide))
        have k2_H_10 := k2_9.kept hu_10.chg (fun h9 => absurd (hT.1 2 1 (by decide) (by decide) h9) (by decide))
        have k3_H_10 := k3_9.kept hu_10.chg (fun h9 => absurd (hT.1 3 1 (by decide) (by decide) h9) (by decide))
        have k4_H_10 := k4_9.kept hu_10.chg (fun h9 => absurd (hT.1 4 1 (by decide) (by decide) h9) (by decide))
        have k5_H_10 := k5_9.kept hu_10.chg (fun h9 => absurd (hT.1 5 1 (by decide) (by decide) h9) (by decide))
        have k6_H_10 := k6_9.kept hu_10.chg (fun h9 => absurd (hT.1 6 1 (by decide) (by decide) h9) (by decide))
        refine lv_iinc (v := nI (i1 + 1)) (lv' := [(3, .int (nI (i1 + 1))), (0, .ref (ad 0)), (2, .int (f (129 + 4 * i + 2)))]) hx hb dX3_leave_69 hl (k := 0) rfl (nI_1 _) (by decide) rfl (fun ls hl => ?_)
        refine lv_goto (tgt := 41) hx hb dX3_leave_72 (by decide) ?_
        exact ih41 (i1 + 1) _ (by omega)  rfl (by omega) _ _ hS_10 hW_H_10 (⟨_, k0_H_10, (by rw [stA_s hi1]; exact ho_10), k2_H_10, k3_H_10, k4_H_10, k5_H_10, k6_H_10⟩) ls (lv_sub hl [0, 1, 2] rfl)
    exact loop41 ((129 + 4 * (mm - 1)) - (129 + 4 * i)) (129 + 4 * i) _ (by omega)  rfl (Nat.le_refl _) _ _ hS_4 hW_H_4 (⟨_, k0_H_4, (by rw [stA_0]; exact ho_4), k2_H_4, k3_H_4, k4_H_4, k5_H_4, k6_H_4⟩) ls (lv_sub hl [0, 2, 1] rfl)
  · skip
    have bc_1 := c_1
    have c_1 := b2i_f c_1
    refine lv_iconst (v := (-1)) hx hb dX3_leave_8 (by decide) ?_
    exact hend _ _ _ _ _ _ _ rfl dX3_leave_9 (⟨_, rfl, P4.of (T' := ((-1), f, hst, gl)) (by simp [leaveT, leaF, c_1]) ⟨_, k0, k1, k2, k3, k4, k5, k6⟩⟩) hS (Nat.zero_le _) (Nat.zero_le _)

theorem hdX3_undo : Hd yX3_undo 0 := by decide +kernel
set_option maxHeartbeats 1000000 in
set_option maxRecDepth 100000 in
theorem metX3_undo (l : Launch) (E : EV) (H : Heap) (ad : Nat → Nat) (f hst sl z pd : Nat → Int32) (len told : Int32) (gl : Nat) (hgl : gl ≤ 6) (hM : MPx E ad f hst sl z pd (nI gl) len told H) (hT : TW E ad) : Ct l yX3_undo cX3_undo 2 (some .int) 0 0 (0) (0) [.ref (ad 0)] E H (TA ad) (pI (fun r' H1 => P4 E ad sl z pd len told (undoT f hst gl) r' H1)) := by
  obtain ⟨g, k0, k1, k2, k3, k4, k5, k6⟩ := hM
  refine Ct.ofZ (by decide) (Nat.le_of_ble_eq_true rfl) ?_
  intro p e s m bl mt cd ls Q hF hW hH hl hend
  obtain ⟨F, hin⟩ := hF
  have hx := F.1
  have hb := F.2.1
  have hts := F.2.2.2.2
  have hl : lv_has ls 2 [(0, .ref (ad 0))] := hl
  have hS : va_S (TA ad) H H [] := va_S.rf
  refine lv_aload_n hx hb dX3_undo_0 rfl (lv_at hl 0 rfl) ?_
  refine xget (ref := "LayeredChartersModel") (ci := 3) (v := .int (nI gl)) (C := RX3) (T := TX3) (N := 9) F in_X3 hW k0 rfl 2 (by decide) q1018 (fun _ h9 => h9) rfl dX3_undo_1 ?_
  refine lv_if_ne (tgt := 10) hx hb dX3_undo_4 (by decide) (fun c_1 => ?_) (fun c_1 => ?_)
  · skip
    have hg0 : ¬ gl = 0 := fun h9 => c_1 (by rw [h9]; rfl)
    refine lv_aload_n hx hb dX3_undo_10 rfl (lv_at hl 0 rfl) ?_
    refine lv_dup hx hb dX3_undo_11 rfl ?_
    refine xget (ref := "LayeredChartersModel") (ci := 3) (v := .int (nI gl)) (C := RX3) (T := TX3) (N := 9) F in_X3 hW k0 rfl 2 (by decide) q1018 (fun _ h9 => h9) rfl dX3_undo_12 ?_
    refine lv_iconst (v := 1) hx hb dX3_undo_15 (by decide) ?_
    refine lv_isub hx hb dX3_undo_16 ?_
    refine lv_val (y := nI (gl - 1)) (pk_sub (a := gl) (b := 1) (by omega)) ?_
    refine xput (ref := "LayeredChartersModel") (ci := 3) (v := .int (nI (gl - 1))) (C := RX3) (T := TX3) (N := 9) F in_X3 tyX3 tyX3_ok nmX3 hW k0 hS ⟨0, by decide, rfl⟩ rfl 2 (by decide) q1018 (fun _ h9 => h9) rfl rfl rfl (Nat.le_of_ble_eq_true rfl) dX3_undo_17 (fun H_2 locs ho_2 hu_2 hS_2 => ?_)
    have ho_2 : oat E (ad 0) 3 [.ref (ad 1), .ref (ad 2), .int (nI (gl - 1)), .ref (ad 3), .ref (ad 4), .ref (ad 5), .int len, .ref (ad 6), .int told] H_2 := ho_2
    have hW_H_2 := hW.kept hu_2.chg (fun q _ hq => hq ▸ (hT.2 0 (by decide)))
    have k1_H_2 := k1.kept hu_2.chg (fun h9 => absurd (hT.1 1 0 (by decide) (by decide) h9) (by decide))
    have k2_H_2 := k2.kept hu_2.chg (fun h9 => absurd (hT.1 2 0 (by decide) (by decide) h9) (by decide))
    have k3_H_2 := k3.kept hu_2.chg (fun h9 => absurd (hT.1 3 0 (by decide) (by decide) h9) (by decide))
    have k4_H_2 := k4.kept hu_2.chg (fun h9 => absurd (hT.1 4 0 (by decide) (by decide) h9) (by decide))
    have k5_H_2 := k5.kept hu_2.chg (fun h9 => absurd (hT.1 5 0 (by decide) (by decide) h9) (by decide))
    have k6_H_2 := k6.kept hu_2.chg (fun h9 => absurd (hT.1 6 0 (by decide) (by decide) h9) (by decide))
    refine lv_iconst (v := 0) hx hb dX3_undo_20 (by decide) ?_
    refine lv_istore_n (lv' := [(1, .int 0), (0, .ref (ad 0))]) hx hb dX3_undo_21 rfl hl (by decide) rfl (fun ls hl => ?_)
    have loop22 : ∀ (nn i : Nat) (x1 : Int32), i + nn = 169 → x1 = nI i → ∀ (Hl_22 : Heap) (locs : List Loc), va_S (TA ad) H Hl_22 locs → WK E s Hl_22 → MPx E ad (cpB f hst (169 * (gl - 1)) i) hst sl z pd (nI (gl - 1)) len told Hl_22 → ∀ ls : Array Slot, lv_has ls 2 [(1, .int x1), (0, .ref (ad 0))] → W p l e ({ frames := 0, cells := 0, slots := 0, locals := 0 } : Room) s m ([.ref (ad 0)] : List Value).toArray bl mt cd Hl_22 locs 0 0 Q (F0 m 22 ls []) := by
      intro nn
      induction nn with
      | zero =>
        intro i x1 hn  e1 Hl_22 locs hS_22 hW_22 hl_22 ls hl
        have hiN : i = 169 := by omega
        rw [hiN] at e1
        try rw [hiN] at hl_22
        rw [e1] at hl
        clear e1
        obtain ⟨g_3, k0_3, k1_3, k2_3, k3_3, k4_3, k5_3, k6_3⟩ := hl_22
        refine lv_iload_n hx hb dX3_undo_22 rfl (lv_at hl 0 rfl) ?_
        refine lv_sipush (v := 169) hx hb dX3_undo_23 (by decide) ?_
        refine lv_icmp_ge (tgt := 56) hx hb dX3_undo_26 (by decide) (fun _ => ?_) (fun c9 => absurd (nI_le (a := 169) (b := 169) (by decide) (by decide)) c9)
        refine lv_aload_n hx hb dX3_undo_56 rfl (lv_at hl 1 rfl) ?_
        refine xget (ref := "LayeredChartersModel") (ci := 3) (v := .int (nI (gl - 1))) (C := RX3) (T := TX3) (N := 9) F in_X3 hW_22 k0_3 rfl 2 (by decide) q1018 (fun _ h9 => h9) rfl dX3_undo_57 ?_
        exact hend _ _ _ _ _ _ _ rfl dX3_undo_60 (⟨_, rfl, P4.of (T' := (nI (gl - 1), cpB f hst (169 * (gl - 1)) 169, hst, (gl - 1))) (by simp [undoT, hg0]) ⟨_, k0_3, k1_3, k2_3, k3_3, k4_3, k5_3, k6_3⟩⟩) hS_22 (Nat.zero_le _) (Nat.zero_le _)
      | succ nn ih22 =>
        intro i x1 hn  e1 Hl_22 locs hS_22 hW_22 hl_22 ls hl
        rw [e1] at hl
        clear e1
        obtain ⟨g_4, k0_4, k1_4, k2_4, k3_4, k4_4, k5_4, k6_4⟩ := hl_22
        refine lv_iload_n hx hb dX3_undo_22 rfl (lv_at hl 0 rfl) ?_
        refine lv_sipush (v := 169) hx hb dX3_undo_23 (by decide) ?_
        refine lv_icmp_ge (tgt := 56) hx hb dX3_undo_26 (by decide) (fun c9 => absurd c9 (nI_ge (a := i) (b := 169) (by omega) (by decide))) (fun _ => ?_)
        refine lv_aload_n hx hb dX3_undo_29 rfl (lv_at hl 1 rfl) ?_
        refine xget (ref := "LayeredChartersModel") (ci := 3) (v := .ref (ad 1)) (C := RX3) (T := TX3) (N := 9) F in_X3 hW_22 k0_4 rfl 0 (by decide) q1016 (fun _ h9 => h9) rfl dX3_undo_30 ?_
        refine lv_iload_n hx hb dX3_undo_33 rfl (lv_at hl 0 rfl) ?_
        refine lv_aload_n hx hb dX3_undo_34 rfl (lv_at hl 1 rfl) ?_
        refine xget (ref := "LayeredChartersModel") (ci := 3) (v := .ref (ad 2)) (C := RX3) (T := TX3) (N := 9) F in_X3 hW_22 k0_4 rfl 1 (by decide) q1017 (fun _ h9 => h9) rfl dX3_undo_35 ?_
        refine lv_sipush (v := 169) hx hb dX3_undo_38 (by decide) ?_
        refine lv_aload_n hx hb dX3_undo_41 rfl (lv_at hl 1 rfl) ?_
        refine xget (ref := "LayeredChartersModel") (ci := 3) (v := .int (nI (gl - 1))) (C := RX3) (T := TX3) (N := 9) F in_X3 hW_22 k0_4 rfl 2 (by decide) q1018 (fun _ h9 => h9) rfl dX3_undo_42 ?_
        refine lv_imul hx hb dX3_undo_45 ?_
        refine lv_val (y := nI (169 * (gl - 1))) ((pk_mul (169) ((gl - 1)))) ?_
        refine lv_iload_n hx hb dX3_undo_46 rfl (lv_at hl 0 rfl) ?_
        refine lv_iadd hx hb dX3_undo_47 ?_
        refine lv_val (y := nI ((169 * (gl - 1)) + i)) ((nI_add ((169 * (gl - 1))) (i))) ?_
        refine xild F hW_22 k2_4 (vp_in_nI (by omega) (by omega)) dX3_undo_48 ?_
        refine lv_val (y := hst ((169 * (gl - 1)) + i)) ((by rw [nI_clamp (by omega)])) ?_
        refine xist F hW_22 k1_4 hS_22 ⟨1, by decide, rfl⟩ (vp_in_nI (by omega) (by omega)) dX3_undo_49 (fun H_5 locs ho_5 hu_5 hS_5 => ?_)
        have ho_5 : iat E (ad 1) 0 169 (upd (cpB f hst (169 * (gl - 1)) i) i (hst ((169 * (gl - 1)) + i))) H_5 := by have h9 := ho_5; rw [show (nI i : Int32).toNatClampNeg = i from by rw [nI_clamp (by omega)]] at h9; exact h9
        have hW_H_5 := hW_22.kept hu_5.chg (fun q _ hq => hq ▸ (hT.2 1 (by decide)))
        have k0_H_5 := k0_4.kept hu_5.chg (fun h9 => absurd (hT.1 0 1 (by decide) (by decide) h9) (by decide))
        have k2_H_5 := k2_4.kept hu_5.chg (fun h9 => absurd (hT.1 2 1 (by decide) (by decide) h9) (by decide))
        have k3_H_5 := k3_4.kept hu_5.chg (fun h9 => absurd (hT.1 3 1 (by decide) (by decide) h9) (by decide))
        have k4_H_5 := k4_4.kept hu_5.chg (fun h9 => absurd (hT.1 4 1 (by decide) (by decide) h9) (by decide))
        have k5_H_5 := k5_4.kept hu_5.chg (fun h9 => absurd (hT.1 5 1 (by decide) (by decide) h9) (by decide))
        have k6_H_5 := k6_4.kept hu_5.chg (fun h9 => absurd (hT.1 6 1 (by decide) (by decide) h9) (by decide))
        refine lv_iinc (v := nI (i + 1)) (lv' := [(1, .int (nI (i + 1))), (0, .ref (ad 0))]) hx hb dX3_undo_50 hl (k := 0) rfl (nI_1 _) (by decide) rfl (fun ls hl => ?_)
        refine lv_goto (tgt := 22) hx hb dX3_undo_53 (by decide) ?_
        exact ih22 (i + 1) _ (by omega)  rfl _ _ hS_5 hW_H_5 (⟨_, k0_H_5, (by rw [cpB_s]; exact ho_5), k2_H_5, k3_H_5, k4_H_5, k5_H_5, k6_H_5⟩) ls (lv_sub hl [0, 1] rfl)
    exact loop22 (169 - 0) 0 _ (by omega)  rfl _ _ hS_2 hW_H_2 (⟨_, ho_2, k1_H_2, k2_H_2, k3_H_2, k4_H_2, k5_H_2, k6_H_2⟩) ls (lv_sub hl [0, 1] rfl)
  · skip
    have hg0 : gl = 0 := (nI_eq (a := gl) (b := 0) (by omega) (by decide)).mp c_1
    refine lv_bipush (v := (-5)) hx hb dX3_undo_7 (by decide) ?_
    exact hend _ _ _ _ _ _ _ rfl dX3_undo_9 (⟨_, rfl, P4.of (T' := ((-5), f, hst, gl)) (by simp [undoT, c_1, hg0]) ⟨_, k0, k1, k2, k3, k4, k5, k6⟩⟩) hS (Nat.zero_le _) (Nat.zero_le _)

theorem hdX3_save : Hd yX3_save 1 := by decide +kernel
set_option maxHeartbeats 1000000 in
set_option maxRecDepth 100000 in
theorem metX3_save (l : Launch) (E : EV) (H : Heap) (ad : Nat → Nat) (f hst sl z pd : Nat → Int32) (kept len told : Int32) (n : Nat) (hn0 : f 0 = nI n) (s1 : Int32) (hM : MPx E ad f hst sl z pd kept len told H) (hT : TW E ad) : Ct l yX3_save cX3_save 3 (some .int) 1 22 (0) (0) [.ref (ad 0), .int s1] E H (TA ad) (pI (fun r H1 => P3 E ad f hst pd kept len told (saveT f sl z n s1) r H1)) := by
  obtain ⟨g, k0, k1, k2, k3, k4, k5, k6⟩ := hM
  refine Ct.ofZ (by decide) (Nat.le_of_ble_eq_true rfl) ?_
  intro p e s m bl mt cd ls Q hF hW hH hl hend
  obtain ⟨F, hin⟩ := hF
  have hx := F.1
  have hb := F.2.1
  have hts := F.2.2.2.2
  have hl : lv_has ls 3 [(0, .ref (ad 0)), (1, .int s1)] := hl
  have hS : va_S (TA ad) H H [] := va_S.rf
  refine lv_iload_n hx hb dX3_save_0 rfl (lv_at hl 1 rfl) ?_
  refine lv_iconst (v := 0) hx hb dX3_save_1 (by decide) ?_
  refine lv_iconst (v := 1) hx hb dX3_save_2 (by decide) ?_
  refine run_ro (w := .int (b2i (inR s1 0 1))) (rest := []) (kS F hW (metX3_in l E H s1 0 1) (lw_S q1049 q1050 q52 q1051) hdX3_in ⟨Nat.le_of_ble_eq_true rfl, Nat.le_of_ble_eq_true rfl⟩ hl.1 rfl (Nat.le_of_ble_eq_true rfl) dX3_save_3 ⟨Nat.le_of_ble_eq_true rfl, Nat.le_of_ble_eq_true rfl⟩) ?_
  refine lv_if_ne (tgt := 12) hx hb dX3_save_6 (by decide) (fun c_1 => ?_) (fun c_1 => ?_)
  · skip
    have bc_1 := c_1
    have c_1 := b2i_t c_1
    obtain ⟨i, hi, ei0⟩ := rng_of (b := 1) c_1 (by decide)
    subst ei0
    have ei : ix (nI i) = i := ix_nI (by omega)
    have hc9 := c_1
    refine lv_iconst (v := 0) hx hb dX3_save_12 (by decide) ?_
    refine lv_istore_n (lv' := [(2, .int 0), (0, .ref (ad 0)), (1, .int (nI i))]) hx hb dX3_save_13 rfl hl (by decide) rfl (fun ls hl => ?_)
    have loop14 : ∀ (nn i1 : Nat) (x2 : Int32), i1 + nn = 169 → x2 = nI i1 → ∀ (Hl_14 : Heap) (locs : List Loc), va_S (TA ad) H Hl_14 locs → WK E s Hl_14 → MPx E ad f hst (cpA f sl (169 * i) i1) z pd kept len told Hl_14 → ∀ ls : Array Slot, lv_has ls 3 [(2, .int x2), (0, .ref (ad 0)), (1, .int (nI i))] → W p l e ({ frames := 1, cells := 0, slots := 0, locals := 22 } : Room) s m ([.ref (ad 0), .int (nI i)] : List Value).toArray bl mt cd Hl_14 locs 0 0 Q (F0 m 14 ls []) := by
      intro nn
      induction nn with
      | zero =>
        intro i1 x2 hn  e2 Hl_14 locs hS_14 hW_14 hl_14 ls hl
        have hiN : i1 = 169 := by omega
        rw [hiN] at e2
        try rw [hiN] at hl_14
        rw [e2] at hl
        clear e2
        obtain ⟨g_2, k0_2, k1_2, k2_2, k3_2, k4_2, k5_2, k6_2⟩ := hl_14
        refine lv_iload_n hx hb dX3_save_14 rfl (lv_at hl 0 rfl) ?_
        refine lv_sipush (v := 169) hx hb dX3_save_15 (by decide) ?_
        refine lv_icmp_ge (tgt := 45) hx hb dX3_save_18 (by decide) (fun _ => ?_) (fun c9 => absurd (nI_le (a := 169) (b := 169) (by decide) (by decide)) c9)
        refine lv_aload_n hx hb dX3_save_45 rfl (lv_at hl 1 rfl) ?_
        refine xget (ref := "LayeredChartersModel") (ci := 3) (v := .ref (ad 4)) (C := RX3) (T := TX3) (N := 9) F in_X3 hW_14 k0_2 rfl 4 (by decide) q1020 (fun _ h9 => h9) rfl dX3_save_46 ?_
        refine lv_iload_n hx hb dX3_save_49 rfl (lv_at hl 2 rfl) ?_
        refine lv_iconst (v := 1) hx hb dX3_save_50 (by decide) ?_
        refine xzst F hW_14 k4_2 hS_14 ⟨4, by decide, rfl⟩ (vp_in_nI (by omega) (by omega)) rfl dX3_save_51 (fun H_3 locs ho_3 hu_3 hS_3 => ?_)
        have ho_3 : iat E (ad 4) 2 2 (upd z i 1) H_3 := by have h9 := ho_3; rw [show (nI i : Int32).toNatClampNeg = i from by rw [nI_clamp (by omega)]] at h9; exact h9
        have hW_H_3 := hW_14.kept hu_3.chg (fun q _ hq => hq ▸ (hT.2 4 (by decide)))
        have k0_H_3 := k0_2.kept hu_3.chg (fun h9 => absurd (hT.1 0 4 (by decide) (by decide) h9) (by decide))
        have k1_H_3 := k1_2.kept hu_3.chg (fun h9 => absurd (hT.1 1 4 (by decide) (by decide) h9) (by decide))
        have k2_H_3 := k2_2.kept hu_3.chg (fun h9 => absurd (hT.1 2 4 (by decide) (by decide) h9) (by decide))
        have k3_H_3 := k3_2.kept hu_3.chg (fun h9 => absurd (hT.1 3 4 (by decide) (by decide) h9) (by decide))
        have k5_H_3 := k5_2.kept hu_3.chg (fun h9 => absurd (hT.1 5 4 (by decide) (by decide) h9) (by decide))
        have k6_H_3 := k6_2.kept hu_3.chg (fun h9 => absurd (hT.1 6 4 (by decide) (by decide) h9) (by decide))
        refine lv_aload_n hx hb dX3_save_52 rfl (lv_at hl 1 rfl) ?_
        refine xget (ref := "LayeredChartersModel") (ci := 3) (v := .ref (ad 1)) (C := RX3) (T := TX3) (N := 9) F in_X3 hW_H_3 k0_H_3 rfl 0 (by decide) q1016 (fun _ h9 => h9) rfl dX3_save_53 ?_
        refine lv_iconst (v := 0) hx hb dX3_save_56 (by decide) ?_
        refine xild F hW_H_3 k1_H_3 (vp_in_nI (n := 0) (by omega) (by omega)) dX3_save_57 ?_
        refine lv_val (y := nI n) (hn0) ?_
        exact hend _ _ _ _ _ _ _ rfl dX3_save_58 (⟨_, rfl, P3.of (T' := (nI n, cpA f sl (169 * i) 169, upd z i 1)) (by simp [saveT, hc9, ei]) ⟨_, k0_H_3, k1_H_3, k2_H_3, k3_H_3, ho_3, k5_H_3, k6_H_3⟩⟩) hS_3 (Nat.zero_le _) (Nat.zero_le _)
      | succ nn ih14 =>
        intro i1 x2 hn  e2 Hl_14 locs hS_14 hW_14 hl_14 ls hl
        rw [e2] at hl
        clear e2
        obtain ⟨g_4, k0_4, k1_4, k2_4, k3_4, k4_4, k5_4, k6_4⟩ := hl_14
        refine lv_iload_n hx hb dX3_save_14 rfl (lv_at hl 0 rfl) ?_
        refine lv_sipush (v := 169) hx hb dX3_save_15 (by decide) ?_
        refine lv_icmp_ge (tgt := 45) hx hb dX3_save_18 (by decide) (fun c9 => absurd c9 (nI_ge (a := i1) (b := 169) (by omega) (by decide))) (fun _ => ?_)
        refine lv_aload_n hx hb dX3_save_21 rfl (lv_at hl 1 rfl) ?_
        refine xget (ref := "LayeredChartersModel") (ci := 3) (v := .ref (ad 3)) (C := RX3) (T := TX3) (N := 9) F in_X3 hW_14 k0_4 rfl 3 (by decide) q1019 (fun _ h9 => h9) rfl dX3_save_22 ?_
        refine lv_sipush (v := 169) hx hb dX3_save_25 (by decide) ?_
        refine lv_iload_n hx hb dX3_save_28 rfl (lv_at hl 2 rfl) ?_
        refine lv_imul hx hb dX3_save_29 ?_
        refine lv_val (y := nI (169 * i)) ((pk_mul (169) (i))) ?_
        refine lv_iload_n hx hb dX3_save_30 rfl (lv_at hl 0 rfl) ?_
        refine lv_iadd hx hb dX3_save_31 ?_
        refine lv_val (y := nI ((169 * i) + i1)) ((nI_add ((169 * i)) (i1))) ?_
        refine lv_aload_n hx hb dX3_save_32 rfl (lv_at hl 1 rfl) ?_
        refine xget (ref := "LayeredChartersModel") (ci := 3) (v := .ref (ad 1)) (C := RX3) (T := TX3) (N := 9) F in_X3 hW_14 k0_4 rfl 0 (by decide) q1016 (fun _ h9 => h9) rfl dX3_save_33 ?_
        refine lv_iload_n hx hb dX3_save_36 rfl (lv_at hl 0 rfl) ?_
        refine xild F hW_14 k1_4 (vp_in_nI (by omega) (by omega)) dX3_save_37 ?_
        refine lv_val (y := f i1) ((by rw [nI_clamp (by omega)])) ?_
        refine xist F hW_14 k3_4 hS_14 ⟨3, by decide, rfl⟩ (vp_in_nI (by omega) (by omega)) dX3_save_38 (fun H_5 locs ho_5 hu_5 hS_5 => ?_)
        have ho_5 : iat E (ad 3) 0 338 (upd (cpA f sl (169 * i) i1) ((169 * i) + i1) (f i1)) H_5 := by have h9 := ho_5; rw [show (nI ((169 * i) + i1) : Int32).toNatClampNeg = ((169 * i) + i1) from by rw [nI_clamp (by omega)]] at h9; exact h9
        have hW_H_5 := hW_14.kept hu_5.chg (fun q _ hq => hq ▸ (hT.2 3 (by decide)))
        have k0_H_5 := k0_4.kept hu_5.chg (fun h9 => absurd (hT.1 0 3 (by decide) (by decide) h9) (by decide))
        have k1_H_5 := k1_4.kept hu_5.chg (fun h9 => absurd (hT.1 1 3 (by decide) (by decide) h9) (by decide))
        have k2_H_5 := k2_4.kept hu_5.chg (fun h9 => absurd (hT.1 2 3 (by decide) (by decide) h9) (by decide))
        have k4_H_5 := k4_4.kept hu_5.chg (fun h9 => absurd (hT.1 4 3 (by decide) (by decide) h9) (by decide))
        have k5_H_5 := k5_4.kept hu_5.chg (fun h9 => absurd (hT.1 5 3 (by decide) (by decide) h9) (by decide))
        have k6_H_5 := k6_4.kept hu_5.chg (fun h9 => absurd (hT.1 6 3 (by decide) (by decide) h9) (by decide))
        refine lv_iinc (v := nI (i1 + 1)) (lv' := [(2, .int (nI (i1 + 1))), (0, .ref (ad 0)), (1, .int (nI i))]) hx hb dX3_save_39 hl (k := 0) rfl (nI_1 _) (by decide) rfl (fun ls hl => ?_)
        refine lv_goto (tgt := 14) hx hb dX3_save_42 (by decide) ?_
        exact ih14 (i1 + 1) _ (by omega)  rfl _ _ hS_5 hW_H_5 (⟨_, k0_H_5, k1_H_5, k2_H_5, (by rw [cpA_s]; exact ho_5), k4_H_5, k5_H_5, k6_H_5⟩) ls (lv_sub hl [0, 1, 2] rfl)
    exact loop14 (169 - 0) 0 _ (by omega)  rfl _ _ hS hW (⟨_, k0, k1, k2, (by rw [cpA_0]; exact k3), k4, k5, k6⟩) ls (lv_sub hl [0, 1, 2] rfl)
  · skip
    have bc_1 := c_1
    have c_1 := b2i_f c_1
    refine lv_bipush (v := (-2)) hx hb dX3_save_9 (by decide) ?_
    exact hend _ _ _ _ _ _ _ rfl dX3_save_11 (⟨_, rfl, P3.of (T' := ((-2), sl, z)) (by simp [saveT, c_1]) ⟨_, k0, k1, k2, k3, k4, k5, k6⟩⟩) hS (Nat.zero_le _) (Nat.zero_le _)

theorem hdX3_restore : Hd yX3_restore 1 := by decide +kernel
set_option maxHeartbeats 1000000 in
set_option maxRecDepth 100000 in
theorem metX3_restore (l : Launch) (E : EV) (H : Heap) (ad : Nat → Nat) (f hst sl z pd : Nat → Int32) (len told : Int32) (gl : Nat) (hgl : gl ≤ 6) (s1 : Int32) (hM : MPx E ad f hst sl z pd (nI gl) len told H) (hT : TW E ad) : Ct l yX3_restore cX3_restore 3 (some .int) 1 22 (0) (0) [.ref (ad 0), .int s1] E H (TA ad) (pI (fun r' H1 => P4 E ad sl z pd len told (restoreT f hst sl z gl s1) r' H1)) := by
  obtain ⟨g, k0, k1, k2, k3, k4, k5, k6⟩ := hM
  refine Ct.ofZ (by decide) (Nat.le_of_ble_eq_true rfl) ?_
  intro p e s m bl mt cd ls Q hF hW hH hl hend
  obtain ⟨F, hin⟩ := hF
  have hx := F.1
  have hb := F.2.1
  have hts := F.2.2.2.2
  have hl : lv_has ls 3 [(0, .ref (ad 0)), (1, .int s1)] := hl
  have hS : va_S (TA ad) H H [] := va_S.rf
  refine lv_iload_n hx hb dX3_restore_0 rfl (lv_at hl 1 rfl) ?_
  refine lv_iconst (v := 0) hx hb dX3_restore_1 (by decide) ?_
  refine lv_iconst (v := 1) hx hb dX3_restore_2 (by decide) ?_
  refine run_ro (w := .int (b2i (inR s1 0 1))) (rest := []) (kS F hW (metX3_in l E H s1 0 1) (lw_S q1049 q1050 q52 q1051) hdX3_in ⟨Nat.le_of_ble_eq_true rfl, Nat.le_of_ble_eq_true rfl⟩ hl.1 rfl (Nat.le_of_ble_eq_true rfl) dX3_restore_3 ⟨Nat.le_of_ble_eq_true rfl, Nat.le_of_ble_eq_true rfl⟩) ?_
  refine lv_if_ne (tgt := 12) hx hb dX3_restore_6 (by decide) (fun c_1 => ?_) (fun c_1 => ?_)
  · skip
    have bc_1 := c_1
    have c_1 := b2i_t c_1
    obtain ⟨i, hi, ei0⟩ := rng_of (b := 1) c_1 (by decide)
    subst ei0
    have ei : ix (nI i) = i := ix_nI (by omega)
    have hc9 := c_1
    refine lv_aload_n hx hb dX3_restore_12 rfl (lv_at hl 0 rfl) ?_
    refine xget (ref := "LayeredChartersModel") (ci := 3) (v := .ref (ad 4)) (C := RX3) (T := TX3) (N := 9) F in_X3 hW k0 rfl 4 (by decide) q1020 (fun _ h9 => h9) rfl dX3_restore_13 ?_
    refine lv_iload_n hx hb dX3_restore_16 rfl (lv_at hl 1 rfl) ?_
    refine xzld F hW k4 (vp_in_nI (by omega) (by omega)) dX3_restore_17 ?_
    refine lv_val (y := z i) ((by rw [nI_clamp (by omega)])) ?_
    refine lv_if_ne (tgt := 24) hx hb dX3_restore_18 (by decide) (fun c_2 => ?_) (fun c_2 => ?_)
    · skip
      have hz9 := c_2
      refine lv_aload_n hx hb dX3_restore_24 rfl (lv_at hl 0 rfl) ?_
      refine run_chN (rest := []) (kV F hW (metX3_record l E H ad f hst sl z pd len told gl (by omega) ⟨_, k0, k1, k2, k3, k4, k5, k6⟩ hT) (lw_V q1052 q1054 qs16 q52 q1055) hdX3_record ⟨Nat.le_of_ble_eq_true rfl, Nat.le_of_ble_eq_true rfl⟩ (recv hW k0 rfl) hl.1 rfl (Nat.le_of_ble_eq_true rfl) dX3_restore_25 ⟨Nat.le_of_ble_eq_true rfl, Nat.le_of_ble_eq_true rfl⟩) hS (fun _ h9 => h9) (fun H_3 locs hp_3 hc_3 hS_3 => ?_)
      have hW_3 := hW.kept hc_3 hT.old
      obtain ⟨g_4, k0_4, k1_4, k2_4, k3_4, k4_4, k5_4, k6_4⟩ := hp_3
      refine lv_iconst (v := 0) hx hb dX3_restore_28 (by decide) ?_
      refine lv_istore_n (lv' := [(2, .int 0), (0, .ref (ad 0)), (1, .int (nI i))]) hx hb dX3_restore_29 rfl hl (by decide) rfl (fun ls hl => ?_)
      have loop30 : ∀ (nn i1 : Nat) (x2 : Int32), i1 + nn = 169 → x2 = nI i1 → ∀ (Hl_30 : Heap) (locs : List Loc), va_S (TA ad) H Hl_30 locs → WK E s Hl_30 → MPx E ad (cpB f sl (169 * i) i1) (recH f hst gl) sl z pd (nI (recK gl)) len told Hl_30 → ∀ ls : Array Slot, lv_has ls 3 [(2, .int x2), (0, .ref (ad 0)), (1, .int (nI i))] → W p l e ({ frames := 1, cells := 0, slots := 0, locals := 22 } : Room) s m ([.ref (ad 0), .int (nI i)] : List Value).toArray bl mt cd Hl_30 locs 0 0 Q (F0 m 30 ls []) := by
        intro nn
        induction nn with
        | zero =>
          intro i1 x2 hn  e2 Hl_30 locs hS_30 hW_30 hl_30 ls hl
          have hiN : i1 = 169 := by omega
          rw [hiN] at e2
          try rw [hiN] at hl_30
          rw [e2] at hl
          clear e2
          obtain ⟨g_5, k0_5, k1_5, k2_5, k3_5, k4_5, k5_5, k6_5⟩ := hl_30
          refine lv_iload_n hx hb dX3_restore_30 rfl (lv_at hl 0 rfl) ?_
          refine lv_sipush (v := 169) hx hb dX3_restore_31 (by decide) ?_
          refine lv_icmp_ge (tgt := 61) hx hb dX3_restore_34 (by decide) (fun _ => ?_) (fun c9 => absurd (nI_le (a := 169) (b := 169) (by decide) (by decide)) c9)
          refine lv_aload_n hx hb dX3_restore_61 rfl (lv_at hl 1 rfl) ?_
          refine xget (ref := "LayeredChartersModel") (ci := 3) (v := .ref (ad 1)) (C := RX3) (T := TX3) (N := 9) F in_X3 hW_30 k0_5 rfl 0 (by decide) q1016 (fun _ h9 => h9) rfl dX3_restore_62 ?_
          refine lv_iconst (v := 0) hx hb dX3_restore_65 (by decide) ?_
          refine xild F hW_30 k1_5 (vp_in_nI (n := 0) (by omega) (by omega)) dX3_restore_66 ?_
          refine lv_val (y := (cpB f sl (169 * i) 169) 0) (rfl) ?_
          exact hend _ _ _ _ _ _ _ rfl dX3_restore_67 (⟨_, rfl, P4.of (T' := ((cpB f sl (169 * i) 169) 0, cpB f sl (169 * i) 169, recH f hst gl, (recK gl))) (by simp [restoreT, cpB, hc9, ei, hz9]) ⟨_, k0_5, k1_5, k2_5, k3_5, k4_5, k5_5, k6_5⟩⟩) hS_30 (Nat.zero_le _) (Nat.zero_le _)
        | succ nn ih30 =>
          intro i1 x2 hn  e2 Hl_30 locs hS_30 hW_30 hl_30 ls hl
          rw [e2] at hl
          clear e2
          obtain ⟨g_6, k0_6, k1_6, k2_6, k3_6, k4_6, k5_6, k6_6⟩ := hl_30
          refine lv_iload_n hx hb dX3_restore_30 rfl (lv_at hl 0 rfl) ?_
          refine lv_sipush (v := 169) hx hb dX3_restore_31 (by decide) ?_
          refine lv_icmp_ge (tgt := 61) hx hb dX3_restore_34 (by decide) (fun c9 => absurd c9 (nI_ge (a := i1) (b := 169) (by omega) (by decide))) (fun _ => ?_)
          refine lv_aload_n hx hb dX3_restore_37 rfl (lv_at hl 1 rfl) ?_
          refine xget (ref := "LayeredChartersModel") (ci := 3) (v := .ref (ad 1)) (C := RX3) (T := TX3) (N := 9) F in_X3 hW_30 k0_6 rfl 0 (by decide) q1016 (fun _ h9 => h9) rfl dX3_restore_38 ?_
          refine lv_iload_n hx hb dX3_restore_41 rfl (lv_at hl 0 rfl) ?_
          refine lv_aload_n hx hb dX3_restore_42 rfl (lv_at hl 1 rfl) ?_
          refine xget (ref := "LayeredChartersModel") (ci := 3) (v := .ref (ad 3)) (C := RX3) (T := TX3) (N := 9) F in_X3 hW_30 k0_6 rfl 3 (by decide) q1019 (fun _ h9 => h9) rfl dX3_restore_43 ?_
          refine lv_sipush (v := 169) hx hb dX3_restore_46 (by decide) ?_
          refine lv_iload_n hx hb dX3_restore_49 rfl (lv_at hl 2 rfl) ?_
          refine lv_imul hx hb dX3_restore_50 ?_
          refine lv_val (y := nI (169 * i)) ((pk_mul (169) (i))) ?_
          refine lv_iload_n hx hb dX3_restore_51 rfl (lv_at hl 0 rfl) ?_
          refine lv_iadd hx hb dX3_restore_52 ?_
          refine lv_val (y := nI ((169 * i) + i1)) ((nI_add ((169 * i)) (i1))) ?_
          refine xild F hW_30 k3_6 (vp_in_nI (by omega) (by omega)) dX3_restore_53 ?_
          refine lv_val (y := sl ((169 * i) + i1)) ((by rw [nI_clamp (by omega)])) ?_
          refine xist F hW_30 k1_6 hS_30 ⟨1, by decide, rfl⟩ (vp_in_nI (by omega) (by omega)) dX3_restore_54 (fun H_7 locs ho_7 hu_7 hS_7 => ?_)
          have ho_7 : iat E (ad 1) 0 169 (upd (cpB f sl (169 * i) i1) i1 (sl ((169 * i) + i1))) H_7 := by have h9 := ho_7; rw [show (nI i1 : Int32).toNatClampNeg = i1 from by rw [nI_clamp (by omega)]] at h9; exact h9
          have hW_H_7 := hW_30.kept hu_7.chg (fun q _ hq => hq ▸ (hT.2 1 (by decide)))
          have k0_H_7 := k0_6.kept hu_7.chg (fun h9 => absurd (hT.1 0 1 (by decide) (by decide) h9) (by decide))
          have k2_H_7 := k2_6.kept hu_7.chg (fun h9 => absurd (hT.1 2 1 (by decide) (by decide) h9) (by decide))
          have k3_H_7 := k3_6.kept hu_7.chg (fun h9 => absurd (hT.1 3 1 (by decide) (by decide) h9) (by decide))
          have k4_H_7 := k4_6.kept hu_7.chg (fun h9 => absurd (hT.1 4 1 (by decide) (by decide) h9) (by decide))
          have k5_H_7 := k5_6.kept hu_7.chg (fun h9 => absurd (hT.1 5 1 (by decide) (by decide) h9) (by decide))
          have k6_H_7 := k6_6.kept hu_7.chg (fun h9 => absurd (hT.1 6 1 (by decide) (by decide) h9) (by decide))
          refine lv_iinc (v := nI (i1 + 1)) (lv' := [(2, .int (nI (i1 + 1))), (0, .ref (ad 0)), (1, .int (nI i))]) hx hb dX3_restore_55 hl (k := 0) rfl (nI_1 _) (by decide) rfl (fun ls hl => ?_)
          refine lv_goto (tgt := 30) hx hb dX3_restore_58 (by decide) ?_
          exact ih30 (i1 + 1) _ (by omega)  rfl _ _ hS_7 hW_H_7 (⟨_, k0_H_7, (by rw [cpB_s]; exact ho_7), k2_H_7, k3_H_7, k4_H_7, k5_H_7, k6_H_7⟩) ls (lv_sub hl [0, 1, 2] rfl)
      exact loop30 (169 - 0) 0 _ (by omega)  rfl _ _ hS_3 hW_3 (⟨_, k0_4, k1_4, k2_4, k3_4, k4_4, k5_4, k6_4⟩) ls (lv_sub hl [0, 1, 2] rfl)
    · skip
      refine lv_bipush (v := (-5)) hx hb dX3_restore_21 (by decide) ?_
      exact hend _ _ _ _ _ _ _ rfl dX3_restore_23 (⟨_, rfl, P4.of (T' := ((-5), f, hst, gl)) (by simp [restoreT, cpB, c_1, ei, c_2]) ⟨_, k0, k1, k2, k3, k4, k5, k6⟩⟩) hS (Nat.zero_le _) (Nat.zero_le _)
  · skip
    have bc_1 := c_1
    have c_1 := b2i_f c_1
    refine lv_bipush (v := (-2)) hx hb dX3_restore_9 (by decide) ?_
    exact hend _ _ _ _ _ _ _ rfl dX3_restore_11 (⟨_, rfl, P4.of (T' := ((-2), f, hst, gl)) (by simp [restoreT, cpB, c_1]) ⟨_, k0, k1, k2, k3, k4, k5, k6⟩⟩) hS (Nat.zero_le _) (Nat.zero_le _)

theorem hdX3_wipe : Hd yX3_wipe 0 := by decide +kernel
set_option maxHeartbeats 1000000 in
set_option maxRecDepth 100000 in
theorem metX3_wipe (l : Launch) (E : EV) (H : Heap) (ad : Nat → Nat) (f hst sl z pd : Nat → Int32) (kept len told : Int32) (hM : MPx E ad f hst sl z pd kept len told H) (hT : TW E ad) : Ct l yX3_wipe cX3_wipe 2 (some .int) 0 0 (0) (0) [.ref (ad 0)] E H (TA ad) (pI (fun r H1 => r = len ∧ MPx E ad f hst sl z pd kept 0 told H1)) := by
  obtain ⟨g, k0, k1, k2, k3, k4, k5, k6⟩ := hM
  refine Ct.ofZ (by decide) (Nat.le_of_ble_eq_true rfl) ?_
  intro p e s m bl mt cd ls Q hF hW hH hl hend
  obtain ⟨F, hin⟩ := hF
  have hx := F.1
  have hb := F.2.1
  have hts := F.2.2.2.2
  have hl : lv_has ls 2 [(0, .ref (ad 0))] := hl
  have hS : va_S (TA ad) H H [] := va_S.rf
  refine lv_aload_n hx hb dX3_wipe_0 rfl (lv_at hl 0 rfl) ?_
  refine xget (ref := "LayeredChartersModel") (ci := 3) (v := .int len) (C := RX3) (T := TX3) (N := 9) F in_X3 hW k0 rfl 6 (by decide) q1022 (fun _ h9 => h9) rfl dX3_wipe_1 ?_
  refine lv_istore_n (lv' := [(1, .int len), (0, .ref (ad 0))]) hx hb dX3_wipe_4 rfl hl (by decide) rfl (fun ls hl => ?_)
  refine lv_aload_n hx hb dX3_wipe_5 rfl (lv_at hl 1 rfl) ?_
  refine lv_iconst (v := 0) hx hb dX3_wipe_6 (by decide) ?_
  refine xput (ref := "LayeredChartersModel") (ci := 3) (v := .int 0) (C := RX3) (T := TX3) (N := 9) F in_X3 tyX3 tyX3_ok nmX3 hW k0 hS ⟨0, by decide, rfl⟩ rfl 6 (by decide) q1022 (fun _ h9 => h9) rfl rfl rfl (Nat.le_of_ble_eq_true rfl) dX3_wipe_7 (fun H_1 locs ho_1 hu_1 hS_1 => ?_)
  have ho_1 : oat E (ad 0) 3 [.ref (ad 1), .ref (ad 2), .int kept, .ref (ad 3), .ref (ad 4), .ref (ad 5), .int 0, .ref (ad 6), .int told] H_1 := ho_1
  have hW_H_1 := hW.kept hu_1.chg (fun q _ hq => hq ▸ (hT.2 0 (by decide)))
  have k1_H_1 := k1.kept hu_1.chg (fun h9 => absurd (hT.1 1 0 (by decide) (by decide) h9) (by decide))
  have k2_H_1 := k2.kept hu_1.chg (fun h9 => absurd (hT.1 2 0 (by decide) (by decide) h9) (by decide))
  have k3_H_1 := k3.kept hu_1.chg (fun h9 => absurd (hT.1 3 0 (by decide) (by decide) h9) (by decide))
  have k4_H_1 := k4.kept hu_1.chg (fun h9 => absurd (hT.1 4 0 (by decide) (by decide) h9) (by decide))
  have k5_H_1 := k5.kept hu_1.chg (fun h9 => absurd (hT.1 5 0 (by decide) (by decide) h9) (by decide))
  have k6_H_1 := k6.kept hu_1.chg (fun h9 => absurd (hT.1 6 0 (by decide) (by decide) h9) (by decide))
  refine lv_iload_n hx hb dX3_wipe_10 rfl (lv_at hl 0 rfl) ?_
  exact hend _ _ _ _ _ _ _ rfl dX3_wipe_11 (⟨_, rfl, rfl, ⟨_, ho_1, k1_H_1, k2_H_1, k3_H_1, k4_H_1, k5_H_1, k6_H_1⟩⟩) hS_1 (Nat.zero_le _) (Nat.zero_le _)

