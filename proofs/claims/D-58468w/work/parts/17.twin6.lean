/-! THE TWIN: act, tidy, the texts -/
set_option maxRecDepth 100000
theorem ruA_hi {f : Nat → Int32} {k q : Nat} {v : Int32} (h : 9 + 5 * q + 4 < k) : ruA (upd f k v) q = ruA f q := by
  unfold ruA upd
  rw [if_neg (by omega), if_neg (by omega), if_neg (by omega), if_neg (by omega), if_neg (by omega)]
theorem td_step {T : Nat × (Nat → Int32) × Nat} {c n i : Nat} {f : Nat → Int32} (h : T = (c + (tdF n f n).1, (tdF n f n).2)) (hf : fiM (ruA f) n = nI i) (hi : i < n) (hn : n ≤ 24) : T = (c + 1 + (tdF (n - 1) (strF f n i) (n - 1)).1, (tdF (n - 1) (strF f n i) (n - 1)).2) := by
  rw [h]
  obtain ⟨m, rfl⟩ : ∃ m, n = m + 1 := ⟨n - 1, by omega⟩
  rw [tdF_s hf hi hn]
  show (c + (_ + 1), _) = _
  rw [show m + 1 - 1 = m by omega]
  congr 1
  omega
def tidyT (f h : Nat → Int32) (gl n : Nat) : T4 := (nI (tdF n f n).1, (tdF n f n).2.1, recH f h gl, recK gl)
def nxM (pd : Nat → Int32) (ln p : Nat) : Int32 := if p < ln then pd p else 0
def kfM (c : Int32) : Int32 := if c = 112 then 0 else if c = 98 then 1 else if c = 119 then 2 else -6
def whN (x : Nat → Int32) (p : Nat) : Nat := if x (p + 1) = 112 then 4 else 5
def rg4 (x : Nat → Int32) (p : Nat) : Nat := if kfM (x (p + 1)) = 0 then 4 else if inR (x (p + 4)) 49 57 = true then 5 else 4
def rg3 (x : Nat → Int32) (p : Nat) : Nat := if x (p + 3) = 42 then rg4 x p else if inR (x (p + 3)) 48 53 = true then rg4 x p else 3
def rg2 (x : Nat → Int32) (p : Nat) : Nat := if x (p + 2) = 42 then rg3 x p else if inR (x (p + 2)) 48 52 = true then rg3 x p else 2
/-- how many characters of a rule are right -/
def rgN (x : Nat → Int32) (p : Nat) : Nat := if inR (x p) 48 52 = true then (if kfM (x (p + 1)) = -6 then 1 else if kfM (x (p + 1)) = 0 then (if x p = 48 then rg2 x p else 1) else rg2 x p) else 0
theorem rgN_le (x : Nat → Int32) (p : Nat) : rgN x p ≤ 5 := by
  unfold rgN rg2 rg3 rg4
  repeat' split
  all_goals omega
theorem whN_in (x : Nat → Int32) (p : Nat) : 4 ≤ whN x p ∧ whN x p ≤ 5 := by
  unfold whN
  split <;> omega
/-- where the text is wrong; how many rules were gone through -/
def wrI (x : Nat → Int32) (ln : Nat) : Nat → Nat → Nat → Int32 × Nat
  | 0, _, td => (-6, td)
  | k + 1, p, td => if rgN x p < whN x p then (nI (p + rgN x p), td) else if ln ≤ p + rgN x p then (-6, td + 1) else if x (p + rgN x p) = 59 then wrI x ln k (p + rgN x p + 1) (td + 1) else (nI (p + rgN x p), td + 1)
theorem wrI_s {x : Nat → Int32} {ln p td : Nat} (h : p ≤ ln) : wrI x ln (ln + 1 - p) p td = if rgN x p < whN x p then (nI (p + rgN x p), td) else if ln ≤ p + rgN x p then (-6, td + 1) else if x (p + rgN x p) = 59 then wrI x ln (ln - p) (p + rgN x p + 1) (td + 1) else (nI (p + rgN x p), td + 1) := by
  rw [show ln + 1 - p = (ln - p) + 1 by omega]
  rfl
theorem wrI_big {x : Nat → Int32} {ln : Nat} : ∀ (k m p td : Nat), ln + 1 - p ≤ k → ln + 1 - p ≤ m → p ≤ ln → wrI x ln k p td = wrI x ln m p td := by
  intro k
  induction k with
  | zero => intro m p td h1 h2 h3; omega
  | succ k ih =>
    intro m p td h1 h2 h3
    obtain ⟨m, rfl⟩ : ∃ j, m = j + 1 := ⟨m - 1, by omega⟩
    show (if _ then _ else if _ then _ else if _ then _ else _) = (if _ then _ else if _ then _ else if _ then _ else _)
    by_cases c1 : rgN x p < whN x p
    · rw [if_pos c1, if_pos c1]
    · rw [if_neg c1, if_neg c1]
      by_cases c2 : ln ≤ p + rgN x p
      · rw [if_pos c2, if_pos c2]
      · rw [if_neg c2, if_neg c2]
        by_cases c3 : x (p + rgN x p) = 59
        · rw [if_pos c3, if_pos c3]
          exact ih m _ _ (by omega) (by omega) (by omega)
        · rw [if_neg c3, if_neg c3]
/-- the rule that stands at p -/
def ruT (x : Nat → Int32) (p : Nat) : RV := (x p - 48, kfM (x (p + 1)), if x (p + 2) = 42 then 5 else x (p + 2) - 48, if x (p + 3) = 42 then 6 else x (p + 3) - 48, if kfM (x (p + 1)) = 0 then 1 else x (p + 4) - 48)
def psL (x : Nat → Int32) (ln : Nat) : Nat → Nat → List RV
  | 0, _ => []
  | k + 1, p => if p < ln then ruT x p :: psL x ln k (p + whN x p + 1) else []
theorem psL_s {x : Nat → Int32} {ln k p : Nat} : psL x ln (k + 1) p = if p < ln then ruT x p :: psL x ln k (p + whN x p + 1) else [] := rfl
theorem rgN_le4 {x : Nat → Int32} {p : Nat} (h : kfM (x (p + 1)) = 0) : rgN x p ≤ 4 := by
  unfold rgN rg2 rg3 rg4
  simp only [h, if_true]
  repeat' split
  all_goals omega
theorem rg_wh {x : Nat → Int32} {p : Nat} (h : ¬ rgN x p < whN x p) : rgN x p = whN x p := by
  have h1 := rgN_le x p
  by_cases c : x (p + 1) = 112
  · have hk : kfM (x (p + 1)) = 0 := by unfold kfM; rw [if_pos c]
    have h2 := rgN_le4 hk
    have h3 : whN x p = 4 := if_pos c
    omega
  · have h3 : whN x p = 5 := if_neg c
    omega
theorem nx_pos {pd : Nat → Int32} {ln p : Nat} (h : ¬ rgN (nxM pd ln) p < whN (nxM pd ln) p) : p < ln := by
  rcases Nat.lt_or_ge p ln with q | q
  · exact q
  · exfalso
    apply h
    have h0 : nxM pd ln p = 0 := if_neg (by omega)
    unfold rgN
    rw [h0, if_neg (by decide)]
    have := whN_in (nxM pd ln) p
    omega
theorem psL_nil {x : Nat → Int32} {ln k p : Nat} (h : ln ≤ p) : psL x ln k p = [] := by
  cases k with
  | zero => rfl
  | succ k => rw [psL_s, if_neg (by omega)]
theorem nI_ne6 {q : Nat} (hq : q ≤ 1000000) : nI q ≠ -6 := by
  intro e
  have := congrArg Int32.toInt e
  rw [nI_toInt (by omega)] at this
  revert this
  show (q : Int) = -6 → False
  omega
theorem wr_ps {pd : Nat → Int32} {ln : Nat} (hln : ln ≤ 60) : ∀ (k p td : Nat), ln + 1 - p ≤ k → p ≤ ln → (wrI (nxM pd ln) ln k p td).1 = -6 → (wrI (nxM pd ln) ln k p td).2 = td + (psL (nxM pd ln) ln k p).length := by
  intro k
  induction k with
  | zero => intro p td h1 h2; omega
  | succ k ih =>
    intro p td h1 h2 h
    have hrg := rgN_le (nxM pd ln) p
    have hst : wrI (nxM pd ln) ln (k + 1) p td = if rgN (nxM pd ln) p < whN (nxM pd ln) p then (nI (p + rgN (nxM pd ln) p), td) else if ln ≤ p + rgN (nxM pd ln) p then (-6, td + 1) else if nxM pd ln (p + rgN (nxM pd ln) p) = 59 then wrI (nxM pd ln) ln k (p + rgN (nxM pd ln) p + 1) (td + 1) else (nI (p + rgN (nxM pd ln) p), td + 1) := rfl
    rw [hst] at h ⊢
    by_cases c1 : rgN (nxM pd ln) p < whN (nxM pd ln) p
    · rw [if_pos c1] at h
      exact absurd h (nI_ne6 (by omega))
    · rw [if_neg c1] at h ⊢
      have hp := nx_pos c1
      have hw := rg_wh c1
      rw [psL_s, if_pos hp, List.length_cons]
      by_cases c2 : ln ≤ p + rgN (nxM pd ln) p
      · rw [if_pos c2] at h ⊢
        rw [psL_nil (by omega)]
        rfl
      · rw [if_neg c2] at h ⊢
        by_cases c3 : nxM pd ln (p + rgN (nxM pd ln) p) = 59
        · rw [if_pos c3] at h ⊢
          rw [ih _ _ (by omega) (by omega) h, hw]
          omega
        · rw [if_neg c3] at h
          exact absurd h (nI_ne6 (by omega))
theorem psL_len {x : Nat → Int32} {ln : Nat} : ∀ k p, (psL x ln k p).length ≤ ln := by
  have key : ∀ k p, (psL x ln k p).length ≤ ln - p := by
    intro k
    induction k with
    | zero => intro p; exact Nat.zero_le _
    | succ k ih =>
      intro p
      rw [psL_s]
      split
      · rw [List.length_cons]
        have := ih (p + whN x p + 1)
        omega
      · exact Nat.zero_le _
  intro k p
  have := key k p
  omega
/-- rules laid behind the others -/
def addsF (f : Nat → Int32) (n : Nat) : List RV → Nat → Int32
  | [] => f
  | v :: L => addsF (addF f n v.1 v.2.1 v.2.2.1 v.2.2.2.1 v.2.2.2.2) (n + 1) L
def WRp (E : EV) (ad : Nat → Nat) (f hst sl z pd : Nat → Int32) (kept len : Int32) (T : Int32 × Nat) (r : Int32) (H1 : Heap) : Prop := r = T.1 ∧ MPx E ad f hst sl z pd kept len (nI T.2) H1
theorem WRq {E : EV} {ad : Nat → Nat} {f hst sl z pd : Nat → Int32} {kept len : Int32} {T T' : Int32 × Nat} {H1 : Heap} (h : T = T') (k : MPx E ad f hst sl z pd kept len (nI T'.2) H1) : WRp E ad f hst sl z pd kept len T T'.1 H1 := by
  subst h; exact ⟨rfl, k⟩
/-- as P4, with the text's length; told is nobody's business -/
abbrev T5 : Type := Int32 × (Nat → Int32) × (Nat → Int32) × Nat × Nat
def P5 (E : EV) (ad : Nat → Nat) (sl z pd : Nat → Int32) (T : T5) (r : Int32) (H1 : Heap) : Prop := r = T.1 ∧ ∃ told, MPx E ad T.2.1 T.2.2.1 sl z pd (nI T.2.2.2.1) (nI T.2.2.2.2) told H1
theorem P5.of {E : EV} {ad : Nat → Nat} {sl z pd : Nat → Int32} {T T' : T5} {told : Int32} {H1 : Heap} (h : T = T') (k : MPx E ad T'.2.1 T'.2.2.1 sl z pd (nI T'.2.2.2.1) (nI T'.2.2.2.2) told H1) : P5 E ad sl z pd T T'.1 H1 := by
  subst h; exact ⟨rfl, told, k⟩
def readT (f h pd : Nat → Int32) (gl n ln : Nat) : T5 :=
  if (wrI (nxM pd ln) ln (ln + 1) 0 0).1 = -6 then (if n + (psL (nxM pd ln) ln (ln + 1) 0).length ≤ 24 then (nI (n + (psL (nxM pd ln) ln (ln + 1) 0).length), addsF f n (psL (nxM pd ln) ln (ln + 1) 0), recH f h gl, recK gl, 0) else (-4, f, h, gl, ln)) else (-3, f, h, gl, ln)
theorem addF_0 {f : Nat → Int32} {n : Nat} {a b c d e : Int32} : addF f n a b c d e 0 = nI (n + 1) := by
  unfold addF upd
  rw [if_neg (by omega), if_neg (by omega), if_neg (by omega), if_neg (by omega), if_neg (by omega), if_pos rfl]
theorem hdX3_act : Hd yX3_act 2 := by decide +kernel
set_option maxHeartbeats 1000000 in
set_option maxRecDepth 100000 in
theorem metX3_act (l : Launch) (E : EV) (H : Heap) (ad : Nat → Nat) (f hst sl z pd : Nat → Int32) (len told : Int32) (n : Nat) (hn0 : f 0 = nI n) (hn24 : n ≤ 24) (hv : ∀ i, i < n → vp_in (ruA f i).1 5) (mm : Nat) (hm1 : f 1 = nI mm) (hm10 : mm ≤ 10) (gl : Nat) (hgl : gl ≤ 6) (j d : Int32) (hM : MPx E ad f hst sl z pd (nI gl) len told H) (hT : TW E ad) : Ct l yX3_act cX3_act 5 (some .int) 7 170 (0) (0) [.ref (ad 0), .int j, .int d] E H (TA ad) (pI (fun r' H1 => P4 E ad sl z pd len told (actT f hst gl n mm j d) r' H1)) := by
  obtain ⟨g, k0, k1, k2, k3, k4, k5, k6⟩ := hM
  refine Ct.ofZ (by decide) (Nat.le_of_ble_eq_true rfl) ?_
  intro p e s m bl mt cd ls Q hF hW hH hl hend
  obtain ⟨F, hin⟩ := hF
  have hx := F.1
  have hb := F.2.1
  have hts := F.2.2.2.2
  have hl : lv_has ls 5 [(0, .ref (ad 0)), (1, .int j), (2, .int d)] := hl
  have hS : va_S (TA ad) H H [] := va_S.rf
  refine lv_aload_n hx hb dX3_act_0 rfl (lv_at hl 0 rfl) ?_
  refine lv_iload_n hx hb dX3_act_1 rfl (lv_at hl 1 rfl) ?_
  refine run_ro (w := .int (b2i (inR j 0 (nI mm - 1)))) (rest := []) (kV F hW (metX3_isMember l E H ad (nI gl) len told k0 f k1 mm hm1 j) (lw_V q1134 q1136 qs29 q52 q1137) hdX3_isMember ⟨Nat.le_of_ble_eq_true rfl, Nat.le_of_ble_eq_true rfl⟩ (recv hW k0 rfl) hl.1 rfl (Nat.le_of_ble_eq_true rfl) dX3_act_2 ⟨Nat.le_of_ble_eq_true rfl, Nat.le_of_ble_eq_true rfl⟩) ?_
  refine lv_if_eq (tgt := 17) hx hb dX3_act_5 (by decide) (fun c_1 => ?_) (fun c_1 => ?_)
  · skip
    have bc_1 := c_1
    have c_1 := b2i_f c_1
    refine lv_iconst (v := (-1)) hx hb dX3_act_17 (by decide) ?_
    exact hend _ _ _ _ _ _ _ rfl dX3_act_18 (⟨_, rfl, P4.of (T' := ((-1), f, hst, gl)) (by simp [actT, actR, actF, actF1, actC, c_1]) ⟨_, k0, k1, k2, k3, k4, k5, k6⟩⟩) hS (Nat.zero_le _) (Nat.zero_le _)
  · skip
    have bc_1 := c_1
    have c_1 := b2i_t c_1
    obtain ⟨i, hi, ei0⟩ := idx_of c_1 (by omega)
    subst ei0
    have ei : ix (nI i) = i := ix_nI (by omega)
    refine lv_iload_n hx hb dX3_act_8 rfl (lv_at hl 2 rfl) ?_
    refine lv_iconst (v := 0) hx hb dX3_act_9 (by decide) ?_
    refine lv_iconst (v := 5) hx hb dX3_act_10 (by decide) ?_
    refine run_ro (w := .int (b2i (inR d 0 5))) (rest := []) (kS F hW (metX3_in l E H d 0 5) (lw_S q1049 q1050 q52 q1051) hdX3_in ⟨Nat.le_of_ble_eq_true rfl, Nat.le_of_ble_eq_true rfl⟩ hl.1 rfl (Nat.le_of_ble_eq_true rfl) dX3_act_11 ⟨Nat.le_of_ble_eq_true rfl, Nat.le_of_ble_eq_true rfl⟩) ?_
    refine lv_if_ne (tgt := 19) hx hb dX3_act_14 (by decide) (fun c_2 => ?_) (fun c_2 => ?_)
    · skip
      have bc_2 := c_2
      have c_2 := b2i_t c_2
      refine lv_aload_n hx hb dX3_act_19 rfl (lv_at hl 0 rfl) ?_
      refine run_chN (rest := []) (kV F hW (metX3_record l E H ad f hst sl z pd len told gl (by omega) ⟨_, k0, k1, k2, k3, k4, k5, k6⟩ hT) (lw_V q1052 q1054 qs16 q52 q1055) hdX3_record ⟨Nat.le_of_ble_eq_true rfl, Nat.le_of_ble_eq_true rfl⟩ (recv hW k0 rfl) hl.1 rfl (Nat.le_of_ble_eq_true rfl) dX3_act_20 ⟨Nat.le_of_ble_eq_true rfl, Nat.le_of_ble_eq_true rfl⟩) hS (fun _ h9 => h9) (fun H_3 locs hp_3 hc_3 hS_3 => ?_)
      have hW_3 := hW.kept hc_3 hT.old
      obtain ⟨g_4, k0_4, k1_4, k2_4, k3_4, k4_4, k5_4, k6_4⟩ := hp_3
      refine lv_aload_n hx hb dX3_act_23 rfl (lv_at hl 0 rfl) ?_
      refine lv_aload_n hx hb dX3_act_24 rfl (lv_at hl 0 rfl) ?_
      refine xget (ref := "LayeredChartersModel") (ci := 3) (v := .ref (ad 1)) (C := RX3) (T := TX3) (N := 9) F in_X3 hW_3 k0_4 rfl 0 (by decide) q1016 (fun _ h9 => h9) rfl dX3_act_25 ?_
      refine lv_iload_n hx hb dX3_act_28 rfl (lv_at hl 1 rfl) ?_
      refine lv_iconst (v := 0) hx hb dX3_act_29 (by decide) ?_
      refine run_ro (w := .int (129 + 4 * (nI i) + 0)) (rest := [.ref (ad 1), .ref (ad 0)]) (kS F hW_3 (metX3_ofGuild l E H_3 (nI i) 0) (lw_S q1127 q1128 q52 q1129) hdX3_ofGuild ⟨Nat.le_of_ble_eq_true rfl, Nat.le_of_ble_eq_true rfl⟩ hl.1 rfl (Nat.le_of_ble_eq_true rfl) dX3_act_30 ⟨Nat.le_of_ble_eq_true rfl, Nat.le_of_ble_eq_true rfl⟩) ?_
      refine xild F hW_3 k1_4 (by rw [mb0 _]; exact vp_in_nI (by omega) (by omega)) dX3_act_33 ?_
      refine lv_val (y := f (129 + 4 * i)) (by rw [mb0 _, nI_clamp (by omega)]) ?_
      refine lv_iload_n hx hb dX3_act_34 rfl (lv_at hl 2 rfl) ?_
      refine lv_aload_n hx hb dX3_act_35 rfl (lv_at hl 0 rfl) ?_
      refine xget (ref := "LayeredChartersModel") (ci := 3) (v := .ref (ad 1)) (C := RX3) (T := TX3) (N := 9) F in_X3 hW_3 k0_4 rfl 0 (by decide) q1016 (fun _ h9 => h9) rfl dX3_act_36 ?_
      refine lv_iload_n hx hb dX3_act_39 rfl (lv_at hl 1 rfl) ?_
      refine lv_iconst (v := 1) hx hb dX3_act_40 (by decide) ?_
      refine run_ro (w := .int (129 + 4 * (nI i) + 1)) (rest := [.ref (ad 1), .int d, .int (f (129 + 4 * i)), .ref (ad 0)]) (kS F hW_3 (metX3_ofGuild l E H_3 (nI i) 1) (lw_S q1127 q1128 q52 q1129) hdX3_ofGuild ⟨Nat.le_of_ble_eq_true rfl, Nat.le_of_ble_eq_true rfl⟩ hl.1 rfl (Nat.le_of_ble_eq_true rfl) dX3_act_41 ⟨Nat.le_of_ble_eq_true rfl, Nat.le_of_ble_eq_true rfl⟩) ?_
      refine xild F hW_3 k1_4 (by rw [mb1 _]; exact vp_in_nI (by omega) (by omega)) dX3_act_44 ?_
      refine lv_val (y := f (129 + 4 * i + 1)) (by rw [mb1 _, nI_clamp (by omega)]) ?_
      refine run_chI (rest := []) (kV F hW_3 (metX3_reason l E H_3 ad f (recH f hst gl) sl z pd (nI (recK gl)) len told ⟨_, k0_4, k1_4, k2_4, k3_4, k4_4, k5_4, k6_4⟩ hT n hn0 hn24 hv (f (129 + 4 * i)) d (f (129 + 4 * i + 1))) (lw_V q1146 q1148 qs30 q52 q1149) hdX3_reason ⟨Nat.le_of_ble_eq_true rfl, Nat.le_of_ble_eq_true rfl⟩ (recv hW_3 k0_4 rfl) hl.1 rfl (Nat.le_of_ble_eq_true rfl) dX3_act_45 ⟨Nat.le_of_ble_eq_true rfl, Nat.le_of_ble_eq_true rfl⟩) hS_3 (fun _ h9 => h9) (fun r_5 H_5 locs hp_5 hc_5 hS_5 => ?_)
      have hW_5 := hW_3.kept hc_5 hT.old
      obtain ⟨hr_5, hp_5⟩ := hp_5
      obtain ⟨g_6, k0_6, k1_6, k2_6, k3_6, k4_6, k5_6, k6_6⟩ := hp_5
      have hr_5 : r_5 = reasonM (ruA f) n (f (129 + 4 * i)) d (f (129 + 4 * i + 1)) := hr_5
      subst hr_5
      refine lv_istore_n (lv' := [(3, .int (reasonM (ruA f) n (f (129 + 4 * i)) d (f (129 + 4 * i + 1)))), (0, .ref (ad 0)), (1, .int (nI i)), (2, .int d)]) hx hb dX3_act_48 rfl hl (by decide) rfl (fun ls hl => ?_)
      refine lv_aload_n hx hb dX3_act_49 rfl (lv_at hl 1 rfl) ?_
      refine xget (ref := "LayeredChartersModel") (ci := 3) (v := .ref (ad 1)) (C := RX3) (T := TX3) (N := 9) F in_X3 hW_5 k0_6 rfl 0 (by decide) q1016 (fun _ h9 => h9) rfl dX3_act_50 ?_
      refine lv_iload_n hx hb dX3_act_53 rfl (lv_at hl 2 rfl) ?_
      refine lv_iload_n hx hb dX3_act_54 rfl (lv_at hl 0 rfl) ?_
      refine lv_bipush (v := (-6)) hx hb dX3_act_55 (by decide) ?_
      refine lv_icmp_ne (tgt := 64) hx hb dX3_act_57 (by decide) (fun c_7 => ?_) (fun c_7 => ?_)
      · skip
        refine lv_iconst (v := 3) hx hb dX3_act_64 (by decide) ?_
        refine run_ro (w := .int (129 + 4 * (nI i) + 3)) (rest := [.ref (ad 1)]) (kS F hW_5 (metX3_ofGuild l E H_5 (nI i) 3) (lw_S q1127 q1128 q52 q1129) hdX3_ofGuild ⟨Nat.le_of_ble_eq_true rfl, Nat.le_of_ble_eq_true rfl⟩ hl.1 rfl (Nat.le_of_ble_eq_true rfl) dX3_act_65 ⟨Nat.le_of_ble_eq_true rfl, Nat.le_of_ble_eq_true rfl⟩) ?_
        refine lv_dup2_11 hx hb dX3_act_68 rfl rfl ?_
        refine xild F hW_5 k1_6 (by rw [mb3 _]; exact vp_in_nI (by omega) (by omega)) dX3_act_69 ?_
        refine lv_val (y := f (129 + 4 * i + 3)) (by rw [mb3 _, nI_clamp (by omega)]) ?_
        refine lv_iconst (v := 1) hx hb dX3_act_70 (by decide) ?_
        refine lv_iadd hx hb dX3_act_71 ?_
        refine xist F hW_5 k1_6 hS_5 ⟨1, by decide, rfl⟩ (by rw [mb3 _]; exact vp_in_nI (by omega) (by omega)) dX3_act_72 (fun H_8 locs ho_8 hu_8 hS_8 => ?_)
        have ho_8 : iat E (ad 1) 0 169 (upd f (129 + 4 * i + 3) ((f (129 + 4 * i + 3)) + 1)) H_8 := by have h9 := ho_8; rw [show (129 + 4 * (nI i) + 3 : Int32).toNatClampNeg = (129 + 4 * i + 3) from by rw [mb3 _, nI_clamp (by omega)]] at h9; exact h9
        have hW_H_8 := hW_5.kept hu_8.chg (fun q _ hq => hq ▸ (hT.2 1 (by decide)))
        have k0_H_8 := k0_6.kept hu_8.chg (fun h9 => absurd (hT.1 0 1 (by decide) (by decide) h9) (by decide))
        have k2_H_8 := k2_6.kept hu_8.chg (fun h9 => absurd (hT.1 2 1 (by decide) (by decide) h9) (by decide))
        have k3_H_8 := k3_6.kept hu_8.chg (fun h9 => absurd (hT.1 3 1 (by decide) (by decide) h9) (by decide))
        have k4_H_8 := k4_6.kept hu_8.chg (fun h9 => absurd (hT.1 4 1 (by decide) (by decide) h9) (by decide))
        have k5_H_8 := k5_6.kept hu_8.chg (fun h9 => absurd (hT.1 5 1 (by decide) (by decide) h9) (by decide))
        have k6_H_8 := k6_6.kept hu_8.chg (fun h9 => absurd (hT.1 6 1 (by decide) (by decide) h9) (by decide))
        refine lv_iload_n hx hb dX3_act_73 rfl (lv_at hl 0 rfl) ?_
        refine lv_bipush (v := (-6)) hx hb dX3_act_74 (by decide) ?_
        refine lv_icmp_ne (tgt := 83) hx hb dX3_act_76 (by decide) (fun _ => ?_) (fun c9 => absurd c9 c_7)
        refine lv_iload_n hx hb dX3_act_83 rfl (lv_at hl 0 rfl) ?_
        refine lv_bipush (v := 100) hx hb dX3_act_84 (by decide) ?_
        refine lv_icmp_ne (tgt := 94) hx hb dX3_act_86 (by decide) (fun c_9 => ?_) (fun c_9 => ?_)
        · skip
          refine lv_iconst (v := 3) hx hb dX3_act_94 (by decide) ?_
          refine lv_aload_n hx hb dX3_act_95 rfl (lv_at hl 1 rfl) ?_
          refine lv_iload_n hx hb dX3_act_96 rfl (lv_at hl 0 rfl) ?_
          refine lv_iconst (v := 0) hx hb dX3_act_97 (by decide) ?_
          obtain ⟨q9, hq9, eq9⟩ := (reasonM_in.resolve_left c_9).resolve_left c_7
          have hx9 : ix (reasonM (ruA f) n (f (129 + 4 * i)) d (f (129 + 4 * i + 1))) = q9 := by rw [eq9]; exact ix_nI (by omega)
          have hru9 : ruA (upd f (129 + 4 * i + 3) ((f (129 + 4 * i + 3)) + 1)) q9 = ruA f q9 := ruA_hi (by omega)
          obtain ⟨l9, hl9, el9⟩ := vp_in_of (hv q9 hq9) (by decide)
          have el9 : (ruA (upd f (129 + 4 * i + 3) ((f (129 + 4 * i + 3)) + 1)) q9).1 = nI l9 := by rw [hru9]; exact el9
          have hxl9 : ix (nI l9) = l9 := ix_nI (by omega)
          refine run_ro (w := .int ((ruA (upd f (129 + 4 * i + 3) ((f (129 + 4 * i + 3)) + 1)) q9).1)) (rest := [.int 3]) (kV F hW_H_8 (metX3_of l E H_8 ad (nI (recK gl)) len told k0_H_8 (upd f (129 + 4 * i + 3) ((f (129 + 4 * i + 3)) + 1)) ho_8 _ 0 (9 + 5 * q9) (by rw [eq9]; exact at0 _) (by omega)) (lw_V q1087 q1089 qs21 q52 q1090) hdX3_of ⟨Nat.le_of_ble_eq_true rfl, Nat.le_of_ble_eq_true rfl⟩ (recv hW_H_8 k0_H_8 rfl) hl.1 rfl (Nat.le_of_ble_eq_true rfl) dX3_act_98 ⟨Nat.le_of_ble_eq_true rfl, Nat.le_of_ble_eq_true rfl⟩) ?_
          refine lv_val (y := nI l9) el9 ?_
          refine lv_iadd hx hb dX3_act_101 ?_
          refine lv_val (y := nI (3 + l9)) ((nI_add (3) (l9))) ?_
          refine lv_istore (lv' := [(4, .int (nI (3 + l9))), (3, .int (reasonM (ruA f) n (f (129 + 4 * i)) d (f (129 + 4 * i + 1)))), (0, .ref (ad 0)), (1, .int (nI i)), (2, .int d)]) hx hb dX3_act_102 hl (by decide) rfl (fun ls hl => ?_)
          refine lv_aload_n hx hb dX3_act_104 rfl (lv_at hl 2 rfl) ?_
          refine xget (ref := "LayeredChartersModel") (ci := 3) (v := .ref (ad 1)) (C := RX3) (T := TX3) (N := 9) F in_X3 hW_H_8 k0_H_8 rfl 0 (by decide) q1016 (fun _ h9 => h9) rfl dX3_act_105 ?_
          refine lv_iload hx hb dX3_act_108 (lv_at hl 0 rfl) ?_
          refine lv_dup2_11 hx hb dX3_act_110 rfl rfl ?_
          refine xild F hW_H_8 ho_8 (vp_in_nI (by omega) (by omega)) dX3_act_111 ?_
          refine lv_val (y := (upd f (129 + 4 * i + 3) ((f (129 + 4 * i + 3)) + 1)) (3 + l9)) ((by rw [nI_clamp (by omega)])) ?_
          refine lv_iconst (v := 1) hx hb dX3_act_112 (by decide) ?_
          refine lv_iadd hx hb dX3_act_113 ?_
          refine xist F hW_H_8 ho_8 hS_8 ⟨1, by decide, rfl⟩ (vp_in_nI (by omega) (by omega)) dX3_act_114 (fun H_10 locs ho_10 hu_10 hS_10 => ?_)
          have ho_10 : iat E (ad 1) 0 169 (upd (upd f (129 + 4 * i + 3) ((f (129 + 4 * i + 3)) + 1)) (3 + l9) (((upd f (129 + 4 * i + 3) ((f (129 + 4 * i + 3)) + 1)) (3 + l9)) + 1)) H_10 := by have h9 := ho_10; rw [show (nI (3 + l9) : Int32).toNatClampNeg = (3 + l9) from by rw [nI_clamp (by omega)]] at h9; exact h9
          have hW_H_10 := hW_H_8.kept hu_10.chg (fun q _ hq => hq ▸ (hT.2 1 (by decide)))
          have k0_H_10 := k0_H_8.kept hu_10.chg (fun h9 => absurd (hT.1 0 1 (by decide) (by decide) h9) (by decide))
          have k2_H_10 := k2_H_8.kept hu_10.chg (fun h9 => absurd (hT.1 2 1 (by decide) (by decide) h9) (by decide))
          have k3_H_10 := k3_H_8.kept hu_10.chg (fun h9 => absurd (hT.1 3 1 (by decide) (by decide) h9) (by decide))
          have k4_H_10 := k4_H_8.kept hu_10.chg (fun h9 => absurd (hT.1 4 1 (by decide) (by decide) h9) (by decide))
          have k5_H_10 := k5_H_8.kept hu_10.chg (fun h9 => absurd (hT.1 5 1 (by decide) (by decide) h9) (by decide))
          have k6_H_10 := k6_H_8.kept hu_10.chg (fun h9 => absurd (hT.1 6 1 (by decide) (by decide) h9) (by decide))
          refine lv_iload_n hx hb dX3_act_115 rfl (lv_at hl 1 rfl) ?_
          exact hend _ _ _ _ _ _ _ rfl dX3_act_116 (⟨_, rfl, P4.of (T' := (reasonM (ruA f) n (f (129 + 4 * i)) d (f (129 + 4 * i + 1)), upd (upd f (129 + 4 * i + 3) ((f (129 + 4 * i + 3)) + 1)) (3 + l9) (((upd f (129 + 4 * i + 3) ((f (129 + 4 * i + 3)) + 1)) (3 + l9)) + 1), recH f hst gl, (recK gl))) (by simp [actT, actR, actF, actF1, actC, c_1, ei, c_2, c_7, c_9, hx9, el9, hxl9]) ⟨_, k0_H_10, ho_10, k2_H_10, k3_H_10, k4_H_10, k5_H_10, k6_H_10⟩⟩) hS_10 (Nat.zero_le _) (Nat.zero_le _)
        · skip
          refine lv_bipush (v := 8) hx hb dX3_act_89 (by decide) ?_
          refine lv_goto (tgt := 102) hx hb dX3_act_91 (by decide) ?_
          refine lv_istore (lv' := [(4, .int 8), (3, .int (reasonM (ruA f) n (f (129 + 4 * i)) d (f (129 + 4 * i + 1)))), (0, .ref (ad 0)), (1, .int (nI i)), (2, .int d)]) hx hb dX3_act_102 hl (by decide) rfl (fun ls hl => ?_)
          refine lv_aload_n hx hb dX3_act_104 rfl (lv_at hl 2 rfl) ?_
          refine xget (ref := "LayeredChartersModel") (ci := 3) (v := .ref (ad 1)) (C := RX3) (T := TX3) (N := 9) F in_X3 hW_H_8 k0_H_8 rfl 0 (by decide) q1016 (fun _ h9 => h9) rfl dX3_act_105 ?_
          refine lv_iload hx hb dX3_act_108 (lv_at hl 0 rfl) ?_
          refine lv_dup2_11 hx hb dX3_act_110 rfl rfl ?_
          refine xild F hW_H_8 ho_8 (vp_in_nI (n := 8) (by omega) (by omega)) dX3_act_111 ?_
          refine lv_val (y := (upd f (129 + 4 * i + 3) ((f (129 + 4 * i + 3)) + 1)) 8) (rfl) ?_
          refine lv_iconst (v := 1) hx hb dX3_act_112 (by decide) ?_
          refine lv_iadd hx hb dX3_act_113 ?_
          refine xist F hW_H_8 ho_8 hS_8 ⟨1, by decide, rfl⟩ (vp_in_nI (n := 8) (by omega) (by omega)) dX3_act_114 (fun H_11 locs ho_11 hu_11 hS_11 => ?_)
          have ho_11 : iat E (ad 1) 0 169 (upd (upd f (129 + 4 * i + 3) ((f (129 + 4 * i + 3)) + 1)) 8 (((upd f (129 + 4 * i + 3) ((f (129 + 4 * i + 3)) + 1)) 8) + 1)) H_11 := ho_11
          have hW_H_11 := hW_H_8.kept hu_11.chg (fun q _ hq => hq ▸ (hT.2 1 (by decide)))
          have k0_H_11 := k0_H_8.kept hu_11.chg (fun h9 => absurd (hT.1 0 1 (by decide) (by decide) h9) (by decide))
          have k2_H_11 := k2_H_8.kept hu_11.chg (fun h9 => absurd (hT.1 2 1 (by decide) (by decide) h9) (by decide))
          have k3_H_11 := k3_H_8.kept hu_11.chg (fun h9 => absurd (hT.1 3 1 (by decide) (by decide) h9) (by decide))
          have k4_H_11 := k4_H_8.kept hu_11.chg (fun h9 => absurd (hT.1 4 1 (by decide) (by decide) h9) (by decide))
          have k5_H_11 := k5_H_8.kept hu_11.chg (fun h9 => absurd (hT.1 5 1 (by decide) (by decide) h9) (by decide))
          have k6_H_11 := k6_H_8.kept hu_11.chg (fun h9 => absurd (hT.1 6 1 (by decide) (by decide) h9) (by decide))
          refine lv_iload_n hx hb dX3_act_115 rfl (lv_at hl 1 rfl) ?_
          exact hend _ _ _ _ _ _ _ rfl dX3_act_116 (⟨_, rfl, P4.of (T' := (reasonM (ruA f) n (f (129 + 4 * i)) d (f (129 + 4 * i + 1)), upd (upd f (129 + 4 * i + 3) ((f (129 + 4 * i + 3)) + 1)) 8 (((upd f (129 + 4 * i + 3) ((f (129 + 4 * i + 3)) + 1)) 8) + 1), recH f hst gl, (recK gl))) (by simp [actT, actR, actF, actF1, actC, c_1, ei, c_2, c_7, c_9]) ⟨_, k0_H_11, ho_11, k2_H_11, k3_H_11, k4_H_11, k5_H_11, k6_H_11⟩⟩) hS_11 (Nat.zero_le _) (Nat.zero_le _)
      · skip
        refine lv_iconst (v := 2) hx hb dX3_act_60 (by decide) ?_
        refine lv_goto (tgt := 65) hx hb dX3_act_61 (by decide) ?_
        refine run_ro (w := .int (129 + 4 * (nI i) + 2)) (rest := [.ref (ad 1)]) (kS F hW_5 (metX3_ofGuild l E H_5 (nI i) 2) (lw_S q1127 q1128 q52 q1129) hdX3_ofGuild ⟨Nat.le_of_ble_eq_true rfl, Nat.le_of_ble_eq_true rfl⟩ hl.1 rfl (Nat.le_of_ble_eq_true rfl) dX3_act_65 ⟨Nat.le_of_ble_eq_true rfl, Nat.le_of_ble_eq_true rfl⟩) ?_
        refine lv_dup2_11 hx hb dX3_act_68 rfl rfl ?_
        refine xild F hW_5 k1_6 (by rw [mb2 _]; exact vp_in_nI (by omega) (by omega)) dX3_act_69 ?_
        refine lv_val (y := f (129 + 4 * i + 2)) (by rw [mb2 _, nI_clamp (by omega)]) ?_
        refine lv_iconst (v := 1) hx hb dX3_act_70 (by decide) ?_
        refine lv_iadd hx hb dX3_act_71 ?_
        refine xist F hW_5 k1_6 hS_5 ⟨1, by decide, rfl⟩ (by rw [mb2 _]; exact vp_in_nI (by omega) (by omega)) dX3_act_72 (fun H_12 locs ho_12 hu_12 hS_12 => ?_)
        have ho_12 : iat E (ad 1) 0 169 (upd f (129 + 4 * i + 2) ((f (129 + 4 * i + 2)) + 1)) H_12 := by have h9 := ho_12; rw [show (129 + 4 * (nI i) + 2 : Int32).toNatClampNeg = (129 + 4 * i + 2) from by rw [mb2 _, nI_clamp (by omega)]] at h9; exact h9
        have hW_H_12 := hW_5.kept hu_12.chg (fun q _ hq => hq ▸ (hT.2 1 (by decide)))
        have k0_H_12 := k0_6.kept hu_12.chg (fun h9 => absurd (hT.1 0 1 (by decide) (by decide) h9) (by decide))
        have k2_H_12 := k2_6.kept hu_12.chg (fun h9 => absurd (hT.1 2 1 (by decide) (by decide) h9) (by decide))
        have k3_H_12 := k3_6.kept hu_12.chg (fun h9 => absurd (hT.1 3 1 (by decide) (by decide) h9) (by decide))
        have k4_H_12 := k4_6.kept hu_12.chg (fun h9 => absurd (hT.1 4 1 (by decide) (by decide) h9) (by decide))
        have k5_H_12 := k5_6.kept hu_12.chg (fun h9 => absurd (hT.1 5 1 (by decide) (by decide) h9) (by decide))
        have k6_H_12 := k6_6.kept hu_12.chg (fun h9 => absurd (hT.1 6 1 (by decide) (by decide) h9) (by decide))
        refine lv_iload_n hx hb dX3_act_73 rfl (lv_at hl 0 rfl) ?_
        refine lv_bipush (v := (-6)) hx hb dX3_act_74 (by decide) ?_
        refine lv_icmp_ne (tgt := 83) hx hb dX3_act_76 (by decide) (fun c9 => absurd c_7 c9) (fun _ => ?_)
        refine lv_iconst (v := 2) hx hb dX3_act_79 (by decide) ?_
        refine lv_goto (tgt := 102) hx hb dX3_act_80 (by decide) ?_
        refine lv_istore (lv' := [(4, .int 2), (3, .int (reasonM (ruA f) n (f (129 + 4 * i)) d (f (129 + 4 * i + 1)))), (0, .ref (ad 0)), (1, .int (nI i)), (2, .int d)]) hx hb dX3_act_102 hl (by decide) rfl (fun ls hl => ?_)
        refine lv_aload_n hx hb dX3_act_104 rfl (lv_at hl 2 rfl) ?_
        refine xget (ref := "LayeredChartersModel") (ci := 3) (v := .ref (ad 1)) (C := RX3) (T := TX3) (N := 9) F in_X3 hW_H_12 k0_H_12 rfl 0 (by decide) q1016 (fun _ h9 => h9) rfl dX3_act_105 ?_
        refine lv_iload hx hb dX3_act_108 (lv_at hl 0 rfl) ?_
        refine lv_dup2_11 hx hb dX3_act_110 rfl rfl ?_
        refine xild F hW_H_12 ho_12 (vp_in_nI (n := 2) (by omega) (by omega)) dX3_act_111 ?_
        refine lv_val (y := (upd f (129 + 4 * i + 2) ((f (129 + 4 * i + 2)) + 1)) 2) (rfl) ?_
        refine lv_iconst (v := 1) hx hb dX3_act_112 (by decide) ?_
        refine lv_iadd hx hb dX3_act_113 ?_
        refine xist F hW_H_12 ho_12 hS_12 ⟨1, by decide, rfl⟩ (vp_in_nI (n := 2) (by omega) (by omega)) dX3_act_114 (fun H_13 locs ho_13 hu_13 hS_13 => ?_)
        have ho_13 : iat E (ad 1) 0 169 (upd (upd f (129 + 4 * i + 2) ((f (129 + 4 * i + 2)) + 1)) 2 (((upd f (129 + 4 * i + 2) ((f (129 + 4 * i + 2)) + 1)) 2) + 1)) H_13 := ho_13
        have hW_H_13 := hW_H_12.kept hu_13.chg (fun q _ hq => hq ▸ (hT.2 1 (by decide)))
        have k0_H_13 := k0_H_12.kept hu_13.chg (fun h9 => absurd (hT.1 0 1 (by decide) (by decide) h9) (by decide))
        have k2_H_13 := k2_H_12.kept hu_13.chg (fun h9 => absurd (hT.1 2 1 (by decide) (by decide) h9) (by decide))
        have k3_H_13 := k3_H_12.kept hu_13.chg (fun h9 => absurd (hT.1 3 1 (by decide) (by decide) h9) (by decide))
        have k4_H_13 := k4_H_12.kept hu_13.chg (fun h9 => absurd (hT.1 4 1 (by decide) (by decide) h9) (by decide))
        have k5_H_13 := k5_H_12.kept hu_13.chg (fun h9 => absurd (hT.1 5 1 (by decide) (by decide) h9) (by decide))
        have k6_H_13 := k6_H_12.kept hu_13.chg (fun h9 => absurd (hT.1 6 1 (by decide) (by decide) h9) (by decide))
        refine lv_iload_n hx hb dX3_act_115 rfl (lv_at hl 1 rfl) ?_
        exact hend _ _ _ _ _ _ _ rfl dX3_act_116 (⟨_, rfl, P4.of (T' := (reasonM (ruA f) n (f (129 + 4 * i)) d (f (129 + 4 * i + 1)), upd (upd f (129 + 4 * i + 2) ((f (129 + 4 * i + 2)) + 1)) 2 (((upd f (129 + 4 * i + 2) ((f (129 + 4 * i + 2)) + 1)) 2) + 1), recH f hst gl, (recK gl))) (by simp [actT, actR, actF, actF1, actC, c_1, ei, c_2, c_7]) ⟨_, k0_H_13, ho_13, k2_H_13, k3_H_13, k4_H_13, k5_H_13, k6_H_13⟩⟩) hS_13 (Nat.zero_le _) (Nat.zero_le _)
    · skip
      have bc_2 := c_2
      have c_2 := b2i_f c_2
      refine lv_iconst (v := (-1)) hx hb dX3_act_17 (by decide) ?_
      exact hend _ _ _ _ _ _ _ rfl dX3_act_18 (⟨_, rfl, P4.of (T' := ((-1), f, hst, gl)) (by simp [actT, actR, actF, actF1, actC, c_1, ei, c_2]) ⟨_, k0, k1, k2, k3, k4, k5, k6⟩⟩) hS (Nat.zero_le _) (Nat.zero_le _)

theorem hdX3_tidy : Hd yX3_tidy 0 := by decide +kernel
set_option maxHeartbeats 1000000 in
set_option maxRecDepth 100000 in
theorem metX3_tidy (l : Launch) (E : EV) (H : Heap) (ad : Nat → Nat) (f hst sl z pd : Nat → Int32) (len told : Int32) (n : Nat) (hn0 : f 0 = nI n) (hn24 : n ≤ 24) (hv : ∀ i, i < n → vp_in (ruA f i).1 5) (gl : Nat) (hgl : gl ≤ 6) (hM : MPx E ad f hst sl z pd (nI gl) len told H) (hT : TW E ad) : Ct l yX3_tidy cX3_tidy 3 (some .int) 8 187 (0) (0) [.ref (ad 0)] E H (TA ad) (pI (fun r' H1 => P4 E ad sl z pd len told (tidyT f hst gl n) r' H1)) := by
  obtain ⟨g, k0, k1, k2, k3, k4, k5, k6⟩ := hM
  refine Ct.ofZ (by decide) (Nat.le_of_ble_eq_true rfl) ?_
  intro p e s m bl mt cd ls Q hF hW hH hl hend
  obtain ⟨F, hin⟩ := hF
  have hx := F.1
  have hb := F.2.1
  have hts := F.2.2.2.2
  have hl : lv_has ls 3 [(0, .ref (ad 0))] := hl
  have hS : va_S (TA ad) H H [] := va_S.rf
  refine lv_aload_n hx hb dX3_tidy_0 rfl (lv_at hl 0 rfl) ?_
  refine run_chN (rest := []) (kV F hW (metX3_record l E H ad f hst sl z pd len told gl (by omega) ⟨_, k0, k1, k2, k3, k4, k5, k6⟩ hT) (lw_V q1052 q1054 qs16 q52 q1055) hdX3_record ⟨Nat.le_of_ble_eq_true rfl, Nat.le_of_ble_eq_true rfl⟩ (recv hW k0 rfl) hl.1 rfl (Nat.le_of_ble_eq_true rfl) dX3_tidy_1 ⟨Nat.le_of_ble_eq_true rfl, Nat.le_of_ble_eq_true rfl⟩) hS (fun _ h9 => h9) (fun H_1 locs hp_1 hc_1 hS_1 => ?_)
  have hW_1 := hW.kept hc_1 hT.old
  obtain ⟨g_2, k0_2, k1_2, k2_2, k3_2, k4_2, k5_2, k6_2⟩ := hp_1
  refine lv_iconst (v := 0) hx hb dX3_tidy_4 (by decide) ?_
  refine lv_istore_n (lv' := [(1, .int 0), (0, .ref (ad 0))]) hx hb dX3_tidy_5 rfl hl (by decide) rfl (fun ls hl => ?_)
  refine lv_aload_n hx hb dX3_tidy_6 rfl (lv_at hl 1 rfl) ?_
  refine run_chI (rest := []) (kV F hW_1 (metX3_firstIdle l E H_1 ad f (recH f hst gl) sl z pd (nI (recK gl)) len told ⟨_, k0_2, k1_2, k2_2, k3_2, k4_2, k5_2, k6_2⟩ hT n hn0 hn24 hv) (lw_V q1095 q1097 qs22 q52 q1098) hdX3_firstIdle ⟨Nat.le_of_ble_eq_true rfl, Nat.le_of_ble_eq_true rfl⟩ (recv hW_1 k0_2 rfl) hl.1 rfl (Nat.le_of_ble_eq_true rfl) dX3_tidy_7 ⟨Nat.le_of_ble_eq_true rfl, Nat.le_of_ble_eq_true rfl⟩) hS_1 (fun _ h9 => h9) (fun r_3 H_3 locs hp_3 hc_3 hS_3 => ?_)
  have hW_3 := hW_1.kept hc_3 hT.old
  obtain ⟨hr_3, hp_3⟩ := hp_3
  obtain ⟨g_4, k0_4, k1_4, k2_4, k3_4, k4_4, k5_4, k6_4⟩ := hp_3
  have hr_3 : r_3 = fiM (ruA f) n := hr_3
  subst hr_3
  refine lv_istore_n (lv' := [(2, .int (fiM (ruA f) n)), (1, .int 0), (0, .ref (ad 0))]) hx hb dX3_tidy_10 rfl hl (by decide) rfl (fun ls hl => ?_)
  have lg11 : ∀ (kk : Nat) (f2 : Nat → Int32) (n2 : Nat) (c2 : Nat), n2 < kk → (f2 0 = nI n2) → (n2 ≤ 24) → (∀ i, i < n2 → vp_in (ruA f2 i).1 5) → (tdF n f n = (c2 + (tdF n2 f2 n2).1, (tdF n2 f2 n2).2)) → ∀ (Hg_11 : Heap) (locs : List Loc), va_S (TA ad) H Hg_11 locs → WK E s Hg_11 → MPx E ad f2 (recH f hst gl) sl z pd (nI (recK gl)) len told Hg_11 → ∀ ls : Array Slot, lv_has ls 3 [(1, .int (nI c2)), (2, .int (fiM (ruA f2) n2)), (0, .ref (ad 0))] → W p l e ({ frames := 8, cells := 0, slots := 0, locals := 187 } : Room) s m ([.ref (ad 0)] : List Value).toArray bl mt cd Hg_11 locs 0 0 Q (F0 m 11 ls []) := by
    intro kk
    induction kk with
    | zero => intro f2 n2 c2 hm; exact absurd hm (Nat.not_lt_zero _)
    | succ kk ih11 =>
      intro f2 n2 c2 hm hf2 hn2 hv2 hinv Hg_11 locs hS_11 hW_11 hl_11 ls hl
      obtain ⟨g_5, k0_5, k1_5, k2_5, k3_5, k4_5, k5_5, k6_5⟩ := hl_11
      refine lv_iload_n hx hb dX3_tidy_11 rfl (lv_at hl 1 rfl) ?_
      refine lv_bipush (v := (-6)) hx hb dX3_tidy_12 (by decide) ?_
      refine lv_icmp_eq (tgt := 33) hx hb dX3_tidy_14 (by decide) (fun c_6 => ?_) (fun c_6 => ?_)
      · skip
        refine lv_iload_n hx hb dX3_tidy_33 rfl (lv_at hl 0 rfl) ?_
        exact hend _ _ _ _ _ _ _ rfl dX3_tidy_34 (⟨_, rfl, P4.of (T' := (nI c2, f2, recH f hst gl, recK gl)) (by unfold tidyT; rw [hinv, tdF_0 c_6]; rfl) ⟨_, k0_5, k1_5, k2_5, k3_5, k4_5, k5_5, k6_5⟩⟩) hS_11 (Nat.zero_le _) (Nat.zero_le _)
      · skip
        obtain ⟨i2, hi2, hfi⟩ := fiM_in.resolve_left c_6
        refine lv_aload_n hx hb dX3_tidy_17 rfl (lv_at hl 2 rfl) ?_
        refine lv_iload_n hx hb dX3_tidy_18 rfl (lv_at hl 1 rfl) ?_
        refine lv_val (y := nI i2) (hfi) ?_
        refine run_chN (rest := []) (kV F hW_11 (metX3_strikes l E Hg_11 ad f2 (recH f hst gl) sl z pd (nI (recK gl)) len told n2 hf2 (by omega) i2 hi2 ⟨_, k0_5, k1_5, k2_5, k3_5, k4_5, k5_5, k6_5⟩ hT) (lw_V q1071 q1073 qs19 q52 q1074) hdX3_strikes ⟨Nat.le_of_ble_eq_true rfl, Nat.le_of_ble_eq_true rfl⟩ (recv hW_11 k0_5 rfl) hl.1 rfl (Nat.le_of_ble_eq_true rfl) dX3_tidy_19 ⟨Nat.le_of_ble_eq_true rfl, Nat.le_of_ble_eq_true rfl⟩) hS_11 (fun _ h9 => h9) (fun H_7 locs hp_7 hc_7 hS_7 => ?_)
        have hW_7 := hW_11.kept hc_7 hT.old
        obtain ⟨g_8, k0_8, k1_8, k2_8, k3_8, k4_8, k5_8, k6_8⟩ := hp_7
        refine lv_iinc (v := nI (c2 + 1)) (lv' := [(1, .int (nI (c2 + 1))), (2, .int (fiM (ruA f2) n2)), (0, .ref (ad 0))]) hx hb dX3_tidy_22 hl (k := 0) rfl (nI_1 _) (by decide) rfl (fun ls hl => ?_)
        refine lv_aload_n hx hb dX3_tidy_25 rfl (lv_at hl 2 rfl) ?_
        refine run_chI (rest := []) (kV F hW_7 (metX3_firstIdle l E H_7 ad (strF f2 n2 i2) (recH f hst gl) sl z pd (nI (recK gl)) len told ⟨_, k0_8, k1_8, k2_8, k3_8, k4_8, k5_8, k6_8⟩ hT (n2 - 1) strF_0 (by omega) (strF_v hi2 hv2)) (lw_V q1095 q1097 qs22 q52 q1098) hdX3_firstIdle ⟨Nat.le_of_ble_eq_true rfl, Nat.le_of_ble_eq_true rfl⟩ (recv hW_7 k0_8 rfl) hl.1 rfl (Nat.le_of_ble_eq_true rfl) dX3_tidy_26 ⟨Nat.le_of_ble_eq_true rfl, Nat.le_of_ble_eq_true rfl⟩) hS_7 (fun _ h9 => h9) (fun r_9 H_9 locs hp_9 hc_9 hS_9 => ?_)
        have hW_9 := hW_7.kept hc_9 hT.old
        obtain ⟨hr_9, hp_9⟩ := hp_9
        obtain ⟨g_10, k0_10, k1_10, k2_10, k3_10, k4_10, k5_10, k6_10⟩ := hp_9
        have hr_9 : r_9 = fiM (ruA (strF f2 n2 i2)) (n2 - 1) := hr_9
        subst hr_9
        refine lv_istore_n (lv' := [(2, .int (fiM (ruA (strF f2 n2 i2)) (n2 - 1))), (1, .int (nI (c2 + 1))), (0, .ref (ad 0))]) hx hb dX3_tidy_29 rfl hl (by decide) rfl (fun ls hl => ?_)
        refine lv_goto (tgt := 11) hx hb dX3_tidy_30 (by decide) ?_
        exact ih11 _ (n2 - 1) (c2 + 1) (by omega) (strF_0) (by omega) (strF_v hi2 hv2) (td_step hinv hfi hi2 hn2) _ _ hS_9 hW_9 (⟨_, k0_10, k1_10, k2_10, k3_10, k4_10, k5_10, k6_10⟩) ls (lv_sub hl [1, 0, 2] rfl)
  exact lg11 _ f n 0 (Nat.lt_succ_self _) (hn0) (hn24) (hv) (by simp) _ _ hS_3 hW_3 (⟨_, k0_4, k1_4, k2_4, k3_4, k4_4, k5_4, k6_4⟩) ls (lv_sub hl [1, 0, 2] rfl)

theorem hdX3_next : Hd yX3_next 1 := by decide +kernel
set_option maxHeartbeats 1000000 in
set_option maxRecDepth 100000 in
theorem metX3_next (l : Launch) (E : EV) (H : Heap) (ad : Nat → Nat) (kept told : Int32) (ln : Nat) (hln : ln ≤ 60) (hm : oat E (ad 0) 3 (mfs ad kept (nI ln) told) H) (pd : Nat → Int32) (hp : iat E (ad 5) 0 60 pd H) (pl : Nat) (hpl : pl ≤ 1000) : Ro l yX3_next cX3_next 2 (some .int) 0 0 [.ref (ad 0), .int (nI pl)] E H (some (.int (nxM pd ln pl))) := by
  refine Ct.ofZ (by decide) (Nat.le_of_ble_eq_true rfl) ?_
  intro p e s m bl mt cd ls Q hF hW hH hl hend
  obtain ⟨F, hin⟩ := hF
  have hx := F.1
  have hb := F.2.1
  have hts := F.2.2.2.2
  have hl : lv_has ls 2 [(0, .ref (ad 0)), (1, .int (nI pl))] := hl
  have hS : va_S (fun _ => False) H H [] := va_S.rf
  refine lv_iload_n hx hb dX3_next_0 rfl (lv_at hl 1 rfl) ?_
  refine lv_aload_n hx hb dX3_next_1 rfl (lv_at hl 0 rfl) ?_
  refine xget (ref := "LayeredChartersModel") (ci := 3) (v := .int (nI ln)) (C := RX3) (T := TX3) (N := 9) F in_X3 hW hm rfl 6 (by decide) q1022 (fun _ h9 => h9) rfl dX3_next_2 ?_
  refine lv_icmp_ge (tgt := 17) hx hb dX3_next_5 (by decide) (fun c_1 => ?_) (fun c_1 => ?_)
  · skip
    have nc_1 := (nI_leI (a := ln) (b := pl) (by omega) (by omega)).mp c_1
    refine lv_iconst (v := 0) hx hb dX3_next_17 (by decide) ?_
    exact hend _ _ _ _ _ _ _ rfl dX3_next_18 (⟨congrArg (fun z : Int32 => some (Value.int z)) (by unfold nxM; rw [if_neg (by omega)]), rfl⟩) hS (Nat.zero_le _) (Nat.zero_le _)
  · skip
    have nc_1 := Nat.not_le.mp (fun h9 => c_1 ((nI_leI (a := ln) (b := pl) (by omega) (by omega)).mpr h9))
    refine lv_aload_n hx hb dX3_next_8 rfl (lv_at hl 0 rfl) ?_
    refine xget (ref := "LayeredChartersModel") (ci := 3) (v := .ref (ad 5)) (C := RX3) (T := TX3) (N := 9) F in_X3 hW hm rfl 5 (by decide) q1021 (fun _ h9 => h9) rfl dX3_next_9 ?_
    refine lv_iload_n hx hb dX3_next_12 rfl (lv_at hl 1 rfl) ?_
    refine xild F hW hp (vp_in_nI (by omega) (by omega)) dX3_next_13 ?_
    refine lv_val (y := pd pl) ((by rw [nI_clamp (by omega)])) ?_
    refine lv_goto (tgt := 18) hx hb dX3_next_14 (by decide) ?_
    exact hend _ _ _ _ _ _ _ rfl dX3_next_18 (⟨congrArg (fun z : Int32 => some (Value.int z)) (by unfold nxM; rw [if_pos (by omega)]), rfl⟩) hS (Nat.zero_le _) (Nat.zero_le _)

theorem hdX3_kindFor : Hd yX3_kindFor 1 := by decide +kernel
set_option maxHeartbeats 1000000 in
set_option maxRecDepth 100000 in
theorem metX3_kindFor (l : Launch) (E : EV) (H : Heap) (c : Int32) : Ro l yX3_kindFor cX3_kindFor 1 (some .int) 0 0 [.int c] E H (some (.int (kfM c))) := by
  refine Ct.ofZ (by decide) (Nat.le_of_ble_eq_true rfl) ?_
  intro p e s m bl mt cd ls Q hF hW hH hl hend
  obtain ⟨F, hin⟩ := hF
  have hx := F.1
  have hb := F.2.1
  have hts := F.2.2.2.2
  have hl : lv_has ls 1 [(0, .int c)] := hl
  have hS : va_S (fun _ => False) H H [] := va_S.rf
  refine lv_iload_n hx hb dX3_kindFor_0 rfl (lv_at hl 0 rfl) ?_
  refine lv_bipush (v := 112) hx hb dX3_kindFor_1 (by decide) ?_
  refine lv_icmp_ne (tgt := 10) hx hb dX3_kindFor_3 (by decide) (fun c_1 => ?_) (fun c_1 => ?_)
  · skip
    refine lv_iload_n hx hb dX3_kindFor_10 rfl (lv_at hl 0 rfl) ?_
    refine lv_bipush (v := 98) hx hb dX3_kindFor_11 (by decide) ?_
    refine lv_icmp_ne (tgt := 20) hx hb dX3_kindFor_13 (by decide) (fun c_2 => ?_) (fun c_2 => ?_)
    · skip
      refine lv_iload_n hx hb dX3_kindFor_20 rfl (lv_at hl 0 rfl) ?_
      refine lv_bipush (v := 119) hx hb dX3_kindFor_21 (by decide) ?_
      refine lv_icmp_ne (tgt := 30) hx hb dX3_kindFor_23 (by decide) (fun c_3 => ?_) (fun c_3 => ?_)
      · skip
        refine lv_bipush (v := (-6)) hx hb dX3_kindFor_30 (by decide) ?_
        exact hend _ _ _ _ _ _ _ rfl dX3_kindFor_32 (⟨congrArg (fun z : Int32 => some (Value.int z)) (by simp [kfM, c_1, c_2, c_3]), rfl⟩) hS (Nat.zero_le _) (Nat.zero_le _)
      · skip
        refine lv_iconst (v := 2) hx hb dX3_kindFor_26 (by decide) ?_
        refine lv_goto (tgt := 32) hx hb dX3_kindFor_27 (by decide) ?_
        exact hend _ _ _ _ _ _ _ rfl dX3_kindFor_32 (⟨congrArg (fun z : Int32 => some (Value.int z)) (by simp [kfM, c_1, c_2, c_3]), rfl⟩) hS (Nat.zero_le _) (Nat.zero_le _)
    · skip
      refine lv_iconst (v := 1) hx hb dX3_kindFor_16 (by decide) ?_
      refine lv_goto (tgt := 32) hx hb dX3_kindFor_17 (by decide) ?_
      exact hend _ _ _ _ _ _ _ rfl dX3_kindFor_32 (⟨congrArg (fun z : Int32 => some (Value.int z)) (by simp [kfM, c_1, c_2]), rfl⟩) hS (Nat.zero_le _) (Nat.zero_le _)
  · skip
    refine lv_iconst (v := 0) hx hb dX3_kindFor_6 (by decide) ?_
    refine lv_goto (tgt := 32) hx hb dX3_kindFor_7 (by decide) ?_
    exact hend _ _ _ _ _ _ _ rfl dX3_kindFor_32 (⟨congrArg (fun z : Int32 => some (Value.int z)) (by simp [kfM, c_1]), rfl⟩) hS (Nat.zero_le _) (Nat.zero_le _)

theorem hdX3_right : Hd yX3_right 1 := by decide +kernel
set_option maxHeartbeats 1000000 in
set_option maxRecDepth 100000 in
theorem metX3_right (l : Launch) (E : EV) (H : Heap) (ad : Nat → Nat) (kept told : Int32) (ln : Nat) (hln : ln ≤ 60) (hm : oat E (ad 0) 3 (mfs ad kept (nI ln) told) H) (pd : Nat → Int32) (hp : iat E (ad 5) 0 60 pd H) (pl : Nat) (hpl : pl ≤ 900) : Ro l yX3_right cX3_right 3 (some .int) 1 22 [.ref (ad 0), .int (nI pl)] E H (some (.int (nI (rgN (nxM pd ln) pl)))) := by
  refine Ct.ofZ (by decide) (Nat.le_of_ble_eq_true rfl) ?_
  intro p e s m bl mt cd ls Q hF hW hH hl hend
  obtain ⟨F, hin⟩ := hF
  have hx := F.1
  have hb := F.2.1
  have hts := F.2.2.2.2
  have hl : lv_has ls 3 [(0, .ref (ad 0)), (1, .int (nI pl))] := hl
  have hS : va_S (fun _ => False) H H [] := va_S.rf
  refine lv_aload_n hx hb dX3_right_0 rfl (lv_at hl 0 rfl) ?_
  refine lv_iload_n hx hb dX3_right_1 rfl (lv_at hl 1 rfl) ?_
  refine lv_iconst (v := 1) hx hb dX3_right_2 (by decide) ?_
  refine lv_iadd hx hb dX3_right_3 ?_
  refine lv_val (y := nI (pl + 1)) ((nI_add (pl) (1))) ?_
  refine run_ro (w := .int (nxM pd ln (pl + 1))) (rest := []) (kV F hW (metX3_next l E H ad kept told ln hln hm pd hp (pl + 1) (by omega)) (lw_V q1234 q1236 qs39 q52 q1237) hdX3_next ⟨Nat.le_of_ble_eq_true rfl, Nat.le_of_ble_eq_true rfl⟩ (recv hW hm rfl) hl.1 rfl (Nat.le_of_ble_eq_true rfl) dX3_right_4 ⟨Nat.le_of_ble_eq_true rfl, Nat.le_of_ble_eq_true rfl⟩) ?_
  refine run_ro (w := .int (kfM (nxM pd ln (pl + 1)))) (rest := []) (kS F hW (metX3_kindFor l E H (nxM pd ln (pl + 1))) (lw_S q1238 q1239 q52 q1240) hdX3_kindFor ⟨Nat.le_of_ble_eq_true rfl, Nat.le_of_ble_eq_true rfl⟩ hl.1 rfl (Nat.le_of_ble_eq_true rfl) dX3_right_7 ⟨Nat.le_of_ble_eq_true rfl, Nat.le_of_ble_eq_true rfl⟩) ?_
  refine lv_istore_n (lv' := [(2, .int (kfM (nxM pd ln (pl + 1)))), (0, .ref (ad 0)), (1, .int (nI pl))]) hx hb dX3_right_10 rfl hl (by decide) rfl (fun ls hl => ?_)
  refine lv_aload_n hx hb dX3_right_11 rfl (lv_at hl 1 rfl) ?_
  refine lv_iload_n hx hb dX3_right_12 rfl (lv_at hl 2 rfl) ?_
  refine run_ro (w := .int (nxM pd ln pl)) (rest := []) (kV F hW (metX3_next l E H ad kept told ln hln hm pd hp pl (by omega)) (lw_V q1234 q1236 qs39 q52 q1237) hdX3_next ⟨Nat.le_of_ble_eq_true rfl, Nat.le_of_ble_eq_true rfl⟩ (recv hW hm rfl) hl.1 rfl (Nat.le_of_ble_eq_true rfl) dX3_right_13 ⟨Nat.le_of_ble_eq_true rfl, Nat.le_of_ble_eq_true rfl⟩) ?_
  refine lv_bipush (v := 48) hx hb dX3_right_16 (by decide) ?_
  refine lv_bipush (v := 52) hx hb dX3_right_18 (by decide) ?_
  refine run_ro (w := .int (b2i (inR (nxM pd ln pl) 48 52))) (rest := []) (kS F hW (metX3_in l E H (nxM pd ln pl) 48 52) (lw_S q1049 q1050 q52 q1051) hdX3_in ⟨Nat.le_of_ble_eq_true rfl, Nat.le_of_ble_eq_true rfl⟩ hl.1 rfl (Nat.le_of_ble_eq_true rfl) dX3_right_20 ⟨Nat.le_of_ble_eq_true rfl, Nat.le_of_ble_eq_true rfl⟩) ?_
  refine lv_if_ne (tgt := 28) hx hb dX3_right_23 (by decide) (fun c_1 => ?_) (fun c_1 => ?_)
  · skip
    have bc_1 := c_1
    have c_1 := b2i_t c_1
    refine lv_iload_n hx hb dX3_right_28 rfl (lv_at hl 0 rfl) ?_
    refine lv_bipush (v := (-6)) hx hb dX3_right_29 (by decide) ?_
    refine lv_icmp_eq (tgt := 48) hx hb dX3_right_31 (by decide) (fun c_2 => ?_) (fun c_2 => ?_)
    · skip
      refine lv_iconst (v := 1) hx hb dX3_right_48 (by decide) ?_
      exact hend _ _ _ _ _ _ _ rfl dX3_right_49 (⟨congrArg (fun z : Int32 => some (Value.int z)) (by simp [rgN, rg2, rg3, rg4, c_1, c_2] <;> rfl), rfl⟩) hS (Nat.zero_le _) (Nat.zero_le _)
    · skip
      refine lv_iload_n hx hb dX3_right_34 rfl (lv_at hl 0 rfl) ?_
      refine lv_if_ne (tgt := 50) hx hb dX3_right_35 (by decide) (fun c_3 => ?_) (fun c_3 => ?_)
      · skip
        refine lv_aload_n hx hb dX3_right_50 rfl (lv_at hl 1 rfl) ?_
        refine lv_iload_n hx hb dX3_right_51 rfl (lv_at hl 2 rfl) ?_
        refine lv_iconst (v := 2) hx hb dX3_right_52 (by decide) ?_
        refine lv_iadd hx hb dX3_right_53 ?_
        refine lv_val (y := nI (pl + 2)) ((nI_add (pl) (2))) ?_
        refine run_ro (w := .int (nxM pd ln (pl + 2))) (rest := []) (kV F hW (metX3_next l E H ad kept told ln hln hm pd hp (pl + 2) (by omega)) (lw_V q1234 q1236 qs39 q52 q1237) hdX3_next ⟨Nat.le_of_ble_eq_true rfl, Nat.le_of_ble_eq_true rfl⟩ (recv hW hm rfl) hl.1 rfl (Nat.le_of_ble_eq_true rfl) dX3_right_54 ⟨Nat.le_of_ble_eq_true rfl, Nat.le_of_ble_eq_true rfl⟩) ?_
        refine lv_bipush (v := 42) hx hb dX3_right_57 (by decide) ?_
        refine lv_icmp_eq (tgt := 81) hx hb dX3_right_59 (by decide) (fun c_4 => ?_) (fun c_4 => ?_)
        · skip
          refine lv_aload_n hx hb dX3_right_81 rfl (lv_at hl 1 rfl) ?_
          refine lv_iload_n hx hb dX3_right_82 rfl (lv_at hl 2 rfl) ?_
          refine lv_iconst (v := 3) hx hb dX3_right_83 (by decide) ?_
          refine lv_iadd hx hb dX3_right_84 ?_
          refine lv_val (y := nI (pl + 3)) ((nI_add (pl) (3))) ?_
          refine run_ro (w := .int (nxM pd ln (pl + 3))) (rest := []) (kV F hW (metX3_next l E H ad kept told ln hln hm pd hp (pl + 3) (by omega)) (lw_V q1234 q1236 qs39 q52 q1237) hdX3_next ⟨Nat.le_of_ble_eq_true rfl, Nat.le_of_ble_eq_true rfl⟩ (recv hW hm rfl) hl.1 rfl (Nat.le_of_ble_eq_true rfl) dX3_right_85 ⟨Nat.le_of_ble_eq_true rfl, Nat.le_of_ble_eq_true rfl⟩) ?_
          refine lv_bipush (v := 42) hx hb dX3_right_88 (by decide) ?_
          refine lv_icmp_eq (tgt := 112) hx hb dX3_right_90 (by decide) (fun c_5 => ?_) (fun c_5 => ?_)
          · skip
            refine lv_iload_n hx hb dX3_right_112 rfl (lv_at hl 0 rfl) ?_
            refine lv_if_eq (tgt := 137) hx hb dX3_right_113 (by decide) (fun c9 => absurd c9 c_3) (fun _ => ?_)
            refine lv_aload_n hx hb dX3_right_116 rfl (lv_at hl 1 rfl) ?_
            refine lv_iload_n hx hb dX3_right_117 rfl (lv_at hl 2 rfl) ?_
            refine lv_iconst (v := 4) hx hb dX3_right_118 (by decide) ?_
            refine lv_iadd hx hb dX3_right_119 ?_
            refine lv_val (y := nI (pl + 4)) ((nI_add (pl) (4))) ?_
            refine run_ro (w := .int (nxM pd ln (pl + 4))) (rest := []) (kV F hW (metX3_next l E H ad kept told ln hln hm pd hp (pl + 4) (by omega)) (lw_V q1234 q1236 qs39 q52 q1237) hdX3_next ⟨Nat.le_of_ble_eq_true rfl, Nat.le_of_ble_eq_true rfl⟩ (recv hW hm rfl) hl.1 rfl (Nat.le_of_ble_eq_true rfl) dX3_right_120 ⟨Nat.le_of_ble_eq_true rfl, Nat.le_of_ble_eq_true rfl⟩) ?_
            refine lv_bipush (v := 49) hx hb dX3_right_123 (by decide) ?_
            refine lv_bipush (v := 57) hx hb dX3_right_125 (by decide) ?_
            refine run_ro (w := .int (b2i (inR (nxM pd ln (pl + 4)) 49 57))) (rest := []) (kS F hW (metX3_in l E H (nxM pd ln (pl + 4)) 49 57) (lw_S q1049 q1050 q52 q1051) hdX3_in ⟨Nat.le_of_ble_eq_true rfl, Nat.le_of_ble_eq_true rfl⟩ hl.1 rfl (Nat.le_of_ble_eq_true rfl) dX3_right_127 ⟨Nat.le_of_ble_eq_true rfl, Nat.le_of_ble_eq_true rfl⟩) ?_
            refine lv_if_eq (tgt := 137) hx hb dX3_right_130 (by decide) (fun c_6 => ?_) (fun c_6 => ?_)
            · skip
              have bc_6 := c_6
              have c_6 := b2i_f c_6
              refine lv_iconst (v := 4) hx hb dX3_right_137 (by decide) ?_
              exact hend _ _ _ _ _ _ _ rfl dX3_right_138 (⟨congrArg (fun z : Int32 => some (Value.int z)) (by simp [rgN, rg2, rg3, rg4, c_1, c_2, c_3, c_4, c_5, c_6] <;> rfl), rfl⟩) hS (Nat.zero_le _) (Nat.zero_le _)
            · skip
              have bc_6 := c_6
              have c_6 := b2i_t c_6
              refine lv_iconst (v := 5) hx hb dX3_right_133 (by decide) ?_
              refine lv_goto (tgt := 138) hx hb dX3_right_134 (by decide) ?_
              exact hend _ _ _ _ _ _ _ rfl dX3_right_138 (⟨congrArg (fun z : Int32 => some (Value.int z)) (by simp [rgN, rg2, rg3, rg4, c_1, c_2, c_3, c_4, c_5, c_6] <;> rfl), rfl⟩) hS (Nat.zero_le _) (Nat.zero_le _)
          · skip
            refine lv_aload_n hx hb dX3_right_93 rfl (lv_at hl 1 rfl) ?_
            refine lv_iload_n hx hb dX3_right_94 rfl (lv_at hl 2 rfl) ?_
            refine lv_iconst (v := 3) hx hb dX3_right_95 (by decide) ?_
            refine lv_iadd hx hb dX3_right_96 ?_
            refine lv_val (y := nI (pl + 3)) ((nI_add (pl) (3))) ?_
            refine run_ro (w := .int (nxM pd ln (pl + 3))) (rest := []) (kV F hW (metX3_next l E H ad kept told ln hln hm pd hp (pl + 3) (by omega)) (lw_V q1234 q1236 qs39 q52 q1237) hdX3_next ⟨Nat.le_of_ble_eq_true rfl, Nat.le_of_ble_eq_true rfl⟩ (recv hW hm rfl) hl.1 rfl (Nat.le_of_ble_eq_true rfl) dX3_right_97 ⟨Nat.le_of_ble_eq_true rfl, Nat.le_of_ble_eq_true rfl⟩) ?_
            refine lv_bipush (v := 48) hx hb dX3_right_100 (by decide) ?_
            refine lv_bipush (v := 53) hx hb dX3_right_102 (by decide) ?_
            refine run_ro (w := .int (b2i (inR (nxM pd ln (pl + 3)) 48 53))) (rest := []) (kS F hW (metX3_in l E H (nxM pd ln (pl + 3)) 48 53) (lw_S q1049 q1050 q52 q1051) hdX3_in ⟨Nat.le_of_ble_eq_true rfl, Nat.le_of_ble_eq_true rfl⟩ hl.1 rfl (Nat.le_of_ble_eq_true rfl) dX3_right_104 ⟨Nat.le_of_ble_eq_true rfl, Nat.le_of_ble_eq_true rfl⟩) ?_
            refine lv_if_ne (tgt := 112) hx hb dX3_right_107 (by decide) (fun c_7 => ?_) (fun c_7 => ?_)
            · skip
              have bc_7 := c_7
              have c_7 := b2i_t c_7
              refine lv_iload_n hx hb dX3_right_112 rfl (lv_at hl 0 rfl) ?_
              refine lv_if_eq (tgt := 137) hx hb dX3_right_113 (by decide) (fun c9 => absurd c9 c_3) (fun _ => ?_)
              refine lv_aload_n hx hb dX3_right_116 rfl (lv_at hl 1 rfl) ?_
              refine lv_iload_n hx hb dX3_right_117 rfl (lv_at hl 2 rfl) ?_
              refine lv_iconst (v := 4) hx hb dX3_right_118 (by decide) ?_
              refine lv_iadd hx hb dX3_right_119 ?_
              refine lv_val (y := nI (pl + 4)) ((nI_add (pl) (4))) ?_
              refine run_ro (w := .int (nxM pd ln (pl + 4))) (rest := []) (kV F hW (metX3_next l E H ad kept told ln hln hm pd hp (pl + 4) (by omega)) (lw_V q1234 q1236 qs39 q52 q1237) hdX3_next ⟨Nat.le_of_ble_eq_true rfl, Nat.le_of_ble_eq_true rfl⟩ (recv hW hm rfl) hl.1 rfl (Nat.le_of_ble_eq_true rfl) dX3_right_120 ⟨Nat.le_of_ble_eq_true rfl, Nat.le_of_ble_eq_true rfl⟩) ?_
              refine lv_bipush (v := 49) hx hb dX3_right_123 (by decide) ?_
              refine lv_bipush (v := 57) hx hb dX3_right_125 (by decide) ?_
              refine run_ro (w := .int (b2i (inR (nxM pd ln (pl + 4)) 49 57))) (rest := []) (kS F hW (metX3_in l E H (nxM pd ln (pl + 4)) 49 57) (lw_S q1049 q1050 q52 q1051) hdX3_in ⟨Nat.le_of_ble_eq_true rfl, Nat.le_of_ble_eq_true rfl⟩ hl.1 rfl (Nat.le_of_ble_eq_true rfl) dX3_right_127 ⟨Nat.le_of_ble_eq_true rfl, Nat.le_of_ble_eq_true rfl⟩) ?_
              refine lv_if_eq (tgt := 137) hx hb dX3_right_130 (by decide) (fun c_8 => ?_) (fun c_8 => ?_)
              · skip
                have bc_8 := c_8
                have c_8 := b2i_f c_8
                refine lv_iconst (v := 4) hx hb dX3_right_137 (by decide) ?_
                exact hend _ _ _ _ _ _ _ rfl dX3_right_138 (⟨congrArg (fun z : Int32 => some (Value.int z)) (by simp [rgN, rg2, rg3, rg4, c_1, c_2, c_3, c_4, c_5, c_7, c_8] <;> rfl), rfl⟩) hS (Nat.zero_le _) (Nat.zero_le _)
              · skip
                have bc_8 := c_8
                have c_8 := b2i_t c_8
                refine lv_iconst (v := 5) hx hb dX3_right_133 (by decide) ?_
                refine lv_goto (tgt := 138) hx hb dX3_right_134 (by decide) ?_
                exact hend _ _ _ _ _ _ _ rfl dX3_right_138 (⟨congrArg (fun z : Int32 => some (Value.int z)) (by simp [rgN, rg2, rg3, rg4, c_1, c_2, c_3, c_4, c_5, c_7, c_8] <;> rfl), rfl⟩) hS (Nat.zero_le _) (Nat.zero_le _)
            · skip
              have bc_7 := c_7
              have c_7 := b2i_f c_7
              refine lv_iconst (v := 3) hx hb dX3_right_110 (by decide) ?_
              exact hend _ _ _ _ _ _ _ rfl dX3_right_111 (⟨congrArg (fun z : Int32 => some (Value.int z)) (by simp [rgN, rg2, rg3, rg4, c_1, c_2, c_3, c_4, c_5, c_7] <;> rfl), rfl⟩) hS (Nat.zero_le _) (Nat.zero_le _)
        · skip
          refine lv_aload_n hx hb dX3_right_62 rfl (lv_at hl 1 rfl) ?_
          refine lv_iload_n hx hb dX3_right_63 rfl (lv_at hl 2 rfl) ?_
          refine lv_iconst (v := 2) hx hb dX3_right_64 (by decide) ?_
          refine lv_iadd hx hb dX3_right_65 ?_
          refine lv_val (y := nI (pl + 2)) ((nI_add (pl) (2))) ?_
          refine run_ro (w := .int (nxM pd ln (pl + 2))) (rest := []) (kV F hW (metX3_next l E H ad kept told ln hln hm pd hp (pl + 2) (by omega)) (lw_V q1234 q1236 qs39 q52 q1237) hdX3_next ⟨Nat.le_of_ble_eq_true rfl, Nat.le_of_ble_eq_true rfl⟩ (recv hW hm rfl) hl.1 rfl (Nat.le_of_ble_eq_true rfl) dX3_right_66 ⟨Nat.le_of_ble_eq_true rfl, Nat.le_of_ble_eq_true rfl⟩) ?_
          refine lv_bipush (v := 48) hx hb dX3_right_69 (by decide) ?_
          refine lv_bipush (v := 52) hx hb dX3_right_71 (by decide) ?_
          refine run_ro (w := .int (b2i (inR (nxM pd ln (pl + 2)) 48 52))) (rest := []) (kS F hW (metX3_in l E H (nxM pd ln (pl + 2)) 48 52) (lw_S q1049 q1050 q52 q1051) hdX3_in ⟨Nat.le_of_ble_eq_true rfl, Nat.le_of_ble_eq_true rfl⟩ hl.1 rfl (Nat.le_of_ble_eq_true rfl) dX3_right_73 ⟨Nat.le_of_ble_eq_true rfl, Nat.le_of_ble_eq_true rfl⟩) ?_
          refine lv_if_ne (tgt := 81) hx hb dX3_right_76 (by decide) (fun c_9 => ?_) (fun c_9 => ?_)
          · skip
            have bc_9 := c_9
            have c_9 := b2i_t c_9
            refine lv_aload_n hx hb dX3_right_81 rfl (lv_at hl 1 rfl) ?_
            refine lv_iload_n hx hb dX3_right_82 rfl (lv_at hl 2 rfl) ?_
            refine lv_iconst (v := 3) hx hb dX3_right_83 (by decide) ?_
            refine lv_iadd hx hb dX3_right_84 ?_
            refine lv_val (y := nI (pl + 3)) ((nI_add (pl) (3))) ?_
            refine run_ro (w := .int (nxM pd ln (pl + 3))) (rest := []) (kV F hW (metX3_next l E H ad kept told ln hln hm pd hp (pl + 3) (by omega)) (lw_V q1234 q1236 qs39 q52 q1237) hdX3_next ⟨Nat.le_of_ble_eq_true rfl, Nat.le_of_ble_eq_true rfl⟩ (recv hW hm rfl) hl.1 rfl (Nat.le_of_ble_eq_true rfl) dX3_right_85 ⟨Nat.le_of_ble_eq_true rfl, Nat.le_of_ble_eq_true rfl⟩) ?_
            refine lv_bipush (v := 42) hx hb dX3_right_88 (by decide) ?_
            refine lv_icmp_eq (tgt := 112) hx hb dX3_right_90 (by decide) (fun c_10 => ?_) (fun c_10 => ?_)
            · skip
              refine lv_iload_n hx hb dX3_right_112 rfl (lv_at hl 0 rfl) ?_
              refine lv_if_eq (tgt := 137) hx hb dX3_right_113 (by decide) (fun c9 => absurd c9 c_3) (fun _ => ?_)
              refine lv_aload_n hx hb dX3_right_116 rfl (lv_at hl 1 rfl) ?_
              refine lv_iload_n hx hb dX3_right_117 rfl (lv_at hl 2 rfl) ?_
              refine lv_iconst (v := 4) hx hb dX3_right_118 (by decide) ?_
              refine lv_iadd hx hb dX3_right_119 ?_
              refine lv_val (y := nI (pl + 4)) ((nI_add (pl) (4))) ?_
              refine run_ro (w := .int (nxM pd ln (pl + 4))) (rest := []) (kV F hW (metX3_next l E H ad kept told ln hln hm pd hp (pl + 4) (by omega)) (lw_V q1234 q1236 qs39 q52 q1237) hdX3_next ⟨Nat.le_of_ble_eq_true rfl, Nat.le_of_ble_eq_true rfl⟩ (recv hW hm rfl) hl.1 rfl (Nat.le_of_ble_eq_true rfl) dX3_right_120 ⟨Nat.le_of_ble_eq_true rfl, Nat.le_of_ble_eq_true rfl⟩) ?_
              refine lv_bipush (v := 49) hx hb dX3_right_123 (by decide) ?_
              refine lv_bipush (v := 57) hx hb dX3_right_125 (by decide) ?_
              refine run_ro (w := .int (b2i (inR (nxM pd ln (pl + 4)) 49 57))) (rest := []) (kS F hW (metX3_in l E H (nxM pd ln (pl + 4)) 49 57) (lw_S q1049 q1050 q52 q1051) hdX3_in ⟨Nat.le_of_ble_eq_true rfl, Nat.le_of_ble_eq_true rfl⟩ hl.1 rfl (Nat.le_of_ble_eq_true rfl) dX3_right_127 ⟨Nat.le_of_ble_eq_true rfl, Nat.le_of_ble_eq_true rfl⟩) ?_
              refine lv_if_eq (tgt := 137) hx hb dX3_right_130 (by decide) (fun c_11 => ?_) (fun c_11 => ?_)
              · skip
                have bc_11 := c_11
                have c_11 := b2i_f c_11
                refine lv_iconst (v := 4) hx hb dX3_right_137 (by decide) ?_
                exact hend _ _ _ _ _ _ _ rfl dX3_right_138 (⟨congrArg (fun z : Int32 => some (Value.int z)) (by simp [rgN, rg2, rg3, rg4, c_1, c_2, c_3, c_4, c_9, c_10, c_11] <;> rfl), rfl⟩) hS (Nat.zero_le _) (Nat.zero_le _)
              · skip
                have bc_11 := c_11
                have c_11 := b2i_t c_11
                refine lv_iconst (v := 5) hx hb dX3_right_133 (by decide) ?_
                refine lv_goto (tgt := 138) hx hb dX3_right_134 (by decide) ?_
                exact hend _ _ _ _ _ _ _ rfl dX3_right_138 (⟨congrArg (fun z : Int32 => some (Value.int z)) (by simp [rgN, rg2, rg3, rg4, c_1, c_2, c_3, c_4, c_9, c_10, c_11] <;> rfl), rfl⟩) hS (Nat.zero_le _) (Nat.zero_le _)
            · skip
              refine lv_aload_n hx hb dX3_right_93 rfl (lv_at hl 1 rfl) ?_
              refine lv_iload_n hx hb dX3_right_94 rfl (lv_at hl 2 rfl) ?_
              refine lv_iconst (v := 3) hx hb dX3_right_95 (by decide) ?_
              refine lv_iadd hx hb dX3_right_96 ?_
              refine lv_val (y := nI (pl + 3)) ((nI_add (pl) (3))) ?_
              refine run_ro (w := .int (nxM pd ln (pl + 3))) (rest := []) (kV F hW (metX3_next l E H ad kept told ln hln hm pd hp (pl + 3) (by omega)) (lw_V q1234 q1236 qs39 q52 q1237) hdX3_next ⟨Nat.le_of_ble_eq_true rfl, Nat.le_of_ble_eq_true rfl⟩ (recv hW hm rfl) hl.1 rfl (Nat.le_of_ble_eq_true rfl) dX3_right_97 ⟨Nat.le_of_ble_eq_true rfl, Nat.le_of_ble_eq_true rfl⟩) ?_
              refine lv_bipush (v := 48) hx hb dX3_right_100 (by decide) ?_
              refine lv_bipush (v := 53) hx hb dX3_right_102 (by decide) ?_
              refine run_ro (w := .int (b2i (inR (nxM pd ln (pl + 3)) 48 53))) (rest := []) (kS F hW (metX3_in l E H (nxM pd ln (pl + 3)) 48 53) (lw_S q1049 q1050 q52 q1051) hdX3_in ⟨Nat.le_of_ble_eq_true rfl, Nat.le_of_ble_eq_true rfl⟩ hl.1 rfl (Nat.le_of_ble_eq_true rfl) dX3_right_104 ⟨Nat.le_of_ble_eq_true rfl, Nat.le_of_ble_eq_true rfl⟩) ?_
              refine lv_if_ne (tgt := 112) hx hb dX3_right_107 (by decide) (fun c_12 => ?_) (fun c_12 => ?_)
              · skip
                have bc_12 := c_12
                have c_12 := b2i_t c_12
                refine lv_iload_n hx hb dX3_right_112 rfl (lv_at hl 0 rfl) ?_
                refine lv_if_eq (tgt := 137) hx hb dX3_right_113 (by decide) (fun c9 => absurd c9 c_3) (fun _ => ?_)
                refine lv_aload_n hx hb dX3_right_116 rfl (lv_at hl 1 rfl) ?_
                refine lv_iload_n hx hb dX3_right_117 rfl (lv_at hl 2 rfl) ?_
                refine lv_iconst (v := 4) hx hb dX3_right_118 (by decide) ?_
                refine lv_iadd hx hb dX3_right_119 ?_
                refine lv_val (y := nI (pl + 4)) ((nI_add (pl) (4))) ?_
                refine run_ro (w := .int (nxM pd ln (pl + 4))) (rest := []) (kV F hW (metX3_next l E H ad kept told ln hln hm pd hp (pl + 4) (by omega)) (lw_V q1234 q1236 qs39 q52 q1237) hdX3_next ⟨Nat.le_of_ble_eq_true rfl, Nat.le_of_ble_eq_true rfl⟩ (recv hW hm rfl) hl.1 rfl (Nat.le_of_ble_eq_true rfl) dX3_right_120 ⟨Nat.le_of_ble_eq_true rfl, Nat.le_of_ble_eq_true rfl⟩) ?_
                refine lv_bipush (v := 49) hx hb dX3_right_123 (by decide) ?_
                refine lv_bipush (v := 57) hx hb dX3_right_125 (by decide) ?_
                refine run_ro (w := .int (b2i (inR (nxM pd ln (pl + 4)) 49 57))) (rest := []) (kS F hW (metX3_in l E H (nxM pd ln (pl + 4)) 49 57) (lw_S q1049 q1050 q52 q1051) hdX3_in ⟨Nat.le_of_ble_eq_true rfl, Nat.le_of_ble_eq_true rfl⟩ hl.1 rfl (Nat.le_of_ble_eq_true rfl) dX3_right_127 ⟨Nat.le_of_ble_eq_true rfl, Nat.le_of_ble_eq_true rfl⟩) ?_
                refine lv_if_eq (tgt := 137) hx hb dX3_right_130 (by decide) (fun c_13 => ?_) (fun c_13 => ?_)
                · skip
                  have bc_13 := c_13
                  have c_13 := b2i_f c_13
                  refine lv_iconst (v := 4) hx hb dX3_right_137 (by decide) ?_
                  exact hend _ _ _ _ _ _ _ rfl dX3_right_138 (⟨congrArg (fun z : Int32 => some (Value.int z)) (by simp [rgN, rg2, rg3, rg4, c_1, c_2, c_3, c_4, c_9, c_10, c_12, c_13] <;> rfl), rfl⟩) hS (Nat.zero_le _) (Nat.zero_le _)
                · skip
                  have bc_13 := c_13
                  have c_13 := b2i_t c_13
                  refine lv_iconst (v := 5) hx hb dX3_right_133 (by decide) ?_
                  refine lv_goto (tgt := 138) hx hb dX3_right_134 (by decide) ?_
                  exact hend _ _ _ _ _ _ _ rfl dX3_right_138 (⟨congrArg (fun z : Int32 => some (Value.int z)) (by simp [rgN, rg2, rg3, rg4, c_1, c_2, c_3, c_4, c_9, c_10, c_12, c_13] <;> rfl), rfl⟩) hS (Nat.zero_le _) (Nat.zero_le _)
              · skip
                have bc_12 := c_12
                have c_12 := b2i_f c_12
                refine lv_iconst (v := 3) hx hb dX3_right_110 (by decide) ?_
                exact hend _ _ _ _ _ _ _ rfl dX3_right_111 (⟨congrArg (fun z : Int32 => some (Value.int z)) (by simp [rgN, rg2, rg3, rg4, c_1, c_2, c_3, c_4, c_9, c_10, c_12] <;> rfl), rfl⟩) hS (Nat.zero_le _) (Nat.zero_le _)
          · skip
            have bc_9 := c_9
            have c_9 := b2i_f c_9
            refine lv_iconst (v := 2) hx hb dX3_right_79 (by decide) ?_
            exact hend _ _ _ _ _ _ _ rfl dX3_right_80 (⟨congrArg (fun z : Int32 => some (Value.int z)) (by simp [rgN, rg2, rg3, rg4, c_1, c_2, c_3, c_4, c_9] <;> rfl), rfl⟩) hS (Nat.zero_le _) (Nat.zero_le _)
      · skip
        refine lv_aload_n hx hb dX3_right_38 rfl (lv_at hl 1 rfl) ?_
        refine lv_iload_n hx hb dX3_right_39 rfl (lv_at hl 2 rfl) ?_
        refine run_ro (w := .int (nxM pd ln pl)) (rest := []) (kV F hW (metX3_next l E H ad kept told ln hln hm pd hp pl (by omega)) (lw_V q1234 q1236 qs39 q52 q1237) hdX3_next ⟨Nat.le_of_ble_eq_true rfl, Nat.le_of_ble_eq_true rfl⟩ (recv hW hm rfl) hl.1 rfl (Nat.le_of_ble_eq_true rfl) dX3_right_40 ⟨Nat.le_of_ble_eq_true rfl, Nat.le_of_ble_eq_true rfl⟩) ?_
        refine lv_bipush (v := 48) hx hb dX3_right_43 (by decide) ?_
        refine lv_icmp_eq (tgt := 50) hx hb dX3_right_45 (by decide) (fun c_14 => ?_) (fun c_14 => ?_)
        · skip
          refine lv_aload_n hx hb dX3_right_50 rfl (lv_at hl 1 rfl) ?_
          refine lv_iload_n hx hb dX3_right_51 rfl (lv_at hl 2 rfl) ?_
          refine lv_iconst (v := 2) hx hb dX3_right_52 (by decide) ?_
          refine lv_iadd hx hb dX3_right_53 ?_
          refine lv_val (y := nI (pl + 2)) ((nI_add (pl) (2))) ?_
          refine run_ro (w := .int (nxM pd ln (pl + 2))) (rest := []) (kV F hW (metX3_next l E H ad kept told ln hln hm pd hp (pl + 2) (by omega)) (lw_V q1234 q1236 qs39 q52 q1237) hdX3_next ⟨Nat.le_of_ble_eq_true rfl, Nat.le_of_ble_eq_true rfl⟩ (recv hW hm rfl) hl.1 rfl (Nat.le_of_ble_eq_true rfl) dX3_right_54 ⟨Nat.le_of_ble_eq_true rfl, Nat.le_of_ble_eq_true rfl⟩) ?_
          refine lv_bipush (v := 42) hx hb dX3_right_57 (by decide) ?_
          refine lv_icmp_eq (tgt := 81) hx hb dX3_right_59 (by decide) (fun c_15 => ?_) (fun c_15 => ?_)
          · skip
            refine lv_aload_n hx hb dX3_right_81 rfl (lv_at hl 1 rfl) ?_
            refine lv_iload_n hx hb dX3_right_82 rfl (lv_at hl 2 rfl) ?_
            refine lv_iconst (v := 3) hx hb dX3_right_83 (by decide) ?_
            refine lv_iadd hx hb dX3_right_84 ?_
            refine lv_val (y := nI (pl + 3)) ((nI_add (pl) (3))) ?_
            refine run_ro (w := .int (nxM pd ln (pl + 3))) (rest := []) (kV F hW (metX3_next l E H ad kept told ln hln hm pd hp (pl + 3) (by omega)) (lw_V q1234 q1236 qs39 q52 q1237) hdX3_next ⟨Nat.le_of_ble_eq_true rfl, Nat.le_of_ble_eq_true rfl⟩ (recv hW hm rfl) hl.1 rfl (Nat.le_of_ble_eq_true rfl) dX3_right_85 ⟨Nat.le_of_ble_eq_true rfl, Nat.le_of_ble_eq_true rfl⟩) ?_
            refine lv_bipush (v := 42) hx hb dX3_right_88 (by decide) ?_
            refine lv_icmp_eq (tgt := 112) hx hb dX3_right_90 (by decide) (fun c_16 => ?_) (fun c_16 => ?_)
            · skip
              refine lv_iload_n hx hb dX3_right_112 rfl (lv_at hl 0 rfl) ?_
              refine lv_if_eq (tgt := 137) hx hb dX3_right_113 (by decide) (fun _ => ?_) (fun c9 => absurd c_3 c9)
              refine lv_iconst (v := 4) hx hb dX3_right_137 (by decide) ?_
              exact hend _ _ _ _ _ _ _ rfl dX3_right_138 (⟨congrArg (fun z : Int32 => some (Value.int z)) (by simp [rgN, rg2, rg3, rg4, c_1, c_2, c_3, c_14, c_15, c_16] <;> rfl), rfl⟩) hS (Nat.zero_le _) (Nat.zero_le _)
            · skip
              refine lv_aload_n hx hb dX3_right_93 rfl (lv_at hl 1 rfl) ?_
              refine lv_iload_n hx hb dX3_right_94 rfl (lv_at hl 2 rfl) ?_
              refine lv_iconst (v := 3) hx hb dX3_right_95 (by decide) ?_
              refine lv_iadd hx hb dX3_right_96 ?_
              refine lv_val (y := nI (pl + 3)) ((nI_add (pl) (3))) ?_
              refine run_ro (w := .int (nxM pd ln (pl + 3))) (rest := []) (kV F hW (metX3_next l E H ad kept told ln hln hm pd hp (pl + 3) (by omega)) (lw_V q1234 q1236 qs39 q52 q1237) hdX3_next ⟨Nat.le_of_ble_eq_true rfl, Nat.le_of_ble_eq_true rfl⟩ (recv hW hm rfl) hl.1 rfl (Nat.le_of_ble_eq_true rfl) dX3_right_97 ⟨Nat.le_of_ble_eq_true rfl, Nat.le_of_ble_eq_true rfl⟩) ?_
              refine lv_bipush (v := 48) hx hb dX3_right_100 (by decide) ?_
              refine lv_bipush (v := 53) hx hb dX3_right_102 (by decide) ?_
              refine run_ro (w := .int (b2i (inR (nxM pd ln (pl + 3)) 48 53))) (rest := []) (kS F hW (metX3_in l E H (nxM pd ln (pl + 3)) 48 53) (lw_S q1049 q1050 q52 q1051) hdX3_in ⟨Nat.le_of_ble_eq_true rfl, Nat.le_of_ble_eq_true rfl⟩ hl.1 rfl (Nat.le_of_ble_eq_true rfl) dX3_right_104 ⟨Nat.le_of_ble_eq_true rfl, Nat.le_of_ble_eq_true rfl⟩) ?_
              refine lv_if_ne (tgt := 112) hx hb dX3_right_107 (by decide) (fun c_17 => ?_) (fun c_17 => ?_)
              · skip
                have bc_17 := c_17
                have c_17 := b2i_t c_17
                refine lv_iload_n hx hb dX3_right_112 rfl (lv_at hl 0 rfl) ?_
                refine lv_if_eq (tgt := 137) hx hb dX3_right_113 (by decide) (fun _ => ?_) (fun c9 => absurd c_3 c9)
                refine lv_iconst (v := 4) hx hb dX3_right_137 (by decide) ?_
                exact hend _ _ _ _ _ _ _ rfl dX3_right_138 (⟨congrArg (fun z : Int32 => some (Value.int z)) (by simp [rgN, rg2, rg3, rg4, c_1, c_2, c_3, c_14, c_15, c_16, c_17] <;> rfl), rfl⟩) hS (Nat.zero_le _) (Nat.zero_le _)
              · skip
                have bc_17 := c_17
                have c_17 := b2i_f c_17
                refine lv_iconst (v := 3) hx hb dX3_right_110 (by decide) ?_
                exact hend _ _ _ _ _ _ _ rfl dX3_right_111 (⟨congrArg (fun z : Int32 => some (Value.int z)) (by simp [rgN, rg2, rg3, rg4, c_1, c_2, c_3, c_14, c_15, c_16, c_17] <;> rfl), rfl⟩) hS (Nat.zero_le _) (Nat.zero_le _)
          · skip
            refine lv_aload_n hx hb dX3_right_62 rfl (lv_at hl 1 rfl) ?_
            refine lv_iload_n hx hb dX3_right_63 rfl (lv_at hl 2 rfl) ?_
            refine lv_iconst (v := 2) hx hb dX3_right_64 (by decide) ?_
            refine lv_iadd hx hb dX3_right_65 ?_
            refine lv_val (y := nI (pl + 2)) ((nI_add (pl) (2))) ?_
            refine run_ro (w := .int (nxM pd ln (pl + 2))) (rest := []) (kV F hW (metX3_next l E H ad kept told ln hln hm pd hp (pl + 2) (by omega)) (lw_V q1234 q1236 qs39 q52 q1237) hdX3_next ⟨Nat.le_of_ble_eq_true rfl, Nat.le_of_ble_eq_true rfl⟩ (recv hW hm rfl) hl.1 rfl (Nat.le_of_ble_eq_true rfl) dX3_right_66 ⟨Nat.le_of_ble_eq_true rfl, Nat.le_of_ble_eq_true rfl⟩) ?_
            refine lv_bipush (v := 48) hx hb dX3_right_69 (by decide) ?_
            refine lv_bipush (v := 52) hx hb dX3_right_71 (by decide) ?_
            refine run_ro (w := .int (b2i (inR (nxM pd ln (pl + 2)) 48 52))) (rest := []) (kS F hW (metX3_in l E H (nxM pd ln (pl + 2)) 48 52) (lw_S q1049 q1050 q52 q1051) hdX3_in ⟨Nat.le_of_ble_eq_true rfl, Nat.le_of_ble_eq_true rfl⟩ hl.1 rfl (Nat.le_of_ble_eq_true rfl) dX3_right_73 ⟨Nat.le_of_ble_eq_true rfl, Nat.le_of_ble_eq_true rfl⟩) ?_
            refine lv_if_ne (tgt := 81) hx hb dX3_right_76 (by decide) (fun c_18 => ?_) (fun c_18 => ?_)
            · skip
              have bc_18 := c_18
              have c_18 := b2i_t c_18
              refine lv_aload_n hx hb dX3_right_81 rfl (lv_at hl 1 rfl) ?_
              refine lv_iload_n hx hb dX3_right_82 rfl (lv_at hl 2 rfl) ?_
              refine lv_iconst (v := 3) hx hb dX3_right_83 (by decide) ?_
              refine lv_iadd hx hb dX3_right_84 ?_
              refine lv_val (y := nI (pl + 3)) ((nI_add (pl) (3))) ?_
              refine run_ro (w := .int (nxM pd ln (pl + 3))) (rest := []) (kV F hW (metX3_next l E H ad kept told ln hln hm pd hp (pl + 3) (by omega)) (lw_V q1234 q1236 qs39 q52 q1237) hdX3_next ⟨Nat.le_of_ble_eq_true rfl, Nat.le_of_ble_eq_true rfl⟩ (recv hW hm rfl) hl.1 rfl (Nat.le_of_ble_eq_true rfl) dX3_right_85 ⟨Nat.le_of_ble_eq_true rfl, Nat.le_of_ble_eq_true rfl⟩) ?_
              refine lv_bipush (v := 42) hx hb dX3_right_88 (by decide) ?_
              refine lv_icmp_eq (tgt := 112) hx hb dX3_right_90 (by decide) (fun c_19 => ?_) (fun c_19 => ?_)
              · skip
                refine lv_iload_n hx hb dX3_right_112 rfl (lv_at hl 0 rfl) ?_
                refine lv_if_eq (tgt := 137) hx hb dX3_right_113 (by decide) (fun _ => ?_) (fun c9 => absurd c_3 c9)
                refine lv_iconst (v := 4) hx hb dX3_right_137 (by decide) ?_
                exact hend _ _ _ _ _ _ _ rfl dX3_right_138 (⟨congrArg (fun z : Int32 => some (Value.int z)) (by simp [rgN, rg2, rg3, rg4, c_1, c_2, c_3, c_14, c_15, c_18, c_19] <;> rfl), rfl⟩) hS (Nat.zero_le _) (Nat.zero_le _)
              · skip
                refine lv_aload_n hx hb dX3_right_93 rfl (lv_at hl 1 rfl) ?_
                refine lv_iload_n hx hb dX3_right_94 rfl (lv_at hl 2 rfl) ?_
                refine lv_iconst (v := 3) hx hb dX3_right_95 (by decide) ?_
                refine lv_iadd hx hb dX3_right_96 ?_
                refine lv_val (y := nI (pl + 3)) ((nI_add (pl) (3))) ?_
                refine run_ro (w := .int (nxM pd ln (pl + 3))) (rest := []) (kV F hW (metX3_next l E H ad kept told ln hln hm pd hp (pl + 3) (by omega)) (lw_V q1234 q1236 qs39 q52 q1237) hdX3_next ⟨Nat.le_of_ble_eq_true rfl, Nat.le_of_ble_eq_true rfl⟩ (recv hW hm rfl) hl.1 rfl (Nat.le_of_ble_eq_true rfl) dX3_right_97 ⟨Nat.le_of_ble_eq_true rfl, Nat.le_of_ble_eq_true rfl⟩) ?_
                refine lv_bipush (v := 48) hx hb dX3_right_100 (by decide) ?_
                refine lv_bipush (v := 53) hx hb dX3_right_102 (by decide) ?_
                refine run_ro (w := .int (b2i (inR (nxM pd ln (pl + 3)) 48 53))) (rest := []) (kS F hW (metX3_in l E H (nxM pd ln (pl + 3)) 48 53) (lw_S q1049 q1050 q52 q1051) hdX3_in ⟨Nat.le_of_ble_eq_true rfl, Nat.le_of_ble_eq_true rfl⟩ hl.1 rfl (Nat.le_of_ble_eq_true rfl) dX3_right_104 ⟨Nat.le_of_ble_eq_true rfl, Nat.le_of_ble_eq_true rfl⟩) ?_
                refine lv_if_ne (tgt := 112) hx hb dX3_right_107 (by decide) (fun c_20 => ?_) (fun c_20 => ?_)
                · skip
                  have bc_20 := c_20
                  have c_20 := b2i_t c_20
                  refine lv_iload_n hx hb dX3_right_112 rfl (lv_at hl 0 rfl) ?_
                  refine lv_if_eq (tgt := 137) hx hb dX3_right_113 (by decide) (fun _ => ?_) (fun c9 => absurd c_3 c9)
                  refine lv_iconst (v := 4) hx hb dX3_right_137 (by decide) ?_
                  exact hend _ _ _ _ _ _ _ rfl dX3_right_138 (⟨congrArg (fun z : Int32 => some (Value.int z)) (by simp [rgN, rg2, rg3, rg4, c_1, c_2, c_3, c_14, c_15, c_18, c_19, c_20] <;> rfl), rfl⟩) hS (Nat.zero_le _) (Nat.zero_le _)
                · skip
                  have bc_20 := c_20
                  have c_20 := b2i_f c_20
                  refine lv_iconst (v := 3) hx hb dX3_right_110 (by decide) ?_
                  exact hend _ _ _ _ _ _ _ rfl dX3_right_111 (⟨congrArg (fun z : Int32 => some (Value.int z)) (by simp [rgN, rg2, rg3, rg4, c_1, c_2, c_3, c_14, c_15, c_18, c_19, c_20] <;> rfl), rfl⟩) hS (Nat.zero_le _) (Nat.zero_le _)
            · skip
              have bc_18 := c_18
              have c_18 := b2i_f c_18
              refine lv_iconst (v := 2) hx hb dX3_right_79 (by decide) ?_
              exact hend _ _ _ _ _ _ _ rfl dX3_right_80 (⟨congrArg (fun z : Int32 => some (Value.int z)) (by simp [rgN, rg2, rg3, rg4, c_1, c_2, c_3, c_14, c_15, c_18] <;> rfl), rfl⟩) hS (Nat.zero_le _) (Nat.zero_le _)
        · skip
          refine lv_iconst (v := 1) hx hb dX3_right_48 (by decide) ?_
          exact hend _ _ _ _ _ _ _ rfl dX3_right_49 (⟨congrArg (fun z : Int32 => some (Value.int z)) (by simp [rgN, rg2, rg3, rg4, c_1, c_2, c_3, c_14] <;> rfl), rfl⟩) hS (Nat.zero_le _) (Nat.zero_le _)
  · skip
    have bc_1 := c_1
    have c_1 := b2i_f c_1
    refine lv_iconst (v := 0) hx hb dX3_right_26 (by decide) ?_
    exact hend _ _ _ _ _ _ _ rfl dX3_right_27 (⟨congrArg (fun z : Int32 => some (Value.int z)) (by simp [rgN, rg2, rg3, rg4, c_1] <;> rfl), rfl⟩) hS (Nat.zero_le _) (Nat.zero_le _)

theorem hdX3_whole : Hd yX3_whole 1 := by decide +kernel
set_option maxHeartbeats 1000000 in
set_option maxRecDepth 100000 in
theorem metX3_whole (l : Launch) (E : EV) (H : Heap) (ad : Nat → Nat) (kept told : Int32) (ln : Nat) (hln : ln ≤ 60) (hm : oat E (ad 0) 3 (mfs ad kept (nI ln) told) H) (pd : Nat → Int32) (hp : iat E (ad 5) 0 60 pd H) (pl : Nat) (hpl : pl ≤ 900) : Ro l yX3_whole cX3_whole 2 (some .int) 1 21 [.ref (ad 0), .int (nI pl)] E H (some (.int (nI (whN (nxM pd ln) pl)))) := by
  refine Ct.ofZ (by decide) (Nat.le_of_ble_eq_true rfl) ?_
  intro p e s m bl mt cd ls Q hF hW hH hl hend
  obtain ⟨F, hin⟩ := hF
  have hx := F.1
  have hb := F.2.1
  have hts := F.2.2.2.2
  have hl : lv_has ls 2 [(0, .ref (ad 0)), (1, .int (nI pl))] := hl
  have hS : va_S (fun _ => False) H H [] := va_S.rf
  refine lv_aload_n hx hb dX3_whole_0 rfl (lv_at hl 0 rfl) ?_
  refine lv_iload_n hx hb dX3_whole_1 rfl (lv_at hl 1 rfl) ?_
  refine lv_iconst (v := 1) hx hb dX3_whole_2 (by decide) ?_
  refine lv_iadd hx hb dX3_whole_3 ?_
  refine lv_val (y := nI (pl + 1)) ((nI_add (pl) (1))) ?_
  refine run_ro (w := .int (nxM pd ln (pl + 1))) (rest := []) (kV F hW (metX3_next l E H ad kept told ln hln hm pd hp (pl + 1) (by omega)) (lw_V q1234 q1236 qs39 q52 q1237) hdX3_next ⟨Nat.le_of_ble_eq_true rfl, Nat.le_of_ble_eq_true rfl⟩ (recv hW hm rfl) hl.1 rfl (Nat.le_of_ble_eq_true rfl) dX3_whole_4 ⟨Nat.le_of_ble_eq_true rfl, Nat.le_of_ble_eq_true rfl⟩) ?_
  refine lv_bipush (v := 112) hx hb dX3_whole_7 (by decide) ?_
  refine lv_icmp_ne (tgt := 16) hx hb dX3_whole_9 (by decide) (fun c_1 => ?_) (fun c_1 => ?_)
  · skip
    refine lv_iconst (v := 5) hx hb dX3_whole_16 (by decide) ?_
    exact hend _ _ _ _ _ _ _ rfl dX3_whole_17 (⟨congrArg (fun z : Int32 => some (Value.int z)) (by simp [whN, c_1] <;> rfl), rfl⟩) hS (Nat.zero_le _) (Nat.zero_le _)
  · skip
    refine lv_iconst (v := 4) hx hb dX3_whole_12 (by decide) ?_
    refine lv_goto (tgt := 17) hx hb dX3_whole_13 (by decide) ?_
    exact hend _ _ _ _ _ _ _ rfl dX3_whole_17 (⟨congrArg (fun z : Int32 => some (Value.int z)) (by simp [whN, c_1] <;> rfl), rfl⟩) hS (Nat.zero_le _) (Nat.zero_le _)

theorem hdX3_wrong : Hd yX3_wrong 0 := by decide +kernel
set_option maxHeartbeats 1000000 in
set_option maxRecDepth 100000 in
theorem metX3_wrong (l : Launch) (E : EV) (H : Heap) (ad : Nat → Nat) (f hst sl z pd : Nat → Int32) (kept told : Int32) (ln : Nat) (hln : ln ≤ 60) (hM : MPx E ad f hst sl z pd kept (nI ln) told H) (hT : TW E ad) : Ct l yX3_wrong cX3_wrong 4 (some .int) 2 44 (0) (0) [.ref (ad 0)] E H (TA ad) (pI (fun r H1 => WRp E ad f hst sl z pd kept (nI ln) (wrI (nxM pd ln) ln (ln + 1) 0 0) r H1)) := by
  obtain ⟨g, k0, k1, k2, k3, k4, k5, k6⟩ := hM
  refine Ct.ofZ (by decide) (Nat.le_of_ble_eq_true rfl) ?_
  intro p e s m bl mt cd ls Q hF hW hH hl hend
  obtain ⟨F, hin⟩ := hF
  have hx := F.1
  have hb := F.2.1
  have hts := F.2.2.2.2
  have hl : lv_has ls 4 [(0, .ref (ad 0))] := hl
  have hS : va_S (TA ad) H H [] := va_S.rf
  refine lv_iconst (v := 0) hx hb dX3_wrong_0 (by decide) ?_
  refine lv_istore_n (lv' := [(1, .int 0), (0, .ref (ad 0))]) hx hb dX3_wrong_1 rfl hl (by decide) rfl (fun ls hl => ?_)
  refine lv_aload_n hx hb dX3_wrong_2 rfl (lv_at hl 1 rfl) ?_
  refine lv_iconst (v := 0) hx hb dX3_wrong_3 (by decide) ?_
  refine xput (ref := "LayeredChartersModel") (ci := 3) (v := .int 0) (C := RX3) (T := TX3) (N := 9) F in_X3 tyX3 tyX3_ok nmX3 hW k0 hS ⟨0, by decide, rfl⟩ rfl 8 (by decide) q1024 (fun _ h9 => h9) rfl rfl rfl (Nat.le_of_ble_eq_true rfl) dX3_wrong_4 (fun H_1 locs ho_1 hu_1 hS_1 => ?_)
  have ho_1 : oat E (ad 0) 3 [.ref (ad 1), .ref (ad 2), .int kept, .ref (ad 3), .ref (ad 4), .ref (ad 5), .int (nI ln), .ref (ad 6), .int 0] H_1 := ho_1
  have hW_H_1 := hW.kept hu_1.chg (fun q _ hq => hq ▸ (hT.2 0 (by decide)))
  have k1_H_1 := k1.kept hu_1.chg (fun h9 => absurd (hT.1 1 0 (by decide) (by decide) h9) (by decide))
  have k2_H_1 := k2.kept hu_1.chg (fun h9 => absurd (hT.1 2 0 (by decide) (by decide) h9) (by decide))
  have k3_H_1 := k3.kept hu_1.chg (fun h9 => absurd (hT.1 3 0 (by decide) (by decide) h9) (by decide))
  have k4_H_1 := k4.kept hu_1.chg (fun h9 => absurd (hT.1 4 0 (by decide) (by decide) h9) (by decide))
  have k5_H_1 := k5.kept hu_1.chg (fun h9 => absurd (hT.1 5 0 (by decide) (by decide) h9) (by decide))
  have k6_H_1 := k6.kept hu_1.chg (fun h9 => absurd (hT.1 6 0 (by decide) (by decide) h9) (by decide))
  refine lv_iconst (v := 1) hx hb dX3_wrong_7 (by decide) ?_
  refine lv_istore_n (lv' := [(2, .int 1), (1, .int 0), (0, .ref (ad 0))]) hx hb dX3_wrong_8 rfl hl (by decide) rfl (fun ls hl => ?_)
  have lg9 : ∀ (kk : Nat) (ps : Nat) (td : Nat), ln + 1 - ps < kk → (ps ≤ ln) → (td ≤ ps) → (wrI (nxM pd ln) ln (ln + 1) 0 0 = wrI (nxM pd ln) ln (ln + 1 - ps) ps td) → ∀ (Hg_9 : Heap) (locs : List Loc), va_S (TA ad) H Hg_9 locs → WK E s Hg_9 → MPx E ad f hst sl z pd kept (nI ln) (nI td) Hg_9 → ∀ ls : Array Slot, lv_has ls 4 [(1, .int (nI ps)), (2, .int 1), (0, .ref (ad 0))] → W p l e ({ frames := 2, cells := 0, slots := 0, locals := 44 } : Room) s m ([.ref (ad 0)] : List Value).toArray bl mt cd Hg_9 locs 0 0 Q (F0 m 9 ls []) := by
    intro kk
    induction kk with
    | zero => intro ps td hm; exact absurd hm (Nat.not_lt_zero _)
    | succ kk ih9 =>
      intro ps td hm hpp htd hinv Hg_9 locs hS_9 hW_9 hl_9 ls hl
      obtain ⟨g_2, k0_2, k1_2, k2_2, k3_2, k4_2, k5_2, k6_2⟩ := hl_9
      have hrg9 := rgN_le (nxM pd ln) ps
      have hwh9 := whN_in (nxM pd ln) ps
      refine lv_iload_n hx hb dX3_wrong_9 rfl (lv_at hl 1 rfl) ?_
      refine lv_if_eq (tgt := 92) hx hb dX3_wrong_10 (by decide) (fun c9 => absurd c9 (by decide)) (fun _ => ?_)
      refine lv_aload_n hx hb dX3_wrong_13 rfl (lv_at hl 2 rfl) ?_
      refine lv_iload_n hx hb dX3_wrong_14 rfl (lv_at hl 0 rfl) ?_
      refine run_ro (w := .int (nI (rgN (nxM pd ln) ps))) (rest := []) (kV F hW_9 (metX3_right l E Hg_9 ad kept (nI td) ln hln k0_2 pd k5_2 ps (by omega)) (lw_V q1230 q1232 qs38 q52 q1233) hdX3_right ⟨Nat.le_of_ble_eq_true rfl, Nat.le_of_ble_eq_true rfl⟩ (recv hW_9 k0_2 rfl) hl.1 rfl (Nat.le_of_ble_eq_true rfl) dX3_wrong_15 ⟨Nat.le_of_ble_eq_true rfl, Nat.le_of_ble_eq_true rfl⟩) ?_
      refine lv_istore_n (lv' := [(3, .int (nI (rgN (nxM pd ln) ps))), (1, .int (nI ps)), (2, .int 1), (0, .ref (ad 0))]) hx hb dX3_wrong_18 rfl hl (by decide) rfl (fun ls hl => ?_)
      refine lv_iload_n hx hb dX3_wrong_19 rfl (lv_at hl 0 rfl) ?_
      refine lv_aload_n hx hb dX3_wrong_20 rfl (lv_at hl 3 rfl) ?_
      refine lv_iload_n hx hb dX3_wrong_21 rfl (lv_at hl 1 rfl) ?_
      refine run_ro (w := .int (nI (whN (nxM pd ln) ps))) (rest := [.int (nI (rgN (nxM pd ln) ps))]) (kV F hW_9 (metX3_whole l E Hg_9 ad kept (nI td) ln hln k0_2 pd k5_2 ps (by omega)) (lw_V q1241 q1243 qs40 q52 q1244) hdX3_whole ⟨Nat.le_of_ble_eq_true rfl, Nat.le_of_ble_eq_true rfl⟩ (recv hW_9 k0_2 rfl) hl.1 rfl (Nat.le_of_ble_eq_true rfl) dX3_wrong_22 ⟨Nat.le_of_ble_eq_true rfl, Nat.le_of_ble_eq_true rfl⟩) ?_
      refine lv_icmp_ge (tgt := 32) hx hb dX3_wrong_25 (by decide) (fun c_3 => ?_) (fun c_3 => ?_)
      · skip
        have nc_3 := (nI_leI (a := (whN (nxM pd ln) ps)) (b := (rgN (nxM pd ln) ps)) (by omega) (by omega)).mp c_3
        refine lv_aload_n hx hb dX3_wrong_32 rfl (lv_at hl 3 rfl) ?_
        refine lv_dup hx hb dX3_wrong_33 rfl ?_
        refine xget (ref := "LayeredChartersModel") (ci := 3) (v := .int (nI td)) (C := RX3) (T := TX3) (N := 9) F in_X3 hW_9 k0_2 rfl 8 (by decide) q1024 (fun _ h9 => h9) rfl dX3_wrong_34 ?_
        refine lv_iconst (v := 1) hx hb dX3_wrong_37 (by decide) ?_
        refine lv_iadd hx hb dX3_wrong_38 ?_
        refine lv_val (y := nI (td + 1)) ((nI_add (td) (1))) ?_
        refine xput (ref := "LayeredChartersModel") (ci := 3) (v := .int (nI (td + 1))) (C := RX3) (T := TX3) (N := 9) F in_X3 tyX3 tyX3_ok nmX3 hW_9 k0_2 hS_9 ⟨0, by decide, rfl⟩ rfl 8 (by decide) q1024 (fun _ h9 => h9) rfl rfl rfl (Nat.le_of_ble_eq_true rfl) dX3_wrong_39 (fun H_4 locs ho_4 hu_4 hS_4 => ?_)
        have ho_4 : oat E (ad 0) 3 [.ref (ad 1), .ref (ad 2), .int kept, .ref (ad 3), .ref (ad 4), .ref (ad 5), .int (nI ln), .ref (ad 6), .int (nI (td + 1))] H_4 := ho_4
        have hW_H_4 := hW_9.kept hu_4.chg (fun q _ hq => hq ▸ (hT.2 0 (by decide)))
        have k1_H_4 := k1_2.kept hu_4.chg (fun h9 => absurd (hT.1 1 0 (by decide) (by decide) h9) (by decide))
        have k2_H_4 := k2_2.kept hu_4.chg (fun h9 => absurd (hT.1 2 0 (by decide) (by decide) h9) (by decide))
        have k3_H_4 := k3_2.kept hu_4.chg (fun h9 => absurd (hT.1 3 0 (by decide) (by decide) h9) (by decide))
        have k4_H_4 := k4_2.kept hu_4.chg (fun h9 => absurd (hT.1 4 0 (by decide) (by decide) h9) (by decide))
        have k5_H_4 := k5_2.kept hu_4.chg (fun h9 => absurd (hT.1 5 0 (by decide) (by decide) h9) (by decide))
        have k6_H_4 := k6_2.kept hu_4.chg (fun h9 => absurd (hT.1 6 0 (by decide) (by decide) h9) (by decide))
        refine lv_iload_n hx hb dX3_wrong_42 rfl (lv_at hl 1 rfl) ?_
        refine lv_iload_n hx hb dX3_wrong_43 rfl (lv_at hl 0 rfl) ?_
        refine lv_iadd hx hb dX3_wrong_44 ?_
        refine lv_val (y := nI (ps + (rgN (nxM pd ln) ps))) ((nI_add (ps) ((rgN (nxM pd ln) ps)))) ?_
        refine lv_istore_n (lv' := [(1, .int (nI (ps + (rgN (nxM pd ln) ps)))), (3, .int (nI (rgN (nxM pd ln) ps))), (2, .int 1), (0, .ref (ad 0))]) hx hb dX3_wrong_45 rfl hl (by decide) rfl (fun ls hl => ?_)
        refine lv_iload_n hx hb dX3_wrong_46 rfl (lv_at hl 0 rfl) ?_
        refine lv_aload_n hx hb dX3_wrong_47 rfl (lv_at hl 3 rfl) ?_
        refine xget (ref := "LayeredChartersModel") (ci := 3) (v := .int (nI ln)) (C := RX3) (T := TX3) (N := 9) F in_X3 hW_H_4 ho_4 rfl 6 (by decide) q1022 (fun _ h9 => h9) rfl dX3_wrong_48 ?_
        refine lv_icmp_ge (tgt := 58) hx hb dX3_wrong_51 (by decide) (fun c_5 => ?_) (fun c_5 => ?_)
        · skip
          have nc_5 := (nI_leI (a := ln) (b := (ps + (rgN (nxM pd ln) ps))) (by omega) (by omega)).mp c_5
          refine lv_iconst (v := 0) hx hb dX3_wrong_58 (by decide) ?_
          refine lv_istore_n (lv' := [(2, .int 0), (1, .int (nI (ps + (rgN (nxM pd ln) ps)))), (3, .int (nI (rgN (nxM pd ln) ps))), (0, .ref (ad 0))]) hx hb dX3_wrong_59 rfl hl (by decide) rfl (fun ls hl => ?_)
          refine lv_iload_n hx hb dX3_wrong_60 rfl (lv_at hl 0 rfl) ?_
          refine lv_if_eq (tgt := 77) hx hb dX3_wrong_61 (by decide) (fun _ => ?_) (fun c9 => absurd (by decide) c9)
          refine lv_iload_n hx hb dX3_wrong_77 rfl (lv_at hl 1 rfl) ?_
          refine lv_iload_n hx hb dX3_wrong_78 rfl (lv_at hl 0 rfl) ?_
          refine lv_if_eq (tgt := 86) hx hb dX3_wrong_79 (by decide) (fun _ => ?_) (fun c9 => absurd (by decide) c9)
          refine lv_iconst (v := 0) hx hb dX3_wrong_86 (by decide) ?_
          refine lv_iadd hx hb dX3_wrong_87 ?_
          refine lv_val (y := nI ((ps + (rgN (nxM pd ln) ps)) + 0)) ((nI_add ((ps + (rgN (nxM pd ln) ps))) (0))) ?_
          refine lv_istore_n (lv' := [(1, .int (nI ((ps + (rgN (nxM pd ln) ps)) + 0))), (2, .int 0), (3, .int (nI (rgN (nxM pd ln) ps))), (0, .ref (ad 0))]) hx hb dX3_wrong_88 rfl hl (by decide) rfl (fun ls hl => ?_)
          refine lv_goto (tgt := 9) hx hb dX3_wrong_89 (by decide) ?_
          refine lv_iload_n hx hb dX3_wrong_9 rfl (lv_at hl 1 rfl) ?_
          refine lv_if_eq (tgt := 92) hx hb dX3_wrong_10 (by decide) (fun _ => ?_) (fun c9 => absurd (by decide) c9)
          refine lv_bipush (v := (-6)) hx hb dX3_wrong_92 (by decide) ?_
          exact hend _ _ _ _ _ _ _ rfl dX3_wrong_94 (⟨_, rfl, WRq (show wrI (nxM pd ln) ln (ln + 1) 0 0 = ((-6), td + 1) from by rw [hinv, wrI_s hpp]; rw [if_neg (by omega), if_pos (by omega)]) ⟨_, ho_4, k1_H_4, k2_H_4, k3_H_4, k4_H_4, k5_H_4, k6_H_4⟩⟩) hS_4 (Nat.zero_le _) (Nat.zero_le _)
        · skip
          have nc_5 := Nat.not_le.mp (fun h9 => c_5 ((nI_leI (a := ln) (b := (ps + (rgN (nxM pd ln) ps))) (by omega) (by omega)).mpr h9))
          refine lv_iconst (v := 1) hx hb dX3_wrong_54 (by decide) ?_
          refine lv_goto (tgt := 59) hx hb dX3_wrong_55 (by decide) ?_
          refine lv_istore_n (lv' := [(2, .int 1), (1, .int (nI (ps + (rgN (nxM pd ln) ps)))), (3, .int (nI (rgN (nxM pd ln) ps))), (0, .ref (ad 0))]) hx hb dX3_wrong_59 rfl hl (by decide) rfl (fun ls hl => ?_)
          refine lv_iload_n hx hb dX3_wrong_60 rfl (lv_at hl 0 rfl) ?_
          refine lv_if_eq (tgt := 77) hx hb dX3_wrong_61 (by decide) (fun c9 => absurd c9 (by decide)) (fun _ => ?_)
          have hx9 : nxM pd ln (ps + rgN (nxM pd ln) ps) = pd (ps + rgN (nxM pd ln) ps) := if_pos (by omega)
          refine lv_aload_n hx hb dX3_wrong_64 rfl (lv_at hl 3 rfl) ?_
          refine xget (ref := "LayeredChartersModel") (ci := 3) (v := .ref (ad 5)) (C := RX3) (T := TX3) (N := 9) F in_X3 hW_H_4 ho_4 rfl 5 (by decide) q1021 (fun _ h9 => h9) rfl dX3_wrong_65 ?_
          refine lv_iload_n hx hb dX3_wrong_68 rfl (lv_at hl 1 rfl) ?_
          refine xild F hW_H_4 k5_H_4 (vp_in_nI (by omega) (by omega)) dX3_wrong_69 ?_
          refine lv_val (y := pd (ps + (rgN (nxM pd ln) ps))) ((by rw [nI_clamp (by omega)])) ?_
          refine lv_bipush (v := 59) hx hb dX3_wrong_70 (by decide) ?_
          refine lv_icmp_eq (tgt := 77) hx hb dX3_wrong_72 (by decide) (fun c_6 => ?_) (fun c_6 => ?_)
          · skip
            refine lv_iload_n hx hb dX3_wrong_77 rfl (lv_at hl 1 rfl) ?_
            refine lv_iload_n hx hb dX3_wrong_78 rfl (lv_at hl 0 rfl) ?_
            refine lv_if_eq (tgt := 86) hx hb dX3_wrong_79 (by decide) (fun c9 => absurd c9 (by decide)) (fun _ => ?_)
            refine lv_iconst (v := 1) hx hb dX3_wrong_82 (by decide) ?_
            refine lv_goto (tgt := 87) hx hb dX3_wrong_83 (by decide) ?_
            refine lv_iadd hx hb dX3_wrong_87 ?_
            refine lv_val (y := nI ((ps + (rgN (nxM pd ln) ps)) + 1)) ((nI_add ((ps + (rgN (nxM pd ln) ps))) (1))) ?_
            refine lv_istore_n (lv' := [(1, .int (nI ((ps + (rgN (nxM pd ln) ps)) + 1))), (2, .int 1), (3, .int (nI (rgN (nxM pd ln) ps))), (0, .ref (ad 0))]) hx hb dX3_wrong_88 rfl hl (by decide) rfl (fun ls hl => ?_)
            refine lv_goto (tgt := 9) hx hb dX3_wrong_89 (by decide) ?_
            exact ih9 _ _ (by omega) (by omega) (by omega) (by rw [hinv, wrI_s hpp]; rw [if_neg (by omega), if_neg (by omega), if_pos (by rw [hx9]; exact c_6)]; exact wrI_big _ _ _ _ (by omega) (by omega) (by omega)) _ _ hS_4 hW_H_4 (⟨_, ho_4, k1_H_4, k2_H_4, k3_H_4, k4_H_4, k5_H_4, k6_H_4⟩) ls (lv_sub hl [0, 1, 3] rfl)
          · skip
            refine lv_iload_n hx hb dX3_wrong_75 rfl (lv_at hl 1 rfl) ?_
            exact hend _ _ _ _ _ _ _ rfl dX3_wrong_76 (⟨_, rfl, WRq (show wrI (nxM pd ln) ln (ln + 1) 0 0 = (nI (ps + (rgN (nxM pd ln) ps)), td + 1) from by rw [hinv, wrI_s hpp]; rw [if_neg (by omega), if_neg (by omega), if_neg (by rw [hx9]; exact c_6)]) ⟨_, ho_4, k1_H_4, k2_H_4, k3_H_4, k4_H_4, k5_H_4, k6_H_4⟩⟩) hS_4 (Nat.zero_le _) (Nat.zero_le _)
      · skip
        have nc_3 := Nat.not_le.mp (fun h9 => c_3 ((nI_leI (a := (whN (nxM pd ln) ps)) (b := (rgN (nxM pd ln) ps)) (by omega) (by omega)).mpr h9))
        refine lv_iload_n hx hb dX3_wrong_28 rfl (lv_at hl 1 rfl) ?_
        refine lv_iload_n hx hb dX3_wrong_29 rfl (lv_at hl 0 rfl) ?_
        refine lv_iadd hx hb dX3_wrong_30 ?_
        refine lv_val (y := nI (ps + (rgN (nxM pd ln) ps))) ((nI_add (ps) ((rgN (nxM pd ln) ps)))) ?_
        exact hend _ _ _ _ _ _ _ rfl dX3_wrong_31 (⟨_, rfl, WRq (show wrI (nxM pd ln) ln (ln + 1) 0 0 = (nI (ps + (rgN (nxM pd ln) ps)), td) from by rw [hinv, wrI_s hpp]; rw [if_pos (by omega)]) ⟨_, k0_2, k1_2, k2_2, k3_2, k4_2, k5_2, k6_2⟩⟩) hS_9 (Nat.zero_le _) (Nat.zero_le _)
  exact lg9 _ 0 0 (Nat.lt_succ_self _) (Nat.zero_le _) (Nat.le_refl _) (rfl) _ _ hS_1 hW_H_1 (⟨_, ho_1, k1_H_1, k2_H_1, k3_H_1, k4_H_1, k5_H_1, k6_H_1⟩) ls (lv_sub hl [1, 0, 2] rfl)

theorem hdX3_fault : Hd yX3_fault 0 := by decide +kernel
set_option maxHeartbeats 1000000 in
set_option maxRecDepth 100000 in
theorem metX3_fault (l : Launch) (E : EV) (H : Heap) (ad : Nat → Nat) (f hst sl z pd : Nat → Int32) (kept told : Int32) (ln : Nat) (hln : ln ≤ 60) (hM : MPx E ad f hst sl z pd kept (nI ln) told H) (hT : TW E ad) : Ct l yX3_fault cX3_fault 1 (some .int) 3 67 (0) (0) [.ref (ad 0)] E H (TA ad) (pI (fun r H1 => r = (wrI (nxM pd ln) ln (ln + 1) 0 0).1 ∧ ∃ td, MPx E ad f hst sl z pd kept (nI ln) td H1)) := by
  obtain ⟨g, k0, k1, k2, k3, k4, k5, k6⟩ := hM
  refine Ct.ofZ (by decide) (Nat.le_of_ble_eq_true rfl) ?_
  intro p e s m bl mt cd ls Q hF hW hH hl hend
  obtain ⟨F, hin⟩ := hF
  have hx := F.1
  have hb := F.2.1
  have hts := F.2.2.2.2
  have hl : lv_has ls 1 [(0, .ref (ad 0))] := hl
  have hS : va_S (TA ad) H H [] := va_S.rf
  refine lv_aload_n hx hb dX3_fault_0 rfl (lv_at hl 0 rfl) ?_
  refine run_chI (rest := []) (kV F hW (metX3_wrong l E H ad f hst sl z pd kept told ln hln ⟨_, k0, k1, k2, k3, k4, k5, k6⟩ hT) (lw_V q1226 q1228 qs37 q52 q1229) hdX3_wrong ⟨Nat.le_of_ble_eq_true rfl, Nat.le_of_ble_eq_true rfl⟩ (recv hW k0 rfl) hl.1 rfl (Nat.le_of_ble_eq_true rfl) dX3_fault_1 ⟨Nat.le_of_ble_eq_true rfl, Nat.le_of_ble_eq_true rfl⟩) hS (fun _ h9 => h9) (fun r_1 H_1 locs hp_1 hc_1 hS_1 => ?_)
  have hW_1 := hW.kept hc_1 hT.old
  obtain ⟨hr_1, hp_1⟩ := hp_1
  obtain ⟨g_2, k0_2, k1_2, k2_2, k3_2, k4_2, k5_2, k6_2⟩ := hp_1
  have hr_1 : r_1 = (wrI (nxM pd ln) ln (ln + 1) 0 0).1 := hr_1
  subst hr_1
  exact hend _ _ _ _ _ _ _ rfl dX3_fault_4 (⟨_, rfl, rfl, _, ⟨_, k0_2, k1_2, k2_2, k3_2, k4_2, k5_2, k6_2⟩⟩) hS_1 (Nat.zero_le _) (Nat.zero_le _)

theorem hdX3_read : Hd yX3_read 0 := by decide +kernel
set_option maxHeartbeats 1000000 in
set_option maxRecDepth 100000 in
theorem metX3_read (l : Launch) (E : EV) (H : Heap) (ad : Nat → Nat) (f hst sl z pd : Nat → Int32) (told : Int32) (n : Nat) (hn0 : f 0 = nI n) (hn24 : n ≤ 24) (gl : Nat) (hgl : gl ≤ 6) (ln : Nat) (hln : ln ≤ 60) (hM : MPx E ad f hst sl z pd (nI gl) (nI ln) told H) (hT : TW E ad) : Ct l yX3_read cX3_read 6 (some .int) 3 67 (0) (0) [.ref (ad 0)] E H (TA ad) (pI (fun r H1 => P5 E ad sl z pd (readT f hst pd gl n ln) r H1)) := by
  obtain ⟨g, k0, k1, k2, k3, k4, k5, k6⟩ := hM
  refine Ct.ofZ (by decide) (Nat.le_of_ble_eq_true rfl) ?_
  intro p e s m bl mt cd ls Q hF hW hH hl hend
  obtain ⟨F, hin⟩ := hF
  have hx := F.1
  have hb := F.2.1
  have hts := F.2.2.2.2
  have hl : lv_has ls 6 [(0, .ref (ad 0))] := hl
  have hS : va_S (TA ad) H H [] := va_S.rf
  refine lv_aload_n hx hb dX3_read_0 rfl (lv_at hl 0 rfl) ?_
  refine run_chI (rest := []) (kV F hW (metX3_wrong l E H ad f hst sl z pd (nI gl) told ln hln ⟨_, k0, k1, k2, k3, k4, k5, k6⟩ hT) (lw_V q1226 q1228 qs37 q52 q1229) hdX3_wrong ⟨Nat.le_of_ble_eq_true rfl, Nat.le_of_ble_eq_true rfl⟩ (recv hW k0 rfl) hl.1 rfl (Nat.le_of_ble_eq_true rfl) dX3_read_1 ⟨Nat.le_of_ble_eq_true rfl, Nat.le_of_ble_eq_true rfl⟩) hS (fun _ h9 => h9) (fun r_1 H_1 locs hp_1 hc_1 hS_1 => ?_)
  have hW_1 := hW.kept hc_1 hT.old
  obtain ⟨hr_1, hp_1⟩ := hp_1
  obtain ⟨g_2, k0_2, k1_2, k2_2, k3_2, k4_2, k5_2, k6_2⟩ := hp_1
  have hr_1 : r_1 = (wrI (nxM pd ln) ln (ln + 1) 0 0).1 := hr_1
  subst hr_1
  refine lv_bipush (v := (-6)) hx hb dX3_read_4 (by decide) ?_
  refine lv_icmp_eq (tgt := 12) hx hb dX3_read_6 (by decide) (fun c_3 => ?_) (fun c_3 => ?_)
  · skip
    have hok : (wrI (nxM pd ln) ln (ln + 1) 0 0).1 = -6 := c_3
    have htd9 : (wrI (nxM pd ln) ln (ln + 1) 0 0).2 = (psL (nxM pd ln) ln (ln + 1) 0).length := by rw [wr_ps hln (ln + 1) 0 0 (by omega) (by omega) hok]; exact Nat.zero_add _
    obtain ⟨PN, hPN⟩ : ∃ k, k = (psL (nxM pd ln) ln (ln + 1) 0).length := ⟨_, rfl⟩
    have hpl9 : PN ≤ ln := by rw [hPN]; exact psL_len _ _
    refine lv_aload_n hx hb dX3_read_12 rfl (lv_at hl 0 rfl) ?_
    refine xget (ref := "LayeredChartersModel") (ci := 3) (v := .ref (ad 1)) (C := RX3) (T := TX3) (N := 9) F in_X3 hW_1 k0_2 rfl 0 (by decide) q1016 (fun _ h9 => h9) rfl dX3_read_13 ?_
    refine lv_iconst (v := 0) hx hb dX3_read_16 (by decide) ?_
    refine xild F hW_1 k1_2 (vp_in_nI (n := 0) (by omega) (by omega)) dX3_read_17 ?_
    refine lv_val (y := nI n) (hn0) ?_
    refine lv_aload_n hx hb dX3_read_18 rfl (lv_at hl 0 rfl) ?_
    refine xget (ref := "LayeredChartersModel") (ci := 3) (v := .int (nI (wrI (nxM pd ln) ln (ln + 1) 0 0).2)) (C := RX3) (T := TX3) (N := 9) F in_X3 hW_1 k0_2 rfl 8 (by decide) q1024 (fun _ h9 => h9) rfl dX3_read_19 ?_
    refine lv_val (y := nI PN) (congrArg nI (htd9.trans hPN.symm)) ?_
    refine lv_iadd hx hb dX3_read_22 ?_
    refine lv_val (y := nI (n + PN)) ((nI_add (n) (PN))) ?_
    refine lv_bipush (v := 24) hx hb dX3_read_23 (by decide) ?_
    refine lv_icmp_le (tgt := 31) hx hb dX3_read_25 (by decide) (fun c_4 => ?_) (fun c_4 => ?_)
    · skip
      have nc_4 := (nI_leI (a := (n + PN)) (b := 24) (by omega) (by omega)).mp c_4
      have hle9 : n + PN ≤ 24 := by omega
      refine lv_aload_n hx hb dX3_read_31 rfl (lv_at hl 0 rfl) ?_
      refine run_chN (rest := []) (kV F hW_1 (metX3_record l E H_1 ad f hst sl z pd (nI ln) (nI (wrI (nxM pd ln) ln (ln + 1) 0 0).2) gl (by omega) ⟨_, k0_2, k1_2, k2_2, k3_2, k4_2, k5_2, k6_2⟩ hT) (lw_V q1052 q1054 qs16 q52 q1055) hdX3_record ⟨Nat.le_of_ble_eq_true rfl, Nat.le_of_ble_eq_true rfl⟩ (recv hW_1 k0_2 rfl) hl.1 rfl (Nat.le_of_ble_eq_true rfl) dX3_read_32 ⟨Nat.le_of_ble_eq_true rfl, Nat.le_of_ble_eq_true rfl⟩) hS_1 (fun _ h9 => h9) (fun H_5 locs hp_5 hc_5 hS_5 => ?_)
      have hW_5 := hW_1.kept hc_5 hT.old
      obtain ⟨g_6, k0_6, k1_6, k2_6, k3_6, k4_6, k5_6, k6_6⟩ := hp_5
      refine lv_iconst (v := 0) hx hb dX3_read_35 (by decide) ?_
      refine lv_istore_n (lv' := [(1, .int 0), (0, .ref (ad 0))]) hx hb dX3_read_36 rfl hl (by decide) rfl (fun ls hl => ?_)
      have lg37 : ∀ (kk : Nat) (ps : Nat) (f2 : Nat → Int32) (n2 : Nat) (k2 : Nat), ln + 10 - ps < kk → (ps ≤ ln + 6) → (f2 0 = nI n2) → (addsF f n (psL (nxM pd ln) ln (ln + 1) 0) = addsF f2 n2 (psL (nxM pd ln) ln k2 ps)) → (ln + 1 - ps ≤ k2) → (n + PN = n2 + (psL (nxM pd ln) ln k2 ps).length) → ∀ (Hg_37 : Heap) (locs : List Loc), va_S (TA ad) H Hg_37 locs → WK E s Hg_37 → MPx E ad f2 (recH f hst gl) sl z pd (nI (recK gl)) (nI ln) (nI (wrI (nxM pd ln) ln (ln + 1) 0 0).2) Hg_37 → ∀ ls : Array Slot, lv_has ls 6 [(1, .int (nI ps)), (0, .ref (ad 0))] → W p l e ({ frames := 3, cells := 0, slots := 0, locals := 67 } : Room) s m ([.ref (ad 0)] : List Value).toArray bl mt cd Hg_37 locs 0 0 Q (F0 m 37 ls []) := by
        intro kk
        induction kk with
        | zero => intro ps f2 n2 k2 hm; exact absurd hm (Nat.not_lt_zero _)
        | succ kk ih37 =>
          intro ps f2 n2 k2 hm hpp hf2 hinv hk2 hlen Hg_37 locs hS_37 hW_37 hl_37 ls hl
          obtain ⟨g_7, k0_7, k1_7, k2_7, k3_7, k4_7, k5_7, k6_7⟩ := hl_37
          have hwh9 := whN_in (nxM pd ln) ps
          refine lv_iload_n hx hb dX3_read_37 rfl (lv_at hl 0 rfl) ?_
          refine lv_aload_n hx hb dX3_read_38 rfl (lv_at hl 1 rfl) ?_
          refine xget (ref := "LayeredChartersModel") (ci := 3) (v := .int (nI ln)) (C := RX3) (T := TX3) (N := 9) F in_X3 hW_37 k0_7 rfl 6 (by decide) q1022 (fun _ h9 => h9) rfl dX3_read_39 ?_
          refine lv_icmp_ge (tgt := 162) hx hb dX3_read_42 (by decide) (fun c_8 => ?_) (fun c_8 => ?_)
          · skip
            have nc_8 := (nI_leI (a := ln) (b := ps) (by omega) (by omega)).mp c_8
            refine lv_aload_n hx hb dX3_read_162 rfl (lv_at hl 1 rfl) ?_
            refine lv_iconst (v := 0) hx hb dX3_read_163 (by decide) ?_
            refine xput (ref := "LayeredChartersModel") (ci := 3) (v := .int 0) (C := RX3) (T := TX3) (N := 9) F in_X3 tyX3 tyX3_ok nmX3 hW_37 k0_7 hS_37 ⟨0, by decide, rfl⟩ rfl 6 (by decide) q1022 (fun _ h9 => h9) rfl rfl rfl (Nat.le_of_ble_eq_true rfl) dX3_read_164 (fun H_9 locs ho_9 hu_9 hS_9 => ?_)
            have ho_9 : oat E (ad 0) 3 [.ref (ad 1), .ref (ad 2), .int (nI (recK gl)), .ref (ad 3), .ref (ad 4), .ref (ad 5), .int 0, .ref (ad 6), .int (nI (wrI (nxM pd ln) ln (ln + 1) 0 0).2)] H_9 := ho_9
            have hW_H_9 := hW_37.kept hu_9.chg (fun q _ hq => hq ▸ (hT.2 0 (by decide)))
            have k1_H_9 := k1_7.kept hu_9.chg (fun h9 => absurd (hT.1 1 0 (by decide) (by decide) h9) (by decide))
            have k2_H_9 := k2_7.kept hu_9.chg (fun h9 => absurd (hT.1 2 0 (by decide) (by decide) h9) (by decide))
            have k3_H_9 := k3_7.kept hu_9.chg (fun h9 => absurd (hT.1 3 0 (by decide) (by decide) h9) (by decide))
            have k4_H_9 := k4_7.kept hu_9.chg (fun h9 => absurd (hT.1 4 0 (by decide) (by decide) h9) (by decide))
            have k5_H_9 := k5_7.kept hu_9.chg (fun h9 => absurd (hT.1 5 0 (by decide) (by decide) h9) (by decide))
            have k6_H_9 := k6_7.kept hu_9.chg (fun h9 => absurd (hT.1 6 0 (by decide) (by decide) h9) (by decide))
            refine lv_aload_n hx hb dX3_read_167 rfl (lv_at hl 1 rfl) ?_
            refine xget (ref := "LayeredChartersModel") (ci := 3) (v := .ref (ad 1)) (C := RX3) (T := TX3) (N := 9) F in_X3 hW_H_9 ho_9 rfl 0 (by decide) q1016 (fun _ h9 => h9) rfl dX3_read_168 ?_
            refine lv_iconst (v := 0) hx hb dX3_read_171 (by decide) ?_
            refine xild F hW_H_9 k1_H_9 (vp_in_nI (n := 0) (by omega) (by omega)) dX3_read_172 ?_
            refine lv_val (y := nI n2) (hf2) ?_
            exact hend _ _ _ _ _ _ _ rfl dX3_read_173 (⟨_, rfl, P5.of (T' := (nI n2, f2, recH f hst gl, recK gl, 0)) (by unfold readT; rw [if_pos hok, ← hPN, if_pos (by omega), hinv, psL_nil (by omega)]; rw [show n + PN = n2 from by rw [hlen, psL_nil (by omega)]; rfl]; rfl) ⟨_, ho_9, k1_H_9, k2_H_9, k3_H_9, k4_H_9, k5_H_9, k6_H_9⟩⟩) hS_9 (Nat.zero_le _) (Nat.zero_le _)
          · skip
            have nc_8 := Nat.not_le.mp (fun h9 => c_8 ((nI_leI (a := ln) (b := ps) (by omega) (by omega)).mpr h9))
            have hps9 : psL (nxM pd ln) ln k2 ps = ruT (nxM pd ln) ps :: psL (nxM pd ln) ln (k2 - 1) (ps + (whN (nxM pd ln) ps + 1)) := by
              obtain ⟨k3, rfl⟩ : ∃ k3, k2 = k3 + 1 := ⟨k2 - 1, by omega⟩
              rw [psL_s, if_pos (by omega)]; rfl
            rw [hps9] at hinv hlen
            rw [List.length_cons] at hlen
            refine lv_aload_n hx hb dX3_read_45 rfl (lv_at hl 1 rfl) ?_
            refine lv_iload_n hx hb dX3_read_46 rfl (lv_at hl 0 rfl) ?_
            refine lv_iconst (v := 2) hx hb dX3_read_47 (by decide) ?_
            refine lv_iadd hx hb dX3_read_48 ?_
            refine lv_val (y := nI (ps + 2)) ((nI_add (ps) (2))) ?_
            refine run_ro (w := .int (nxM pd ln (ps + 2))) (rest := []) (kV F hW_37 (metX3_next l E Hg_37 ad (nI (recK gl)) (nI (wrI (nxM pd ln) ln (ln + 1) 0 0).2) ln hln k0_7 pd k5_7 (ps + 2) (by omega)) (lw_V q1234 q1236 qs39 q52 q1237) hdX3_next ⟨Nat.le_of_ble_eq_true rfl, Nat.le_of_ble_eq_true rfl⟩ (recv hW_37 k0_7 rfl) hl.1 rfl (Nat.le_of_ble_eq_true rfl) dX3_read_49 ⟨Nat.le_of_ble_eq_true rfl, Nat.le_of_ble_eq_true rfl⟩) ?_
            refine lv_bipush (v := 42) hx hb dX3_read_52 (by decide) ?_
            refine lv_icmp_ne (tgt := 61) hx hb dX3_read_54 (by decide) (fun c_10 => ?_) (fun c_10 => ?_)
            · skip
              refine lv_aload_n hx hb dX3_read_61 rfl (lv_at hl 1 rfl) ?_
              refine lv_iload_n hx hb dX3_read_62 rfl (lv_at hl 0 rfl) ?_
              refine lv_iconst (v := 2) hx hb dX3_read_63 (by decide) ?_
              refine lv_iadd hx hb dX3_read_64 ?_
              refine lv_val (y := nI (ps + 2)) ((nI_add (ps) (2))) ?_
              refine run_ro (w := .int (nxM pd ln (ps + 2))) (rest := []) (kV F hW_37 (metX3_next l E Hg_37 ad (nI (recK gl)) (nI (wrI (nxM pd ln) ln (ln + 1) 0 0).2) ln hln k0_7 pd k5_7 (ps + 2) (by omega)) (lw_V q1234 q1236 qs39 q52 q1237) hdX3_next ⟨Nat.le_of_ble_eq_true rfl, Nat.le_of_ble_eq_true rfl⟩ (recv hW_37 k0_7 rfl) hl.1 rfl (Nat.le_of_ble_eq_true rfl) dX3_read_65 ⟨Nat.le_of_ble_eq_true rfl, Nat.le_of_ble_eq_true rfl⟩) ?_
              refine lv_bipush (v := 48) hx hb dX3_read_68 (by decide) ?_
              refine lv_isub hx hb dX3_read_70 ?_
              refine lv_istore_n (lv' := [(2, .int ((nxM pd ln (ps + 2)) - 48)), (1, .int (nI ps)), (0, .ref (ad 0))]) hx hb dX3_read_71 rfl hl (by decide) rfl (fun ls hl => ?_)
              refine lv_aload_n hx hb dX3_read_72 rfl (lv_at hl 2 rfl) ?_
              refine lv_iload_n hx hb dX3_read_73 rfl (lv_at hl 1 rfl) ?_
              refine lv_iconst (v := 3) hx hb dX3_read_74 (by decide) ?_
              refine lv_iadd hx hb dX3_read_75 ?_
              refine lv_val (y := nI (ps + 3)) ((nI_add (ps) (3))) ?_
              refine run_ro (w := .int (nxM pd ln (ps + 3))) (rest := []) (kV F hW_37 (metX3_next l E Hg_37 ad (nI (recK gl)) (nI (wrI (nxM pd ln) ln (ln + 1) 0 0).2) ln hln k0_7 pd k5_7 (ps + 3) (by omega)) (lw_V q1234 q1236 qs39 q52 q1237) hdX3_next ⟨Nat.le_of_ble_eq_true rfl, Nat.le_of_ble_eq_true rfl⟩ (recv hW_37 k0_7 rfl) hl.1 rfl (Nat.le_of_ble_eq_true rfl) dX3_read_76 ⟨Nat.le_of_ble_eq_true rfl, Nat.le_of_ble_eq_true rfl⟩) ?_
              refine lv_bipush (v := 42) hx hb dX3_read_79 (by decide) ?_
              refine lv_icmp_ne (tgt := 89) hx hb dX3_read_81 (by decide) (fun c_11 => ?_) (fun c_11 => ?_)
              · skip
                refine lv_aload_n hx hb dX3_read_89 rfl (lv_at hl 2 rfl) ?_
                refine lv_iload_n hx hb dX3_read_90 rfl (lv_at hl 1 rfl) ?_
                refine lv_iconst (v := 3) hx hb dX3_read_91 (by decide) ?_
                refine lv_iadd hx hb dX3_read_92 ?_
                refine lv_val (y := nI (ps + 3)) ((nI_add (ps) (3))) ?_
                refine run_ro (w := .int (nxM pd ln (ps + 3))) (rest := []) (kV F hW_37 (metX3_next l E Hg_37 ad (nI (recK gl)) (nI (wrI (nxM pd ln) ln (ln + 1) 0 0).2) ln hln k0_7 pd k5_7 (ps + 3) (by omega)) (lw_V q1234 q1236 qs39 q52 q1237) hdX3_next ⟨Nat.le_of_ble_eq_true rfl, Nat.le_of_ble_eq_true rfl⟩ (recv hW_37 k0_7 rfl) hl.1 rfl (Nat.le_of_ble_eq_true rfl) dX3_read_93 ⟨Nat.le_of_ble_eq_true rfl, Nat.le_of_ble_eq_true rfl⟩) ?_
                refine lv_bipush (v := 48) hx hb dX3_read_96 (by decide) ?_
                refine lv_isub hx hb dX3_read_98 ?_
                refine lv_istore_n (lv' := [(3, .int ((nxM pd ln (ps + 3)) - 48)), (2, .int ((nxM pd ln (ps + 2)) - 48)), (1, .int (nI ps)), (0, .ref (ad 0))]) hx hb dX3_read_99 rfl hl (by decide) rfl (fun ls hl => ?_)
                refine lv_aload_n hx hb dX3_read_100 rfl (lv_at hl 3 rfl) ?_
                refine lv_iload_n hx hb dX3_read_101 rfl (lv_at hl 2 rfl) ?_
                refine lv_iconst (v := 1) hx hb dX3_read_102 (by decide) ?_
                refine lv_iadd hx hb dX3_read_103 ?_
                refine lv_val (y := nI (ps + 1)) ((nI_add (ps) (1))) ?_
                refine run_ro (w := .int (nxM pd ln (ps + 1))) (rest := []) (kV F hW_37 (metX3_next l E Hg_37 ad (nI (recK gl)) (nI (wrI (nxM pd ln) ln (ln + 1) 0 0).2) ln hln k0_7 pd k5_7 (ps + 1) (by omega)) (lw_V q1234 q1236 qs39 q52 q1237) hdX3_next ⟨Nat.le_of_ble_eq_true rfl, Nat.le_of_ble_eq_true rfl⟩ (recv hW_37 k0_7 rfl) hl.1 rfl (Nat.le_of_ble_eq_true rfl) dX3_read_104 ⟨Nat.le_of_ble_eq_true rfl, Nat.le_of_ble_eq_true rfl⟩) ?_
                refine run_ro (w := .int (kfM (nxM pd ln (ps + 1)))) (rest := []) (kS F hW_37 (metX3_kindFor l E Hg_37 (nxM pd ln (ps + 1))) (lw_S q1238 q1239 q52 q1240) hdX3_kindFor ⟨Nat.le_of_ble_eq_true rfl, Nat.le_of_ble_eq_true rfl⟩ hl.1 rfl (Nat.le_of_ble_eq_true rfl) dX3_read_107 ⟨Nat.le_of_ble_eq_true rfl, Nat.le_of_ble_eq_true rfl⟩) ?_
                refine lv_istore (lv' := [(4, .int (kfM (nxM pd ln (ps + 1)))), (3, .int ((nxM pd ln (ps + 3)) - 48)), (2, .int ((nxM pd ln (ps + 2)) - 48)), (1, .int (nI ps)), (0, .ref (ad 0))]) hx hb dX3_read_110 hl (by decide) rfl (fun ls hl => ?_)
                refine lv_aload_n hx hb dX3_read_112 rfl (lv_at hl 4 rfl) ?_
                refine lv_aload_n hx hb dX3_read_113 rfl (lv_at hl 4 rfl) ?_
                refine lv_iload_n hx hb dX3_read_114 rfl (lv_at hl 3 rfl) ?_
                refine run_ro (w := .int (nxM pd ln ps)) (rest := [.ref (ad 0)]) (kV F hW_37 (metX3_next l E Hg_37 ad (nI (recK gl)) (nI (wrI (nxM pd ln) ln (ln + 1) 0 0).2) ln hln k0_7 pd k5_7 ps (by omega)) (lw_V q1234 q1236 qs39 q52 q1237) hdX3_next ⟨Nat.le_of_ble_eq_true rfl, Nat.le_of_ble_eq_true rfl⟩ (recv hW_37 k0_7 rfl) hl.1 rfl (Nat.le_of_ble_eq_true rfl) dX3_read_115 ⟨Nat.le_of_ble_eq_true rfl, Nat.le_of_ble_eq_true rfl⟩) ?_
                refine lv_bipush (v := 48) hx hb dX3_read_118 (by decide) ?_
                refine lv_isub hx hb dX3_read_120 ?_
                refine lv_iload hx hb dX3_read_121 (lv_at hl 0 rfl) ?_
                refine lv_iload_n hx hb dX3_read_123 rfl (lv_at hl 2 rfl) ?_
                refine lv_iload_n hx hb dX3_read_124 rfl (lv_at hl 1 rfl) ?_
                refine lv_iload hx hb dX3_read_125 (lv_at hl 0 rfl) ?_
                refine lv_if_ne (tgt := 134) hx hb dX3_read_127 (by decide) (fun c_12 => ?_) (fun c_12 => ?_)
                · skip
                  refine lv_aload_n hx hb dX3_read_134 rfl (lv_at hl 4 rfl) ?_
                  refine lv_iload_n hx hb dX3_read_135 rfl (lv_at hl 3 rfl) ?_
                  refine lv_iconst (v := 4) hx hb dX3_read_136 (by decide) ?_
                  refine lv_iadd hx hb dX3_read_137 ?_
                  refine lv_val (y := nI (ps + 4)) ((nI_add (ps) (4))) ?_
                  refine run_ro (w := .int (nxM pd ln (ps + 4))) (rest := [.int ((nxM pd ln (ps + 3)) - 48), .int ((nxM pd ln (ps + 2)) - 48), .int (kfM (nxM pd ln (ps + 1))), .int ((nxM pd ln ps) - 48), .ref (ad 0)]) (kV F hW_37 (metX3_next l E Hg_37 ad (nI (recK gl)) (nI (wrI (nxM pd ln) ln (ln + 1) 0 0).2) ln hln k0_7 pd k5_7 (ps + 4) (by omega)) (lw_V q1234 q1236 qs39 q52 q1237) hdX3_next ⟨Nat.le_of_ble_eq_true rfl, Nat.le_of_ble_eq_true rfl⟩ (recv hW_37 k0_7 rfl) hl.1 rfl (Nat.le_of_ble_eq_true rfl) dX3_read_138 ⟨Nat.le_of_ble_eq_true rfl, Nat.le_of_ble_eq_true rfl⟩) ?_
                  refine lv_bipush (v := 48) hx hb dX3_read_141 (by decide) ?_
                  refine lv_isub hx hb dX3_read_143 ?_
                  refine run_chI (rest := []) (kV F hW_37 (metX3_adds l E Hg_37 ad f2 (recH f hst gl) sl z pd (nI (recK gl)) (nI ln) (nI (wrI (nxM pd ln) ln (ln + 1) 0 0).2) n2 hf2 (by omega) ((nxM pd ln ps) - 48) (kfM (nxM pd ln (ps + 1))) ((nxM pd ln (ps + 2)) - 48) ((nxM pd ln (ps + 3)) - 48) ((nxM pd ln (ps + 4)) - 48) ⟨_, k0_7, k1_7, k2_7, k3_7, k4_7, k5_7, k6_7⟩ hT) (lw_V q1056 q1058 qs17 q52 q1059) hdX3_adds ⟨Nat.le_of_ble_eq_true rfl, Nat.le_of_ble_eq_true rfl⟩ (recv hW_37 k0_7 rfl) hl.1 rfl (Nat.le_of_ble_eq_true rfl) dX3_read_144 ⟨Nat.le_of_ble_eq_true rfl, Nat.le_of_ble_eq_true rfl⟩) hS_37 (fun _ h9 => h9) (fun r_13 H_13 locs hp_13 hc_13 hS_13 => ?_)
                  have hW_13 := hW_37.kept hc_13 hT.old
                  obtain ⟨hr_13, hp_13⟩ := hp_13
                  obtain ⟨g_14, k0_14, k1_14, k2_14, k3_14, k4_14, k5_14, k6_14⟩ := hp_13
                  have hr_13 : r_13 = nI n2 := hr_13
                  subst hr_13
                  refine lv_istore (lv' := [(5, .int (nI n2)), (4, .int (kfM (nxM pd ln (ps + 1)))), (3, .int ((nxM pd ln (ps + 3)) - 48)), (2, .int ((nxM pd ln (ps + 2)) - 48)), (1, .int (nI ps)), (0, .ref (ad 0))]) hx hb dX3_read_147 hl (by decide) rfl (fun ls hl => ?_)
                  refine lv_iload_n hx hb dX3_read_149 rfl (lv_at hl 4 rfl) ?_
                  refine lv_aload_n hx hb dX3_read_150 rfl (lv_at hl 5 rfl) ?_
                  refine lv_iload_n hx hb dX3_read_151 rfl (lv_at hl 4 rfl) ?_
                  refine run_ro (w := .int (nI (whN (nxM pd ln) ps))) (rest := [.int (nI ps)]) (kV F hW_13 (metX3_whole l E H_13 ad (nI (recK gl)) (nI (wrI (nxM pd ln) ln (ln + 1) 0 0).2) ln hln k0_14 pd k5_14 ps (by omega)) (lw_V q1241 q1243 qs40 q52 q1244) hdX3_whole ⟨Nat.le_of_ble_eq_true rfl, Nat.le_of_ble_eq_true rfl⟩ (recv hW_13 k0_14 rfl) hl.1 rfl (Nat.le_of_ble_eq_true rfl) dX3_read_152 ⟨Nat.le_of_ble_eq_true rfl, Nat.le_of_ble_eq_true rfl⟩) ?_
                  refine lv_iconst (v := 1) hx hb dX3_read_155 (by decide) ?_
                  refine lv_iadd hx hb dX3_read_156 ?_
                  refine lv_val (y := nI ((whN (nxM pd ln) ps) + 1)) ((nI_add ((whN (nxM pd ln) ps)) (1))) ?_
                  refine lv_iadd hx hb dX3_read_157 ?_
                  refine lv_val (y := nI (ps + ((whN (nxM pd ln) ps) + 1))) ((nI_add (ps) (((whN (nxM pd ln) ps) + 1)))) ?_
                  refine lv_istore_n (lv' := [(1, .int (nI (ps + ((whN (nxM pd ln) ps) + 1)))), (5, .int (nI n2)), (4, .int (kfM (nxM pd ln (ps + 1)))), (3, .int ((nxM pd ln (ps + 3)) - 48)), (2, .int ((nxM pd ln (ps + 2)) - 48)), (0, .ref (ad 0))]) hx hb dX3_read_158 rfl hl (by decide) rfl (fun ls hl => ?_)
                  refine lv_goto (tgt := 37) hx hb dX3_read_159 (by decide) ?_
                  have hru9 : ruT (nxM pd ln) ps = ((nxM pd ln ps) - 48, kfM (nxM pd ln (ps + 1)), (nxM pd ln (ps + 2)) - 48, (nxM pd ln (ps + 3)) - 48, (nxM pd ln (ps + 4)) - 48) := by simp [ruT, c_8, nc_8, c_10, c_11, c_12]
                  exact ih37 _ _ (n2 + 1) (k2 - 1) (by omega) (by omega) (addF_0) (by rw [hinv, hru9]; rfl) (by omega) (by omega) _ _ hS_13 hW_13 (⟨_, k0_14, k1_14, k2_14, k3_14, k4_14, k5_14, k6_14⟩) ls (lv_sub hl [0, 5] rfl)
                · skip
                  refine lv_iconst (v := 1) hx hb dX3_read_130 (by decide) ?_
                  refine lv_goto (tgt := 144) hx hb dX3_read_131 (by decide) ?_
                  refine run_chI (rest := []) (kV F hW_37 (metX3_adds l E Hg_37 ad f2 (recH f hst gl) sl z pd (nI (recK gl)) (nI ln) (nI (wrI (nxM pd ln) ln (ln + 1) 0 0).2) n2 hf2 (by omega) ((nxM pd ln ps) - 48) (kfM (nxM pd ln (ps + 1))) ((nxM pd ln (ps + 2)) - 48) ((nxM pd ln (ps + 3)) - 48) 1 ⟨_, k0_7, k1_7, k2_7, k3_7, k4_7, k5_7, k6_7⟩ hT) (lw_V q1056 q1058 qs17 q52 q1059) hdX3_adds ⟨Nat.le_of_ble_eq_true rfl, Nat.le_of_ble_eq_true rfl⟩ (recv hW_37 k0_7 rfl) hl.1 rfl (Nat.le_of_ble_eq_true rfl) dX3_read_144 ⟨Nat.le_of_ble_eq_true rfl, Nat.le_of_ble_eq_true rfl⟩) hS_37 (fun _ h9 => h9) (fun r_15 H_15 locs hp_15 hc_15 hS_15 => ?_)
                  have hW_15 := hW_37.kept hc_15 hT.old
                  obtain ⟨hr_15, hp_15⟩ := hp_15
                  obtain ⟨g_16, k0_16, k1_16, k2_16, k3_16, k4_16, k5_16, k6_16⟩ := hp_15
                  have hr_15 : r_15 = nI n2 := hr_15
                  subst hr_15
                  refine lv_istore (lv' := [(5, .int (nI n2)), (4, .int (kfM (nxM pd ln (ps + 1)))), (3, .int ((nxM pd ln (ps + 3)) - 48)), (2, .int ((nxM pd ln (ps + 2)) - 48)), (1, .int (nI ps)), (0, .ref (ad 0))]) hx hb dX3_read_147 hl (by decide) rfl (fun ls hl => ?_)
                  refine lv_iload_n hx hb dX3_read_149 rfl (lv_at hl 4 rfl) ?_
                  refine lv_aload_n hx hb dX3_read_150 rfl (lv_at hl 5 rfl) ?_
                  refine lv_iload_n hx hb dX3_read_151 rfl (lv_at hl 4 rfl) ?_
                  refine run_ro (w := .int (nI (whN (nxM pd ln) ps))) (rest := [.int (nI ps)]) (kV F hW_15 (metX3_whole l E H_15 ad (nI (recK gl)) (nI (wrI (nxM pd ln) ln (ln + 1) 0 0).2) ln hln k0_16 pd k5_16 ps (by omega)) (lw_V q1241 q1243 qs40 q52 q1244) hdX3_whole ⟨Nat.le_of_ble_eq_true rfl, Nat.le_of_ble_eq_true rfl⟩ (recv hW_15 k0_16 rfl) hl.1 rfl (Nat.le_of_ble_eq_true rfl) dX3_read_152 ⟨Nat.le_of_ble_eq_true rfl, Nat.le_of_ble_eq_true rfl⟩) ?_
                  refine lv_iconst (v := 1) hx hb dX3_read_155 (by decide) ?_
                  refine lv_iadd hx hb dX3_read_156 ?_
                  refine lv_val (y := nI ((whN (nxM pd ln) ps) + 1)) ((nI_add ((whN (nxM pd ln) ps)) (1))) ?_
                  refine lv_iadd hx hb dX3_read_157 ?_
                  refine lv_val (y := nI (ps + ((whN (nxM pd ln) ps) + 1))) ((nI_add (ps) (((whN (nxM pd ln) ps) + 1)))) ?_
                  refine lv_istore_n (lv' := [(1, .int (nI (ps + ((whN (nxM pd ln) ps) + 1)))), (5, .int (nI n2)), (4, .int (kfM (nxM pd ln (ps + 1)))), (3, .int ((nxM pd ln (ps + 3)) - 48)), (2, .int ((nxM pd ln (ps + 2)) - 48)), (0, .ref (ad 0))]) hx hb dX3_read_158 rfl hl (by decide) rfl (fun ls hl => ?_)
                  refine lv_goto (tgt := 37) hx hb dX3_read_159 (by decide) ?_
                  have hru9 : ruT (nxM pd ln) ps = ((nxM pd ln ps) - 48, kfM (nxM pd ln (ps + 1)), (nxM pd ln (ps + 2)) - 48, (nxM pd ln (ps + 3)) - 48, 1) := by simp [ruT, c_8, nc_8, c_10, c_11, c_12]
                  exact ih37 _ _ (n2 + 1) (k2 - 1) (by omega) (by omega) (addF_0) (by rw [hinv, hru9]; rfl) (by omega) (by omega) _ _ hS_15 hW_15 (⟨_, k0_16, k1_16, k2_16, k3_16, k4_16, k5_16, k6_16⟩) ls (lv_sub hl [0, 5] rfl)
              · skip
                refine lv_bipush (v := 6) hx hb dX3_read_84 (by decide) ?_
                refine lv_goto (tgt := 99) hx hb dX3_read_86 (by decide) ?_
                refine lv_istore_n (lv' := [(3, .int 6), (2, .int ((nxM pd ln (ps + 2)) - 48)), (1, .int (nI ps)), (0, .ref (ad 0))]) hx hb dX3_read_99 rfl hl (by decide) rfl (fun ls hl => ?_)
                refine lv_aload_n hx hb dX3_read_100 rfl (lv_at hl 3 rfl) ?_
                refine lv_iload_n hx hb dX3_read_101 rfl (lv_at hl 2 rfl) ?_
                refine lv_iconst (v := 1) hx hb dX3_read_102 (by decide) ?_
                refine lv_iadd hx hb dX3_read_103 ?_
                refine lv_val (y := nI (ps + 1)) ((nI_add (ps) (1))) ?_
                refine run_ro (w := .int (nxM pd ln (ps + 1))) (rest := []) (kV F hW_37 (metX3_next l E Hg_37 ad (nI (recK gl)) (nI (wrI (nxM pd ln) ln (ln + 1) 0 0).2) ln hln k0_7 pd k5_7 (ps + 1) (by omega)) (lw_V q1234 q1236 qs39 q52 q1237) hdX3_next ⟨Nat.le_of_ble_eq_true rfl, Nat.le_of_ble_eq_true rfl⟩ (recv hW_37 k0_7 rfl) hl.1 rfl (Nat.le_of_ble_eq_true rfl) dX3_read_104 ⟨Nat.le_of_ble_eq_true rfl, Nat.le_of_ble_eq_true rfl⟩) ?_
                refine run_ro (w := .int (kfM (nxM pd ln (ps + 1)))) (rest := []) (kS F hW_37 (metX3_kindFor l E Hg_37 (nxM pd ln (ps + 1))) (lw_S q1238 q1239 q52 q1240) hdX3_kindFor ⟨Nat.le_of_ble_eq_true rfl, Nat.le_of_ble_eq_true rfl⟩ hl.1 rfl (Nat.le_of_ble_eq_true rfl) dX3_read_107 ⟨Nat.le_of_ble_eq_true rfl, Nat.le_of_ble_eq_true rfl⟩) ?_
                refine lv_istore (lv' := [(4, .int (kfM (nxM pd ln (ps + 1)))), (3, .int 6), (2, .int ((nxM pd ln (ps + 2)) - 48)), (1, .int (nI ps)), (0, .ref (ad 0))]) hx hb dX3_read_110 hl (by decide) rfl (fun ls hl => ?_)
                refine lv_aload_n hx hb dX3_read_112 rfl (lv_at hl 4 rfl) ?_
                refine lv_aload_n hx hb dX3_read_113 rfl (lv_at hl 4 rfl) ?_
                refine lv_iload_n hx hb dX3_read_114 rfl (lv_at hl 3 rfl) ?_
                refine run_ro (w := .int (nxM pd ln ps)) (rest := [.ref (ad 0)]) (kV F hW_37 (metX3_next l E Hg_37 ad (nI (recK gl)) (nI (wrI (nxM pd ln) ln (ln + 1) 0 0).2) ln hln k0_7 pd k5_7 ps (by omega)) (lw_V q1234 q1236 qs39 q52 q1237) hdX3_next ⟨Nat.le_of_ble_eq_true rfl, Nat.le_of_ble_eq_true rfl⟩ (recv hW_37 k0_7 rfl) hl.1 rfl (Nat.le_of_ble_eq_true rfl) dX3_read_115 ⟨Nat.le_of_ble_eq_true rfl, Nat.le_of_ble_eq_true rfl⟩) ?_
                refine lv_bipush (v := 48) hx hb dX3_read_118 (by decide) ?_
                refine lv_isub hx hb dX3_read_120 ?_
                refine lv_iload hx hb dX3_read_121 (lv_at hl 0 rfl) ?_
                refine lv_iload_n hx hb dX3_read_123 rfl (lv_at hl 2 rfl) ?_
                refine lv_iload_n hx hb dX3_read_124 rfl (lv_at hl 1 rfl) ?_
                refine lv_iload hx hb dX3_read_125 (lv_at hl 0 rfl) ?_
                refine lv_if_ne (tgt := 134) hx hb dX3_read_127 (by decide) (fun c_17 => ?_) (fun c_17 => ?_)
                · skip
                  refine lv_aload_n hx hb dX3_read_134 rfl (lv_at hl 4 rfl) ?_
                  refine lv_iload_n hx hb dX3_read_135 rfl (lv_at hl 3 rfl) ?_
                  refine lv_iconst (v := 4) hx hb dX3_read_136 (by decide) ?_
                  refine lv_iadd hx hb dX3_read_137 ?_
                  refine lv_val (y := nI (ps + 4)) ((nI_add (ps) (4))) ?_
                  refine run_ro (w := .int (nxM pd ln (ps + 4))) (rest := [.int 6, .int ((nxM pd ln (ps + 2)) - 48), .int (kfM (nxM pd ln (ps + 1))), .int ((nxM pd ln ps) - 48), .ref (ad 0)]) (kV F hW_37 (metX3_next l E Hg_37 ad (nI (recK gl)) (nI (wrI (nxM pd ln) ln (ln + 1) 0 0).2) ln hln k0_7 pd k5_7 (ps + 4) (by omega)) (lw_V q1234 q1236 qs39 q52 q1237) hdX3_next ⟨Nat.le_of_ble_eq_true rfl, Nat.le_of_ble_eq_true rfl⟩ (recv hW_37 k0_7 rfl) hl.1 rfl (Nat.le_of_ble_eq_true rfl) dX3_read_138 ⟨Nat.le_of_ble_eq_true rfl, Nat.le_of_ble_eq_true rfl⟩) ?_
                  refine lv_bipush (v := 48) hx hb dX3_read_141 (by decide) ?_
                  refine lv_isub hx hb dX3_read_143 ?_
                  refine run_chI (rest := []) (kV F hW_37 (metX3_adds l E Hg_37 ad f2 (recH f hst gl) sl z pd (nI (recK gl)) (nI ln) (nI (wrI (nxM pd ln) ln (ln + 1) 0 0).2) n2 hf2 (by omega) ((nxM pd ln ps) - 48) (kfM (nxM pd ln (ps + 1))) ((nxM pd ln (ps + 2)) - 48) 6 ((nxM pd ln (ps + 4)) - 48) ⟨_, k0_7, k1_7, k2_7, k3_7, k4_7, k5_7, k6_7⟩ hT) (lw_V q1056 q1058 qs17 q52 q1059) hdX3_adds ⟨Nat.le_of_ble_eq_true rfl, Nat.le_of_ble_eq_true rfl⟩ (recv hW_37 k0_7 rfl) hl.1 rfl (Nat.le_of_ble_eq_true rfl) dX3_read_144 ⟨Nat.le_of_ble_eq_true rfl, Nat.le_of_ble_eq_true rfl⟩) hS_37 (fun _ h9 => h9) (fun r_18 H_18 locs hp_18 hc_18 hS_18 => ?_)
                  have hW_18 := hW_37.kept hc_18 hT.old
                  obtain ⟨hr_18, hp_18⟩ := hp_18
                  obtain ⟨g_19, k0_19, k1_19, k2_19, k3_19, k4_19, k5_19, k6_19⟩ := hp_18
                  have hr_18 : r_18 = nI n2 := hr_18
                  subst hr_18
                  refine lv_istore (lv' := [(5, .int (nI n2)), (4, .int (kfM (nxM pd ln (ps + 1)))), (3, .int 6), (2, .int ((nxM pd ln (ps + 2)) - 48)), (1, .int (nI ps)), (0, .ref (ad 0))]) hx hb dX3_read_147 hl (by decide) rfl (fun ls hl => ?_)
                  refine lv_iload_n hx hb dX3_read_149 rfl (lv_at hl 4 rfl) ?_
                  refine lv_aload_n hx hb dX3_read_150 rfl (lv_at hl 5 rfl) ?_
                  refine lv_iload_n hx hb dX3_read_151 rfl (lv_at hl 4 rfl) ?_
                  refine run_ro (w := .int (nI (whN (nxM pd ln) ps))) (rest := [.int (nI ps)]) (kV F hW_18 (metX3_whole l E H_18 ad (nI (recK gl)) (nI (wrI (nxM pd ln) ln (ln + 1) 0 0).2) ln hln k0_19 pd k5_19 ps (by omega)) (lw_V q1241 q1243 qs40 q52 q1244) hdX3_whole ⟨Nat.le_of_ble_eq_true rfl, Nat.le_of_ble_eq_true rfl⟩ (recv hW_18 k0_19 rfl) hl.1 rfl (Nat.le_of_ble_eq_true rfl) dX3_read_152 ⟨Nat.le_of_ble_eq_true rfl, Nat.le_of_ble_eq_true rfl⟩) ?_
                  refine lv_iconst (v := 1) hx hb dX3_read_155 (by decide) ?_
                  refine lv_iadd hx hb dX3_read_156 ?_
                  refine lv_val (y := nI ((whN (nxM pd ln) ps) + 1)) ((nI_add ((whN (nxM pd ln) ps)) (1))) ?_
                  refine lv_iadd hx hb dX3_read_157 ?_
                  refine lv_val (y := nI (ps + ((whN (nxM pd ln) ps) + 1))) ((nI_add (ps) (((whN (nxM pd ln) ps) + 1)))) ?_
                  refine lv_istore_n (lv' := [(1, .int (nI (ps + ((whN (nxM pd ln) ps) + 1)))), (5, .int (nI n2)), (4, .int (kfM (nxM pd ln (ps + 1)))), (3, .int 6), (2, .int ((nxM pd ln (ps + 2)) - 48)), (0, .ref (ad 0))]) hx hb dX3_read_158 rfl hl (by decide) rfl (fun ls hl => ?_)
                  refine lv_goto (tgt := 37) hx hb dX3_read_159 (by decide) ?_
                  have hru9 : ruT (nxM pd ln) ps = ((nxM pd ln ps) - 48, kfM (nxM pd ln (ps + 1)), (nxM pd ln (ps + 2)) - 48, 6, (nxM pd ln (ps + 4)) - 48) := by simp [ruT, c_8, nc_8, c_10, c_11, c_17]
                  exact ih37 _ _ (n2 + 1) (k2 - 1) (by omega) (by omega) (addF_0) (by rw [hinv, hru9]; rfl) (by omega) (by omega) _ _ hS_18 hW_18 (⟨_, k0_19, k1_19, k2_19, k3_19, k4_19, k5_19, k6_19⟩) ls (lv_sub hl [0, 5] rfl)
                · skip
                  refine lv_iconst (v := 1) hx hb dX3_read_130 (by decide) ?_
                  refine lv_goto (tgt := 144) hx hb dX3_read_131 (by decide) ?_
                  refine run_chI (rest := []) (kV F hW_37 (metX3_adds l E Hg_37 ad f2 (recH f hst gl) sl z pd (nI (recK gl)) (nI ln) (nI (wrI (nxM pd ln) ln (ln + 1) 0 0).2) n2 hf2 (by omega) ((nxM pd ln ps) - 48) (kfM (nxM pd ln (ps + 1))) ((nxM pd ln (ps + 2)) - 48) 6 1 ⟨_, k0_7, k1_7, k2_7, k3_7, k4_7, k5_7, k6_7⟩ hT) (lw_V q1056 q1058 qs17 q52 q1059) hdX3_adds ⟨Nat.le_of_ble_eq_true rfl, Nat.le_of_ble_eq_true rfl⟩ (recv hW_37 k0_7 rfl) hl.1 rfl (Nat.le_of_ble_eq_true rfl) dX3_read_144 ⟨Nat.le_of_ble_eq_true rfl, Nat.le_of_ble_eq_true rfl⟩) hS_37 (fun _ h9 => h9) (fun r_20 H_20 locs hp_20 hc_20 hS_20 => ?_)
                  have hW_20 := hW_37.kept hc_20 hT.old
                  obtain ⟨hr_20, hp_20⟩ := hp_20
                  obtain ⟨g_21, k0_21, k1_21, k2_21, k3_21, k4_21, k5_21, k6_21⟩ := hp_20
                  have hr_20 : r_20 = nI n2 := hr_20
                  subst hr_20
                  refine lv_istore (lv' := [(5, .int (nI n2)), (4, .int (kfM (nxM pd ln (ps + 1)))), (3, .int 6), (2, .int ((nxM pd ln (ps + 2)) - 48)), (1, .int (nI ps)), (0, .ref (ad 0))]) hx hb dX3_read_147 hl (by decide) rfl (fun ls hl => ?_)
                  refine lv_iload_n hx hb dX3_read_149 rfl (lv_at hl 4 rfl) ?_
                  refine lv_aload_n hx hb dX3_read_150 rfl (lv_at hl 5 rfl) ?_
                  refine lv_iload_n hx hb dX3_read_151 rfl (lv_at hl 4 rfl) ?_
                  refine run_ro (w := .int (nI (whN (nxM pd ln) ps))) (rest := [.int (nI ps)]) (kV F hW_20 (metX3_whole l E H_20 ad (nI (recK gl)) (nI (wrI (nxM pd ln) ln (ln + 1) 0 0).2) ln hln k0_21 pd k5_21 ps (by omega)) (lw_V q1241 q1243 qs40 q52 q1244) hdX3_whole ⟨Nat.le_of_ble_eq_true rfl, Nat.le_of_ble_eq_true rfl⟩ (recv hW_20 k0_21 rfl) hl.1 rfl (Nat.le_of_ble_eq_true rfl) dX3_read_152 ⟨Nat.le_of_ble_eq_true rfl, Nat.le_of_ble_eq_true rfl⟩) ?_
                  refine lv_iconst (v := 1) hx hb dX3_read_155 (by decide) ?_
                  refine lv_iadd hx hb dX3_read_156 ?_
                  refine lv_val (y := nI ((whN (nxM pd ln) ps) + 1)) ((nI_add ((whN (nxM pd ln) ps)) (1))) ?_
                  refine lv_iadd hx hb dX3_read_157 ?_
                  refine lv_val (y := nI (ps + ((whN (nxM pd ln) ps) + 1))) ((nI_add (ps) (((whN (nxM pd ln) ps) + 1)))) ?_
                  refine lv_istore_n (lv' := [(1, .int (nI (ps + ((whN (nxM pd ln) ps) + 1)))), (5, .int (nI n2)), (4, .int (kfM (nxM pd ln (ps + 1)))), (3, .int 6), (2, .int ((nxM pd ln (ps + 2)) - 48)), (0, .ref (ad 0))]) hx hb dX3_read_158 rfl hl (by decide) rfl (fun ls hl => ?_)
                  refine lv_goto (tgt := 37) hx hb dX3_read_159 (by decide) ?_
                  have hru9 : ruT (nxM pd ln) ps = ((nxM pd ln ps) - 48, kfM (nxM pd ln (ps + 1)), (nxM pd ln (ps + 2)) - 48, 6, 1) := by simp [ruT, c_8, nc_8, c_10, c_11, c_17]
                  exact ih37 _ _ (n2 + 1) (k2 - 1) (by omega) (by omega) (addF_0) (by rw [hinv, hru9]; rfl) (by omega) (by omega) _ _ hS_20 hW_20 (⟨_, k0_21, k1_21, k2_21, k3_21, k4_21, k5_21, k6_21⟩) ls (lv_sub hl [0, 5] rfl)
            · skip
              refine lv_iconst (v := 5) hx hb dX3_read_57 (by decide) ?_
              refine lv_goto (tgt := 71) hx hb dX3_read_58 (by decide) ?_
              refine lv_istore_n (lv' := [(2, .int 5), (1, .int (nI ps)), (0, .ref (ad 0))]) hx hb dX3_read_71 rfl hl (by decide) rfl (fun ls hl => ?_)
              refine lv_aload_n hx hb dX3_read_72 rfl (lv_at hl 2 rfl) ?_
              refine lv_iload_n hx hb dX3_read_73 rfl (lv_at hl 1 rfl) ?_
              refine lv_iconst (v := 3) hx hb dX3_read_74 (by decide) ?_
              refine lv_iadd hx hb dX3_read_75 ?_
              refine lv_val (y := nI (ps + 3)) ((nI_add (ps) (3))) ?_
              refine run_ro (w := .int (nxM pd ln (ps + 3))) (rest := []) (kV F hW_37 (metX3_next l E Hg_37 ad (nI (recK gl)) (nI (wrI (nxM pd ln) ln (ln + 1) 0 0).2) ln hln k0_7 pd k5_7 (ps + 3) (by omega)) (lw_V q1234 q1236 qs39 q52 q1237) hdX3_next ⟨Nat.le_of_ble_eq_true rfl, Nat.le_of_ble_eq_true rfl⟩ (recv hW_37 k0_7 rfl) hl.1 rfl (Nat.le_of_ble_eq_true rfl) dX3_read_76 ⟨Nat.le_of_ble_eq_true rfl, Nat.le_of_ble_eq_true rfl⟩) ?_
              refine lv_bipush (v := 42) hx hb dX3_read_79 (by decide) ?_
              refine lv_icmp_ne (tgt := 89) hx hb dX3_read_81 (by decide) (fun c_22 => ?_) (fun c_22 => ?_)
              · skip
                refine lv_aload_n hx hb dX3_read_89 rfl (lv_at hl 2 rfl) ?_
                refine lv_iload_n hx hb dX3_read_90 rfl (lv_at hl 1 rfl) ?_
                refine lv_iconst (v := 3) hx hb dX3_read_91 (by decide) ?_
                refine lv_iadd hx hb dX3_read_92 ?_
                refine lv_val (y := nI (ps + 3)) ((nI_add (ps) (3))) ?_
                refine run_ro (w := .int (nxM pd ln (ps + 3))) (rest := []) (kV F hW_37 (metX3_next l E Hg_37 ad (nI (recK gl)) (nI (wrI (nxM pd ln) ln (ln + 1) 0 0).2) ln hln k0_7 pd k5_7 (ps + 3) (by omega)) (lw_V q1234 q1236 qs39 q52 q1237) hdX3_next ⟨Nat.le_of_ble_eq_true rfl, Nat.le_of_ble_eq_true rfl⟩ (recv hW_37 k0_7 rfl) hl.1 rfl (Nat.le_of_ble_eq_true rfl) dX3_read_93 ⟨Nat.le_of_ble_eq_true rfl, Nat.le_of_ble_eq_true rfl⟩) ?_
                refine lv_bipush (v := 48) hx hb dX3_read_96 (by decide) ?_
                refine lv_isub hx hb dX3_read_98 ?_
                refine lv_istore_n (lv' := [(3, .int ((nxM pd ln (ps + 3)) - 48)), (2, .int 5), (1, .int (nI ps)), (0, .ref (ad 0))]) hx hb dX3_read_99 rfl hl (by decide) rfl (fun ls hl => ?_)
                refine lv_aload_n hx hb dX3_read_100 rfl (lv_at hl 3 rfl) ?_
                refine lv_iload_n hx hb dX3_read_101 rfl (lv_at hl 2 rfl) ?_
                refine lv_iconst (v := 1) hx hb dX3_read_102 (by decide) ?_
                refine lv_iadd hx hb dX3_read_103 ?_
                refine lv_val (y := nI (ps + 1)) ((nI_add (ps) (1))) ?_
                refine run_ro (w := .int (nxM pd ln (ps + 1))) (rest := []) (kV F hW_37 (metX3_next l E Hg_37 ad (nI (recK gl)) (nI (wrI (nxM pd ln) ln (ln + 1) 0 0).2) ln hln k0_7 pd k5_7 (ps + 1) (by omega)) (lw_V q1234 q1236 qs39 q52 q1237) hdX3_next ⟨Nat.le_of_ble_eq_true rfl, Nat.le_of_ble_eq_true rfl⟩ (recv hW_37 k0_7 rfl) hl.1 rfl (Nat.le_of_ble_eq_true rfl) dX3_read_104 ⟨Nat.le_of_ble_eq_true rfl, Nat.le_of_ble_eq_true rfl⟩) ?_
                refine run_ro (w := .int (kfM (nxM pd ln (ps + 1)))) (rest := []) (kS F hW_37 (metX3_kindFor l E Hg_37 (nxM pd ln (ps + 1))) (lw_S q1238 q1239 q52 q1240) hdX3_kindFor ⟨Nat.le_of_ble_eq_true rfl, Nat.le_of_ble_eq_true rfl⟩ hl.1 rfl (Nat.le_of_ble_eq_true rfl) dX3_read_107 ⟨Nat.le_of_ble_eq_true rfl, Nat.le_of_ble_eq_true rfl⟩) ?_
                refine lv_istore (lv' := [(4, .int (kfM (nxM pd ln (ps + 1)))), (3, .int ((nxM pd ln (ps + 3)) - 48)), (2, .int 5), (1, .int (nI ps)), (0, .ref (ad 0))]) hx hb dX3_read_110 hl (by decide) rfl (fun ls hl => ?_)
                refine lv_aload_n hx hb dX3_read_112 rfl (lv_at hl 4 rfl) ?_
                refine lv_aload_n hx hb dX3_read_113 rfl (lv_at hl 4 rfl) ?_
                refine lv_iload_n hx hb dX3_read_114 rfl (lv_at hl 3 rfl) ?_
                refine run_ro (w := .int (nxM pd ln ps)) (rest := [.ref (ad 0)]) (kV F hW_37 (metX3_next l E Hg_37 ad (nI (recK gl)) (nI (wrI (nxM pd ln) ln (ln + 1) 0 0).2) ln hln k0_7 pd k5_7 ps (by omega)) (lw_V q1234 q1236 qs39 q52 q1237) hdX3_next ⟨Nat.le_of_ble_eq_true rfl, Nat.le_of_ble_eq_true rfl⟩ (recv hW_37 k0_7 rfl) hl.1 rfl (Nat.le_of_ble_eq_true rfl) dX3_read_115 ⟨Nat.le_of_ble_eq_true rfl, Nat.le_of_ble_eq_true rfl⟩) ?_
                refine lv_bipush (v := 48) hx hb dX3_read_118 (by decide) ?_
                refine lv_isub hx hb dX3_read_120 ?_
                refine lv_iload hx hb dX3_read_121 (lv_at hl 0 rfl) ?_
                refine lv_iload_n hx hb dX3_read_123 rfl (lv_at hl 2 rfl) ?_
                refine lv_iload_n hx hb dX3_read_124 rfl (lv_at hl 1 rfl) ?_
                refine lv_iload hx hb dX3_read_125 (lv_at hl 0 rfl) ?_
                refine lv_if_ne (tgt := 134) hx hb dX3_read_127 (by decide) (fun c_23 => ?_) (fun c_23 => ?_)
                · skip
                  refine lv_aload_n hx hb dX3_read_134 rfl (lv_at hl 4 rfl) ?_
                  refine lv_iload_n hx hb dX3_read_135 rfl (lv_at hl 3 rfl) ?_
                  refine lv_iconst (v := 4) hx hb dX3_read_136 (by decide) ?_
                  refine lv_iadd hx hb dX3_read_137 ?_
                  refine lv_val (y := nI (ps + 4)) ((nI_add (ps) (4))) ?_
                  refine run_ro (w := .int (nxM pd ln (ps + 4))) (rest := [.int ((nxM pd ln (ps + 3)) - 48), .int 5, .int (kfM (nxM pd ln (ps + 1))), .int ((nxM pd ln ps) - 48), .ref (ad 0)]) (kV F hW_37 (metX3_next l E Hg_37 ad (nI (recK gl)) (nI (wrI (nxM pd ln) ln (ln + 1) 0 0).2) ln hln k0_7 pd k5_7 (ps + 4) (by omega)) (lw_V q1234 q1236 qs39 q52 q1237) hdX3_next ⟨Nat.le_of_ble_eq_true rfl, Nat.le_of_ble_eq_true rfl⟩ (recv hW_37 k0_7 rfl) hl.1 rfl (Nat.le_of_ble_eq_true rfl) dX3_read_138 ⟨Nat.le_of_ble_eq_true rfl, Nat.le_of_ble_eq_true rfl⟩) ?_
                  refine lv_bipush (v := 48) hx hb dX3_read_141 (by decide) ?_
                  refine lv_isub hx hb dX3_read_143 ?_
                  refine run_chI (rest := []) (kV F hW_37 (metX3_adds l E Hg_37 ad f2 (recH f hst gl) sl z pd (nI (recK gl)) (nI ln) (nI (wrI (nxM pd ln) ln (ln + 1) 0 0).2) n2 hf2 (by omega) ((nxM pd ln ps) - 48) (kfM (nxM pd ln (ps + 1))) 5 ((nxM pd ln (ps + 3)) - 48) ((nxM pd ln (ps + 4)) - 48) ⟨_, k0_7, k1_7, k2_7, k3_7, k4_7, k5_7, k6_7⟩ hT) (lw_V q1056 q1058 qs17 q52 q1059) hdX3_adds ⟨Nat.le_of_ble_eq_true rfl, Nat.le_of_ble_eq_true rfl⟩ (recv hW_37 k0_7 rfl) hl.1 rfl (Nat.le_of_ble_eq_true rfl) dX3_read_144 ⟨Nat.le_of_ble_eq_true rfl, Nat.le_of_ble_eq_true rfl⟩) hS_37 (fun _ h9 => h9) (fun r_24 H_24 locs hp_24 hc_24 hS_24 => ?_)
                  have hW_24 := hW_37.kept hc_24 hT.old
                  obtain ⟨hr_24, hp_24⟩ := hp_24
                  obtain ⟨g_25, k0_25, k1_25, k2_25, k3_25, k4_25, k5_25, k6_25⟩ := hp_24
                  have hr_24 : r_24 = nI n2 := hr_24
                  subst hr_24
                  refine lv_istore (lv' := [(5, .int (nI n2)), (4, .int (kfM (nxM pd ln (ps + 1)))), (3, .int ((nxM pd ln (ps + 3)) - 48)), (2, .int 5), (1, .int (nI ps)), (0, .ref (ad 0))]) hx hb dX3_read_147 hl (by decide) rfl (fun ls hl => ?_)
                  refine lv_iload_n hx hb dX3_read_149 rfl (lv_at hl 4 rfl) ?_
                  refine lv_aload_n hx hb dX3_read_150 rfl (lv_at hl 5 rfl) ?_
                  refine lv_iload_n hx hb dX3_read_151 rfl (lv_at hl 4 rfl) ?_
                  refine run_ro (w := .int (nI (whN (nxM pd ln) ps))) (rest := [.int (nI ps)]) (kV F hW_24 (metX3_whole l E H_24 ad (nI (recK gl)) (nI (wrI (nxM pd ln) ln (ln + 1) 0 0).2) ln hln k0_25 pd k5_25 ps (by omega)) (lw_V q1241 q1243 qs40 q52 q1244) hdX3_whole ⟨Nat.le_of_ble_eq_true rfl, Nat.le_of_ble_eq_true rfl⟩ (recv hW_24 k0_25 rfl) hl.1 rfl (Nat.le_of_ble_eq_true rfl) dX3_read_152 ⟨Nat.le_of_ble_eq_true rfl, Nat.le_of_ble_eq_true rfl⟩) ?_
                  refine lv_iconst (v := 1) hx hb dX3_read_155 (by decide) ?_
                  refine lv_iadd hx hb dX3_read_156 ?_
                  refine lv_val (y := nI ((whN (nxM pd ln) ps) + 1)) ((nI_add ((whN (nxM pd ln) ps)) (1))) ?_
                  refine lv_iadd hx hb dX3_read_157 ?_
                  refine lv_val (y := nI (ps + ((whN (nxM pd ln) ps) + 1))) ((nI_add (ps) (((whN (nxM pd ln) ps) + 1)))) ?_
                  refine lv_istore_n (lv' := [(1, .int (nI (ps + ((whN (nxM pd ln) ps) + 1)))), (5, .int (nI n2)), (4, .int (kfM (nxM pd ln (ps + 1)))), (3, .int ((nxM pd ln (ps + 3)) - 48)), (2, .int 5), (0, .ref (ad 0))]) hx hb dX3_read_158 rfl hl (by decide) rfl (fun ls hl => ?_)
                  refine lv_goto (tgt := 37) hx hb dX3_read_159 (by decide) ?_
                  have hru9 : ruT (nxM pd ln) ps = ((nxM pd ln ps) - 48, kfM (nxM pd ln (ps + 1)), 5, (nxM pd ln (ps + 3)) - 48, (nxM pd ln (ps + 4)) - 48) := by simp [ruT, c_8, nc_8, c_10, c_22, c_23]
                  exact ih37 _ _ (n2 + 1) (k2 - 1) (by omega) (by omega) (addF_0) (by rw [hinv, hru9]; rfl) (by omega) (by omega) _ _ hS_24 hW_24 (⟨_, k0_25, k1_25, k2_25, k3_25, k4_25, k5_25, k6_25⟩) ls (lv_sub hl [0, 5] rfl)
                · skip
                  refine lv_iconst (v := 1) hx hb dX3_read_130 (by decide) ?_
                  refine lv_goto (tgt := 144) hx hb dX3_read_131 (by decide) ?_
                  refine run_chI (rest := []) (kV F hW_37 (metX3_adds l E Hg_37 ad f2 (recH f hst gl) sl z pd (nI (recK gl)) (nI ln) (nI (wrI (nxM pd ln) ln (ln + 1) 0 0).2) n2 hf2 (by omega) ((nxM pd ln ps) - 48) (kfM (nxM pd ln (ps + 1))) 5 ((nxM pd ln (ps + 3)) - 48) 1 ⟨_, k0_7, k1_7, k2_7, k3_7, k4_7, k5_7, k6_7⟩ hT) (lw_V q1056 q1058 qs17 q52 q1059) hdX3_adds ⟨Nat.le_of_ble_eq_true rfl, Nat.le_of_ble_eq_true rfl⟩ (recv hW_37 k0_7 rfl) hl.1 rfl (Nat.le_of_ble_eq_true rfl) dX3_read_144 ⟨Nat.le_of_ble_eq_true rfl, Nat.le_of_ble_eq_true rfl⟩) hS_37 (fun _ h9 => h9) (fun r_26 H_26 locs hp_26 hc_26 hS_26 => ?_)
                  have hW_26 := hW_37.kept hc_26 hT.old
                  obtain ⟨hr_26, hp_26⟩ := hp_26
                  obtain ⟨g_27, k0_27, k1_27, k2_27, k3_27, k4_27, k5_27, k6_27⟩ := hp_26
                  have hr_26 : r_26 = nI n2 := hr_26
                  subst hr_26
                  refine lv_istore (lv' := [(5, .int (nI n2)), (4, .int (kfM (nxM pd ln (ps + 1)))), (3, .int ((nxM pd ln (ps + 3)) - 48)), (2, .int 5), (1, .int (nI ps)), (0, .ref (ad 0))]) hx hb dX3_read_147 hl (by decide) rfl (fun ls hl => ?_)
                  refine lv_iload_n hx hb dX3_read_149 rfl (lv_at hl 4 rfl) ?_
                  refine lv_aload_n hx hb dX3_read_150 rfl (lv_at hl 5 rfl) ?_
                  refine lv_iload_n hx hb dX3_read_151 rfl (lv_at hl 4 rfl) ?_
                  refine run_ro (w := .int (nI (whN (nxM pd ln) ps))) (rest := [.int (nI ps)]) (kV F hW_26 (metX3_whole l E H_26 ad (nI (recK gl)) (nI (wrI (nxM pd ln) ln (ln + 1) 0 0).2) ln hln k0_27 pd k5_27 ps (by omega)) (lw_V q1241 q1243 qs40 q52 q1244) hdX3_whole ⟨Nat.le_of_ble_eq_true rfl, Nat.le_of_ble_eq_true rfl⟩ (recv hW_26 k0_27 rfl) hl.1 rfl (Nat.le_of_ble_eq_true rfl) dX3_read_152 ⟨Nat.le_of_ble_eq_true rfl, Nat.le_of_ble_eq_true rfl⟩) ?_
                  refine lv_iconst (v := 1) hx hb dX3_read_155 (by decide) ?_
                  refine lv_iadd hx hb dX3_read_156 ?_
                  refine lv_val (y := nI ((whN (nxM pd ln) ps) + 1)) ((nI_add ((whN (nxM pd ln) ps)) (1))) ?_
                  refine lv_iadd hx hb dX3_read_157 ?_
                  refine lv_val (y := nI (ps + ((whN (nxM pd ln) ps) + 1))) ((nI_add (ps) (((whN (nxM pd ln) ps) + 1)))) ?_
                  refine lv_istore_n (lv' := [(1, .int (nI (ps + ((whN (nxM pd ln) ps) + 1)))), (5, .int (nI n2)), (4, .int (kfM (nxM pd ln (ps + 1)))), (3, .int ((nxM pd ln (ps + 3)) - 48)), (2, .int 5), (0, .ref (ad 0))]) hx hb dX3_read_158 rfl hl (by decide) rfl (fun ls hl => ?_)
                  refine lv_goto (tgt := 37) hx hb dX3_read_159 (by decide) ?_
                  have hru9 : ruT (nxM pd ln) ps = ((nxM pd ln ps) - 48, kfM (nxM pd ln (ps + 1)), 5, (nxM pd ln (ps + 3)) - 48, 1) := by simp [ruT, c_8, nc_8, c_10, c_22, c_23]
                  exact ih37 _ _ (n2 + 1) (k2 - 1) (by omega) (by omega) (addF_0) (by rw [hinv, hru9]; rfl) (by omega) (by omega) _ _ hS_26 hW_26 (⟨_, k0_27, k1_27, k2_27, k3_27, k4_27, k5_27, k6_27⟩) ls (lv_sub hl [0, 5] rfl)
              · skip
                refine lv_bipush (v := 6) hx hb dX3_read_84 (by decide) ?_
                refine lv_goto (tgt := 99) hx hb dX3_read_86 (by decide) ?_
                refine lv_istore_n (lv' := [(3, .int 6), (2, .int 5), (1, .int (nI ps)), (0, .ref (ad 0))]) hx hb dX3_read_99 rfl hl (by decide) rfl (fun ls hl => ?_)
                refine lv_aload_n hx hb dX3_read_100 rfl (lv_at hl 3 rfl) ?_
                refine lv_iload_n hx hb dX3_read_101 rfl (lv_at hl 2 rfl) ?_
                refine lv_iconst (v := 1) hx hb dX3_read_102 (by decide) ?_
                refine lv_iadd hx hb dX3_read_103 ?_
                refine lv_val (y := nI (ps + 1)) ((nI_add (ps) (1))) ?_
                refine run_ro (w := .int (nxM pd ln (ps + 1))) (rest := []) (kV F hW_37 (metX3_next l E Hg_37 ad (nI (recK gl)) (nI (wrI (nxM pd ln) ln (ln + 1) 0 0).2) ln hln k0_7 pd k5_7 (ps + 1) (by omega)) (lw_V q1234 q1236 qs39 q52 q1237) hdX3_next ⟨Nat.le_of_ble_eq_true rfl, Nat.le_of_ble_eq_true rfl⟩ (recv hW_37 k0_7 rfl) hl.1 rfl (Nat.le_of_ble_eq_true rfl) dX3_read_104 ⟨Nat.le_of_ble_eq_true rfl, Nat.le_of_ble_eq_true rfl⟩) ?_
                refine run_ro (w := .int (kfM (nxM pd ln (ps + 1)))) (rest := []) (kS F hW_37 (metX3_kindFor l E Hg_37 (nxM pd ln (ps + 1))) (lw_S q1238 q1239 q52 q1240) hdX3_kindFor ⟨Nat.le_of_ble_eq_true rfl, Nat.le_of_ble_eq_true rfl⟩ hl.1 rfl (Nat.le_of_ble_eq_true rfl) dX3_read_107 ⟨Nat.le_of_ble_eq_true rfl, Nat.le_of_ble_eq_true rfl⟩) ?_
                refine lv_istore (lv' := [(4, .int (kfM (nxM pd ln (ps + 1)))), (3, .int 6), (2, .int 5), (1, .int (nI ps)), (0, .ref (ad 0))]) hx hb dX3_read_110 hl (by decide) rfl (fun ls hl => ?_)
                refine lv_aload_n hx hb dX3_read_112 rfl (lv_at hl 4 rfl) ?_
                refine lv_aload_n hx hb dX3_read_113 rfl (lv_at hl 4 rfl) ?_
                refine lv_iload_n hx hb dX3_read_114 rfl (lv_at hl 3 rfl) ?_
                refine run_ro (w := .int (nxM pd ln ps)) (rest := [.ref (ad 0)]) (kV F hW_37 (metX3_next l E Hg_37 ad (nI (recK gl)) (nI (wrI (nxM pd ln) ln (ln + 1) 0 0).2) ln hln k0_7 pd k5_7 ps (by omega)) (lw_V q1234 q1236 qs39 q52 q1237) hdX3_next ⟨Nat.le_of_ble_eq_true rfl, Nat.le_of_ble_eq_true rfl⟩ (recv hW_37 k0_7 rfl) hl.1 rfl (Nat.le_of_ble_eq_true rfl) dX3_read_115 ⟨Nat.le_of_ble_eq_true rfl, Nat.le_of_ble_eq_true rfl⟩) ?_
                refine lv_bipush (v := 48) hx hb dX3_read_118 (by decide) ?_
                refine lv_isub hx hb dX3_read_120 ?_
                refine lv_iload hx hb dX3_read_121 (lv_at hl 0 rfl) ?_
                refine lv_iload_n hx hb dX3_read_123 rfl (lv_at hl 2 rfl) ?_
                refine lv_iload_n hx hb dX3_read_124 rfl (lv_at hl 1 rfl) ?_
                refine lv_iload hx hb dX3_read_125 (lv_at hl 0 rfl) ?_
                refine lv_if_ne (tgt := 134) hx hb dX3_read_127 (by decide) (fun c_28 => ?_) (fun c_28 => ?_)
                · skip
                  refine lv_aload_n hx hb dX3_read_134 rfl (lv_at hl 4 rfl) ?_
                  refine lv_iload_n hx hb dX3_read_135 rfl (lv_at hl 3 rfl) ?_
                  refine lv_iconst (v := 4) hx hb dX3_read_136 (by decide) ?_
                  refine lv_iadd hx hb dX3_read_137 ?_
                  refine lv_val (y := nI (ps + 4)) ((nI_add (ps) (4))) ?_
                  refine run_ro (w := .int (nxM pd ln (ps + 4))) (rest := [.int 6, .int 5, .int (kfM (nxM pd ln (ps + 1))), .int ((nxM pd ln ps) - 48), .ref (ad 0)]) (kV F hW_37 (metX3_next l E Hg_37 ad (nI (recK gl)) (nI (wrI (nxM pd ln) ln (ln + 1) 0 0).2) ln hln k0_7 pd k5_7 (ps + 4) (by omega)) (lw_V q1234 q1236 qs39 q52 q1237) hdX3_next ⟨Nat.le_of_ble_eq_true rfl, Nat.le_of_ble_eq_true rfl⟩ (recv hW_37 k0_7 rfl) hl.1 rfl (Nat.le_of_ble_eq_true rfl) dX3_read_138 ⟨Nat.le_of_ble_eq_true rfl, Nat.le_of_ble_eq_true rfl⟩) ?_
                  refine lv_bipush (v := 48) hx hb dX3_read_141 (by decide) ?_
                  refine lv_isub hx hb dX3_read_143 ?_
                  refine run_chI (rest := []) (kV F hW_37 (metX3_adds l E Hg_37 ad f2 (recH f hst gl) sl z pd (nI (recK gl)) (nI ln) (nI (wrI (nxM pd ln) ln (ln + 1) 0 0).2) n2 hf2 (by omega) ((nxM pd ln ps) - 48) (kfM (nxM pd ln (ps + 1))) 5 6 ((nxM pd ln (ps + 4)) - 48) ⟨_, k0_7, k1_7, k2_7, k3_7, k4_7, k5_7, k6_7⟩ hT) (lw_V q1056 q1058 qs17 q52 q1059) hdX3_adds ⟨Nat.le_of_ble_eq_true rfl, Nat.le_of_ble_eq_true rfl⟩ (recv hW_37 k0_7 rfl) hl.1 rfl (Nat.le_of_ble_eq_true rfl) dX3_read_144 ⟨Nat.le_of_ble_eq_true rfl, Nat.le_of_ble_eq_true rfl⟩) hS_37 (fun _ h9 => h9) (fun r_29 H_29 locs hp_29 hc_29 hS_29 => ?_)
                  have hW_29 := hW_37.kept hc_29 hT.old
                  obtain ⟨hr_29, hp_29⟩ := hp_29
                  obtain ⟨g_30, k0_30, k1_30, k2_30, k3_30, k4_30, k5_30, k6_30⟩ := hp_29
                  have hr_29 : r_29 = nI n2 := hr_29
                  subst hr_29
                  refine lv_istore (lv' := [(5, .int (nI n2)), (4, .int (kfM (nxM pd ln (ps + 1)))), (3, .int 6), (2, .int 5), (1, .int (nI ps)), (0, .ref (ad 0))]) hx hb dX3_read_147 hl (by decide) rfl (fun ls hl => ?_)
                  refine lv_iload_n hx hb dX3_read_149 rfl (lv_at hl 4 rfl) ?_
                  refine lv_aload_n hx hb dX3_read_150 rfl (lv_at hl 5 rfl) ?_
                  refine lv_iload_n hx hb dX3_read_151 rfl (lv_at hl 4 rfl) ?_
                  refine run_ro (w := .int (nI (whN (nxM pd ln) ps))) (rest := [.int (nI ps)]) (kV F hW_29 (metX3_whole l E H_29 ad (nI (recK gl)) (nI (wrI (nxM pd ln) ln (ln + 1) 0 0).2) ln hln k0_30 pd k5_30 ps (by omega)) (lw_V q1241 q1243 qs40 q52 q1244) hdX3_whole ⟨Nat.le_of_ble_eq_true rfl, Nat.le_of_ble_eq_true rfl⟩ (recv hW_29 k0_30 rfl) hl.1 rfl (Nat.le_of_ble_eq_true rfl) dX3_read_152 ⟨Nat.le_of_ble_eq_true rfl, Nat.le_of_ble_eq_true rfl⟩) ?_
                  refine lv_iconst (v := 1) hx hb dX3_read_155 (by decide) ?_
                  refine lv_iadd hx hb dX3_read_156 ?_
                  refine lv_val (y := nI ((whN (nxM pd ln) ps) + 1)) ((nI_add ((whN (nxM pd ln) ps)) (1))) ?_
                  refine lv_iadd hx hb dX3_read_157 ?_
                  refine lv_val (y := nI (ps + ((whN (nxM pd ln) ps) + 1))) ((nI_add (ps) (((whN (nxM pd ln) ps) + 1)))) ?_
                  refine lv_istore_n (lv' := [(1, .int (nI (ps + ((whN (nxM pd ln) ps) + 1)))), (5, .int (nI n2)), (4, .int (kfM (nxM pd ln (ps + 1)))), (3, .int 6), (2, .int 5), (0, .ref (ad 0))]) hx hb dX3_read_158 rfl hl (by decide) rfl (fun ls hl => ?_)
                  refine lv_goto (tgt := 37) hx hb dX3_read_159 (by decide) ?_
                  have hru9 : ruT (nxM pd ln) ps = ((nxM pd ln ps) - 48, kfM (nxM pd ln (ps + 1)), 5, 6, (nxM pd ln (ps + 4)) - 48) := by simp [ruT, c_8, nc_8, c_10, c_22, c_28]
                  exact ih37 _ _ (n2 + 1) (k2 - 1) (by omega) (by omega) (addF_0) (by rw [hinv, hru9]; rfl) (by omega) (by omega) _ _ hS_29 hW_29 (⟨_, k0_30, k1_30, k2_30, k3_30, k4_30, k5_30, k6_30⟩) ls (lv_sub hl [0, 5] rfl)
                · skip
                  refine lv_iconst (v := 1) hx hb dX3_read_130 (by decide) ?_
                  refine lv_goto (tgt := 144) hx hb dX3_read_131 (by decide) ?_
                  refine run_chI (rest := []) (kV F hW_37 (metX3_adds l E Hg_37 ad f2 (recH f hst gl) sl z pd (nI (recK gl)) (nI ln) (nI (wrI (nxM pd ln) ln (ln + 1) 0 0).2) n2 hf2 (by omega) ((nxM pd ln ps) - 48) (kfM (nxM pd ln (ps + 1))) 5 6 1 ⟨_, k0_7, k1_7, k2_7, k3_7, k4_7, k5_7, k6_7⟩ hT) (lw_V q1056 q1058 qs17 q52 q1059) hdX3_adds ⟨Nat.le_of_ble_eq_true rfl, Nat.le_of_ble_eq_true rfl⟩ (recv hW_37 k0_7 rfl) hl.1 rfl (Nat.le_of_ble_eq_true rfl) dX3_read_144 ⟨Nat.le_of_ble_eq_true rfl, Nat.le_of_ble_eq_true rfl⟩) hS_37 (fun _ h9 => h9) (fun r_31 H_31 locs hp_31 hc_31 hS_31 => ?_)
                  have hW_31 := hW_37.kept hc_31 hT.old
                  obtain ⟨hr_31, hp_31⟩ := hp_31
                  obtain ⟨g_32, k0_32, k1_32, k2_32, k3_32, k4_32, k5_32, k6_32⟩ := hp_31
                  have hr_31 : r_31 = nI n2 := hr_31
                  subst hr_31
                  refine lv_istore (lv' := [(5, .int (nI n2)), (4, .int (kfM (nxM pd ln (ps + 1)))), (3, .int 6), (2, .int 5), (1, .int (nI ps)), (0, .ref (ad 0))]) hx hb dX3_read_147 hl (by decide) rfl (fun ls hl => ?_)
                  refine lv_iload_n hx hb dX3_read_149 rfl (lv_at hl 4 rfl) ?_
                  refine lv_aload_n hx hb dX3_read_150 rfl (lv_at hl 5 rfl) ?_
                  refine lv_iload_n hx hb dX3_read_151 rfl (lv_at hl 4 rfl) ?_
                  refine run_ro (w := .int (nI (whN (nxM pd ln) ps))) (rest := [.int (nI ps)]) (kV F hW_31 (metX3_whole l E H_31 ad (nI (recK gl)) (nI (wrI (nxM pd ln) ln (ln + 1) 0 0).2) ln hln k0_32 pd k5_32 ps (by omega)) (lw_V q1241 q1243 qs40 q52 q1244) hdX3_whole ⟨Nat.le_of_ble_eq_true rfl, Nat.le_of_ble_eq_true rfl⟩ (recv hW_31 k0_32 rfl) hl.1 rfl (Nat.le_of_ble_eq_true rfl) dX3_read_152 ⟨Nat.le_of_ble_eq_true rfl, Nat.le_of_ble_eq_true rfl⟩) ?_
                  refine lv_iconst (v := 1) hx hb dX3_read_155 (by decide) ?_
                  refine lv_iadd hx hb dX3_read_156 ?_
                  refine lv_val (y := nI ((whN (nxM pd ln) ps) + 1)) ((nI_add ((whN (nxM pd ln) ps)) (1))) ?_
                  refine lv_iadd hx hb dX3_read_157 ?_
                  refine lv_val (y := nI (ps + ((whN (nxM pd ln) ps) + 1))) ((nI_add (ps) (((whN (nxM pd ln) ps) + 1)))) ?_
                  refine lv_istore_n (lv' := [(1, .int (nI (ps + ((whN (nxM pd ln) ps) + 1)))), (5, .int (nI n2)), (4, .int (kfM (nxM pd ln (ps + 1)))), (3, .int 6), (2, .int 5), (0, .ref (ad 0))]) hx hb dX3_read_158 rfl hl (by decide) rfl (fun ls hl => ?_)
                  refine lv_goto (tgt := 37) hx hb dX3_read_159 (by decide) ?_
                  have hru9 : ruT (nxM pd ln) ps = ((nxM pd ln ps) - 48, kfM (nxM pd ln (ps + 1)), 5, 6, 1) := by simp [ruT, c_8, nc_8, c_10, c_22, c_28]
                  exact ih37 _ _ (n2 + 1) (k2 - 1) (by omega) (by omega) (addF_0) (by rw [hinv, hru9]; rfl) (by omega) (by omega) _ _ hS_31 hW_31 (⟨_, k0_32, k1_32, k2_32, k3_32, k4_32, k5_32, k6_32⟩) ls (lv_sub hl [0, 5] rfl)
      exact lg37 _ 0 f n (ln + 1) (Nat.lt_succ_self _) (Nat.zero_le _) (hn0) (rfl) (by omega) (by rw [hPN]) _ _ hS_5 hW_5 (⟨_, k0_6, k1_6, k2_6, k3_6, k4_6, k5_6, k6_6⟩) ls (lv_sub hl [0, 1] rfl)
    · skip
      have nc_4 := Nat.not_le.mp (fun h9 => c_4 ((nI_leI (a := (n + PN)) (b := 24) (by omega) (by omega)).mpr h9))
      refine lv_bipush (v := (-4)) hx hb dX3_read_28 (by decide) ?_
      exact hend _ _ _ _ _ _ _ rfl dX3_read_30 (⟨_, rfl, P5.of (T' := ((-4), f, hst, gl, ln)) (by unfold readT; rw [if_pos hok, if_neg (by omega)]) ⟨_, k0_2, k1_2, k2_2, k3_2, k4_2, k5_2, k6_2⟩⟩) hS_1 (Nat.zero_le _) (Nat.zero_le _)
  · skip
    refine lv_bipush (v := (-3)) hx hb dX3_read_9 (by decide) ?_
    exact hend _ _ _ _ _ _ _ rfl dX3_read_11 (⟨_, rfl, P5.of (T' := ((-3), f, hst, gl, ln)) (by unfold readT; rw [if_neg c_3]) ⟨_, k0_2, k1_2, k2_2, k3_2, k4_2, k5_2, k6_2⟩⟩) hS_1 (Nat.zero_le _) (Nat.zero_le _)

