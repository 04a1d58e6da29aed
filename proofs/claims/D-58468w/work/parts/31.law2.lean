/-! LAW 2: the class's reasons, worst ban, best waiver, odds are the twin's -/
set_option maxRecDepth 100000
section AL
variable {ru : Nat → RV} {n : Nat} {c d rank : Int32}
theorem alX_iff {i : Nat} : alX ru n c d rank i = true ↔ pmX ru c d n = true ∧ ∀ l, l < i → (sgX ru 1 (nI l) c d n ≤ wvX ru n c d (l + 1) ∨ ¬ rank < sgX ru 1 (nI l) c d n) := by
  unfold alX
  refine fold_iff (T := fun x => x = true) (C := fun l => sgX ru 1 (nI l) c d n ≤ wvX ru n c d (l + 1) ∨ ¬ rank < sgX ru 1 (nI l) c d n) (fun r x => ?_) i
  show alst ru n c d rank r x = true ↔ _
  unfold alst
  simp
theorem al_le (hr0 : 0 ≤ rank) (hr9 : rank ≤ 9) : alX ru n c d rank 5 = true ↔ leX ru n c d 5 ≤ rank := by
  rw [alX_iff, leX_le]
  by_cases hp : pmX ru c d n = true
  · rw [if_pos hp]
    exact ⟨fun q => ⟨hr0, fun l hl h => (q.2 l hl).elim (fun h9 => absurd h9 h) (fun h9 => inlt.mp h9)⟩, fun q => ⟨hp, fun l hl => (Classical.em (sgX ru 1 (nI l) c d n ≤ wvX ru n c d (l + 1))).elim Or.inl (fun h => Or.inr (inlt.mpr (q.2 l hl h)))⟩⟩
  · rw [if_neg hp]; exact ⟨fun q => absurd q.1 hp, fun q => absurd (ile_tr q.1 hr9) (by decide)⟩
theorem liX_f {v : RV} : liX ru v c d n = false ↔ ∀ r, r < n → liftsV (ru r) v c d = false := by
  unfold liX
  refine (fold_iff (T := fun x => x = false) (C := fun r => liftsV (ru r) v c d = false) (fun r x => ?_) n).trans ⟨fun h => h.2, fun h => ⟨rfl, h⟩⟩
  show (x || liftsV (ru r) v c d) = false ↔ _
  simp
/-- the strongest waivers, now -/
abbrev gNow (ru : Nat → RV) (n : Nat) (c d : Int32) : Nat → Int32 := lsM ru n c d (-6) (-6) 0
theorem li_g (hn : n ≤ 25) (hok : ∀ r, r < n → RVok (ru r)) {v : RV} (hv : RVok v) : liX ru v c d n = false ↔ ¬ v.2.2.2.2 ≤ gNow ru n c d (ix v.1) := by
  obtain ⟨la, hla, e1, e2⟩ := hv.la
  obtain ⟨se, h1, h2, e3⟩ := hv.se
  rw [e2, e3]
  have h3 : ¬ nI se ≤ gNow ru n c d la ↔ gNow ru n c d la ≤ nI (se - 1) := by
    rw [ile, ile, nI_toInt (by omega), nI_toInt (by omega)]; omega
  rw [h3, liX_f]
  unfold gNow
  rw [lsM_le (by decide) hla]
  constructor
  · intro h
    refine ⟨nI_pos' (by omega), fun q hq e => absurd e (nI_ne6 (by omega)), fun r hr _ k2 kf kl => ?_⟩
    have h4 := h r hr
    obtain ⟨lb, hlb, f1, f2⟩ := (hok r hr).la
    obtain ⟨sb, g1, g2, g3⟩ := (hok r hr).se
    unfold liftsV at h4
    rw [f2] at kl
    rw [k2, kf, f1, e1, g3, e3] at h4
    have h5 : ¬ nI la < nI lb := fun q => absurd ((nI_ltI (by omega) (by omega)).mp q) (by omega)
    rw [decide_eq_false h5] at h4
    have h6 : nI sb < nI se := by simpa using h4
    rw [g3]; exact (nI_leI (by omega) (by omega)).mpr (by have := (nI_ltI (by omega) (by omega)).mp h6; omega)
  · rintro ⟨-, -, h⟩ r hr
    obtain ⟨lb, hlb, f1, f2⟩ := (hok r hr).la
    obtain ⟨sb, g1, g2, g3⟩ := (hok r hr).se
    unfold liftsV
    by_cases k2 : (ru r).2.1 = 2
    · by_cases kf : fitsV (ru r) c d = true
      · by_cases kl : nI la < nI lb
        · rw [f1, e1, decide_eq_true kl]; simp
        · have h4 := h r hr (nI_ne6 (by omega)) k2 kf (by rw [f2]; exact Nat.not_lt.mp (fun q => kl ((nI_ltI (by omega) (by omega)).mpr q)))
          rw [g3] at h4
          have h5 := (nI_leI (by omega) (by omega)).mp h4
          have h6 : nI sb < nI se := (nI_ltI (by omega) (by omega)).mpr (by omega)
          rw [g3, e3, decide_eq_true h6]; simp
      · simp [kf]
    · simp [k2]
/-- a ban by which a deed is forbidden -/
def hbP (ru : Nat → RV) (n : Nat) (c d rank : Int32) (k : Nat) : Prop := (ru k).2.1 = 1 ∧ fitsV (ru k) c d = true ∧ ¬ (ru k).2.2.2.2 ≤ gNow ru n c d (ix (ru k).1) ∧ ¬ (ru k).2.2.2.2 ≤ rank
theorem ho_hb (hn : n ≤ 25) (hok : ∀ r, r < n → RVok (ru r)) {k : Nat} (hk : k < n) : hoX ru n (ru k) c d rank = true ↔ hbP ru n c d rank k := by
  unfold hoX hbP
  rw [← li_g hn hok (hok k hk)]
  simp [and_comm, and_left_comm]
/-- the first of the bans of the outermost layer -/
def Bst (ru : Nat → RV) (hb : Nat → Prop) (lo hi : Nat) (r : Int32) : Prop := (r = -6 ∧ ∀ k, lo ≤ k → k < hi → ¬ hb k) ∨ ∃ q, lo ≤ q ∧ q < hi ∧ r = nI q ∧ hb q ∧ ∀ k, lo ≤ k → k < hi → hb k → (ru q).1 < (ru k).1 ∨ ((ru q).1 = (ru k).1 ∧ q ≤ k)
theorem Bst.uniq {hb : Nat → Prop} {lo hi : Nat} {r r' : Int32} (h : Bst ru hb lo hi r) (h' : Bst ru hb lo hi r') : r = r' := by
  rcases h with ⟨e, h1⟩ | ⟨q, q1, q2, q3, q4, q5⟩ <;> rcases h' with ⟨e', h1'⟩ | ⟨q', p1, p2, p3, p4, p5⟩
  · rw [e, e']
  · exact absurd p4 (h1 q' p1 p2)
  · exact absurd q4 (h1' q q1 q2)
  · have a := q5 q' p1 p2 p4
    have b := p5 q q1 q2 q4
    rw [ilt] at a b
    have e : q = q' := by
      rcases a with a | ⟨a, a2⟩ <;> rcases b with b | ⟨b, b2⟩
      · omega
      · rw [b] at a; omega
      · rw [a] at b; omega
      · omega
    rw [q3, p3, e]
theorem bn_st (hn : n ≤ 25) (hok : ∀ r, r < n → RVok (ru r)) : ∀ i, i ≤ n → Bst ru (hbP ru n c d rank) 0 i (bnX ru n c d rank i)
  | 0, _ => Or.inl ⟨rfl, fun k _ h => absurd h (Nat.not_lt_zero _)⟩
  | i + 1, hi => by
    have ih := bn_st hn hok i (by omega)
    have hh := ho_hb (c := c) (d := d) (rank := rank) hn hok (k := i) (by omega)
    rw [bnX_s]
    unfold bnst
    generalize bnX ru n c d rank i = best at ih ⊢
    by_cases hb : hbP ru n c d rank i
    · rcases ih with ⟨e, h1⟩ | ⟨q, q1, q2, q3, q4, q5⟩
      · rw [if_pos ⟨hh.mpr hb, Or.inl (by rw [e]; decide)⟩]
        exact Or.inr ⟨i, Nat.zero_le _, by omega, rfl, hb, fun k _ hk hbk => by
          by_cases e2 : k = i
          · exact Or.inr ⟨by rw [e2], by omega⟩
          · exact absurd hbk (h1 k (Nat.zero_le _) (by omega))⟩
      · by_cases hl : (ru q).1 ≤ (ru i).1
        · rw [if_neg (by rintro ⟨-, h9 | h9⟩; exact nI_pos (n := q) (by omega) (by rw [← q3]; exact h9); rw [q3, jx_nI (by omega)] at h9; exact h9 hl)]
          exact Or.inr ⟨q, q1, by omega, q3, q4, fun k k1 k2 hbk => by
            by_cases e2 : k = i
            · subst e2
              rw [ile] at hl; rw [ilt]
              rcases Int.lt_or_eq_of_le hl with h8 | h8
              · exact Or.inl h8
              · exact Or.inr ⟨Int32.toInt_inj.mp h8, by omega⟩
            · exact q5 k k1 (by omega) hbk⟩
        · rw [if_pos ⟨hh.mpr hb, Or.inr (by rw [q3, jx_nI (by omega)]; exact hl)⟩]
          exact Or.inr ⟨i, Nat.zero_le _, by omega, rfl, hb, fun k k1 k2 hbk => by
            by_cases e2 : k = i
            · exact Or.inr ⟨by rw [e2], by omega⟩
            · have h7 := q5 k k1 (by omega) hbk
              rw [inle, ilt] at hl
              left; rw [ilt]
              rcases h7 with h7 | ⟨h7, -⟩
              · rw [ilt] at h7; omega
              · rw [← h7]; exact hl⟩
    · rw [if_neg (fun h9 => hb (hh.mp h9.1))]
      rcases ih with ⟨e, h1⟩ | ⟨q, q1, q2, q3, q4, q5⟩
      · exact Or.inl ⟨e, fun k k1 k2 => by
          by_cases e2 : k = i
          · subst e2; exact hb
          · exact h1 k k1 (by omega)⟩
      · exact Or.inr ⟨q, q1, by omega, q3, q4, fun k k1 k2 hbk => by
          by_cases e2 : k = i
          · subst e2; exact absurd hbk hb
          · exact q5 k k1 (by omega) hbk⟩
theorem rsst_b {fd : Int32} {r : Nat} : rsst ru c d rank (gNow ru n c d) r fd = fd ∧ ¬ hbP ru n c d rank r ∨ hbP ru n c d rank r ∧ rsst ru c d rank (gNow ru n c d) r fd = (if fd = -6 then nI r else if (ru (ix fd)).1 < (ru r).1 then fd else nI r) := by
  unfold rsst hbP
  by_cases h1 : (ru r).2.1 = 1
  · rw [if_pos h1]
    by_cases h2 : fitsV (ru r) c d = true
    · rw [if_pos h2]
      by_cases h3 : (ru r).2.2.2.2 ≤ gNow ru n c d (ix (ru r).1)
      · rw [if_pos h3]; exact Or.inl ⟨rfl, fun q => q.2.2.1 h3⟩
      · rw [if_neg h3]
        by_cases h4 : (ru r).2.2.2.2 ≤ rank
        · rw [if_pos h4]; exact Or.inl ⟨rfl, fun q => q.2.2.2 h4⟩
        · rw [if_neg h4]; exact Or.inr ⟨⟨h1, h2, h3, h4⟩, rfl⟩
    · rw [if_neg h2]; exact Or.inl ⟨rfl, fun q => h2 q.2.1⟩
  · rw [if_neg h1]; exact Or.inl ⟨rfl, fun q => h1 q.1⟩
theorem rs_st (hn : n ≤ 25) : ∀ j, j ≤ n → Bst ru (hbP ru n c d rank) (n - j) n (rsM ru n c d rank (gNow ru n c d) j)
  | 0, _ => Or.inl ⟨rfl, fun k h1 h2 => absurd h2 (by omega)⟩
  | j + 1, hj => by
    have ih := rs_st hn j (by omega)
    rw [rsM_s]
    generalize rsM ru n c d rank (gNow ru n c d) j = fd at ih ⊢
    generalize hr : n - 1 - j = r
    rw [show n - (j + 1) = r by omega]
    rcases rsst_b (ru := ru) (n := n) (c := c) (d := d) (rank := rank) (fd := fd) (r := r) with ⟨e, hb⟩ | ⟨hb, e⟩
    · rw [e]
      rcases ih with ⟨e, h1⟩ | ⟨q, q1, q2, q3, q4, q5⟩
      · exact Or.inl ⟨e, fun k k1 k2 => by
          by_cases e2 : k = r
          · subst e2; exact hb
          · exact h1 k (by omega) k2⟩
      · exact Or.inr ⟨q, by omega, q2, q3, q4, fun k k1 k2 hbk => by
          by_cases e2 : k = r
          · subst e2; exact absurd hbk hb
          · exact q5 k (by omega) k2 hbk⟩
    · rw [e]
      rcases ih with ⟨e, h1⟩ | ⟨q, q1, q2, q3, q4, q5⟩
      · rw [if_pos e]
        exact Or.inr ⟨r, Nat.le_refl _, by omega, rfl, hb, fun k k1 k2 hbk => by
          by_cases e2 : k = r
          · exact Or.inr ⟨by rw [e2], by omega⟩
          · exact absurd hbk (h1 k (by omega) k2)⟩
      · rw [if_neg (by rw [q3]; exact nI_ne6 (by omega)), q3, ix_nI (by omega)]
        by_cases hl : (ru q).1 < (ru r).1
        · rw [if_pos hl]
          exact Or.inr ⟨q, by omega, q2, rfl, q4, fun k k1 k2 hbk => by
            by_cases e2 : k = r
            · subst e2; exact Or.inl hl
            · exact q5 k (by omega) k2 hbk⟩
        · rw [if_neg hl]
          exact Or.inr ⟨r, Nat.le_refl _, by omega, rfl, hb, fun k k1 k2 hbk => by
            by_cases e2 : k = r
            · exact Or.inr ⟨by rw [e2], by omega⟩
            · have h7 := q5 k (by omega) k2 hbk
              rw [inlt, ile] at hl
              rw [ilt]
              rcases h7 with h7 | ⟨h7, h8⟩
              · rw [ilt] at h7; left; omega
              · rw [h7] at hl
                rcases Int.lt_or_eq_of_le hl with h6 | h6
                · exact Or.inl h6
                · exact Or.inr ⟨Int32.toInt_inj.mp h6, by omega⟩⟩
theorem least_lm (hp : pmM ru c d (-6) n = true) : leastM ru n c d (-6) (-6) 0 = lmM ru c d (-6) (gNow ru n c d) n := by unfold leastM; rw [if_pos hp]
theorem hb_seal (hp : pmM ru c d (-6) n = true) (hn : n ≤ 25) {k : Nat} (hk : k < n) (hb : hbP ru n c d rank k) : (ru k).2.2.2.2 ≤ leastM ru n c d (-6) (-6) 0 := by
  rw [least_lm hp]
  exact (lmM_le.mp (ile_rf _)).2 k hk (hoM_iff.mpr ⟨nI_ne6 (by omega), hb.1, hb.2.1, hb.2.2.1⟩)
theorem reason_eq (hn : n ≤ 25) (hok : ∀ r, r < n → RVok (ru r)) : rsX ru n c d rank = reasonM ru n c d rank := by
  unfold rsX reasonM
  have hL := now_eq hn hok c d
  have hpe : pmX ru c d n = pmM ru c d (-6) n := pm_eq (sv := 0) (Sam.now (by omega))
  by_cases hp : pmX ru c d n = true
  · rw [if_pos hp]
    have h9 := leX_p9 hok hp
    rw [hL] at h9
    have hpm : pmM ru c d (-6) n = true := by rw [← hpe]; exact hp
    rw [if_neg (fun e => by rw [e] at h9; exact absurd h9 (by decide))]
    have hB := bn_st (c := c) (d := d) (rank := rank) hn hok n (Nat.le_refl _)
    by_cases hr : leastM ru n c d (-6) (-6) 0 ≤ rank
    · rw [if_pos hr]
      rcases hB with ⟨e, -⟩ | ⟨q, -, q2, -, q4, -⟩
      · exact e
      · exact absurd (ile_tr (hb_seal hpm hn q2 q4) hr) q4.2.2.2
    · rw [if_neg hr]
      have h1 := rs_st (ru := ru) (c := c) (d := d) (rank := rank) hn n (Nat.le_refl _)
      rw [Nat.sub_self] at h1
      exact hB.uniq h1
  · rw [if_neg hp]
    have h10 := leX_np hok hp
    rw [hL] at h10
    rw [if_pos h10]
theorem reason_neg (hn : n ≤ 25) (hok : ∀ r, r < n → RVok (ru r)) (hr0 : 0 ≤ rank) (hr9 : rank ≤ 9) : reasonM ru n c d rank < 0 ↔ leastM ru n c d (-6) (-6) 0 ≤ rank := by
  unfold reasonM
  have hL := now_eq hn hok c d
  have hpe : pmX ru c d n = pmM ru c d (-6) n := pm_eq (sv := 0) (Sam.now (by omega))
  by_cases h10 : leastM ru n c d (-6) (-6) 0 = 10
  · rw [if_pos h10, h10]
    exact ⟨fun h => absurd h (by decide), fun h => absurd (ile_tr h hr9) (by decide)⟩
  · rw [if_neg h10]
    by_cases hr : leastM ru n c d (-6) (-6) 0 ≤ rank
    · rw [if_pos hr]; exact ⟨fun _ => hr, fun _ => by decide⟩
    · rw [if_neg hr]
      refine ⟨fun h => ?_, fun h => absurd h hr⟩
      have hp : pmM ru c d (-6) n = true := by
        cases h1 : pmM ru c d (-6) n
        · exact absurd (by rw [← hL]; exact leX_np hok (by rw [hpe, h1]; decide)) h10
        · rfl
      have h1 := rs_st (ru := ru) (c := c) (d := d) (rank := rank) hn n (Nat.le_refl _)
      rw [Nat.sub_self] at h1
      rcases h1 with ⟨e, h2⟩ | ⟨q, -, q2, q3, -, -⟩
      · refine absurd ?_ hr
        rw [least_lm hp]
        refine lmM_le.mpr ⟨hr0, fun r hr' ho => ?_⟩
        obtain ⟨-, k1, k2, k3⟩ := hoM_iff.mp ho
        exact Classical.byContradiction fun h9 => h2 r (Nat.zero_le _) hr' ⟨k1, k2, k3, h9⟩
      · rw [q3] at h; exact absurd h (nI_pos (by omega))
end AL
section WB
variable {ru : Nat → RV} {n : Nat} {c d : Int32}
/-- without a ban the least ranks aren't higher -/
theorem least_mono (hn : n ≤ 25) (hok : ∀ r, r < n → RVok (ru r)) {k : Nat} (hkn : k < n) (hk : (ru k).2.1 = 1) : leastM ru n c d (nI k) (-6) 0 ≤ leastM ru n c d (-6) (-6) 0 := by
  have hne : ∀ r, r < n → (ru r).2.1 ≠ 1 → nI r ≠ nI k := fun r hr h e => h (by have e2 := (nI_eq (by omega) (by omega)).mp e; rw [e2]; exact hk)
  have hpm : pmM ru c d (nI k) n = pmM ru c d (-6) n := bool_eqf (by
    rw [pmM_f, pmM_f]
    exact ⟨fun h r hr _ k0 => h r hr (hne r hr (by rw [k0]; decide)) k0, fun h r hr _ k0 => h r hr (nI_ne6 (by omega)) k0⟩)
  have hG : ∀ l, l < 5 → lsM ru n c d (nI k) (-6) 0 l = lsM ru n c d (-6) (-6) 0 l := fun l hl => ieq_of_le fun t => by
    rw [lsM_le (by decide) hl, lsM_le (by decide) hl]
    exact ⟨fun h => ⟨h.1, h.2.1, fun r hr _ k2 kf kl => h.2.2 r hr (hne r hr (by rw [k2]; decide)) k2 kf kl⟩, fun h => ⟨h.1, h.2.1, fun r hr _ k2 kf kl => h.2.2 r hr (nI_ne6 (by omega)) k2 kf kl⟩⟩
  unfold leastM
  rw [hpm]
  by_cases hp : pmM ru c d (-6) n = true
  · rw [if_pos hp, if_pos hp]
    refine lmM_le.mpr ⟨(lmM_le.mp (ile_rf _)).1, fun r hr ho => ?_⟩
    obtain ⟨-, k1, k2, k3⟩ := hoM_iff.mp ho
    obtain ⟨la, hla, -, e2⟩ := (hok r hr).la
    rw [hG _ (by rw [e2]; exact hla)] at k3
    exact (lmM_le.mp (ile_rf _)).2 r hr (hoM_iff.mpr ⟨nI_ne6 (by omega), k1, k2, k3⟩)
  · rw [if_neg hp, if_neg hp]; exact ile_rf _
theorem tr_mono (hn : n ≤ 25) (hok : ∀ r, r < n → RVok (ru r)) {k : Nat} (hkn : k < n) (hk : (ru k).2.1 = 1) : ∀ i, ∃ a b, trM ru n (nI k) (-6) 0 i = nI a ∧ trM ru n (-6) (-6) 0 i = nI b ∧ b ≤ a ∧ a ≤ 10 * i
  | 0 => ⟨0, 0, rfl, rfl, Nat.le_refl _, Nat.le_refl _⟩
  | i + 1 => by
    obtain ⟨a, b, ea, eb, h1, h2⟩ := tr_mono hn hok hkn hk i
    obtain ⟨x, hx, ex⟩ := leX_in (c := nI (i / 6)) (d := nI (i % 6)) (ok_E (k := k) hok)
    obtain ⟨y, hy, ey⟩ := leX_in (c := nI (i / 6)) (d := nI (i % 6)) hok
    rw [but_eq hn hok hkn] at ex
    rw [now_eq hn hok] at ey
    have h3 := least_mono (c := nI (i / 6)) (d := nI (i % 6)) hn hok hkn hk
    rw [ex, ey] at h3
    have h4 := (nI_leI (by omega) (by omega)).mp h3
    refine ⟨a + (10 - x), b + (10 - y), ?_, ?_, by omega, by omega⟩
    · show trst ru n (nI k) (-6) 0 i (trM ru n (nI k) (-6) 0 i) = _
      unfold trst
      rw [ea, ex, show (10 : Int32) = nI 10 from rfl, pk_sub hx, nI_add]
    · show trst ru n (-6) (-6) 0 i (trM ru n (-6) (-6) 0 i) = _
      unfold trst
      rw [eb, ey, show (10 : Int32) = nI 10 from rfl, pk_sub hy, nI_add]
/-- the class's way to the worst ban -/
def moX (ru : Nat → RV) (n k : Nat) : Int32 := trX (ruE ru k) (n - 1) 5 - trX ru n 5
def wost (ru : Nat → RV) (n : Nat) (k : Nat) (p : Int32 × Int32) : Int32 × Int32 := if (ru k).2.1 = 1 then (if moX ru n k ≤ p.2 then p else (nI k, moX ru n k)) else p
def wbX (ru : Nat → RV) (n : Nat) (i : Nat) : Int32 × Int32 := foldN (wost ru n) (-6, -1) i
theorem wbX_s {i : Nat} : wbX ru n (i + 1) = wost ru n i (wbX ru n i) := rfl
theorem wb_inv (hn : n ≤ 25) (hok : ∀ r, r < n → RVok (ru r)) : ∀ i, i ≤ n → (wbX ru n i).1 = (wbM ru n i).1 ∧ (((wbX ru n i).1 = -6 ∧ (wbX ru n i).2 = -1) ∨ ∃ j q t0 : Nat, j < i ∧ (wbX ru n i).1 = nI j ∧ (wbM ru n i).2 = nI q ∧ trX ru n 5 = nI t0 ∧ t0 ≤ q ∧ q ≤ 300 ∧ (wbX ru n i).2 = nI (q - t0))
  | 0, _ => ⟨rfl, Or.inl ⟨rfl, rfl⟩⟩
  | i + 1, hi => by
    obtain ⟨h1, h2⟩ := wb_inv hn hok i (by omega)
    rw [wbX_s, wbM_s]
    unfold wost wbst
    by_cases hk : (ru i).2.1 = 1
    · rw [if_pos hk, if_pos hk]
      obtain ⟨a, b, ea, eb, hab, ha⟩ := tr_mono hn hok (k := i) (by omega) hk 30
      have e0 : trX ru n 5 = nI b := (tr_eq (now_eq hn hok)).trans eb
      have e1 : moX ru n i = nI (a - b) := by
        unfold moX
        rw [e0, tr_eq (but_eq hn hok (k := i) (by omega)), ea, pk_sub hab]
      rw [e1, ea]
      rcases h2 with ⟨h2, h3⟩ | ⟨j, q, t0, hj, h3, h4, h5, h6, h7, h8⟩
      · rw [h3, if_neg (show ¬ nI (a - b) ≤ -1 from fun h9 => absurd (ile_tr (nI_pos' (by omega)) h9) (by decide)), if_pos (h1.symm.trans h2)]
        exact ⟨rfl, Or.inr ⟨i, a, b, by omega, rfl, rfl, e0, hab, by omega, rfl⟩⟩
      · have et : t0 = b := (nI_eq (by omega) (by omega)).mp (h5.symm.trans e0)
        subst et
        rw [if_neg (show ¬ (wbM ru n i).1 = -6 from by rw [← h1, h3]; exact nI_ne6 (by omega)), h8, h4]
        by_cases hq : a ≤ q
        · rw [if_pos ((nI_leI (by omega) (by omega)).mpr (show a - t0 ≤ q - t0 by omega)), if_pos ((nI_leI (by omega) (by omega)).mpr hq)]
          exact ⟨h1, Or.inr ⟨j, q, t0, by omega, h3, h4, h5, h6, h7, h8⟩⟩
        · rw [if_neg (fun h9 => hq (by have := (nI_leI (by omega) (by omega)).mp h9; omega)), if_neg (fun h9 => hq ((nI_leI (by omega) (by omega)).mp h9))]
          exact ⟨rfl, Or.inr ⟨i, a, t0, by omega, rfl, rfl, e0, hab, by omega, rfl⟩⟩
    · rw [if_neg hk, if_neg hk]
      refine ⟨h1, ?_⟩
      rcases h2 with h2 | ⟨j, q, t0, hj, h3⟩
      · exact Or.inl h2
      · exact Or.inr ⟨j, q, t0, by omega, h3⟩
theorem wb_eq (hn : n ≤ 25) (hok : ∀ r, r < n → RVok (ru r)) : (wbX ru n n).1 = (wbM ru n n).1 := (wb_inv hn hok n (Nat.le_refl _)).1
/-- the class's way to the best waiver -/
def bwXst (ru : Nat → RV) (n : Nat) (sv : Int32) (l : Nat) (p : Int32 × Int32) : Int32 × Int32 := (if trX (ruP ru n (nI l, 2, 5, 6, sv)) (n + 1) 5 < p.2 then p.1 else nI l, mxI (trX (ruP ru n (nI l, 2, 5, 6, sv)) (n + 1) 5) p.2)
def bwX (ru : Nat → RV) (n : Nat) (sv : Int32) (i : Nat) : Int32 × Int32 := foldN (bwXst ru n sv) (-6, -1) i
theorem bwX_s {sv : Int32} {i : Nat} : bwX ru n sv (i + 1) = bwXst ru n sv i (bwX ru n sv i) := rfl
theorem bw_all (hn : n ≤ 24) (hok : ∀ r, r < n → RVok (ru r)) {se : Nat} (h1 : 1 ≤ se) (h2 : se < 10) : ∀ i, i < 5 → bwX ru n (nI se) (i + 1) = bwM ru n (nI se) (i + 1)
  | 0, _ => by
    obtain ⟨q, hq, eq⟩ := trX_in (ok_P (l := 0) (by omega) h1 h2 hok)
    have e2 := tr_eq (more_eq (by omega) hok (l := 0) (by omega) h1 h2)
    rw [bwX_s, bwM_s]
    unfold bwXst bwst
    rw [← e2, eq]
    show (if nI q < -1 then (-6 : Int32) else nI 0, mxI (nI q) (-1)) = if nI q < 0 then ((0 : Int32), (0 : Int32)) else (nI 0, nI q)
    have h3 : ¬ nI q < -1 := by rw [inlt]; exact ile_tr (by decide) (nI_pos' (by omega))
    unfold mxI
    rw [if_neg h3, if_neg h3, if_neg (nI_pos (by omega))]
  | i + 1, hi => by
    have ih := bw_all hn hok h1 h2 i (by omega)
    have e2 := tr_eq (more_eq (by omega) hok (l := i + 1) (by omega) h1 h2)
    rw [bwX_s, bwM_s, ih]
    generalize bwM ru n (nI se) (i + 1) = p
    unfold bwXst bwst mxI
    rw [← e2]
    generalize trX (ruP ru n (nI (i + 1), 2, 5, 6, nI se)) (n + 1) 5 = T
    by_cases h3 : T < p.2
    · rw [if_pos h3, if_pos h3, if_pos h3]
    · rw [if_neg h3, if_neg h3, if_neg h3]
theorem bw_eq (hn : n ≤ 24) (hok : ∀ r, r < n → RVok (ru r)) {se : Nat} (h1 : 1 ≤ se) (h2 : se < 10) : (bwX ru n (nI se) 5).1 = (bwM ru n (nI se) 5).1 := by rw [bw_all hn hok h1 h2 4 (by omega)]
/-! counts -/
theorem beqc (a b : Int32) : (a == b) = (b == a) := by
  by_cases h : a = b
  · rw [h]
  · rw [beq_false_of_ne h, beq_false_of_ne (fun e => h e.symm)]
theorem oddsV_c (v w : RV) : oddsV v w = oddsV w v := by
  unfold oddsV meetsV
  rw [beqc v.2.2.1 w.2.2.1, beqc v.2.2.2.1 w.2.2.2.1]
  generalize decide (v.2.1 = 1) = a1
  generalize decide (w.2.1 = 1) = a2
  generalize (v.2.2.1 == 5) = a3
  generalize (w.2.2.1 == 5) = a4
  generalize (w.2.2.1 == v.2.2.1) = a5
  generalize (v.2.2.2.1 == 6) = a6
  generalize (w.2.2.2.1 == 6) = a7
  generalize (w.2.2.2.1 == v.2.2.2.1) = a8
  cases a1 <;> cases a2 <;> cases a3 <;> cases a4 <;> cases a5 <;> cases a6 <;> cases a7 <;> cases a8 <;> rfl
/-- of how many of the rules something holds -/
def ctX (P : Nat → Bool) (i : Nat) : Int32 := foldN (fun k a => a + b2i (P k)) 0 i
theorem ctX_s {P : Nat → Bool} {i : Nat} : ctX P (i + 1) = ctX P i + b2i (P i) := rfl
theorem ct_odds {r : Nat} : ∀ i, ctX (fun k => oddsV (ru k) (ru r)) i = odM ru n r i
  | 0 => by simp only [ctX, odM, foldN]
  | i + 1 => by rw [ctX_s, odM_s, ct_odds i, oddsV_c]
theorem ct_kind {w : Int32} (h5 : ¬ w = 5) (h4 : ¬ w = 4) : ∀ i, ctX (fun k => decide ((ru k).2.1 = w - 1)) i = smM ru n w i
  | 0 => by simp only [ctX, smM, foldN]
  | i + 1 => by
    rw [ctX_s, smM_s, ct_kind h5 h4 i, if_neg h5, if_neg h4]
    unfold b2i
    by_cases h : (ru i).2.1 = w - 1
    · rw [if_pos (decide_eq_true h), if_pos h]
    · rw [if_neg (by rw [decide_eq_false h]; decide), if_neg h]
theorem ct_idle (hn : n ≤ 25) (hok : ∀ r, r < n → RVok (ru r)) : ∀ i, i ≤ n → ctX (idX ru n) i = smM ru n 4 i
  | 0, _ => by simp only [ctX, smM, foldN]
  | i + 1, hi => by rw [ctX_s, smM_s, ct_idle hn hok i (by omega), if_neg (by decide), if_pos rfl, id_eq hn hok (by omega)]
/-- all the pairs at odds, each twice -/
def aoX (ru : Nat → RV) (n i : Nat) : Int32 := foldN (fun k a => a + ctX (fun j => oddsV (ru j) (ru k)) n) 0 i
theorem aoX_s {i : Nat} : aoX ru n (i + 1) = aoX ru n i + ctX (fun j => oddsV (ru j) (ru i)) n := rfl
theorem ao_eq : ∀ i, aoX ru n i = smM ru n 5 i
  | 0 => by simp only [aoX, smM, foldN]
  | i + 1 => by rw [aoX_s, smM_s, ao_eq i, if_pos rfl, ct_odds (n := n) n]
/-- what a member may do -/
def mdX (ru : Nat → RV) (n : Nat) (craft rank : Int32) (i : Nat) : Int32 := foldN (fun d a => a ||| (if rank < leX ru n craft (nI d) 5 then 0 else (1 : Int32) <<< (nI d &&& 31))) 0 i
theorem mdX_s {craft rank : Int32} {i : Nat} : mdX ru n craft rank (i + 1) = mdX ru n craft rank i ||| (if rank < leX ru n craft (nI i) 5 then 0 else (1 : Int32) <<< (nI i &&& 31)) := rfl
theorem md_eq {craft rank : Int32} (hn : n ≤ 25) (hok : ∀ r, r < n → RVok (ru r)) : ∀ i, mdX ru n craft rank i = mdM ru n craft rank i
  | 0 => by simp only [mdX, mdM, foldN]
  | i + 1 => by rw [mdX_s, mdM_s, md_eq hn hok i, now_eq hn hok]
end WB
