/-! LAW 1: the class's least ranks are the twin's -/
set_option maxRecDepth 100000
theorem ile {a b : Int32} : a ≤ b ↔ a.toInt ≤ b.toInt := Int32.le_iff_toInt_le
theorem ilt {a b : Int32} : a < b ↔ a.toInt < b.toInt := Int32.lt_iff_toInt_lt
theorem ile_rf (a : Int32) : a ≤ a := ile.mpr (Int.le_refl _)
theorem ile_tr {a b c : Int32} (h : a ≤ b) (h2 : b ≤ c) : a ≤ c := ile.mpr (Int.le_trans (ile.mp h) (ile.mp h2))
theorem ieq_as {a b : Int32} (h : a ≤ b) (h2 : b ≤ a) : a = b := Int32.toInt_inj.mp (Int.le_antisymm (ile.mp h) (ile.mp h2))
theorem ieq_of_le {a b : Int32} (h : ∀ t : Int32, a ≤ t ↔ b ≤ t) : a = b := ieq_as ((h b).mpr (ile_rf b)) ((h a).mp (ile_rf a))
theorem inlt {a b : Int32} : ¬ a < b ↔ b ≤ a := by rw [ile, ilt]; omega
theorem inle {a b : Int32} : ¬ a ≤ b ↔ b < a := by rw [ile, ilt]; omega
theorem bool_eqf {a b : Bool} (h : a = false ↔ b = false) : a = b := by
  cases a <;> cases b
  · rfl
  · exact absurd (h.mp rfl) (by decide)
  · exact absurd (h.mpr rfl) (by decide)
  · rfl
theorem mxI_le {x y t : Int32} : mxI x y ≤ t ↔ x ≤ t ∧ y ≤ t := by
  unfold mxI
  by_cases h : x < y
  · rw [if_pos h]; rw [ilt] at h; rw [ile, ile]; omega
  · rw [if_neg h]; rw [ilt] at h; rw [ile, ile]; omega
theorem mx2_le {x y t : Int32} : (if x ≤ y then y else x) ≤ t ↔ y ≤ t ∧ x ≤ t := by
  by_cases h : x ≤ y
  · rw [if_pos h]; rw [ile] at h; rw [ile, ile]; omega
  · rw [if_neg h]; rw [ile] at h; rw [ile, ile]; omega
theorem fold_iff {α : Type} {T : α → Prop} {st : Nat → α → α} {a : α} {C : Nat → Prop} (h : ∀ r x, T (st r x) ↔ T x ∧ C r) : ∀ i, T (foldN st a i) ↔ T a ∧ ∀ r, r < i → C r
  | 0 => ⟨fun h0 => ⟨h0, fun r hr => absurd hr (Nat.not_lt_zero _)⟩, fun h0 => h0.1⟩
  | i + 1 => by
    show T (st i (foldN st a i)) ↔ _
    rw [h, fold_iff h i]
    constructor
    · intro q
      refine ⟨q.1.1, fun r hr => ?_⟩
      rcases Nat.lt_or_ge r i with h9 | h9
      · exact q.1.2 r h9
      · have e : r = i := by omega
        subst e; exact q.2
    · intro q
      exact ⟨⟨q.1, fun r hr => q.2 r (by omega)⟩, q.2 i (by omega)⟩
theorem sgX_le {ru : Nat → RV} {kind layer c d t : Int32} {n : Nat} : sgX ru kind layer c d n ≤ t ↔ 0 ≤ t ∧ ∀ r, r < n → ((ru r).2.1 = kind ∧ (ru r).1 = layer ∧ fitsV (ru r) c d = true) → (ru r).2.2.2.2 ≤ t := by
  unfold sgX
  refine fold_iff (T := fun x => x ≤ t) (C := fun r => ((ru r).2.1 = kind ∧ (ru r).1 = layer ∧ fitsV (ru r) c d = true) → (ru r).2.2.2.2 ≤ t) (fun r x => ?_) n
  show sgst ru kind layer c d r x ≤ t ↔ x ≤ t ∧ _
  unfold sgst
  by_cases h : (ru r).2.1 = kind ∧ (ru r).1 = layer ∧ fitsV (ru r) c d = true
  · rw [if_pos h, mxI_le]; exact ⟨fun q => ⟨q.2, fun _ => q.1⟩, fun q => ⟨q.2 h, q.1⟩⟩
  · rw [if_neg h]; exact ⟨fun q => ⟨q, fun h9 => absurd h9 h⟩, fun q => q.1⟩
theorem wvX_le {ru : Nat → RV} {c d t : Int32} {n i : Nat} : wvX ru n c d i ≤ t ↔ 0 ≤ t ∧ ∀ l, l < i → sgX ru 2 (nI l) c d n ≤ t := by
  unfold wvX
  refine fold_iff (T := fun x => x ≤ t) (C := fun l => sgX ru 2 (nI l) c d n ≤ t) (fun r x => ?_) i
  show mxI (sgX ru 2 (nI r) c d n) x ≤ t ↔ x ≤ t ∧ _
  rw [mxI_le]; exact ⟨fun q => ⟨q.2, q.1⟩, fun q => ⟨q.2, q.1⟩⟩
theorem leX_le {ru : Nat → RV} {c d t : Int32} {n i : Nat} : leX ru n c d i ≤ t ↔ (if pmX ru c d n = true then (0 : Int32) else 10) ≤ t ∧ ∀ l, l < i → ¬ sgX ru 1 (nI l) c d n ≤ wvX ru n c d (l + 1) → sgX ru 1 (nI l) c d n ≤ t := by
  unfold leX
  refine fold_iff (T := fun x => x ≤ t) (C := fun l => ¬ sgX ru 1 (nI l) c d n ≤ wvX ru n c d (l + 1) → sgX ru 1 (nI l) c d n ≤ t) (fun r x => ?_) i
  show lest ru n c d r x ≤ t ↔ x ≤ t ∧ _
  unfold lest
  by_cases h : sgX ru 1 (nI r) c d n ≤ wvX ru n c d (r + 1)
  · rw [if_pos h]; exact ⟨fun q => ⟨q, fun h9 => absurd h h9⟩, fun q => q.1⟩
  · rw [if_neg h, mxI_le]; exact ⟨fun q => ⟨q.2, fun _ => q.1⟩, fun q => ⟨q.2 h, q.1⟩⟩
theorem lmM_le {ru : Nat → RV} {c d but t : Int32} {G : Nat → Int32} {i : Nat} : lmM ru c d but G i ≤ t ↔ 0 ≤ t ∧ ∀ r, r < i → hoM ru c d but G r = true → (ru r).2.2.2.2 ≤ t := by
  unfold lmM
  refine fold_iff (T := fun x => x ≤ t) (C := fun r => hoM ru c d but G r = true → (ru r).2.2.2.2 ≤ t) (fun r x => ?_) i
  show lmst ru c d but G r x ≤ t ↔ x ≤ t ∧ _
  unfold lmst
  by_cases h : hoM ru c d but G r = true
  · rw [if_pos h, mx2_le]; exact ⟨fun q => ⟨q.1, fun _ => q.2⟩, fun q => ⟨q.1, q.2 h⟩⟩
  · rw [if_neg h]; exact ⟨fun q => ⟨q, fun h9 => absurd h9 h⟩, fun q => q.1⟩
theorem hoM_iff {ru : Nat → RV} {c d but : Int32} {G : Nat → Int32} {r : Nat} : hoM ru c d but G r = true ↔ nI r ≠ but ∧ (ru r).2.1 = 1 ∧ fitsV (ru r) c d = true ∧ ¬ (ru r).2.2.2.2 ≤ G (ix (ru r).1) := by
  simp [hoM]
theorem pmX_f {ru : Nat → RV} {c d : Int32} {n : Nat} : pmX ru c d n = false ↔ ∀ r, r < n → (ru r).2.1 = 0 → fitsV (ru r) c d = false := by
  unfold pmX
  refine (fold_iff (T := fun x => x = false) (C := fun r => (ru r).2.1 = 0 → fitsV (ru r) c d = false) (fun r x => ?_) n).trans ⟨fun h => h.2, fun h => ⟨rfl, h⟩⟩
  show pmXst ru c d r x = false ↔ _
  unfold pmXst
  by_cases h : (ru r).2.1 = 0
  · simp [h]
  · simp [h]
theorem pmM_f {ru : Nat → RV} {c d but : Int32} {n : Nat} : pmM ru c d but n = false ↔ ∀ r, r < n → nI r ≠ but → (ru r).2.1 = 0 → fitsV (ru r) c d = false := by
  unfold pmM
  refine (fold_iff (T := fun x => x = false) (C := fun r => nI r ≠ but → (ru r).2.1 = 0 → fitsV (ru r) c d = false) (fun r x => ?_) n).trans ⟨fun h => h.2, fun h => ⟨rfl, h⟩⟩
  show pmStep ru c d but r x = false ↔ _
  unfold pmStep
  by_cases h : (ru r).2.1 = 0 <;> by_cases h2 : nI r = but <;> simp [h, h2]
theorem lsA_v {layer sv : Int32} {g : Nat → Int32} : ∀ i l, lsA layer sv g i l = if l < i then (if nI l = layer then sv else 0) else g l
  | 0, l => by rw [if_neg (Nat.not_lt_zero _)]; rfl
  | i + 1, l => by
    rw [lsA_s]
    by_cases e : l = i
    · subst e; rw [pk_us, if_pos (Nat.lt_succ_self _)]
    · rw [pk_un e, lsA_v i l]
      by_cases h : l < i
      · rw [if_pos h, if_pos (show l < i + 1 by omega)]
      · rw [if_neg h, if_neg (show ¬ l < i + 1 by omega)]
theorem lsB_le {ru : Nat → RV} {c d but t : Int32} {g : Nat → Int32} {l : Nat} : ∀ i, lsB ru c d but g i l ≤ t ↔ g l ≤ t ∧ ∀ r, r < i → (nI r ≠ but → (ru r).2.1 = 2 → fitsV (ru r) c d = true → ix (ru r).1 = l → (ru r).2.2.2.2 ≤ t) := by
  intro i
  unfold lsB
  refine fold_iff (T := fun (x : Nat → Int32) => x l ≤ t) (C := fun r => nI r ≠ but → (ru r).2.1 = 2 → fitsV (ru r) c d = true → ix (ru r).1 = l → (ru r).2.2.2.2 ≤ t) (fun r x => ?_) i
  show lsBst ru c d but r x l ≤ t ↔ x l ≤ t ∧ _
  unfold lsBst
  by_cases h : nI r = but
  · rw [if_pos h]; exact ⟨fun q => ⟨q, fun h9 => absurd h h9⟩, fun q => q.1⟩
  rw [if_neg h]
  by_cases h2 : (ru r).2.1 = 2
  · rw [if_pos h2]
    by_cases h3 : fitsV (ru r) c d = true
    · rw [if_pos h3]
      by_cases h4 : ix (ru r).1 = l
      · rw [h4, pk_us, mx2_le]; exact ⟨fun q => ⟨q.1, fun _ _ _ _ => q.2⟩, fun q => ⟨q.1, q.2 h h2 h3 rfl⟩⟩
      · rw [pk_un (fun e => h4 e.symm)]; exact ⟨fun q => ⟨q, fun _ _ _ h9 => absurd h9 h4⟩, fun q => q.1⟩
    · rw [if_neg h3]; exact ⟨fun q => ⟨q, fun _ _ h9 => absurd h9 h3⟩, fun q => q.1⟩
  · rw [if_neg h2]; exact ⟨fun q => ⟨q, fun _ h9 => absurd h9 h2⟩, fun q => q.1⟩
theorem lsC_le {g : Nat → Int32} {t : Int32} : ∀ i l, lsC g i l ≤ t ↔ g l ≤ t ∧ (l < i → ∀ q, q < l → g q ≤ t)
  | 0, l => ⟨fun h => ⟨h, fun h9 => absurd h9 (Nat.not_lt_zero _)⟩, fun h => h.1⟩
  | i + 1, l => by
    rw [lsC_s]
    unfold lsCst
    by_cases h0 : i = 0
    · rw [if_pos h0, lsC_le i l]; subst h0
      exact ⟨fun q => ⟨q.1, fun h1 k hk => absurd hk (by omega)⟩, fun q => ⟨q.1, fun h1 => absurd h1 (Nat.not_lt_zero _)⟩⟩
    · rw [if_neg h0]
      by_cases e : l = i
      · subst e
        rw [pk_us, mx2_le, lsC_le l l, lsC_le l (l - 1)]
        constructor
        · rintro ⟨⟨a1, -⟩, a2, a3⟩
          refine ⟨a1, fun _ q hq => ?_⟩
          by_cases e2 : q = l - 1
          · subst e2; exact a2
          · exact a3 (by omega) q (by omega)
        · rintro ⟨a1, a2⟩
          exact ⟨⟨a1, fun h9 => absurd h9 (by omega)⟩, a2 (by omega) _ (by omega), fun _ q hq => a2 (by omega) q (by omega)⟩
      · rw [pk_un e, lsC_le i l]
        constructor
        · rintro ⟨a1, a2⟩; exact ⟨a1, fun h9 => a2 (by omega)⟩
        · rintro ⟨a1, a2⟩; exact ⟨a1, fun h9 => a2 (by omega)⟩
theorem lsM_le {ru : Nat → RV} {n : Nat} {c d but layer sv t : Int32} (hsv : 0 ≤ sv) {l : Nat} (hl : l < 5) : lsM ru n c d but layer sv l ≤ t ↔ 0 ≤ t ∧ (∀ q, q ≤ l → nI q = layer → sv ≤ t) ∧ ∀ r, r < n → (nI r ≠ but → (ru r).2.1 = 2 → fitsV (ru r) c d = true → ix (ru r).1 ≤ l → (ru r).2.2.2.2 ≤ t) := by
  unfold lsM
  have hA : ∀ q, q < 5 → lsA layer sv (fun _ => 0) 5 q = if nI q = layer then sv else 0 := fun q hq => by rw [lsA_v, if_pos hq]
  have hB : ∀ q, q < 5 → (lsB ru c d but (lsA layer sv (fun _ => 0) 5) n q ≤ t ↔ (if nI q = layer then sv else 0) ≤ t ∧ ∀ r, r < n → (nI r ≠ but → (ru r).2.1 = 2 → fitsV (ru r) c d = true → ix (ru r).1 = q → (ru r).2.2.2.2 ≤ t)) := fun q hq => by rw [lsB_le, hA q hq]
  have h0t : ∀ q, (if nI q = layer then sv else 0) ≤ t → 0 ≤ t := fun q h => by
    by_cases e : nI q = layer
    · rw [if_pos e] at h; exact ile_tr hsv h
    · rw [if_neg e] at h; exact h
  rw [lsC_le]
  constructor
  · rintro ⟨a1, a2⟩
    have a3 : ∀ q, q ≤ l → lsB ru c d but (lsA layer sv (fun _ => 0) 5) n q ≤ t := fun q hq => by
      by_cases e : q = l
      · subst e; exact a1
      · exact a2 hl q (by omega)
    refine ⟨h0t l ((hB l hl).mp a1).1, fun q hq e => ?_, fun r hr n1 n2 n3 n4 => ?_⟩
    · have := ((hB q (by omega)).mp (a3 q hq)).1; rw [if_pos e] at this; exact this
    · exact ((hB _ (by omega)).mp (a3 _ n4)).2 r hr n1 n2 n3 rfl
  · rintro ⟨b0, b1, b2⟩
    have b3 : ∀ q, q ≤ l → lsB ru c d but (lsA layer sv (fun _ => 0) 5) n q ≤ t := fun q hq => (hB q (by omega)).mpr ⟨by
      by_cases e : nI q = layer
      · rw [if_pos e]; exact b1 q hq e
      · rw [if_neg e]; exact b0, fun r hr n1 n2 n3 n4 => b2 r hr n1 n2 n3 (by omega)⟩
    exact ⟨b3 l (Nat.le_refl _), fun _ q hq => b3 q (by omega)⟩
/-- what holds of all of the twin's rules but one, and of the further waiver -/
def TwC (ru : Nat → RV) (n : Nat) (but layer sv : Int32) (Φ : RV → Prop) : Prop := (∀ r, r < n → nI r ≠ but → Φ (ru r)) ∧ ∀ l, l < 5 → nI l = layer → Φ (nI l, 2, 5, 6, sv)
def Sam (rv : Nat → RV) (m : Nat) (ru : Nat → RV) (n : Nat) (but layer sv : Int32) : Prop := ∀ Φ : RV → Prop, (∀ r, r < m → Φ (rv r)) ↔ TwC ru n but layer sv Φ
def RVok (v : RV) : Prop := ∃ la ki cr de se : Nat, v = (nI la, nI ki, nI cr, nI de, nI se) ∧ la < 5 ∧ ki < 3 ∧ cr < 6 ∧ de < 7 ∧ 1 ≤ se ∧ se < 10 ∧ (ki = 0 → la = 0)
theorem RVok.la {v : RV} (h : RVok v) : ∃ la, la < 5 ∧ v.1 = nI la ∧ ix v.1 = la := by
  obtain ⟨la, ki, cr, de, se, e, h1, h2, h3, h4, h5, h6, h7⟩ := h
  have e1 : v.1 = nI la := by rw [e]
  exact ⟨la, h1, e1, by rw [e1]; exact ix_nI (by omega)⟩
theorem RVok.se {v : RV} (h : RVok v) : ∃ se, 1 ≤ se ∧ se < 10 ∧ v.2.2.2.2 = nI se := by
  obtain ⟨la, ki, cr, de, se, e, h1, h2, h3, h4, h5, h6, h7⟩ := h
  exact ⟨se, h5, h6, by rw [e]⟩
section LEAST
variable {rv ru : Nat → RV} {m n : Nat} {c d but layer sv : Int32}
theorem wv_ls (hS : Sam rv m ru n but layer sv) (hok : ∀ r, r < m → RVok (rv r)) (hsv : 0 ≤ sv) {l : Nat} (hl : l < 5) : wvX rv m c d (l + 1) = lsM ru n c d but layer sv l := by
  refine ieq_of_le fun t => ?_
  rw [wvX_le, lsM_le hsv hl]
  have h1 := hS (fun v => v.2.1 = 2 → fitsV v c d = true → ix v.1 ≤ l → v.2.2.2.2 ≤ t)
  constructor
  · rintro ⟨h0, h2⟩
    have h3 := h1.mp (fun r hr k2 kf kl => by
      obtain ⟨la, hla, e1, e2⟩ := (hok r hr).la
      exact (sgX_le.mp (h2 la (by omega))).2 r hr ⟨k2, e1, kf⟩)
    exact ⟨h0, fun q hq eq => h3.2 q (by omega) eq rfl (by simp [fitsV]) (by show ix (nI q) ≤ l; rw [ix_nI (by omega)]; exact hq), h3.1⟩
  · rintro ⟨h0, h2, h3⟩
    have h4 := h1.mpr ⟨h3, fun q hq eq _ _ hx => h2 q (by rw [show ix (nI q) = q from ix_nI (by omega)] at hx; exact hx) eq⟩
    exact ⟨h0, fun q hq => sgX_le.mpr ⟨h0, fun r hr k => h4 r hr k.1 k.2.2 (by rw [k.2.1, ix_nI (by omega)]; omega)⟩⟩
theorem pm_eq (hS : Sam rv m ru n but layer sv) : pmX rv c d m = pmM ru c d but n := by
  refine bool_eqf ?_
  rw [pmX_f, pmM_f]
  have h1 := hS (fun v => v.2.1 = 0 → fitsV v c d = false)
  exact ⟨fun q => (h1.mp q).1, fun q => h1.mpr ⟨q, fun l _ _ h9 => absurd h9 (by show ¬ (2 : Int32) = 0; decide)⟩⟩
theorem sg_lt10 (hok : ∀ r, r < m → RVok (rv r)) {kind l : Int32} : sgX rv kind l c d m ≤ 9 := sgX_le.mpr ⟨by decide, fun r hr _ => by
  obtain ⟨se, h1, h2, e⟩ := (hok r hr).se
  rw [e]; exact (nI_leI (b := 9) (by omega) (by omega)).mpr (by omega)⟩
theorem leX_np (hok : ∀ r, r < m → RVok (rv r)) (hp : ¬ pmX rv c d m = true) : leX rv m c d 5 = 10 := ieq_of_le fun t => by
  rw [leX_le, if_neg hp]
  exact ⟨fun q => q.1, fun q => ⟨q, fun l _ _ => ile_tr (sg_lt10 hok) (ile_tr (by decide) q)⟩⟩
theorem least_eq (hS : Sam rv m ru n but layer sv) (hok : ∀ r, r < m → RVok (rv r)) (hsv : 0 ≤ sv) : leX rv m c d 5 = leastM ru n c d but layer sv := by
  unfold leastM
  rw [← pm_eq hS]
  by_cases hp : pmX rv c d m = true
  · rw [if_pos hp]
    refine ieq_of_le fun t => ?_
    rw [leX_le, if_pos hp, lmM_le]
    have hG : ∀ l, l < 5 → wvX rv m c d (l + 1) = lsM ru n c d but layer sv l := fun l hl => wv_ls hS hok hsv hl
    have h1 := hS (fun v => v.2.1 = 1 → fitsV v c d = true → ¬ v.2.2.2.2 ≤ lsM ru n c d but layer sv (ix v.1) → v.2.2.2.2 ≤ t)
    constructor
    · rintro ⟨h0, h2⟩
      have h3 := h1.mp (fun r hr k1 kf kg => by
        obtain ⟨la, hla, e1, e2⟩ := (hok r hr).la
        have hs := (sgX_le.mp (ile_rf (sgX rv 1 (nI la) c d m))).2 r hr ⟨k1, e1, kf⟩
        rw [e2, ← hG la hla] at kg
        exact ile_tr hs (h2 la hla (fun h9 => kg (ile_tr hs h9))))
      exact ⟨h0, fun r hr ho => by
        obtain ⟨hb, k1, kf, kg⟩ := hoM_iff.mp ho
        exact h3.1 r hr hb k1 kf kg⟩
    · rintro ⟨h0, h2⟩
      have h3 := h1.mpr ⟨fun r hr hb k1 kf kg => h2 r hr (hoM_iff.mpr ⟨hb, k1, kf, kg⟩), fun l _ _ h9 => absurd h9 (by show ¬ (2 : Int32) = 1; decide)⟩
      refine ⟨h0, fun l hl hn => ?_⟩
      rw [hG l hl] at hn
      have h4 : sgX rv 1 (nI l) c d m ≤ mxI t (lsM ru n c d but layer sv l) := sgX_le.mpr ⟨ile_tr h0 (mxI_le.mp (ile_rf _)).1, fun r hr k => by
        by_cases h5 : (rv r).2.2.2.2 ≤ lsM ru n c d but layer sv l
        · exact ile_tr h5 (mxI_le.mp (ile_rf _)).2
        · exact ile_tr (h3 r hr k.1 k.2.2 (by rw [k.2.1, ix_nI (by omega)]; exact h5)) (mxI_le.mp (ile_rf _)).1⟩
      unfold mxI at h4
      by_cases h5 : t < lsM ru n c d but layer sv l
      · rw [if_pos h5] at h4; exact absurd h4 hn
      · rw [if_neg h5] at h4; exact h4
  · rw [if_neg hp]; exact leX_np hok hp
theorem leX_in (hok : ∀ r, r < m → RVok (rv r)) : ∃ q, q ≤ 10 ∧ leX rv m c d 5 = nI q := by
  have h1 : leX rv m c d 5 ≤ 10 := leX_le.mpr ⟨by split <;> decide, fun l _ _ => ile_tr (sg_lt10 hok) (by decide)⟩
  have h2 : 0 ≤ leX rv m c d 5 := by
    have h3 := (leX_le.mp (ile_rf (leX rv m c d 5))).1
    refine ile_tr ?_ h3
    split <;> decide
  exact nat_of (b := 10) (by have := ile.mp h2; exact this) (by have := ile.mp h1; exact this) (by decide)
theorem leX_p9 (hok : ∀ r, r < m → RVok (rv r)) (hp : pmX rv c d m = true) : leX rv m c d 5 ≤ 9 := leX_le.mpr ⟨by rw [if_pos hp]; decide, fun l _ _ => sg_lt10 hok⟩
end LEAST
/-! which rules are there -/
theorem Sam.now {ru : Nat → RV} {n : Nat} {sv : Int32} (hn : n ≤ 100) : Sam ru n ru n (-6) (-6) sv := fun Φ =>
  ⟨fun h => ⟨fun r hr _ => h r hr, fun l hl e => absurd e (nI_ne6 (by omega))⟩, fun h r hr => h.1 r hr (nI_ne6 (by omega))⟩
theorem Sam.but {ru : Nat → RV} {n k : Nat} {sv : Int32} (hn : n ≤ 100) (hk : k < n) : Sam (ruE ru k) (n - 1) ru n (nI k) (-6) sv := fun Φ => by
  constructor
  · intro h
    refine ⟨fun r hr hb => ?_, fun l hl e => absurd e (nI_ne6 (by omega))⟩
    have hne : r ≠ k := fun e => hb (by rw [e])
    rcases Nat.lt_or_ge r k with h1 | h1
    · have := h r (by omega); unfold ruE at this; rw [if_pos h1] at this; exact this
    · have := h (r - 1) (by omega); unfold ruE at this; rw [if_neg (by omega), show r - 1 + 1 = r by omega] at this; exact this
  · intro h r hr
    unfold ruE
    by_cases h1 : r < k
    · rw [if_pos h1]; exact h.1 r (by omega) (fun e => by have := (nI_eq (by omega) (by omega)).mp e; omega)
    · rw [if_neg h1]; exact h.1 (r + 1) (by omega) (fun e => by have := (nI_eq (by omega) (by omega)).mp e; omega)
/-- the rules and one more -/
def ruP (ru : Nat → RV) (n : Nat) (v : RV) : Nat → RV := fun i => if i = n then v else ru i
theorem Sam.more {ru : Nat → RV} {n l : Nat} {sv : Int32} (hn : n ≤ 100) (hl : l < 5) : Sam (ruP ru n (nI l, 2, 5, 6, sv)) (n + 1) ru n (-6) (nI l) sv := fun Φ => by
  constructor
  · intro h
    refine ⟨fun r hr _ => ?_, fun q hq e => ?_⟩
    · have := h r (by omega); unfold ruP at this; rw [if_neg (by omega)] at this; exact this
    · have e2 := (nI_eq (by omega) (by omega)).mp e
      subst e2
      have := h n (by omega); unfold ruP at this; rw [if_pos rfl] at this; exact this
  · intro h r hr
    unfold ruP
    by_cases h1 : r = n
    · rw [if_pos h1]; exact h.2 l hl rfl
    · rw [if_neg h1]; exact h.1 r (by omega) (nI_ne6 (by omega))
theorem ok_E {ru : Nat → RV} {n k : Nat} (hok : ∀ r, r < n → RVok (ru r)) : ∀ r, r < n - 1 → RVok (ruE ru k r) := fun r hr => by
  unfold ruE
  split
  · exact hok _ (by omega)
  · exact hok _ (by omega)
theorem ok_P {ru : Nat → RV} {n l se : Nat} (hl : l < 5) (h1 : 1 ≤ se) (h2 : se < 10) (hok : ∀ r, r < n → RVok (ru r)) : ∀ r, r < n + 1 → RVok (ruP ru n (nI l, 2, 5, 6, nI se) r) := fun r hr => by
  unfold ruP
  split
  · exact ⟨l, 2, 5, 6, se, rfl, hl, by omega, by omega, by omega, h1, h2, fun h9 => by omega⟩
  · exact hok _ (by omega)
/-! triples, idle rules -/
section TRI
variable {rv ru : Nat → RV} {m n : Nat} {but layer sv : Int32}
theorem tr_row (h : ∀ c d : Int32, leX rv m c d 5 = leastM ru n c d but layer sv) (i : Nat) : ∀ j, j ≤ 6 → trM ru n but layer sv (6 * i + j) = trXr rv m i (trM ru n but layer sv (6 * i)) j
  | 0, _ => by rw [trXr_0, Nat.add_zero]
  | j + 1, hj => by
    rw [trXr_s, ← tr_row h i j (by omega)]
    show trst ru n but layer sv (6 * i + j) (trM ru n but layer sv (6 * i + j)) = _
    unfold trst
    rw [show (6 * i + j) / 6 = i by omega, show (6 * i + j) % 6 = j by omega, h]
theorem tr_all (h : ∀ c d : Int32, leX rv m c d 5 = leastM ru n c d but layer sv) : ∀ i, trM ru n but layer sv (6 * i) = trX rv m i
  | 0 => by simp only [trM, trX, foldN, Nat.mul_zero]
  | i + 1 => by rw [trX_s, ← tr_all h i, ← tr_row h i 6 (Nat.le_refl _)]; rfl
theorem tr_eq (h : ∀ c d : Int32, leX rv m c d 5 = leastM ru n c d but layer sv) : trX rv m 5 = trM ru n but layer sv 30 := (tr_all h 5).symm
theorem sa_row {rv2 : Nat → RV} {m2 : Nat} {r : Int32} (h : ∀ c d : Int32, leX rv m c d 5 = leastM ru n c d (-6) (-6) 0) (h2 : ∀ c d : Int32, leX rv2 m2 c d 5 = leastM ru n c d r (-6) 0) (i : Nat) : ∀ j, j ≤ 6 → idM ru n r (6 * i + j) = saXr rv m rv2 m2 i (idM ru n r (6 * i)) j
  | 0, _ => by rw [saXr_0, Nat.add_zero]
  | j + 1, hj => by
    rw [saXr_s, ← sa_row h h2 i j (by omega)]
    show idst ru n r (6 * i + j) (idM ru n r (6 * i + j)) = _
    unfold idst
    rw [show (6 * i + j) / 6 = i by omega, show (6 * i + j) % 6 = j by omega, h, h2]
theorem sa_all {rv2 : Nat → RV} {m2 : Nat} {r : Int32} (h : ∀ c d : Int32, leX rv m c d 5 = leastM ru n c d (-6) (-6) 0) (h2 : ∀ c d : Int32, leX rv2 m2 c d 5 = leastM ru n c d r (-6) 0) : ∀ i, idM ru n r (6 * i) = saX rv m rv2 m2 i
  | 0 => by simp only [idM, saX, foldN, Nat.mul_zero]
  | i + 1 => by rw [saX_s, ← sa_all h h2 i, ← sa_row h h2 i 6 (Nat.le_refl _)]; rfl
end TRI
section NOW
variable {ru : Nat → RV} {n : Nat}
theorem now_eq (hn : n ≤ 25) (hok : ∀ r, r < n → RVok (ru r)) : ∀ c d : Int32, leX ru n c d 5 = leastM ru n c d (-6) (-6) 0 := fun c d => least_eq (Sam.now (by omega)) hok (by decide)
theorem but_eq (hn : n ≤ 25) (hok : ∀ r, r < n → RVok (ru r)) {k : Nat} (hk : k < n) : ∀ c d : Int32, leX (ruE ru k) (n - 1) c d 5 = leastM ru n c d (nI k) (-6) 0 := fun c d => least_eq (Sam.but (by omega) hk) (ok_E hok) (by decide)
theorem more_eq (hn : n ≤ 25) (hok : ∀ r, r < n → RVok (ru r)) {l se : Nat} (hl : l < 5) (h1 : 1 ≤ se) (h2 : se < 10) : ∀ c d : Int32, leX (ruP ru n (nI l, 2, 5, 6, nI se)) (n + 1) c d 5 = leastM ru n c d (-6) (nI l) (nI se) := fun c d => least_eq (Sam.more (by omega) hl) (ok_P hl h1 h2 hok) (nI_pos' (by omega))
theorem id_eq (hn : n ≤ 25) (hok : ∀ r, r < n → RVok (ru r)) {k : Nat} (hk : k < n) : idX ru n k = idM ru n (nI k) 30 := (sa_all (now_eq hn hok) (but_eq hn hok hk) 5).symm
theorem fiG_eq (hn : n ≤ 25) (hok : ∀ r, r < n → RVok (ru r)) : ∀ k i, i + k ≤ n → fiG (idX ru n) k i = fiF ru n k i
  | 0, _, _ => rfl
  | k + 1, i, h => by
    show (if idX ru n i = true then nI i else fiG (idX ru n) k (i + 1)) = (if idM ru n (nI i) 30 = true then nI i else fiF ru n k (i + 1))
    rw [id_eq hn hok (by omega), fiG_eq hn hok k (i + 1) (by omega)]
theorem fi_eq (hn : n ≤ 25) (hok : ∀ r, r < n → RVok (ru r)) : fiX ru n = fiM ru n := fiG_eq hn hok n 0 (by omega)
/-- triples are numbers up to 300 -/
theorem trX_in {rv : Nat → RV} {m : Nat} (hok : ∀ r, r < m → RVok (rv r)) : ∃ q, q ≤ 300 ∧ trX rv m 5 = nI q := by
  have hr : ∀ (i j : Nat) (a : Nat), ∃ q, q ≤ a + 10 * j ∧ trXr rv m i (nI a) j = nI q := by
    intro i j a
    induction j with
    | zero => exact ⟨a, by omega, trXr_0⟩
    | succ j ih =>
      obtain ⟨q, h1, h2⟩ := ih
      obtain ⟨x, h3, h4⟩ := leX_in (c := nI i) (d := nI j) hok
      refine ⟨q + (10 - x), by omega, ?_⟩
      rw [trXr_s, h2, h4, show (10 : Int32) = nI 10 from rfl, pk_sub h3, nI_add]
  have hA : ∀ i, ∃ q, q ≤ 60 * i ∧ trX rv m i = nI q := by
    intro i
    induction i with
    | zero => exact ⟨0, by omega, by simp only [trX, foldN]; rfl⟩
    | succ i ih =>
      obtain ⟨q, h1, h2⟩ := ih
      obtain ⟨x, h3, h4⟩ := hr i 6 q
      exact ⟨x, by omega, by rw [trX_s, h2, h4]⟩
  exact hA 5
end NOW
