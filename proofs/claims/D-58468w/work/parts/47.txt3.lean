/-! TEXTS 3: a rule is read as the twin reads it -/
set_option maxRecDepth 100000
theorem dig_all : ∀ c : Fin 128, inR (nI c.val - 48) 0 4 = inR (nI c.val) 48 52 ∧ inR (nI c.val - 48) 0 5 = inR (nI c.val) 48 53 ∧ inR (nI c.val - 48) 1 9 = inR (nI c.val) 49 57 ∧ decide (nI c.val - 48 = 0) = decide (nI c.val = 48) ∧ (kfM (nI c.val) = -6 → kdX (nI c.val) ≤ 0 ∧ ¬ kdX (nI c.val) = 0 ∧ ¬ nI c.val = 112) ∧ (¬ kfM (nI c.val) = -6 → kdX (nI c.val) = kfM (nI c.val)) ∧ (kfM (nI c.val) = 0 ↔ nI c.val = 112) ∧ (¬ kfM (nI c.val) = -6 → ¬ kfM (nI c.val) = 0 → ¬ kfM (nI c.val) ≤ 0) := by decide +kernel
section RR
variable {x : Nat → Int32} {p : Nat}
theorem rr_ok (hx : ∀ p, ∃ ch : Nat, x p = nI ch ∧ ch < 128) : (rgN x p < whN x p → (rrX x p).1 = p + rgN x p ∧ (rrX x p).2.1 = true) ∧ (¬ rgN x p < whN x p → rrX x p = (p + whN x p, false, ruT x p)) := by
  obtain ⟨c0, e0, l0⟩ := hx p
  obtain ⟨c1, e1, l1⟩ := hx (p + 1)
  obtain ⟨c2, e2, l2⟩ := hx (p + 2)
  obtain ⟨c3, e3, l3⟩ := hx (p + 3)
  obtain ⟨c4, e4, l4⟩ := hx (p + 4)
  obtain ⟨a0, -, -, d0, -, -, -, -⟩ := dig_all ⟨c0, l0⟩
  obtain ⟨-, -, -, -, k1, k2, k3, k4⟩ := dig_all ⟨c1, l1⟩
  obtain ⟨a2, -, -, -, -, -, -, -⟩ := dig_all ⟨c2, l2⟩
  obtain ⟨-, a3, -, -, -, -, -, -⟩ := dig_all ⟨c3, l3⟩
  obtain ⟨-, -, a4, -, -, -, -, -⟩ := dig_all ⟨c4, l4⟩
  simp only at a0 d0 k1 k2 k3 k4 a2 a3 a4
  rw [← e0] at a0 d0
  rw [← e1] at k1 k2 k3 k4
  rw [← e2] at a2
  rw [← e3] at a3
  rw [← e4] at a4
  have v5 : nI 4 + 1 = (5 : Int32) := by decide
  have v6 : nI 5 + 1 = (6 : Int32) := by decide
  have z4 : (0 : Int32) = 0 := rfl
  have n4 : nI 4 = (4 : Int32) := rfl
  have n5 : nI 5 = (5 : Int32) := rfl
  -- the end, from the third sign on
  have tail : ∀ (K : Int32), kdX (x (p + 1)) = K → kfM (x (p + 1)) = K → acW false (inR (x p - 48) 0 4) = false → acP false p (inR (x p - 48) 0 4) = p + 1 → acW false (kcX K (x p - 48)) = false → acP false (p + 1) (kcX K (x p - 48)) = p + 2 → rgN x p = rg2 x p → (whN x p = if K = 0 then 4 else 5) →
      (rgN x p < whN x p → (rrX x p).1 = p + rgN x p ∧ (rrX x p).2.1 = true) ∧ (¬ rgN x p < whN x p → rrX x p = (p + whN x p, false, ruT x p)) := by
    intro K hK hK2 w1 p1 w2 p2 hr hw
    rw [hr]
    have hR : rrX x p = (let b3 := dsC (x (p + 2)) 4
      let p3 := acP false (p + 2) b3
      let w3 := acW false b3
      let b4 := dsC (x p3) 5
      let p4 := acP w3 p3 b4
      let w4 := acW w3 b4
      if w4 = true then (p4, true, (x p - 48, K, dsV (x (p + 2)) 4, dsV (x p3) 5, 1))
      else if K = 0 then (p4, false, (x p - 48, K, dsV (x (p + 2)) 4, dsV (x p3) 5, 1))
      else (acP w4 p4 (inR (x p4 - 48) 1 9), acW w4 (inR (x p4 - 48) 1 9), (x p - 48, K, dsV (x (p + 2)) 4, dsV (x p3) 5, x p4 - 48))) := by
      unfold rrX
      simp only [w1, p1, hK, w2, p2]
    have b3 : dsC (x (p + 2)) 4 = (decide (x (p + 2) = 42) || inR (x (p + 2)) 48 52) := by
      unfold dsC dsV
      by_cases h : x (p + 2) = 42
      · simp [h]
      · rw [if_neg h, n4, a2]
    have b4 : dsC (x (p + 3)) 5 = (decide (x (p + 3) = 42) || inR (x (p + 3)) 48 53) := by
      unfold dsC dsV
      by_cases h : x (p + 3) = 42
      · simp [h]
      · rw [if_neg h, n5, a3]
    have t2 : dsV (x (p + 2)) 4 = (if x (p + 2) = 42 then 5 else x (p + 2) - 48) := by unfold dsV; rw [v5]
    have t3 : dsV (x (p + 3)) 5 = (if x (p + 3) = 42 then 6 else x (p + 3) - 48) := by unfold dsV; rw [v6]
    have g2 : rg2 x p = if (decide (x (p + 2) = 42) || inR (x (p + 2)) 48 52) = true then rg3 x p else 2 := by
      unfold rg2
      by_cases h : x (p + 2) = 42
      · simp [h]
      · simp [h]
    have g3 : rg3 x p = if (decide (x (p + 3) = 42) || inR (x (p + 3)) 48 53) = true then rg4 x p else 3 := by
      unfold rg3
      by_cases h : x (p + 3) = 42
      · simp [h]
      · simp [h]
    have g4 : rg4 x p = if K = 0 then 4 else if inR (x (p + 4)) 49 57 = true then 5 else 4 := by unfold rg4; rw [hK2]
    have ht : ruT x p = (x p - 48, K, dsV (x (p + 2)) 4, dsV (x (p + 3)) 5, if K = 0 then 1 else x (p + 4) - 48) := by unfold ruT; rw [hK2, t2, t3]
    rw [hR, b3, g2, hw, ht]
    generalize hb3 : (decide (x (p + 2) = 42) || inR (x (p + 2)) 48 52) = B3
    cases B3
    · by_cases h0 : K = 0 <;> simp [acP, acW, h0]
    · simp only [acP, acW, Bool.not_true, Bool.or_false, Bool.false_eq_true, if_false, if_true, if_true_left]
      rw [b4, g3]
      generalize hb4 : (decide (x (p + 3) = 42) || inR (x (p + 3)) 48 53) = B4
      cases B4
      · by_cases h0 : K = 0 <;> simp [h0]
      · rw [g4]
        by_cases h0 : K = 0
        · simp [h0]
        · simp only [h0, if_false, Bool.not_true, Bool.or_false, Bool.false_eq_true, if_true]
          rw [show p + 2 + 1 + 1 = p + 4 by omega, a4]
          generalize inR (x (p + 4)) 49 57 = B5
          cases B5 <;> simp
  by_cases h1 : inR (x p) 48 52 = true
  · by_cases hk : kfM (x (p + 1)) = -6
    · obtain ⟨q1, q2, q3⟩ := k1 hk
      have hr : rgN x p = 1 := by unfold rgN; rw [if_pos h1, if_pos hk]
      have hw : whN x p = 5 := by unfold whN; rw [if_neg q3]
      have hc : kcX (kdX (x (p + 1))) (x p - 48) = false := by unfold kcX; rw [decide_eq_true q1, decide_eq_false q2]; rfl
      rw [hr, hw]
      refine ⟨fun _ => ?_, fun h => absurd (by omega) h⟩
      unfold rrX
      simp [a0, h1, acP, acW, hc]
    · have hK := k2 hk
      by_cases hz : kfM (x (p + 1)) = 0
      · have h112 := k3.mp hz
        by_cases h48 : x p = 48
        · have hc : kcX 0 (x p - 48) = true := by unfold kcX; rw [d0, decide_eq_true h48]; rfl
          refine tail 0 (hK.trans hz) hz (by rw [a0, h1]; rfl) (by rw [a0, h1]; rfl) (by rw [hc]; rfl) (by rw [hc]; rfl) ?_ (by unfold whN; rw [if_pos h112, if_pos rfl])
          unfold rgN; rw [if_pos h1, if_neg hk, if_pos hz, if_pos h48]
        · have hr : rgN x p = 1 := by unfold rgN; rw [if_pos h1, if_neg hk, if_pos hz, if_neg h48]
          have hw : whN x p = 4 := by unfold whN; rw [if_pos h112]
          have hc : kcX (kdX (x (p + 1))) (x p - 48) = false := by rw [hK, hz]; unfold kcX; rw [d0, decide_eq_false h48]; rfl
          rw [hr, hw]
          refine ⟨fun _ => ?_, fun h => absurd (by omega) h⟩
          unfold rrX
          simp [a0, h1, acP, acW, hc]
      · have hc : kcX (kfM (x (p + 1))) (x p - 48) = true := by unfold kcX; rw [decide_eq_false (k4 hk hz)]; rfl
        refine tail _ hK rfl (by rw [a0, h1]; rfl) (by rw [a0, h1]; rfl) (by rw [hc]; rfl) (by rw [hc]; rfl) ?_ (by unfold whN; rw [if_neg (fun h => hz (k3.mpr h)), if_neg hz])
        unfold rgN; rw [if_pos h1, if_neg hk, if_neg hz]
  · have hr : rgN x p = 0 := by unfold rgN; rw [if_neg h1]
    have hw := (whN_in x p).1
    rw [hr]
    refine ⟨fun _ => ?_, fun h => absurd (by omega) h⟩
    have h1' : inR (x p) 48 52 = false := by simpa using h1
    unfold rrX
    simp [a0, h1', acP, acW]
end RR
/-! the whole text -/
def PS (x : Nat → Int32) (ln : Nat) : List RV := psL x ln (ln + 1) 0
def WR (x : Nat → Int32) (ln : Nat) : Int32 := (wrI x ln (ln + 1) 0 0).1
def RI (x : Nat → Int32) (ln p : Nat) (w : Bool) (m : Nat) : Prop := (w = true → WR x ln = nI p) ∧ (w = false → 5 * m ≤ p + 1 ∧ m ≤ (PS x ln).length ∧ ∃ ps td kk : Nat, p = ps + whN x ps ∧ ¬ rgN x ps < whN x ps ∧ ps ≤ ln ∧ wrI x ln (ln + 1) 0 0 = wrI x ln (ln + 1 - ps) ps td ∧ ln ≤ kk + p ∧ psL x ln kk (p + 1) = (PS x ln).drop m)
section RIS
variable {pd : Nat → Int32} {ln p m : Nat}
theorem nx_c (hpd : ∀ i, i < ln → ∃ ch : Nat, pd i = nI ch ∧ 33 ≤ ch ∧ ch < 127) : ∀ p, ∃ ch : Nat, nxM pd ln p = nI ch ∧ ch < 128 := fun p => by
  obtain ⟨ch, h1, h2, -⟩ := nx_ch (p := p) hpd
  exact ⟨ch, h1, by omega⟩
theorem RI_init (hpd : ∀ i, i < ln → ∃ ch : Nat, pd i = nI ch ∧ 33 ≤ ch ∧ ch < 127) : RI (nxM pd ln) ln (rrX (nxM pd ln) 0).1 (rrX (nxM pd ln) 0).2.1 1 ∧ ((rrX (nxM pd ln) 0).2.1 = false → (PS (nxM pd ln) ln)[0]? = some (rrX (nxM pd ln) 0).2.2) ∧ (rrX (nxM pd ln) 0).1 ≤ 5 := by
  have h := rr_ok (p := 0) (nx_c hpd)
  have hs := wrI_s (x := nxM pd ln) (ln := ln) (p := 0) (td := 0) (Nat.zero_le _)
  have hr5 := rgN_le (nxM pd ln) 0
  have hw5 := whN_in (nxM pd ln) 0
  by_cases hc : rgN (nxM pd ln) 0 < whN (nxM pd ln) 0
  · obtain ⟨h1, h2⟩ := h.1 hc
    rw [h1, h2]
    refine ⟨⟨fun _ => ?_, (fun h => by cases h)⟩, (fun h => by cases h), by omega⟩
    unfold WR
    rw [if_pos hc, Nat.sub_zero] at hs
    rw [hs]
  · rw [h.2 hc]
    have hp := nx_pos hc
    have hP : PS (nxM pd ln) ln = ruT (nxM pd ln) 0 :: psL (nxM pd ln) ln ln (0 + whN (nxM pd ln) 0 + 1) := by unfold PS; rw [psL_s, if_pos hp]
    refine ⟨⟨(fun h => by cases h), fun _ => ⟨by show 5 * 1 ≤ 0 + whN (nxM pd ln) 0 + 1; omega, by rw [hP]; simp, 0, 0, ln, rfl, hc, Nat.zero_le _, rfl, by show ln ≤ ln + (0 + _); omega, by rw [hP]; rfl⟩⟩, fun _ => by rw [hP]; rfl, by show 0 + _ ≤ 5; omega⟩
theorem RI_no (h : RI (nxM pd ln) ln p false m) (hp : p < ln) (hx : ¬ nxM pd ln p = 59) : RI (nxM pd ln) ln p true m := by
  obtain ⟨-, -, ps, td, kk, e1, e2, e3, e4, -⟩ := h.2 rfl
  refine ⟨fun _ => ?_, (fun h => by cases h)⟩
  unfold WR
  rw [e4, wrI_s e3, if_neg e2, rg_wh e2, ← e1, if_neg (by omega), if_neg hx]
theorem RI_step (hpd : ∀ i, i < ln → ∃ ch : Nat, pd i = nI ch ∧ 33 ≤ ch ∧ ch < 127) (h : RI (nxM pd ln) ln p false m) (hp : p < ln) (hx : nxM pd ln p = 59) : RI (nxM pd ln) ln (rrX (nxM pd ln) (p + 1)).1 (rrX (nxM pd ln) (p + 1)).2.1 (m + 1) ∧ ((rrX (nxM pd ln) (p + 1)).2.1 = false → (PS (nxM pd ln) ln)[m]? = some (rrX (nxM pd ln) (p + 1)).2.2) ∧ (rrX (nxM pd ln) (p + 1)).1 ≤ p + 6 ∧ p + 1 ≤ (rrX (nxM pd ln) (p + 1)).1 := by
  obtain ⟨h5, hm, ps, td, kk, e1, e2, e3, e4, e5, e6⟩ := h.2 rfl
  have hr := rr_ok (p := p + 1) (nx_c hpd)
  have hr5 := rgN_le (nxM pd ln) (p + 1)
  have hw5 := whN_in (nxM pd ln) (p + 1)
  have hw0 := whN_in (nxM pd ln) ps
  have e7 : wrI (nxM pd ln) ln (ln + 1) 0 0 = wrI (nxM pd ln) ln (ln + 1 - (p + 1)) (p + 1) (td + 1) := by
    rw [e4, wrI_s e3, if_neg e2, rg_wh e2, ← e1, if_neg (by omega), if_pos hx]
    exact wrI_big _ _ _ _ (by omega) (Nat.le_refl _) (by omega)
  have hs := wrI_s (x := nxM pd ln) (ln := ln) (p := p + 1) (td := td + 1) (by omega)
  by_cases hc : rgN (nxM pd ln) (p + 1) < whN (nxM pd ln) (p + 1)
  · obtain ⟨h1, h2⟩ := hr.1 hc
    rw [h1, h2]
    refine ⟨⟨fun _ => ?_, (fun h => by cases h)⟩, (fun h => by cases h), by omega, by omega⟩
    unfold WR
    rw [if_pos hc] at hs
    rw [e7, hs]
  · rw [hr.2 hc]
    have hp2 := nx_pos hc
    obtain ⟨k', rfl⟩ : ∃ k', kk = k' + 1 := ⟨kk - 1, by omega⟩
    rw [psL_s, if_pos hp2] at e6
    have hlt : m < (PS (nxM pd ln) ln).length := Nat.lt_of_not_le (fun hge => by rw [List.drop_eq_nil_of_le hge] at e6; cases e6)
    rw [List.drop_eq_getElem_cons hlt] at e6
    obtain ⟨e8, e9⟩ := List.cons.inj e6
    refine ⟨⟨(fun h => by cases h), fun _ => ⟨by show 5 * (m + 1) ≤ p + 1 + whN (nxM pd ln) (p + 1) + 1; omega, hlt, p + 1, td + 1, k', rfl, hc, by omega, e7, by show ln ≤ k' + (p + 1 + _); omega, e9⟩⟩, fun _ => by rw [List.getElem?_eq_getElem hlt, ← e8], by show p + 1 + _ ≤ p + 6; omega, by show p + 1 ≤ p + 1 + _; omega⟩
theorem RI_end (h : RI (nxM pd ln) ln p false m) (hp : ln ≤ p) : WR (nxM pd ln) ln = -6 ∧ m = (PS (nxM pd ln) ln).length := by
  obtain ⟨h5, hm, ps, td, kk, e1, e2, e3, e4, e5, e6⟩ := h.2 rfl
  constructor
  · unfold WR
    rw [e4, wrI_s e3, if_neg e2, rg_wh e2, ← e1, if_pos hp]
  · rw [psL_nil (by omega)] at e6
    have := congrArg List.length e6
    rw [List.length_drop, List.length_nil] at this
    omega
end RIS
