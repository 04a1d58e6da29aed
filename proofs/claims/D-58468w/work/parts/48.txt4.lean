/-! TEXTS 4: the rules that are read, joined to the others -/
set_option maxRecDepth 100000
theorem dig_nat : ∀ c : Fin 128, (inR (nI c.val) 48 52 = true → 48 ≤ c.val ∧ c.val ≤ 52) ∧ (inR (nI c.val) 48 53 = true → 48 ≤ c.val ∧ c.val ≤ 53) ∧ (inR (nI c.val) 49 57 = true → 49 ≤ c.val ∧ c.val ≤ 57) ∧ (nI c.val = 48 → c.val = 48) ∧ (kfM (nI c.val) = -6 ∨ kfM (nI c.val) = 0 ∨ kfM (nI c.val) = 1 ∨ kfM (nI c.val) = 2) := by decide +kernel
theorem n48 {c : Nat} (h : 48 ≤ c) : nI c - 48 = nI (c - 48) := pk_sub (a := c) (b := 48) h
theorem ruT_ok {x : Nat → Int32} {p : Nat} (hx : ∀ p, ∃ ch : Nat, x p = nI ch ∧ ch < 128) (h : ¬ rgN x p < whN x p) : RVok (ruT x p) := by
  obtain ⟨c0, e0, l0⟩ := hx p
  obtain ⟨c1, e1, l1⟩ := hx (p + 1)
  obtain ⟨c2, e2, l2⟩ := hx (p + 2)
  obtain ⟨c3, e3, l3⟩ := hx (p + 3)
  obtain ⟨c4, e4, l4⟩ := hx (p + 4)
  obtain ⟨a0, -, -, d0, -⟩ := dig_nat ⟨c0, l0⟩
  obtain ⟨-, -, -, -, k1⟩ := dig_nat ⟨c1, l1⟩
  obtain ⟨a2, -, -, -, -⟩ := dig_nat ⟨c2, l2⟩
  obtain ⟨-, a3, -, -, -⟩ := dig_nat ⟨c3, l3⟩
  obtain ⟨-, -, a4, -, -⟩ := dig_nat ⟨c4, l4⟩
  simp only at a0 d0 k1 a2 a3 a4
  have hw := whN_in x p
  have q112 : kfM (x (p + 1)) = 0 ↔ x (p + 1) = 112 := by
    obtain ⟨-, -, -, -, -, -, k3, -⟩ := dig_all ⟨c1, l1⟩
    rw [e1]; exact k3
  have hw2 : whN x p = if kfM (x (p + 1)) = 0 then 4 else 5 := by
    unfold whN
    by_cases h9 : x (p + 1) = 112
    · rw [if_pos h9, if_pos (q112.mpr h9)]
    · rw [if_neg h9, if_neg (fun h8 => h9 (q112.mp h8))]
  have h1 : inR (x p) 48 52 = true := by
    by_cases h9 : inR (x p) 48 52 = true
    · exact h9
    · exact absurd (by unfold rgN; rw [if_neg h9]; omega) h
  have hk : ¬ kfM (x (p + 1)) = -6 := fun h9 => h (by unfold rgN; rw [if_pos h1, if_pos h9]; omega)
  have hz : kfM (x (p + 1)) = 0 → x p = 48 := fun h9 => Classical.byContradiction fun h8 => h (by unfold rgN; rw [if_pos h1, if_neg hk, if_pos h9, if_neg h8]; omega)
  have hr : rgN x p = rg2 x p := by
    unfold rgN
    rw [if_pos h1, if_neg hk]
    by_cases h9 : kfM (x (p + 1)) = 0
    · rw [if_pos h9, if_pos (hz h9)]
    · rw [if_neg h9]
  rw [hr] at h
  have hc2 : x (p + 2) = 42 ∨ inR (x (p + 2)) 48 52 = true := by
    by_cases h9 : x (p + 2) = 42
    · exact Or.inl h9
    · by_cases h8 : inR (x (p + 2)) 48 52 = true
      · exact Or.inr h8
      · exact absurd (by unfold rg2; rw [if_neg h9, if_neg h8]; omega) h
  have h3 : rg2 x p = rg3 x p := by
    unfold rg2
    by_cases h9 : x (p + 2) = 42
    · rw [if_pos h9]
    · rw [if_neg h9, if_pos (hc2.resolve_left h9)]
  rw [h3] at h
  have hc3 : x (p + 3) = 42 ∨ inR (x (p + 3)) 48 53 = true := by
    by_cases h9 : x (p + 3) = 42
    · exact Or.inl h9
    · by_cases h8 : inR (x (p + 3)) 48 53 = true
      · exact Or.inr h8
      · exact absurd (by unfold rg3; rw [if_neg h9, if_neg h8]; omega) h
  have h4 : rg3 x p = rg4 x p := by
    unfold rg3
    by_cases h9 : x (p + 3) = 42
    · rw [if_pos h9]
    · rw [if_neg h9, if_pos (hc3.resolve_left h9)]
  rw [h4] at h
  have hc4 : ¬ kfM (x (p + 1)) = 0 → inR (x (p + 4)) 49 57 = true := fun h9 => Classical.byContradiction fun h8 => h (by unfold rg4; rw [hw2, if_neg h9, if_neg h9, if_neg h8]; decide)
  rw [e0] at h1
  have b0 := a0 h1
  have cr : ∃ cr : Nat, (if x (p + 2) = 42 then (5 : Int32) else x (p + 2) - 48) = nI cr ∧ cr < 6 := by
    by_cases h9 : x (p + 2) = 42
    · exact ⟨5, by rw [if_pos h9]; rfl, by decide⟩
    · have h8 := hc2.resolve_left h9
      rw [e2] at h8
      have h7 := a2 h8
      exact ⟨c2 - 48, by rw [if_neg h9, e2, n48 h7.1], by omega⟩
  have de : ∃ de : Nat, (if x (p + 3) = 42 then (6 : Int32) else x (p + 3) - 48) = nI de ∧ de < 7 := by
    by_cases h9 : x (p + 3) = 42
    · exact ⟨6, by rw [if_pos h9]; rfl, by decide⟩
    · have h8 := hc3.resolve_left h9
      rw [e3] at h8
      have h7 := a3 h8
      exact ⟨c3 - 48, by rw [if_neg h9, e3, n48 h7.1], by omega⟩
  have se : ∃ se : Nat, (if kfM (x (p + 1)) = 0 then (1 : Int32) else x (p + 4) - 48) = nI se ∧ 1 ≤ se ∧ se < 10 := by
    by_cases h9 : kfM (x (p + 1)) = 0
    · exact ⟨1, by rw [if_pos h9]; rfl, by decide, by decide⟩
    · have h8 := hc4 h9
      rw [e4] at h8
      have h7 := a4 h8
      exact ⟨c4 - 48, by rw [if_neg h9, e4, n48 (by omega)], by omega, by omega⟩
  have ki : ∃ ki : Nat, kfM (x (p + 1)) = nI ki ∧ ki < 3 ∧ (ki = 0 → kfM (x (p + 1)) = 0) := by
    rw [← e1] at k1
    rcases k1 with h9 | h9 | h9 | h9
    · exact absurd h9 hk
    · exact ⟨0, h9, by decide, fun _ => h9⟩
    · exact ⟨1, h9, by decide, fun h8 => by cases h8⟩
    · exact ⟨2, h9, by decide, fun h8 => by cases h8⟩
  obtain ⟨cr, f1, f2⟩ := cr
  obtain ⟨de, f3, f4⟩ := de
  obtain ⟨se, f5, f6, f7⟩ := se
  obtain ⟨ki, f8, f9, f10⟩ := ki
  refine ⟨c0 - 48, ki, cr, de, se, ?_, by omega, f9, f2, f4, f6, f7, fun h9 => ?_⟩
  · unfold ruT
    rw [f1, f3, f5, f8, e0, n48 b0.1]
  · have h8 := hz (f10 h9)
    rw [e0] at h8
    have := d0 h8
    omega
theorem rr_valid {x : Nat → Int32} {p : Nat} (hx : ∀ p, ∃ ch : Nat, x p = nI ch ∧ ch < 128) (h : (rrX x p).2.1 = false) : RVok (rrX x p).2.2 := by
  have hr := rr_ok (p := p) hx
  by_cases hc : rgN x p < whN x p
  · have := (hr.1 hc).2
    rw [this] at h; cases h
  · rw [hr.2 hc]; exact ruT_ok hx hc
/-! the twin's array behind several rules -/
def rv0 : RV := (0, 0, 0, 0, 0)
section AS
variable {f : Nat → Int32}
theorem addsF_0 : ∀ (L : List RV) (f : Nat → Int32) (n : Nat), f 0 = nI n → addsF f n L 0 = nI (n + L.length)
  | [], f, n, h => h
  | v :: L, f, n, h => by
    show addsF (addF f n _ _ _ _ _) (n + 1) L 0 = _
    rw [addsF_0 L _ (n + 1) addF_0, List.length_cons, show n + 1 + L.length = n + (L.length + 1) by omega]
theorem addsF_o : ∀ (L : List RV) (f : Nat → Int32) (n : Nat) (j : Nat), j ≠ 0 → (j < 9 + 5 * n ∨ 9 + 5 * (n + L.length) ≤ j) → addsF f n L j = f j
  | [], _, _, _, _, _ => rfl
  | v :: L, f, n, j, h0, h => by
    show addsF (addF f n _ _ _ _ _) (n + 1) L j = _
    rw [List.length_cons] at h
    rw [addsF_o L _ (n + 1) j h0 (by omega), addF_o h0 (by omega)]
theorem addsF_lo {L : List RV} {n i : Nat} (hi : i < n) : ruA (addsF f n L) i = ruA f i := by
  unfold ruA
  rw [addsF_o L f n _ (by omega) (by omega), addsF_o L f n _ (by omega) (by omega), addsF_o L f n _ (by omega) (by omega), addsF_o L f n _ (by omega) (by omega), addsF_o L f n _ (by omega) (by omega)]
theorem addsF_at : ∀ (L : List RV) (f : Nat → Int32) (n i : Nat), i < L.length → ruA (addsF f n L) (n + i) = L.getD i rv0
  | [], _, _, i, h => absurd h (Nat.not_lt_zero _)
  | v :: L, f, n, 0, _ => by
    show ruA (addsF (addF f n _ _ _ _ _) (n + 1) L) n = v
    rw [addsF_lo (Nat.lt_succ_self _), addF_n]
  | v :: L, f, n, i + 1, h => by
    show ruA (addsF (addF f n _ _ _ _ _) (n + 1) L) (n + (i + 1)) = L.getD i rv0
    rw [show n + (i + 1) = n + 1 + i by omega]
    exact addsF_at L _ (n + 1) i (by simpa using h)
theorem addsF_vok {L : List RV} {n k : Nat} (hv : Vok f n k) (hn : n + L.length ≤ 24) (hL : ∀ i, i < L.length → RVok (L.getD i rv0)) : Vok (addsF f n L) (n + L.length) k := by
  obtain ⟨h1, h2, h3, h4, h5, h6⟩ := hv
  refine ⟨addsF_0 L f n h1, hn, by rw [addsF_o L f n 1 (by omega) (by omega)]; exact h3, h4, fun i hi => ?_, fun j hj => ?_⟩
  · by_cases h : i < n
    · rw [addsF_lo h]; exact h5 i h
    · rw [show i = n + (i - n) by omega, addsF_at L f n (i - n) (by omega)]; exact hL _ (by omega)
  · rw [addsF_o L f n _ (by omega) (by omega), addsF_o L f n _ (by omega) (by omega)]; exact h6 j hj
theorem Rls.app {E : EV} {xs vs : List Nat} {n : Nat} {L : List RV} {H : Heap} (h : Rls E xs n (ruA f) H) (hv : Rls E vs L.length (fun i => L.getD i rv0) H) (hn : n + L.length ≤ 24) : Rls E (xs ++ vs) (n + L.length) (ruA (addsF f n L)) H := by
  obtain ⟨h1, h2, h3⟩ := h
  obtain ⟨g1, g2, g3⟩ := hv
  refine ⟨by rw [List.length_append, h1, g1], by omega, fun i x hx => ?_⟩
  by_cases hi : i < xs.length
  · rw [List.getElem?_append_left hi] at hx
    rw [addsF_lo (by omega)]; exact h3 i x hx
  · rw [List.getElem?_append_right (by omega)] at hx
    have hl := (List.getElem?_eq_some_iff.mp hx).1
    have := g3 _ x hx
    rw [show i = n + (i - n) by omega, addsF_at L f n (i - n) (by omega)]
    rw [h1] at this
    exact this
end AS
theorem XR.addRules {E : EV} {tg : TG} {s : State} {x g hl sa pb gl ln c L arr cap M arr2 cap2 b n k : Nat} {pl wr md md2 md' : Int32} {xs ys vs : List Nat} {f hist sl z pd : Nat → Int32} {H H1 : Heap} {arr' cap' : Nat} {R : List RV} (hW : WK E s H) (hxo : oat E x 0 [.ref g, .ref hl, .ref sa, .ref pb, .int pl, .int wr] H) (hxt : Own E tg x 10 x) (hgx : GX E g c L arr cap M arr2 cap2 b md md2 xs ys n (ruA f) k (mbA f) (f 2) (fun j => f (3 + j)) (f 8) H) (hgt : GT E tg g c L arr M arr2 b xs ys) (hvk : Vok f n k) (hrs : RS E tg x g hl sa pb hist gl sl z pd ln H)
    (hc : Chg (LA E L arr H.size) H H1) (hAL : AL E L md' arr' cap' (xs ++ vs) H1) (hor : arr' = arr ∨ H.size ≤ arr') (hvs : Rls E vs R.length (fun i => R.getD i rv0) H) (hv9 : ∀ v ∈ vs, (tg v).2 = 9) (hn : n + R.length ≤ 24) (hR : ∀ i, i < R.length → RVok (R.getD i rv0)) : XR E (tg1A tg H.size g 5) x (addsF f n R) (n + R.length) k hist sl z pd gl ln H1 := by
  have hb := hW.b0
  have hT : TgA tg H (LA E L arr H.size) g [2, 5] := TgA.la hgt.2.2.1.2 hgt.2.2.2.2.2.1
  have h9 := hgt.2.2.2.2.2.2.2.2
  have hrl := hgx.2.2.1
  have hrl1 := hrl.kept hc (fun y hy => hT.no9 (hrl.lt hy) (h9 y hy) (by decide))
  have hvs1 := hvs.kept hc (fun y hy => hT.no9 (hvs.lt hy) (hv9 y hy) (by decide))
  refine XR.guild hb hxo hxt hrs hc (hT.mono (by decide)) tg1A_ext (GS.rules hb hgx hgt hc hT tg1A_ext hAL (fun ho => ?_) (hrl1.app hvs1 hn) (fun y hy => ?_) (addsF_vok hvk hn hR) (fun j hj => (addsF_o R f n j (by omega) (by omega)).symm))
  · rcases hor with e | e
    · rw [e] at ho ⊢; exact (tg1A_ext _ (hgx.2.1.2.2.lt ho)).trans (hgt.2.2.2.2.2.1 ho)
    · exact tg1A_new e
  · rcases List.mem_append.mp hy with h1 | h1
    · rw [tg1A_ext _ (hrl.lt h1)]; exact h9 y h1
    · rw [tg1A_ext _ (hvs.lt h1)]; exact hv9 y h1
