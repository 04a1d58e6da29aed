/-! CLOSING 3: act, save, restore, undo -/
set_option maxRecDepth 100000
theorem uu_o {f : Nat → Int32} {C D q : Nat} {a b : Int32} (h : q ≠ D) (h2 : q ≠ C) : upd (upd f D a) C b q = f q := by rw [pk_un h2, pk_un h]
theorem act_form {f : Nat → Int32} {n k j : Nat} {R : Int32} (hv : Vok f n k) (hR : R = 100 ∨ R = -6 ∨ ∃ q, q < n ∧ R = nI q) :
    (R = -6 ∧ actF f j R = upd (upd f (129 + 4 * j + 2) (f (129 + 4 * j + 2) + 1)) 2 (f 2 + 1)) ∨ (R = 100 ∧ actF f j R = upd (upd f (129 + 4 * j + 3) (f (129 + 4 * j + 3) + 1)) 8 (f 8 + 1)) ∨
    ∃ q la : Nat, q < n ∧ R = nI q ∧ la < 5 ∧ (ruA f q).1 = nI la ∧ actF f j R = upd (upd f (129 + 4 * j + 3) (f (129 + 4 * j + 3) + 1)) (3 + la) (f (3 + la) + 1) := by
  have h24 := hv.2.1
  rcases hR with e | e | ⟨q, hq, e⟩
  · refine Or.inr (Or.inl ⟨e, ?_⟩)
    subst e
    have h6 : ¬ (100 : Int32) = -6 := by decide
    unfold actF actC actF1
    rw [if_neg h6, if_neg h6, if_pos rfl, pk_un (show 8 ≠ 129 + 4 * j + 3 by omega)]
  · refine Or.inl ⟨e, ?_⟩
    subst e
    unfold actF actC actF1
    rw [if_pos rfl, if_pos rfl, pk_un (show 2 ≠ 129 + 4 * j + 2 by omega)]
  · obtain ⟨la, hla, e1, e2⟩ := (hv.2.2.2.2.1 q hq).la
    refine Or.inr (Or.inr ⟨q, la, hq, e, hla, e1, ?_⟩)
    subst e
    have h6 : ¬ nI q = -6 := nI_ne6 (by omega)
    have h100 : ¬ nI q = 100 := fun h => by have := (nI_eq (a := q) (b := 100) (by omega) (by omega)).mp h; omega
    unfold actF actC actF1
    rw [if_neg h6, if_neg h6, if_neg h100, ix_nI (show q < 2 ^ 31 by omega), ← ruA_eq (f := f) (fun p h7 h8 => (pk_un (by omega)).symm) (by omega), e2, pk_un (show 3 + la ≠ 129 + 4 * j + 3 by omega)]
theorem mb_uu {f : Nat → Int32} {C D i : Nat} {a b : Int32} (hC : C < 129) (hD : D < 129 + 4 * i ∨ 129 + 4 * i + 3 < D) : mbA (upd (upd f D a) C b) i = mbA f i := by
  unfold mbA
  rw [uu_o (by omega) (by omega), uu_o (by omega) (by omega), uu_o (by omega) (by omega), uu_o (by omega) (by omega)]
theorem mb_u2 {f : Nat → Int32} {C i : Nat} {a b : Int32} (hC : C < 129) : mbA (upd (upd f (129 + 4 * i + 2) a) C b) i = ((mbA f i).1, (mbA f i).2.1, a, (mbA f i).2.2.2) := by
  unfold mbA
  rw [uu_o (by omega) (by omega), uu_o (by omega) (by omega), pk_un (show 129 + 4 * i + 2 ≠ C by omega), pk_us, uu_o (by omega) (by omega)]
theorem mb_u3 {f : Nat → Int32} {C i : Nat} {a b : Int32} (hC : C < 129) : mbA (upd (upd f (129 + 4 * i + 3) a) C b) i = ((mbA f i).1, (mbA f i).2.1, (mbA f i).2.2.1, a) := by
  unfold mbA
  rw [uu_o (by omega) (by omega), uu_o (by omega) (by omega), uu_o (by omega) (by omega), pk_un (show 129 + 4 * i + 3 ≠ C by omega), pk_us]
theorem inR_m6 {b : Int32} : inR (-6) 0 b = false := by
  unfold inR; rw [decide_eq_true (show (-6 : Int32) < 0 by decide)]; rfl
theorem inR_100 {n : Nat} (hn : n ≤ 24) : inR 100 0 (nI n - 1) = false := by
  cases h : inR 100 0 (nI n - 1)
  · rfl
  · obtain ⟨i, h1, h2⟩ := idx_of h (by omega)
    have := (nI_eq (a := 100) (b := i) (by omega) (by omega)).mp h2
    omega
def ActOk (f f' : Nat → Int32) (n k j : Nat) (R : Int32) : Prop := (∀ i, i < 24 → ruA f i = ruA f' i) ∧ (∀ i, i < k → mvS (mbA f) j (acM (mbA f j) R) i = mbA f' i) ∧ f 2 + (if 0 ≤ R then 0 else 1) = f' 2 ∧ (∀ l, l < 5 → acB (ruA f) n (fun j => f (3 + j)) R l = f' (3 + l)) ∧ f 8 + (if R = 100 then 1 else 0) = f' 8 ∧ f 0 = f' 0 ∧ f 1 = f' 1
theorem act_ok {f : Nat → Int32} {n k j : Nat} {R : Int32} (hv : Vok f n k) (hR : R = 100 ∨ R = -6 ∨ ∃ q, q < n ∧ R = nI q) : ActOk f (actF f j R) n k j R := by
  have h24 := hv.2.1
  rcases act_form (j := j) hv hR with ⟨e, e2⟩ | ⟨e, e2⟩ | ⟨q, la, hq, e, hla, ela, e2⟩
  · rw [e2]; subst e
    refine ⟨fun i hi => ruA_eq (fun p h7 h8 => (uu_o (by omega) (by omega)).symm) hi, fun i hi => ?_, ?_, fun l hl => ?_, ?_, (uu_o (by omega) (by omega)).symm, (uu_o (by omega) (by omega)).symm⟩
    · unfold mvS
      by_cases h : i = j
      · subst h; rw [if_pos rfl, mb_u2 (by omega)]; unfold acM; rw [if_neg (show ¬ (0 : Int32) ≤ -6 by decide), if_neg (show ¬ (0 : Int32) ≤ -6 by decide)]; simp [mbA]
      · rw [if_neg h, mb_uu (by omega) (by omega)]
    · rw [pk_us, if_neg (show ¬ (0 : Int32) ≤ -6 by decide)]
    · unfold acB; rw [inR_m6, if_neg (by decide), uu_o (by omega) (by omega)]
    · rw [uu_o (by omega) (by omega), if_neg (by decide)]; simp
  · rw [e2]; subst e
    refine ⟨fun i hi => ruA_eq (fun p h7 h8 => (uu_o (by omega) (by omega)).symm) hi, fun i hi => ?_, ?_, fun l hl => ?_, ?_, (uu_o (by omega) (by omega)).symm, (uu_o (by omega) (by omega)).symm⟩
    · unfold mvS
      by_cases h : i = j
      · subst h; rw [if_pos rfl, mb_u3 (by omega)]; unfold acM; rw [if_pos (show (0 : Int32) ≤ 100 by decide), if_pos (show (0 : Int32) ≤ 100 by decide)]; simp [mbA]
      · rw [if_neg h, mb_uu (by omega) (by omega)]
    · rw [uu_o (by omega) (by omega), if_pos (show (0 : Int32) ≤ 100 by decide)]; simp
    · unfold acB; rw [inR_100 h24, if_neg (by decide), uu_o (by omega) (by omega)]
    · rw [pk_us, if_pos rfl]
  · rw [e2]; subst e
    have h0 : (0 : Int32) ≤ nI q := nI_pos' (by omega)
    refine ⟨fun i hi => ruA_eq (fun p h7 h8 => (uu_o (by omega) (by omega)).symm) hi, fun i hi => ?_, ?_, fun l hl => ?_, ?_, (uu_o (by omega) (by omega)).symm, (uu_o (by omega) (by omega)).symm⟩
    · unfold mvS
      by_cases h : i = j
      · subst h; rw [if_pos rfl, mb_u3 (by omega)]; unfold acM; rw [if_pos h0, if_pos h0]; simp [mbA]
      · rw [if_neg h, mb_uu (by omega) (by omega)]
    · rw [uu_o (by omega) (by omega), if_pos h0]; simp
    · unfold acB
      rw [if_pos (idx_in hq (by omega)), jx_nI (show q < 2 ^ 31 by omega), ela, jx_nI (show la < 2 ^ 31 by omega)]
      by_cases h : l = la
      · subst h; rw [pk_us, pk_us]
      · rw [pk_un h, uu_o (by omega) (by omega)]
    · rw [uu_o (by omega) (by omega), if_neg (fun h => by have := (nI_eq (a := q) (b := 100) (by omega) (by omega)).mp h; omega)]; simp
section AC
variable {E : EV} {tg tg' : TG} {s : State} {x g hl sa pb gl ln c L arr cap M arr2 cap2 b n k v : Nat} {pl wr md md2 md' : Int32} {xs ys hs : List Nat} {f hist sl z pd : Nat → Int32} {H H1 : Heap} {arr' cap' : Nat} {sf : Nat → Option Nat} {hmd : Int32} {harr hcap N : Nat}
theorem XR.act {j y : Nat} {R : Int32} (hW : WK E s H) (hxo : oat E x 0 [.ref g, .ref hl, .ref sa, .ref pb, .int pl, .int wr] H) (hxt : Own E tg x 10 x) (hgx : GX E g c L arr cap M arr2 cap2 b md md2 xs ys n (ruA f) k (mbA f) (f 2) (fun j => f (3 + j)) (f 8) H) (hgt : GT E tg g c L arr M arr2 b xs ys) (hvk : Vok f n k) (hrs : RS E tg x g hl sa pb hist gl sl z pd ln H)
    (hjy : ys[j]? = some y) (hR : R = 100 ∨ R = -6 ∨ ∃ q, q < n ∧ R = nI q) (hc : Chg (fun q => q = g ∨ q = y ∨ q = b) H H1) (hgx' : GX E g c L arr cap M arr2 cap2 b md md2 xs ys n (ruA f) k (mvS (mbA f) j (acM (mbA f j) R)) (f 2 + (if 0 ≤ R then 0 else 1)) (acB (ruA f) n (fun j => f (3 + j)) R) (f 8 + (if R = 100 then 1 else 0)) H1) : XR E tg x (actF f j R) n k hist sl z pd gl ln H1 := by
  have hy7 := hgt.2.2.2.2.2.2.2.1 y (List.mem_of_getElem? hjy)
  have hT : TgA tg H (fun q => q = g ∨ q = y ∨ q = b) g J8 := fun q hq h => by
    rcases h with h | h | h
    · rw [h, hgt.1.2]; exact ⟨rfl, by simp [J8]⟩
    · rw [h, hy7.2]; exact ⟨rfl, by simp [J8]⟩
    · rw [h, hgt.2.2.2.2.1.2]; exact ⟨rfl, by simp [J8]⟩
  obtain ⟨a1, a2, a3, a4, a5, a6, a7⟩ := act_ok (j := j) hvk hR
  obtain ⟨h1, h2, h3, h4, h5, h6⟩ := hgx'
  obtain ⟨v1, v2, v3, v4, v5, v6⟩ := hvk
  rw [a3, a5] at h1
  refine XR.guild hW.b0 hxo hxt hrs hc hT Ext.rf ⟨c, L, arr, cap, M, arr2, cap2, b, md, md2, xs, ys, ⟨h1, h2, h3.congr (fun i hi => a1 i (by omega)), h4, h5.congr a2, h6.congr a4⟩, hgt, ⟨by rw [← a6]; exact v1, v2, by rw [← a7]; exact v3, v4, fun i hi => by rw [← a1 i (by omega)]; exact v5 i hi, fun i hi => ?_⟩⟩
  have e := a2 i hi
  have e1 : (mbA f i).1 = (mbA (actF f j R) i).1 ∧ (mbA f i).2.1 = (mbA (actF f j R) i).2.1 := by
    rw [← e]; unfold mvS
    by_cases h : i = j
    · subst h; rw [if_pos rfl]; exact ⟨rfl, rfl⟩
    · rw [if_neg h]; exact ⟨rfl, rfl⟩
  obtain ⟨cr, rk, b1, b2, b3, b4⟩ := mb_ok v6 hi
  rw [e1.1] at b1
  rw [e1.2] at b3
  exact ⟨cr, rk, b1, b2, b3, b4⟩
theorem anyG {a : Nat} {fs : List Value} (hW : WK E s H) (ho : oat E a 1 fs H) : va_Any "LayeredCharters$Guild" s H a := va_rAny hW.K ho.p (q0 := 0) rfl rfl (fun comp c0 h1 h2 => by cases h1.symm.trans h2; exact va_asg _ _)
/-- a guild is kept in a slot -/
theorem RS.save {i : Nat} (hb : E.2.2.2 0 < E.2.2.1) (hAL : AL E hl hmd harr hcap hs H) (hlen : hs.length = gl) (hgl7 : gl ≤ 7) (hHI : HI E tg g hs hist H) (hsa : qat E sa 4 2 sf H) (hSL : SL E tg g hs sf sl z H) (hPD : PD E tg x pb pd ln H) (h11 : Own E tg x 11 hl) (h12 : Old E harr → tg harr = (x, 12)) (h13 : Own E tg x 13 sa)
    (hN : GS E tg N f n k H) (hNg : N ≠ g) (hNs : N ∉ hs) (hc : Chg (fun q => q = sa) H H1) (hsa' : qat E sa 4 2 (va_up sf i (some N)) H1) (hi : i < 2) : RS E tg x g hl sa pb hist gl (cpA f sl (169 * i) 169) (upd z i 1) pd ln H1 := by
  have hT : TgX tg H (fun q => q = sa) [13] := fun q hq h => by rw [show q = sa from h, h13.2]; simp
  have hJ : ∀ j ∈ [13], 10 ≤ j := by decide
  refine ⟨hmd, harr, hcap, hs, va_up sf i (some N), hAL.kept hc ⟨hT.no hAL.1.lt h11.2 (by decide), fun ho => hT.no (hAL.2.lt ho) (h12 ho) (by decide)⟩, hlen, hgl7, hT.hi hJ hb hc hHI, hsa', fun i' hi' => ?_, hPD.kept hc (fun q hq ha => ?_), h11, h12, h13⟩
  · by_cases e : i' = i
    · subst e
      exact Or.inr ⟨N, n, k, by simp [va_up], pk_us, hNg, hNs, (hT.gs hJ hb hc hN).congr (fun j hj => by unfold cpA; rw [if_pos ⟨by omega, by omega⟩, show 169 * i' + j - 169 * i' = j by omega])⟩
    · rcases hT.slk hJ hb hc hSL i' hi' with ⟨h1, h2⟩ | ⟨a, n', k', h1, h2, h3, h4, h5⟩
      · exact Or.inl ⟨by simp [va_up, e, h1], by rw [pk_un e]; exact h2⟩
      · exact Or.inr ⟨a, n', k', by simp [va_up, e, h1], by rw [pk_un e]; exact h2, h3, h4, h5.congr (fun j hj => by unfold cpA; rw [if_neg (by omega)])⟩
  · have h := hT q hq ha
    simp only [List.mem_cons, List.not_mem_nil, or_false] at h
    omega
/-- another guild, a new one, becomes the current one -/
theorem RS.swap (h : RS E tg x g hl sa pb hist gl sl z pd ln H) (hN : H.size ≤ N) : RS E tg x N hl sa pb hist gl sl z pd ln H := by
  obtain ⟨hmd, harr, hcap, hs, sf, h1, h2, h3, h4, h5, h6, h7, h8, h9, h10⟩ := h
  refine ⟨hmd, harr, hcap, hs, sf, h1, h2, h3, ⟨h4.1, fun hm => ?_, h4.2.2⟩, h5, fun i hi => ?_, h7, h8, h9, h10⟩
  · exact absurd (hi_lt h4 N hm).1 (Nat.not_lt.mpr hN)
  · rcases h6 i hi with q | ⟨a, n, k, q1, q2, q3, q4, q5⟩
    · exact Or.inl q
    · exact Or.inr ⟨a, n, k, q1, q2, fun e => absurd q5.lt (by rw [e]; exact Nat.not_lt.mpr hN), q4, q5⟩
/-- the last of the history becomes the current one -/
theorem RS.undo {g2 : Nat} (hb : E.2.2.2 0 < E.2.2.1) (hAL : AL E hl hmd harr hcap hs H) (hlen : hs.length = gl + 1) (hgl7 : gl + 1 ≤ 7) (hHI : HI E tg g hs hist H) (hsa : qat E sa 4 2 sf H) (hSL : SL E tg g hs sf sl z H) (hPD : PD E tg x pb pd ln H) (h11 : Own E tg x 11 hl) (h12 : Old E harr → tg harr = (x, 12)) (h13 : Own E tg x 13 sa)
    (hg2 : hs[gl]? = some g2) (hc : Chg (fun x => x = hl ∨ (x = harr ∧ Old E x)) H H1) (hAL' : AL E hl md' harr hcap (hs.eraseIdx gl) H1) : RS E tg x g2 hl sa pb hist gl sl z pd ln H1 ∧ ∃ n' k' : Nat, GS E tg g2 (fun j => hist (169 * gl + j)) n' k' H1 := by
  have hT : TgX tg H (fun x => x = hl ∨ (x = harr ∧ Old E x)) [11, 12] := TgX.lb h11.2 h12
  have hJ : ∀ j ∈ [11, 12], 10 ≤ j := by decide
  obtain ⟨n', k', hg⟩ := hHI.2.2 gl g2 hg2
  refine ⟨⟨md', harr, hcap, hs.eraseIdx gl, sf, hAL', by rw [List.length_eraseIdx, if_pos (by omega)]; omega, by omega, ⟨List.Nodup.sublist (List.eraseIdx_sublist ..) hHI.1, fun hm => ?_, fun i a hi => ?_⟩, hsa.kept hc (hT.no hsa.lt h13.2 (by decide)), fun i hi => ?_, hPD.kept hc (fun q hq ha => ?_), h11, h12, h13⟩, n', k', hT.gs hJ hb hc hg⟩
  · obtain ⟨i, hi⟩ := List.mem_iff_getElem?.mp hm
    have hil : i < gl := by
      have := (List.getElem?_eq_some_iff.mp hi).1
      rw [List.length_eraseIdx, if_pos (by omega)] at this; omega
    rw [List.getElem?_eraseIdx, if_pos hil] at hi
    have := (List.getElem?_inj (show i < hs.length by omega) hHI.1).mp (hi.trans hg2.symm)
    omega
  · have hil : i < gl := by
      have := (List.getElem?_eq_some_iff.mp hi).1
      rw [List.length_eraseIdx, if_pos (by omega)] at this; omega
    rw [List.getElem?_eraseIdx, if_pos hil] at hi
    obtain ⟨n1, k1, h1⟩ := hHI.2.2 i a hi
    exact ⟨n1, k1, hT.gs hJ hb hc h1⟩
  · rcases hT.slk hJ hb hc hSL i hi with q | ⟨a, n, k, q1, q2, q3, q4, q5⟩
    · exact Or.inl q
    · exact Or.inr ⟨a, n, k, q1, q2, fun e => q4 (e ▸ List.mem_of_getElem? hg2), fun hm => q4 (List.mem_of_mem_eraseIdx hm), q5⟩
  · have h := hT q hq ha
    simp only [List.mem_cons, List.not_mem_nil, or_false] at h
    omega
end AC
