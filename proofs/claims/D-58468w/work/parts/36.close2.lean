/-! CLOSING 2: the twin's arrays behind a change, and the lists that hold them -/
set_option maxRecDepth 100000
section LI
variable {E : EV} {xs ys : List Nat} {n k i v : Nat} {ru ru' : Nat → RV} {mv mv' : Nat → MV} {H : Heap} {w : RV}
theorem Rls.snoc (h : Rls E xs n ru H) (hn : n < 25) (hv : oat E v 5 (rvF w) H) (hru : ∀ i, i < n → ru i = ru' i) (hn' : ru' n = w) : Rls E (xs ++ [v]) (n + 1) ru' H := by
  obtain ⟨h1, h2, h3⟩ := h
  refine ⟨by simp [h1], by omega, fun j y hy => ?_⟩
  by_cases hj : j < xs.length
  · rw [List.getElem?_append_left hj] at hy; rw [← hru j (by omega)]; exact h3 j y hy
  · rw [List.getElem?_append_right (by omega)] at hy
    have hj2 : j = n := by
      by_cases e : j - xs.length = 0
      · omega
      · rw [List.getElem?_eq_none (by simp; omega)] at hy; cases hy
    subst hj2
    rw [h1, Nat.sub_self] at hy
    cases hy
    rw [hn']; exact hv
theorem Rls.setv (h : Rls E xs n ru H) (hi : i < n) (hv : oat E v 5 (rvF w) H) (hru : ∀ j, j < n → j ≠ i → ru j = ru' j) (hi' : ru' i = w) : Rls E (xs.set i v) n ru' H := by
  obtain ⟨h1, h2, h3⟩ := h
  refine ⟨by simp [h1], h2, fun j y hy => ?_⟩
  rw [List.getElem?_set] at hy
  by_cases e : i = j
  · subst e
    rw [if_pos rfl, if_pos (by omega)] at hy
    cases hy
    rw [hi']; exact hv
  · rw [if_neg e] at hy
    have hj : j < n := by rw [← h1]; exact (List.getElem?_eq_some_iff.mp hy).1
    rw [← hru j hj (fun e2 => e e2.symm)]; exact h3 j y hy
theorem Rls.erasev (h : Rls E xs n ru H) (hk : k < n) (hru : ∀ i, i < n - 1 → ru' i = ru (if i < k then i else i + 1)) : Rls E (xs.eraseIdx k) (n - 1) ru' H := (h.erase hk).congr (fun i hi => by
  rw [hru i hi]; unfold ruE; split <;> rfl)
theorem Mbs.erasev (h : Mbs E ys n mv H) (hk : k < n) (hmv : ∀ i, i < n - 1 → mv' i = mv (if i < k then i else i + 1)) : Mbs E (ys.eraseIdx k) (n - 1) mv' H := by
  obtain ⟨h1, h2, h3, h4⟩ := h
  refine ⟨by rw [List.length_eraseIdx, if_pos (by omega), h1], by omega, List.Nodup.sublist (List.eraseIdx_sublist ..) h3, fun i y hy => ?_⟩
  have hi : i < n - 1 := by
    have := (List.getElem?_eq_some_iff.mp hy).1
    rw [List.length_eraseIdx, if_pos (by omega), h1] at this; exact this
  rw [List.getElem?_eraseIdx] at hy
  rw [hmv i hi]
  by_cases h9 : i < k
  · rw [if_pos h9] at hy ⊢; exact h4 i y hy
  · rw [if_neg h9] at hy ⊢; exact h4 (i + 1) y hy
end LI
section FF
variable {f : Nat → Int32} {n k : Nat} {la ki cr de se : Int32}
theorem addF_o {j : Nat} (h0 : j ≠ 0) (h : j < 9 + 5 * n ∨ 9 + 5 * n + 4 < j) : addF f n la ki cr de se j = f j := by
  unfold addF
  rw [pk_un (by omega), pk_un (by omega), pk_un (by omega), pk_un (by omega), pk_un (by omega), pk_un (by omega)]
theorem addF_ru {i : Nat} (hi : i < n) : ruA (addF f n la ki cr de se) i = ruA f i := by
  unfold ruA
  rw [addF_o (by omega) (by omega), addF_o (by omega) (by omega), addF_o (by omega) (by omega), addF_o (by omega) (by omega), addF_o (by omega) (by omega)]
theorem addF_n : ruA (addF f n la ki cr de se) n = (la, ki, cr, de, se) := by
  unfold ruA addF upd
  simp
theorem addF_vok (hv : Vok f n k) (hn : n < 24) (hr : RVok (la, ki, cr, de, se)) : Vok (addF f n la ki cr de se) (n + 1) k := by
  obtain ⟨h1, h2, h3, h4, h5, h6⟩ := hv
  refine ⟨addF_0, by omega, by rw [addF_o (by omega) (by omega)]; exact h3, h4, fun i hi => ?_, fun j hj => ?_⟩
  · by_cases e : i = n
    · subst e; rw [addF_n]; exact hr
    · rw [addF_ru (by omega)]; exact h5 i (by omega)
  · rw [addF_o (by omega) (by omega), addF_o (by omega) (by omega)]; exact h6 j hj
theorem strF_vok {r : Nat} (hv : Vok f n k) (hr : r < n) : Vok (strF f n r) (n - 1) k := by
  obtain ⟨h1, h2, h3, h4, h5, h6⟩ := hv
  refine ⟨strF_0, by omega, by rw [strF_lo (by omega) (by omega) hr]; exact h3, h4, fun i hi => ?_, fun j hj => ?_⟩
  · rw [strF_ru hr hi]; exact h5 _ (by split <;> omega)
  · rw [strF_hi hr (by omega), strF_hi hr (by omega)]; exact h6 j hj
theorem strF_ag {r : Nat} (hr : r < n) (hn : n ≤ 24) : ∀ j, j = 2 ∨ (3 ≤ j ∧ j < 9) ∨ 129 ≤ j → f j = strF f n r j := fun j hj => by
  rcases Nat.lt_or_ge j 9 with h | h
  · rw [strF_lo (by omega) (by omega) hr]
  · rw [strF_hi hr (by omega)]
def chF (f : Nat → Int32) (i : Nat) (la se : Int32) : Nat → Int32 := upd (upd f (9 + 5 * i) la) (9 + 5 * i + 4) se
theorem chF_o {i j : Nat} (h : j ≠ 9 + 5 * i) (h2 : j ≠ 9 + 5 * i + 4) : chF f i la se j = f j := by unfold chF; rw [pk_un h2, pk_un h]
theorem chF_ru {i j : Nat} (h : j ≠ i) : ruA (chF f i la se) j = ruA f j := by
  unfold ruA
  rw [chF_o (by omega) (by omega), chF_o (by omega) (by omega), chF_o (by omega) (by omega), chF_o (by omega) (by omega), chF_o (by omega) (by omega)]
theorem chF_i {i : Nat} : ruA (chF f i la se) i = (la, (ruA f i).2.1, (ruA f i).2.2.1, (ruA f i).2.2.2.1, se) := by
  unfold ruA
  rw [chF_o (j := 9 + 5 * i + 1) (by omega) (by omega), chF_o (j := 9 + 5 * i + 2) (by omega) (by omega), chF_o (j := 9 + 5 * i + 3) (by omega) (by omega)]
  unfold chF
  rw [pk_us, pk_un (by omega), pk_us]
theorem chF_vok {i : Nat} (hv : Vok f n k) (hi : i < n) (hr : RVok (la, (ruA f i).2.1, (ruA f i).2.2.1, (ruA f i).2.2.2.1, se)) : Vok (chF f i la se) n k := by
  obtain ⟨h1, h2, h3, h4, h5, h6⟩ := hv
  refine ⟨by rw [chF_o (by omega) (by omega)]; exact h1, h2, by rw [chF_o (by omega) (by omega)]; exact h3, h4, fun j hj => ?_, fun j hj => ?_⟩
  · by_cases e : j = i
    · subst e; rw [chF_i]; exact hr
    · rw [chF_ru e]; exact h5 j hj
  · rw [chF_o (by omega) (by omega), chF_o (by omega) (by omega)]; exact h6 j hj
theorem chF_la {i : Nat} : chF f i (ruA f i).1 se = upd f (9 + 5 * i + 4) se := by
  funext j; unfold chF upd ruA
  by_cases e : j = 9 + 5 * i + 4
  · rw [if_pos e, if_pos e]
  · rw [if_neg e, if_neg e]
    show (if j = 9 + 5 * i then f (9 + 5 * i) else f j) = f j
    by_cases e2 : j = 9 + 5 * i
    · rw [if_pos e2, e2]
    · rw [if_neg e2]
theorem chF_se {i : Nat} : chF f i la (ruA f i).2.2.2.2 = upd f (9 + 5 * i) la := by
  funext j; unfold chF upd ruA
  by_cases e : j = 9 + 5 * i + 4
  · rw [if_pos e, if_neg (by omega), e]
  · rw [if_neg e]
theorem joinF_o {c v : Int32} {j : Nat} (h0 : j ≠ 1) (h : j < 129 + 4 * k ∨ 129 + 4 * k + 3 < j) : joinF f k c v j = f j := by
  unfold joinF
  rw [pk_un (by omega), pk_un (by omega), pk_un (by omega), pk_un (by omega), pk_un (by omega)]
theorem joinF_1 {c v : Int32} : joinF f k c v 1 = nI (k + 1) := by
  unfold joinF
  rw [pk_un (by omega), pk_un (by omega), pk_un (by omega), pk_un (by omega), pk_us]
theorem joinF_mb {c v : Int32} {i : Nat} (hi : i < k) : mbA (joinF f k c v) i = mbA f i := by
  unfold mbA
  rw [joinF_o (by omega) (by omega), joinF_o (by omega) (by omega), joinF_o (by omega) (by omega), joinF_o (by omega) (by omega)]
theorem joinF_k {c v : Int32} : mbA (joinF f k c v) k = (c, v, 0, 0) := by
  unfold mbA joinF upd
  simp
theorem ruA_eq {f' : Nat → Int32} {i : Nat} (h : ∀ j, 9 ≤ j → j < 129 → f j = f' j) (hi : i < 24) : ruA f i = ruA f' i := by
  unfold ruA
  rw [h _ (by omega) (by omega), h (9 + 5 * i + 1) (by omega) (by omega), h (9 + 5 * i + 2) (by omega) (by omega), h (9 + 5 * i + 3) (by omega) (by omega), h (9 + 5 * i + 4) (by omega) (by omega)]
theorem joinF_vok {cn rn : Nat} (hv : Vok f n k) (hk : k < 10) (hc : cn < 5) (hr : rn < 10) : Vok (joinF f k (nI cn) (nI rn)) n (k + 1) := by
  obtain ⟨h1, h2, h3, h4, h5, h6⟩ := hv
  refine ⟨by rw [joinF_o (by omega) (by omega)]; exact h1, h2, joinF_1, by omega, fun i hi => ?_, fun j hj => ?_⟩
  · rw [← ruA_eq (f := f) (fun j h7 h8 => (joinF_o (by omega) (by omega)).symm) (by omega)]; exact h5 i hi
  · by_cases e : j = k
    · subst e
      have := joinF_k (f := f) (k := j) (c := nI cn) (v := nI rn)
      unfold mbA at this
      exact ⟨cn, rn, congrArg (fun q => q.1) this, hc, congrArg (fun q => q.2.1) this, hr⟩
    · rw [joinF_o (by omega) (by omega), joinF_o (by omega) (by omega)]; exact h6 j (by omega)
theorem leaF_o {j q : Nat} (hj : j < k) (h1 : q ≠ 1) (h : q < 129 + 4 * j) : leaF f k j q = f q := by
  unfold leaF zrA stA
  rw [if_neg (by omega), if_neg (by omega), pk_un h1]
theorem leaF_1 {j : Nat} (hj : j < k) : leaF f k j 1 = nI (k - 1) := by
  unfold leaF zrA stA
  rw [if_neg (by omega), if_neg (by omega), pk_us]
theorem leaF_mid {j q : Nat} (hj : j < k) (h : 129 + 4 * j ≤ q) (h2 : q < 129 + 4 * (k - 1)) : leaF f k j q = f (q + 4) := by
  unfold leaF zrA stA
  rw [if_neg (by omega), if_pos ⟨h, h2⟩, pk_un (by omega)]
theorem leaF_mb {j i : Nat} (hj : j < k) (hi : i < k - 1) : mbA (leaF f k j) i = mbA f (if i < j then i else i + 1) := by
  by_cases h : i < j
  · rw [if_pos h]; unfold mbA
    rw [leaF_o hj (by omega) (by omega), leaF_o hj (by omega) (by omega), leaF_o hj (by omega) (by omega), leaF_o hj (by omega) (by omega)]
  · rw [if_neg h]; unfold mbA
    rw [leaF_mid hj (by omega) (by omega), leaF_mid hj (by omega) (by omega), leaF_mid hj (by omega) (by omega), leaF_mid hj (by omega) (by omega)]
    rw [show 129 + 4 * i + 4 = 129 + 4 * (i + 1) by omega, show 129 + 4 * i + 1 + 4 = 129 + 4 * (i + 1) + 1 by omega, show 129 + 4 * i + 2 + 4 = 129 + 4 * (i + 1) + 2 by omega, show 129 + 4 * i + 3 + 4 = 129 + 4 * (i + 1) + 3 by omega]
theorem mb_ok {j : Nat} (h : ∀ j, j < k → ∃ cr rk : Nat, f (129 + 4 * j) = nI cr ∧ cr < 5 ∧ f (129 + 4 * j + 1) = nI rk ∧ rk < 10) (hj : j < k) : ∃ cr rk : Nat, (mbA f j).1 = nI cr ∧ cr < 5 ∧ (mbA f j).2.1 = nI rk ∧ rk < 10 := h j hj
theorem leaF_vok {j : Nat} (hv : Vok f n k) (hj : j < k) : Vok (leaF f k j) n (k - 1) := by
  obtain ⟨h1, h2, h3, h4, h5, h6⟩ := hv
  refine ⟨by rw [leaF_o hj (by omega) (by omega)]; exact h1, h2, leaF_1 hj, by omega, fun i hi => ?_, fun i hi => ?_⟩
  · rw [← ruA_eq (f := f) (fun q h7 h8 => (leaF_o hj (by omega) (by omega)).symm) (by omega)]; exact h5 i hi
  · have h7 := mb_ok h6 (j := if i < j then i else i + 1) (by split <;> omega)
    rw [← leaF_mb hj hi] at h7
    exact h7
theorem rankF_mb {j i : Nat} {v : Int32} : mbA (upd f (129 + 4 * j + 1) v) i = if i = j then ((mbA f j).1, v, (mbA f j).2.2.1, (mbA f j).2.2.2) else mbA f i := by
  by_cases e : i = j
  · subst e; rw [if_pos rfl]; unfold mbA; rw [pk_us, pk_un (by omega), pk_un (by omega), pk_un (by omega)]
  · rw [if_neg e]; unfold mbA; rw [pk_un (by omega), pk_un (by omega), pk_un (by omega), pk_un (by omega)]
theorem rankF_vok {j rn : Nat} (hv : Vok f n k) (hj : j < k) (hr : rn < 10) : Vok (upd f (129 + 4 * j + 1) (nI rn)) n k := by
  obtain ⟨h1, h2, h3, h4, h5, h6⟩ := hv
  refine ⟨by rw [pk_un (by omega)]; exact h1, h2, by rw [pk_un (by omega)]; exact h3, h4, fun i hi => ?_, fun i hi => ?_⟩
  · rw [← ruA_eq (f := f) (fun q h7 h8 => (pk_un (by omega)).symm) (by omega)]; exact h5 i hi
  · by_cases e : i = j
    · subst e
      obtain ⟨cr, rk, e1, e2, -, -⟩ := h6 i hi
      exact ⟨cr, rn, by rw [pk_un (by omega)]; exact e1, e2, by rw [pk_us], hr⟩
    · rw [pk_un (by omega), pk_un (by omega)]; exact h6 i hi
end FF
section CX2
variable {E : EV} {tg tg' : TG} {s : State} {x g hl sa pb gl ln c L arr cap M arr2 cap2 b n k v : Nat} {pl wr md md2 md' : Int32} {xs ys : List Nat} {f hist sl z pd : Nat → Int32} {H H1 : Heap} {arr' cap' : Nat} {w : RV}
theorem LA.mono {q m m' y : Nat} (h : LA E q arr m' y) (hm : m ≤ m') : LA E q arr m y := by
  rcases h with h | h | h
  · exact Or.inl h
  · exact Or.inr (Or.inl h)
  · exact Or.inr (Or.inr (Nat.le_trans hm h))
/-- the tags of a new element, and of a list's new array -/
def tgV (tg : TG) (N v o j j' : Nat) : TG := fun q => if q < N then tg q else if q = v then (o, j) else (o, j')
theorem tgV_ext {N v o j j' : Nat} : Ext tg (tgV tg N v o j j') N := fun q hq => by unfold tgV; rw [if_pos hq]
theorem tgV_v {N v o j j' : Nat} (h : N ≤ v) : tgV tg N v o j j' v = (o, j) := by unfold tgV; rw [if_neg (by omega), if_pos rfl]
theorem tgV_n {N v o j j' q : Nat} (h : N ≤ q) (hv : q ≠ v) : tgV tg N v o j j' q = (o, j') := by unfold tgV; rw [if_neg (by omega), if_neg hv]
/-- the new array's tag -/
theorem tgV_arr {N o j j' ci : Nat} {fs : List Value} {zs : List Nat} (hW : WK E s H1) (hA : Arr E arr' cap' zs H1) (hv : oat E v ci fs H1) (hor : arr' = arr ∨ N ≤ arr') (h5 : Old E arr → arr < N ∧ tg arr = (o, j')) (ho : Old E arr') : tgV tg N v o j j' arr' = (o, j') := by
  rcases hor with e | e
  · rw [e] at ho ⊢; exact (tgV_ext _ (h5 ho).1).trans (h5 ho).2
  · exact tgV_n e (Arr.ne hW hA hv ho)
theorem XR.addRule {la ki cr de se : Int32} (hW : WK E s H) (hW1 : WK E s H1) (hxo : oat E x 0 [.ref g, .ref hl, .ref sa, .ref pb, .int pl, .int wr] H) (hxt : Own E tg x 10 x) (hgx : GX E g c L arr cap M arr2 cap2 b md md2 xs ys n (ruA f) k (mbA f) (f 2) (fun j => f (3 + j)) (f 8) H) (hgt : GT E tg g c L arr M arr2 b xs ys) (hvk : Vok f n k) (hrs : RS E tg x g hl sa pb hist gl sl z pd ln H)
    (hc : Chg (LA E L arr H.size) H H1) (hAL : AL E L md' arr' cap' (xs ++ [v]) H1) (hor : arr' = arr ∨ H.size ≤ arr') (hv : oat E v 5 (rvF (la, ki, cr, de, se)) H1) (hvN : H.size ≤ v) (hn : n < 24) (hr : RVok (la, ki, cr, de, se)) : XR E (tgV tg H.size v g 9 5) x (addF f n la ki cr de se) (n + 1) k hist sl z pd gl ln H1 := by
  have hb := hW.b0
  have hT : TgA tg H (LA E L arr H.size) g [2, 5] := TgA.la hgt.2.2.1.2 hgt.2.2.2.2.2.1
  have h9 := hgt.2.2.2.2.2.2.2.2
  have hrl := hgx.2.2.1
  refine XR.guild hb hxo hxt hrs hc (hT.mono (by decide)) tgV_ext (GS.rules hb hgx hgt hc hT tgV_ext hAL (fun ho => tgV_arr hW1 hAL.2 hv hor (fun h => ⟨hgx.2.1.2.2.lt h, hgt.2.2.2.2.2.1 h⟩) ho) ((hrl.kept hc (fun y hy => hT.no9 (hrl.lt hy) (h9 y hy) (by decide))).snoc (by omega) hv (fun i hi => (addF_ru hi).symm) addF_n) (fun y hy => ?_) (addF_vok hvk hn hr) (fun j hj => (addF_o (by omega) (by omega)).symm))
  rcases List.mem_append.mp hy with h1 | h1
  · rw [tgV_ext _ (hrl.lt h1)]; exact h9 y h1
  · rw [List.mem_singleton.mp h1, tgV_v hvN]
theorem XR.setRule {la se : Int32} {i : Nat} (hW : WK E s H) (hW1 : WK E s H1) (hxo : oat E x 0 [.ref g, .ref hl, .ref sa, .ref pb, .int pl, .int wr] H) (hxt : Own E tg x 10 x) (hgx : GX E g c L arr cap M arr2 cap2 b md md2 xs ys n (ruA f) k (mbA f) (f 2) (fun j => f (3 + j)) (f 8) H) (hgt : GT E tg g c L arr M arr2 b xs ys) (hvk : Vok f n k) (hrs : RS E tg x g hl sa pb hist gl sl z pd ln H)
    (hc : Chg (LA E L arr H.size) H H1) (hAL : AL E L md' arr cap' (xs.set i v) H1) (hv : oat E v 5 (rvF (la, (ruA f i).2.1, (ruA f i).2.2.1, (ruA f i).2.2.2.1, se)) H1) (hvN : H.size ≤ v) (hi : i < n) (hr : RVok (la, (ruA f i).2.1, (ruA f i).2.2.1, (ruA f i).2.2.2.1, se)) : XR E (tgV tg H.size v g 9 5) x (chF f i la se) n k hist sl z pd gl ln H1 := by
  have hb := hW.b0
  have hT : TgA tg H (LA E L arr H.size) g [2, 5] := TgA.la hgt.2.2.1.2 hgt.2.2.2.2.2.1
  have h9 := hgt.2.2.2.2.2.2.2.2
  have hrl := hgx.2.2.1
  refine XR.guild hb hxo hxt hrs hc (hT.mono (by decide)) tgV_ext (GS.rules hb hgx hgt hc hT tgV_ext hAL (fun ho => tgV_arr hW1 hAL.2 hv (Or.inl rfl) (fun h => ⟨hgx.2.1.2.2.lt h, hgt.2.2.2.2.2.1 h⟩) ho) ((hrl.kept hc (fun y hy => hT.no9 (hrl.lt hy) (h9 y hy) (by decide))).setv hi hv (fun j hj e => (chF_ru e).symm) chF_i) (fun y hy => ?_) (chF_vok hvk hi hr) (fun j hj => (chF_o (by have := hvk.2.1; omega) (by have := hvk.2.1; omega)).symm))
  rcases List.mem_or_eq_of_mem_set hy with h1 | h1
  · rw [tgV_ext _ (hrl.lt h1)]; exact h9 y h1
  · rw [h1, tgV_v hvN]
theorem XR.strike {r : Nat} (hW : WK E s H) (hxo : oat E x 0 [.ref g, .ref hl, .ref sa, .ref pb, .int pl, .int wr] H) (hxt : Own E tg x 10 x) (hgx : GX E g c L arr cap M arr2 cap2 b md md2 xs ys n (ruA f) k (mbA f) (f 2) (fun j => f (3 + j)) (f 8) H) (hgt : GT E tg g c L arr M arr2 b xs ys) (hvk : Vok f n k) (hrs : RS E tg x g hl sa pb hist gl sl z pd ln H)
    (hc : Chg (fun x => x = L ∨ (x = arr ∧ Old E x)) H H1) (hAL : AL E L md' arr cap (xs.eraseIdx r) H1) (hr : r < n) : XR E tg x (strF f n r) (n - 1) k hist sl z pd gl ln H1 := by
  have hb := hW.b0
  have hT : TgA tg H (fun x => x = L ∨ (x = arr ∧ Old E x)) g [2, 5] := TgA.lb hgt.2.2.1.2 hgt.2.2.2.2.2.1
  have h9 := hgt.2.2.2.2.2.2.2.2
  have hrl := hgx.2.2.1
  exact XR.guild hb hxo hxt hrs hc (hT.mono (by decide)) Ext.rf (GS.rules hb hgx hgt hc hT Ext.rf hAL hgt.2.2.2.2.2.1 ((hrl.kept hc (fun y hy => hT.no9 (hrl.lt hy) (h9 y hy) (by decide))).erasev hr (fun i hi => strF_ru hr hi)) (fun y hy => h9 y (List.mem_of_mem_eraseIdx hy)) (strF_vok hvk hr) (strF_ag hr hvk.2.1))
theorem XR.join {cn rn : Nat} (hW : WK E s H) (hW1 : WK E s H1) (hxo : oat E x 0 [.ref g, .ref hl, .ref sa, .ref pb, .int pl, .int wr] H) (hxt : Own E tg x 10 x) (hgx : GX E g c L arr cap M arr2 cap2 b md md2 xs ys n (ruA f) k (mbA f) (f 2) (fun j => f (3 + j)) (f 8) H) (hgt : GT E tg g c L arr M arr2 b xs ys) (hvk : Vok f n k) (hrs : RS E tg x g hl sa pb hist gl sl z pd ln H)
    (hc : Chg (LA E M arr2 H.size) H H1) (hAL : AL E M md' arr' cap' (ys ++ [v]) H1) (hor : arr' = arr2 ∨ H.size ≤ arr') (hv : oat E v 4 (mvF (nI cn, nI rn, 0, 0)) H1) (hvN : H.size ≤ v) (hk : k < 10) (hcn : cn < 5) (hrn : rn < 10) : XR E (tgV tg H.size v g 7 6) x (joinF f k (nI cn) (nI rn)) n (k + 1) hist sl z pd gl ln H1 := by
  have hb := hW.b0
  have hT2 : TgA tg H (LA E M arr2 H.size) g [3, 6] := TgA.la hgt.2.2.2.1.2 hgt.2.2.2.2.2.2.1
  have hT : TgA tg H (LA E M arr2 H.size) g [3, 6, 7] := hT2.mono (by decide)
  have h7 := hgt.2.2.2.2.2.2.2.1
  have hmb := hgx.2.2.2.2.1
  refine XR.guild hb hxo hxt hrs hc (hT.mono (by decide)) tgV_ext (GS.membs hb hgx hgt hc hT tgV_ext hAL (fun ho => tgV_arr hW1 hAL.2 hv hor (fun h => ⟨hgx.2.2.2.1.2.lt h, hgt.2.2.2.2.2.2.1 h⟩) ho) (Mbs.snoc ((hmb.kept hc (fun y hy => hT2.no (hmb.lt hy) ((h7 y hy).2) (by decide))).congr (fun i hi => (joinF_mb hi).symm)) hk (by rw [joinF_k]; exact hv) (fun h => absurd (hmb.lt h) (Nat.not_lt.mpr hvN))) (fun y hy => ?_) (joinF_vok hvk hk hcn hrn) (fun j h1 h2 => (joinF_o (by omega) (by omega)).symm))
  rcases List.mem_append.mp hy with h1 | h1
  · exact (h7 y h1).ext tgV_ext (hmb.lt h1)
  · rw [List.mem_singleton.mp h1]
    exact ⟨Nat.le_trans hW.2.2 hvN, tgV_v hvN⟩
theorem XR.leave {j : Nat} (hW : WK E s H) (hxo : oat E x 0 [.ref g, .ref hl, .ref sa, .ref pb, .int pl, .int wr] H) (hxt : Own E tg x 10 x) (hgx : GX E g c L arr cap M arr2 cap2 b md md2 xs ys n (ruA f) k (mbA f) (f 2) (fun j => f (3 + j)) (f 8) H) (hgt : GT E tg g c L arr M arr2 b xs ys) (hvk : Vok f n k) (hrs : RS E tg x g hl sa pb hist gl sl z pd ln H)
    (hc : Chg (fun x => x = M ∨ (x = arr2 ∧ Old E x)) H H1) (hAL : AL E M md' arr2 cap2 (ys.eraseIdx j) H1) (hj : j < k) : XR E tg x (leaF f k j) n (k - 1) hist sl z pd gl ln H1 := by
  have hb := hW.b0
  have hT2 : TgA tg H (fun x => x = M ∨ (x = arr2 ∧ Old E x)) g [3, 6] := TgA.lb hgt.2.2.2.1.2 hgt.2.2.2.2.2.2.1
  have hT : TgA tg H (fun x => x = M ∨ (x = arr2 ∧ Old E x)) g [3, 6, 7] := hT2.mono (by decide)
  have h7 := hgt.2.2.2.2.2.2.2.1
  have hmb := hgx.2.2.2.2.1
  have hk := hvk.2.2.2.1
  exact XR.guild hb hxo hxt hrs hc (hT.mono (by decide)) Ext.rf (GS.membs hb hgx hgt hc hT Ext.rf hAL hgt.2.2.2.2.2.2.1 ((hmb.kept hc (fun y hy => hT2.no (hmb.lt hy) ((h7 y hy).2) (by decide))).erasev hj (fun i hi => leaF_mb hj hi)) (fun y hy => h7 y (List.mem_of_mem_eraseIdx hy)) (leaF_vok hvk hj) (fun q h1 h2 => (leaF_o hj h1 (by omega)).symm))
theorem XR.rank {j y rn : Nat} (hW : WK E s H) (hxo : oat E x 0 [.ref g, .ref hl, .ref sa, .ref pb, .int pl, .int wr] H) (hxt : Own E tg x 10 x) (hgx : GX E g c L arr cap M arr2 cap2 b md md2 xs ys n (ruA f) k (mbA f) (f 2) (fun j => f (3 + j)) (f 8) H) (hgt : GT E tg g c L arr M arr2 b xs ys) (hvk : Vok f n k) (hrs : RS E tg x g hl sa pb hist gl sl z pd ln H)
    (hjy : ys[j]? = some y) (hc : Chg (fun q => q = y) H H1) (hy : oat E y 4 [.int (mbA f j).1, .int (nI rn), .int (mbA f j).2.2.1, .int (mbA f j).2.2.2] H1) (hrn : rn < 10) : XR E tg x (upd f (129 + 4 * j + 1) (nI rn)) n k hist sl z pd gl ln H1 := by
  have hb := hW.b0
  have h7 := hgt.2.2.2.2.2.2.2.1
  have hmb := hgx.2.2.2.2.1
  have hj : j < k := by rw [← hmb.1]; exact (List.getElem?_eq_some_iff.mp hjy).1
  have hym := List.mem_of_getElem? hjy
  have hT : TgA tg H (fun q => q = y) g [3, 6, 7] := fun q hq h => by rw [show q = y from h, (h7 y hym).2]; exact ⟨rfl, by simp⟩
  have hAL := hgx.2.2.2.1
  have hTy : TgA tg H (fun q => q = y) g [7] := fun q hq h => by rw [show q = y from h, (h7 y hym).2]; exact ⟨rfl, by simp⟩
  refine XR.guild hb hxo hxt hrs hc (hT.mono (by decide)) Ext.rf (GS.membs hb hgx hgt hc hT Ext.rf (hAL.kept hc ⟨hTy.no hAL.1.lt (hgt.2.2.2.1.2) (by decide), fun ho => hTy.no (hAL.2.lt ho) (hgt.2.2.2.2.2.2.1 ho) (by decide)⟩) hgt.2.2.2.2.2.2.1 ((hmb.set (v := ((mbA f j).1, nI rn, (mbA f j).2.2.1, (mbA f j).2.2.2)) (fun z hz hzy w9 hw => hw.kept hc hzy) hjy hy).congr (fun i hi => ?_)) h7 (rankF_vok hvk hj hrn) (fun q h1 h2 => (pk_un (by omega)).symm))
  rw [rankF_mb]; rfl
end CX2
