/-! CLOSING: the state behind a change -/
set_option maxRecDepth 100000
def J8 : List Nat := [0, 1, 2, 3, 4, 5, 6, 7]
theorem TgA.mono {tg : TG} {H : Heap} {A : Nat → Prop} {g : Nat} {J J' : List Nat} (h : TgA tg H A g J) (hJ : ∀ j ∈ J, j ∈ J') : TgA tg H A g J' := fun q hq ha => ⟨(h q hq ha).1, hJ _ (h q hq ha).2⟩
theorem TgA.xa {E : EV} {tg : TG} {H : Heap} {A : Nat → Prop} {g : Nat} {J : List Nat} (h : TgA tg H A g J) (ho : ∀ q, q < H.size → A q → Old E q) (hJ : ∀ j ∈ J, j < 20 ∧ j ≠ 9) : ∀ q, A q → XA E tg H.size q := fun q ha => by
  by_cases hq : q < H.size
  · exact Or.inl ⟨ho q hq ha, (hJ _ (h q hq ha).2).1, (hJ _ (h q hq ha).2).2⟩
  · exact Or.inr (Nat.not_lt.mp hq)
section CL
variable {E : EV} {tg tg' : TG} {x g hl sa pb gl ln c L arr cap M arr2 cap2 b n n' k k' : Nat} {pl wr md md2 md' : Int32} {xs ys xs' ys' : List Nat} {f f' hist hist' sl z pd : Nat → Int32} {H H1 : Heap} {A : Nat → Prop} {arr' cap' : Nat}
theorem XR.guild (hb : E.2.2.2 0 < E.2.2.1) (hxo : oat E x 0 [.ref g, .ref hl, .ref sa, .ref pb, .int pl, .int wr] H) (hxt : Own E tg x 10 x) (hrs : RS E tg x g hl sa pb hist gl sl z pd ln H) (hc : Chg A H H1) (hT : TgA tg H A g J8) (hE : Ext tg tg' H.size) (hgs : GS E tg' g f' n' k' H1) : XR E tg' x f' n' k' hist sl z pd gl ln H1 :=
  ⟨g, hl, sa, pb, pl, wr, hxo.kept hc (hT.no hxo.lt (hxt.2) (by decide)), hxt.ext hE hxo.lt, hgs, ((hrs.ext hb hE (Nat.le_refl _)).kept hb hc (fun q hq ha => by rw [show RG tg' g q = RG tg g q from by unfold RG; rw [hE q hq]]; exact hT.rg (by decide) q hq ha))⟩
/-- the rules' list has changed -/
theorem GS.rules (hb : E.2.2.2 0 < E.2.2.1) (hgx : GX E g c L arr cap M arr2 cap2 b md md2 xs ys n (ruA f) k (mbA f) (f 2) (fun j => f (3 + j)) (f 8) H) (hgt : GT E tg g c L arr M arr2 b xs ys) (hc : Chg A H H1) (hT : TgA tg H A g [2, 5]) (hE : Ext tg tg' H.size)
    (hA' : AL E L md' arr' cap' xs' H1) (hta : Old E arr' → tg' arr' = (g, 5)) (hrl : Rls E xs' n' (ruA f') H1) (hx9 : ∀ x ∈ xs', (tg' x).2 = 9) (hv : Vok f' n' k) (hag : ∀ j, j = 2 ∨ (3 ≤ j ∧ j < 9) ∨ 129 ≤ j → f j = f' j) : GS E tg' g f' n' k H1 := by
  obtain ⟨t0, t1, t2, t3, t4, t5, t6, t7, t9⟩ := hgt
  obtain ⟨h1, h2, h3, h4, h5, h6⟩ := hgx
  refine ⟨c, L, arr', cap', M, arr2, cap2, b, md', md2, xs', ys, ⟨?_, ⟨h2.1.kept hc (hT.no h2.1.lt (t1.2) (by decide)), hA'⟩, hrl, h4.kept hc ⟨hT.no h4.1.lt (t3.2) (by decide), fun ho => hT.no (h4.2.lt ho) (t6 ho) (by decide)⟩, (h5.kept hc (fun y hy => hT.no (h5.lt hy) ((t7 y hy).2) (by decide))).congr (fun i hi => ?_), (h6.kept hc (hT.no h6.lt (t4.2) (by decide))).congr (fun j hj => hag _ (Or.inr (Or.inl ⟨by omega, by omega⟩)))⟩,
    ⟨t0.ext hE h1.lt, t1.ext hE h2.1.lt, t2.ext hE h2.2.1.lt, t3.ext hE h4.1.lt, t4.ext hE h6.lt, hta, fun ho => (hE _ (h4.2.lt ho)).trans (t6 ho), fun y hy => (t7 y hy).ext hE (h5.lt hy), hx9⟩, hv⟩
  · have := h1.kept hc (hT.no h1.lt (t0.2) (by decide))
    rw [hag 2 (Or.inl rfl), hag 8 (Or.inr (Or.inl ⟨by omega, by omega⟩))] at this
    exact this
  · unfold mbA
    rw [hag _ (Or.inr (Or.inr (by omega))), hag (129 + 4 * i + 1) (Or.inr (Or.inr (by omega))), hag (129 + 4 * i + 2) (Or.inr (Or.inr (by omega))), hag (129 + 4 * i + 3) (Or.inr (Or.inr (by omega)))]
/-- the members' list has changed -/
theorem GS.membs (hb : E.2.2.2 0 < E.2.2.1) (hgx : GX E g c L arr cap M arr2 cap2 b md md2 xs ys n (ruA f) k (mbA f) (f 2) (fun j => f (3 + j)) (f 8) H) (hgt : GT E tg g c L arr M arr2 b xs ys) (hc : Chg A H H1) (hT : TgA tg H A g [3, 6, 7]) (hE : Ext tg tg' H.size)
    (hA' : AL E M md' arr' cap' ys' H1) (hta : Old E arr' → tg' arr' = (g, 6)) (hmb : Mbs E ys' k' (mbA f') H1) (hy7 : ∀ y ∈ ys', Own E tg' g 7 y) (hv : Vok f' n k') (hag : ∀ j, j ≠ 1 → j < 129 → f j = f' j) : GS E tg' g f' n k' H1 := by
  obtain ⟨t0, t1, t2, t3, t4, t5, t6, t7, t9⟩ := hgt
  obtain ⟨h1, h2, h3, h4, h5, h6⟩ := hgx
  refine ⟨c, L, arr, cap, M, arr', cap', b, md, md', xs, ys', ⟨?_, h2.kept hc ⟨hT.no h2.1.lt (t1.2) (by decide), hT.no h2.2.1.lt (t2.2) (by decide), fun ho => hT.no (h2.2.2.lt ho) (t5 ho) (by decide)⟩, (h3.kept hc (fun x hx => hT.no9 (h3.lt hx) (t9 x hx) (by decide))).congr (fun i hi => ?_), hA', hmb, (h6.kept hc (hT.no h6.lt (t4.2) (by decide))).congr (fun j hj => hag _ (by omega) (by omega))⟩,
    ⟨t0.ext hE h1.lt, t1.ext hE h2.1.lt, t2.ext hE h2.2.1.lt, t3.ext hE h4.1.lt, t4.ext hE h6.lt, fun ho => (hE _ (h2.2.2.lt ho)).trans (t5 ho), hta, hy7, fun x hx => by rw [hE _ (h3.lt hx)]; exact t9 x hx⟩, hv⟩
  · have := h1.kept hc (hT.no h1.lt (t0.2) (by decide))
    rw [hag 2 (by omega) (by omega), hag 8 (by omega) (by omega)] at this
    exact this
  · have h24 := hv.2.1
    unfold ruA
    rw [hag _ (by omega) (by omega), hag (9 + 5 * i + 1) (by omega) (by omega), hag (9 + 5 * i + 2) (by omega) (by omega), hag (9 + 5 * i + 3) (by omega) (by omega), hag (9 + 5 * i + 4) (by omega) (by omega)]
end CL
/-! the history -/
section HIS
variable {E : EV} {tg tg' : TG} {x g hl sa pb gl ln n k N : Nat} {hmd hmd' : Int32} {hs hs' : List Nat} {f hist hist' sl z pd : Nat → Int32} {sf : Nat → Option Nat} {H H1 : Heap} {harr hcap harr' hcap' : Nat}
/-- old cells of x's list -/
def TgX (tg : TG) (H : Heap) (A : Nat → Prop) (J : List Nat) : Prop := ∀ q, q < H.size → A q → (tg q).2 ∈ J
theorem TgX.no {A : Nat → Prop} {J : List Nat} (h : TgX tg H A J) {q o j : Nat} (hq : q < H.size) (ht : tg q = (o, j)) (hj : j ∉ J) : ¬ A q := fun ha => hj (by have h9 := h q hq ha; rw [ht] at h9; exact h9)
theorem TgX.xa {A : Nat → Prop} {J : List Nat} (h : TgX tg H A J) (ho : ∀ q, q < H.size → A q → Old E q) (hJ : ∀ j ∈ J, j < 20 ∧ j ≠ 9) : ∀ q, A q → XA E tg H.size q := fun q ha => by
  by_cases hq : q < H.size
  · exact Or.inl ⟨ho q hq ha, (hJ _ (h q hq ha)).1, (hJ _ (h q hq ha)).2⟩
  · exact Or.inr (Nat.not_lt.mp hq)
theorem TgX.la {o o' i j : Nat} (hL : tg hl = (o, i)) (ha : Old E harr → tg harr = (o', j)) : TgX tg H (LA E hl harr H.size) [i, j] := fun q hq h => by
  rcases h with e | ⟨e, ho⟩ | h
  · rw [e, hL]; exact List.mem_cons_self
  · rw [e] at ho ⊢; rw [ha ho]; exact List.mem_cons_of_mem _ List.mem_cons_self
  · exact absurd hq (Nat.not_lt.mpr h)
theorem TgX.lb {o o' i j : Nat} (hL : tg hl = (o, i)) (ha : Old E harr → tg harr = (o', j)) : TgX tg H (fun x => x = hl ∨ (x = harr ∧ Old E x)) [i, j] := fun q hq h => by
  rcases h with e | ⟨e, ho⟩
  · rw [e, hL]; exact List.mem_cons_self
  · rw [e] at ho ⊢; rw [ha ho]; exact List.mem_cons_of_mem _ List.mem_cons_self
theorem TgX.gs {A : Nat → Prop} {J : List Nat} (h : TgX tg H A J) (hJ : ∀ j ∈ J, 10 ≤ j) (hb : E.2.2.2 0 < E.2.2.1) (hc : Chg A H H1) (hg : GS E tg g f n k H) : GS E tg g f n k H1 := hg.kept hb hc (fun q hq ha => by have := hJ _ (h q hq ha); exact ⟨fun h9 => by omega, by omega⟩)
theorem TgX.slk {A : Nat → Prop} {J : List Nat} (h : TgX tg H A J) (hJ : ∀ j ∈ J, 10 ≤ j) (hb : E.2.2.2 0 < E.2.2.1) (hc : Chg A H H1) (hg : SL E tg g hs sf sl z H) : SL E tg g hs sf sl z H1 := hg.kept hb hc (fun q hq ha => by have := hJ _ (h q hq ha); exact ⟨by omega, fun i a _ _ h9 => by omega⟩)
theorem TgX.hi {A : Nat → Prop} {J : List Nat} (h : TgX tg H A J) (hJ : ∀ j ∈ J, 10 ≤ j) (hb : E.2.2.2 0 < E.2.2.1) (hc : Chg A H H1) (hg : HI E tg g hs hist H) : HI E tg g hs hist H1 := hg.kept hb hc (fun q hq ha => by have := hJ _ (h q hq ha); exact ⟨by omega, fun a _ h9 => by omega⟩)
/-- the list of the history has changed: each guild in it was there, or is N -/
theorem RS.relist {A : Nat → Prop} (hb : E.2.2.2 0 < E.2.2.1) (hc : Chg A H H1) (hT : TgX tg H A [11, 12]) (hE : Ext tg tg' H.size)
    (hAL : AL E hl hmd harr hcap hs H) (hHI : HI E tg g hs hist H) (hsa : qat E sa 4 2 sf H) (hSL : SL E tg g hs sf sl z H) (hPD : PD E tg x pb pd ln H) (h11 : Own E tg x 11 hl) (h13 : Own E tg x 13 sa)
    (hAL' : AL E hl hmd' harr' hcap' hs' H1) (h12 : Old E harr' → tg' harr' = (x, 12)) (hgl : hs'.length = gl) (hgl7 : gl ≤ 7) (hnd : hs'.Nodup)
    (hsub : ∀ h ∈ hs', h ∈ hs ∨ (h = N ∧ N ≠ g ∧ ∀ i a, i < 2 → sf i = some a → a ≠ N)) (hel : ∀ i h, hs'[i]? = some h → (∃ i', hs[i']? = some h ∧ ∀ j, j < 169 → hist (169 * i' + j) = hist' (169 * i + j)) ∨ ∃ n k : Nat, GS E tg h (fun j => hist' (169 * i + j)) n k H) : RS E tg' x g hl sa pb hist' gl sl z pd ln H1 := by
  have hJ : ∀ j ∈ [11, 12], 10 ≤ j := by decide
  have hT' : TgX tg' H A [11, 12] := fun q hq ha => by rw [hE q hq]; exact hT q hq ha
  have hSL1 := hT'.slk hJ hb hc (hSL.ext hb hE (Nat.le_refl _))
  refine ⟨hmd', harr', hcap', hs', sf, hAL', hgl, hgl7, ⟨hnd, fun hg => ?_, fun i h hi => ?_⟩, hsa.kept hc (hT.no hsa.lt (h13.2) (by decide)), fun i hi => ?_, (hPD.ext hE (Nat.le_refl _)).kept hc (fun q hq ha => ?_), h11.ext hE hAL.1.lt, h12, h13.ext hE hsa.lt⟩
  · rcases hsub g hg with h1 | ⟨h1, h2, -⟩
    · exact hHI.2.1 h1
    · exact h2 h1.symm
  · rcases hel i h hi with ⟨i', h1, h2⟩ | ⟨n, k, h1⟩
    · obtain ⟨n, k, h3⟩ := hHI.2.2 i' h h1
      exact ⟨n, k, (hT'.gs hJ hb hc (h3.ext hb hE (Nat.le_refl _))).congr (fun j hj => h2 j hj)⟩
    · exact ⟨n, k, hT'.gs hJ hb hc (h1.ext hb hE (Nat.le_refl _))⟩
  · rcases hSL1 i hi with h1 | ⟨a, n, k, h1, h2, h3, h4, h5⟩
    · exact Or.inl h1
    · exact Or.inr ⟨a, n, k, h1, h2, h3, fun hm => (hsub a hm).elim h4 (fun q => q.2.2 i a hi h1 q.1), h5⟩
  · have h := hT' q hq ha
    simp only [List.mem_cons, List.not_mem_nil, or_false] at h
    omega
/-- the tag of a list's new array -/
def tg1A (tg : TG) (N o j : Nat) : TG := fun q => if q < N then tg q else (o, j)
theorem tg1A_ext {tg : TG} {N o j : Nat} : Ext tg (tg1A tg N o j) N := fun q hq => by unfold tg1A; rw [if_pos hq]
theorem tg1A_new {tg : TG} {N o j q : Nat} (h : N ≤ q) : tg1A tg N o j q = (o, j) := by unfold tg1A; rw [if_neg (by omega)]
/-- a guild joins the history -/
theorem RS.push (hb : E.2.2.2 0 < E.2.2.1) (hc : Chg (LA E hl harr H.size) H H1) (hAL : AL E hl hmd harr hcap hs H) (hlen : hs.length = gl) (hgl : gl ≤ 6) (hHI : HI E tg g hs hist H) (hsa : qat E sa 4 2 sf H) (hSL : SL E tg g hs sf sl z H) (hPD : PD E tg x pb pd ln H) (h11 : Own E tg x 11 hl) (h12 : Old E harr → tg harr = (x, 12)) (h13 : Own E tg x 13 sa)
    (hN : GS E tg N f n k H) (hNs : N ∉ hs) (hNg : N ≠ g) (hNf : ∀ i a, i < 2 → sf i = some a → a ≠ N) (hAL' : AL E hl hmd' harr' hcap' (hs ++ [N]) H1) (hor : harr' = harr ∨ H.size ≤ harr') : RS E (tg1A tg H.size x 12) x g hl sa pb (cpA f hist (169 * gl) 169) (gl + 1) sl z pd ln H1 := by
  refine RS.relist (N := N) hb hc (TgX.la h11.2 h12) tg1A_ext hAL hHI hsa hSL hPD h11 h13 hAL' (fun ho => ?_) (by simp [hlen]) (by omega) ?_ (fun h hh => ?_) (fun i h hi => ?_)
  · rcases hor with e | e
    · rw [e] at ho ⊢; exact (tg1A_ext _ (hAL.2.lt ho)).trans (h12 ho)
    · exact tg1A_new e
  · rw [List.nodup_append]
    exact ⟨hHI.1, by simp, fun a ha b hb9 => by rw [List.mem_singleton] at hb9; subst hb9; exact fun e => hNs (e ▸ ha)⟩
  · rcases List.mem_append.mp hh with h1 | h1
    · exact Or.inl h1
    · exact Or.inr ⟨List.mem_singleton.mp h1, hNg, hNf⟩
  · by_cases h1 : i < hs.length
    · rw [List.getElem?_append_left h1] at hi
      exact Or.inl ⟨i, hi, fun j hj => by unfold cpA; rw [if_neg (by omega)]⟩
    · rw [List.getElem?_append_right (by omega)] at hi
      have e : i = hs.length := by
        by_cases e : i - hs.length = 0
        · omega
        · rw [List.getElem?_eq_none (by simp; omega)] at hi; cases hi
      subst e
      rw [Nat.sub_self] at hi
      cases hi
      exact Or.inr ⟨n, k, hN.congr (fun j hj => by unfold cpA; rw [hlen, if_pos ⟨by omega, by omega⟩, show 169 * gl + j - 169 * gl = j by omega])⟩
/-- the first guild leaves the history -/
theorem RS.drop0 (hb : E.2.2.2 0 < E.2.2.1) (hc : Chg (fun x => x = hl ∨ (x = harr ∧ Old E x)) H H1) (hAL : AL E hl hmd harr hcap hs H) (hlen : hs.length = gl + 1) (hgl : gl ≤ 7) (hHI : HI E tg g hs hist H) (hsa : qat E sa 4 2 sf H) (hSL : SL E tg g hs sf sl z H) (hPD : PD E tg x pb pd ln H) (h11 : Own E tg x 11 hl) (h12 : Old E harr → tg harr = (x, 12)) (h13 : Own E tg x 13 sa)
    (hAL' : AL E hl hmd' harr hcap (hs.eraseIdx 0) H1) (hh : ∀ i j, i < gl → j < 169 → hist' (169 * i + j) = hist (169 * (i + 1) + j)) : RS E tg x g hl sa pb hist' gl sl z pd ln H1 := by
  refine RS.relist (N := 0) hb hc (TgX.lb h11.2 h12) Ext.rf hAL hHI hsa hSL hPD h11 h13 hAL' h12 (by rw [List.length_eraseIdx, if_pos (by omega)]; omega) hgl (List.Nodup.sublist (List.eraseIdx_sublist ..) hHI.1) (fun h hm => Or.inl (List.mem_of_mem_eraseIdx hm)) (fun i h hi => Or.inl ⟨i + 1, ?_, fun j hj => ?_⟩)
  · rw [List.getElem?_eraseIdx, if_neg (by omega)] at hi; exact hi
  · have hi2 : i < gl := by
      have := (List.getElem?_eq_some_iff.mp hi).1
      rw [List.length_eraseIdx, if_pos (by omega)] at this; omega
    exact (hh i j hi2 hj).symm
end HIS
