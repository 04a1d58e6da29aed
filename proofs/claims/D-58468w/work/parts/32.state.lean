/-! STATE: the class's state as the twin's arrays tell it -/
set_option maxRecDepth 100000
def mbA (f : Nat → Int32) (j : Nat) : MV := (f (129 + 4 * j), f (129 + 4 * j + 1), f (129 + 4 * j + 2), f (129 + 4 * j + 3))
/-- a guild's numbers are in their ranges -/
def Vok (f : Nat → Int32) (n k : Nat) : Prop := f 0 = nI n ∧ n ≤ 24 ∧ f 1 = nI k ∧ k ≤ 10 ∧ (∀ i, i < n → RVok (ruA f i)) ∧ ∀ j, j < k → ∃ cr rk : Nat, f (129 + 4 * j) = nI cr ∧ cr < 5 ∧ f (129 + 4 * j + 1) = nI rk ∧ rk < 10
def Ag (f f' : Nat → Int32) : Prop := ∀ j, j < 169 → f j = f' j
theorem Ag.ru {f f' : Nat → Int32} (h : Ag f f') {i : Nat} (hi : i < 24) : ruA f i = ruA f' i := by
  unfold ruA
  rw [h _ (by omega), h (9 + 5 * i + 1) (by omega), h (9 + 5 * i + 2) (by omega), h (9 + 5 * i + 3) (by omega), h (9 + 5 * i + 4) (by omega)]
theorem Ag.mb {f f' : Nat → Int32} (h : Ag f f') {i : Nat} (hi : i < 10) : mbA f i = mbA f' i := by
  unfold mbA
  rw [h _ (by omega), h (129 + 4 * i + 1) (by omega), h (129 + 4 * i + 2) (by omega), h (129 + 4 * i + 3) (by omega)]
theorem Vok.congr {f f' : Nat → Int32} {n k : Nat} (h : Vok f n k) (ha : Ag f f') : Vok f' n k := by
  obtain ⟨h1, h2, h3, h4, h5, h6⟩ := h
  refine ⟨by rw [← ha 0 (by omega)]; exact h1, h2, by rw [← ha 1 (by omega)]; exact h3, h4, fun i hi => by rw [← ha.ru (by omega)]; exact h5 i hi, fun j hj => ?_⟩
  obtain ⟨cr, rk, e1, e2, e3, e4⟩ := h6 j hj
  exact ⟨cr, rk, by rw [← ha _ (by omega)]; exact e1, e2, by rw [← ha _ (by omega)]; exact e3, e4⟩
theorem Rls.congr {E : EV} {xs : List Nat} {n : Nat} {ru ru' : Nat → RV} {H : Heap} (h : Rls E xs n ru H) (hr : ∀ i, i < n → ru i = ru' i) : Rls E xs n ru' H := ⟨h.1, h.2.1, fun i x hx => by
  have hi : i < n := by rw [← h.1]; exact (List.getElem?_eq_some_iff.mp hx).1
  rw [← hr i hi]; exact h.2.2 i x hx⟩
theorem Mbs.congr {E : EV} {ys : List Nat} {k : Nat} {mv mv' : Nat → MV} {H : Heap} (h : Mbs E ys k mv H) (hr : ∀ i, i < k → mv i = mv' i) : Mbs E ys k mv' H := ⟨h.1, h.2.1, h.2.2.1, fun i x hx => by
  have hi : i < k := by rw [← h.1]; exact (List.getElem?_eq_some_iff.mp hx).1
  rw [← hr i hi]; exact h.2.2.2 i x hx⟩
/-- a guild that holds f -/
def GS (E : EV) (tg : TG) (g : Nat) (f : Nat → Int32) (n k : Nat) (H : Heap) : Prop := ∃ (c L arr cap M arr2 cap2 b : Nat) (md md2 : Int32) (xs ys : List Nat), GX E g c L arr cap M arr2 cap2 b md md2 xs ys n (ruA f) k (mbA f) (f 2) (fun j => f (3 + j)) (f 8) H ∧ GT E tg g c L arr M arr2 b xs ys ∧ Vok f n k
theorem GS.congr {E : EV} {tg : TG} {g n k : Nat} {f f' : Nat → Int32} {H : Heap} (h : GS E tg g f n k H) (ha : Ag f f') : GS E tg g f' n k H := by
  obtain ⟨c, L, arr, cap, M, arr2, cap2, b, md, md2, xs, ys, ⟨h1, h2, h3, h4, h5, h6⟩, ht, hv⟩ := h
  have hn := hv.2.1
  have hk := hv.2.2.2.1
  refine ⟨c, L, arr, cap, M, arr2, cap2, b, md, md2, xs, ys, ⟨?_, h2, h3.congr (fun i hi => ha.ru (by omega)), h4, h5.congr (fun i hi => ha.mb (by omega)), h6.congr (fun j hj => ha _ (by omega))⟩, ht, hv.congr ha⟩
  rw [← ha 2 (by omega), ← ha 8 (by omega)]; exact h1
theorem GS.lt {E : EV} {tg : TG} {g n k : Nat} {f : Nat → Int32} {H : Heap} (h : GS E tg g f n k H) : g < H.size := by
  obtain ⟨c, L, arr, cap, M, arr2, cap2, b, md, md2, xs, ys, h1, -⟩ := h
  exact h1.1.lt
theorem GS.elt {E : EV} {tg : TG} {g n k : Nat} {f : Nat → Int32} {H : Heap} (h : GS E tg g f n k H) : Elt E g H := by
  obtain ⟨c, L, arr, cap, M, arr2, cap2, b, md, md2, xs, ys, h1, -⟩ := h
  exact ⟨1, _, _, h1.1, rfl, by decide +kernel⟩
theorem GS.tag {E : EV} {tg : TG} {g n k : Nat} {f : Nat → Int32} {H : Heap} (h : GS E tg g f n k H) : Own E tg g 0 g := by
  obtain ⟨c, L, arr, cap, M, arr2, cap2, b, md, md2, xs, ys, h1, h2, -⟩ := h
  exact h2.1
theorem GS.vok {E : EV} {tg : TG} {g n k : Nat} {f : Nat → Int32} {H : Heap} (h : GS E tg g f n k H) : Vok f n k := by
  obtain ⟨c, L, arr, cap, M, arr2, cap2, b, md, md2, xs, ys, h1, h2, h3⟩ := h
  exact h3
/-- the tags of the old cells stay -/
def Ext (tg tg' : TG) (N : Nat) : Prop := ∀ q, q < N → tg' q = tg q
theorem Ext.rf {tg : TG} {N : Nat} : Ext tg tg N := fun _ _ => rfl
theorem Ext.trans {tg tg' tg'' : TG} {N N' : Nat} (h : Ext tg tg' N) (h2 : Ext tg' tg'' N') (hN : N ≤ N') : Ext tg tg'' N := fun q hq => (h2 q (Nat.lt_of_lt_of_le hq hN)).trans (h q hq)
theorem Own.ext {E : EV} {tg tg' : TG} {N g j q : Nat} (h : Own E tg g j q) (hE : Ext tg tg' N) (hq : q < N) : Own E tg' g j q := ⟨h.1, (hE q hq).trans h.2⟩
theorem Mbs.lt {E : EV} {ys : List Nat} {k : Nat} {mv : Nat → MV} {H : Heap} (h : Mbs E ys k mv H) {y : Nat} (hy : y ∈ ys) : y < H.size := (h.elt y hy).lt
theorem Rls.lt {E : EV} {xs : List Nat} {n : Nat} {ru : Nat → RV} {H : Heap} (h : Rls E xs n ru H) {x : Nat} (hx : x ∈ xs) : x < H.size := (rls_elt h x hx).lt
theorem GT.ext {E : EV} {tg tg' : TG} {g c L arr cap M arr2 cap2 b : Nat} {md md2 : Int32} {xs ys : List Nat} {n k : Nat} {ru : Nat → RV} {mv : Nat → MV} {dn np : Int32} {bl : Nat → Int32} {H : Heap} {N : Nat} (ht : GT E tg g c L arr M arr2 b xs ys) (hx : GX E g c L arr cap M arr2 cap2 b md md2 xs ys n ru k mv dn bl np H) (hb : E.2.2.2 0 < E.2.2.1) (hE : Ext tg tg' N) (hN : H.size ≤ N) : GT E tg' g c L arr M arr2 b xs ys := by
  obtain ⟨t0, t1, t2, t3, t4, t5, t6, t7, t9⟩ := ht
  obtain ⟨h1, h2, h3, h4, h5, h6⟩ := hx
  have w : ∀ {q : Nat}, q < H.size → q < N := fun h => Nat.lt_of_lt_of_le h hN
  exact ⟨t0.ext hE (w h1.lt), t1.ext hE (w h2.1.lt), t2.ext hE (w h2.2.1.lt), t3.ext hE (w h4.1.lt), t4.ext hE (w h6.lt), fun ho => (hE _ (w (h2.2.2.lt ho))).trans (t5 ho), fun ho => (hE _ (w (h4.2.lt ho))).trans (t6 ho), fun y hy => (t7 y hy).ext hE (w (h5.lt hy)), fun x hx9 => by rw [hE _ (w (h3.lt hx9))]; exact t9 x hx9⟩
theorem GS.ext {E : EV} {tg tg' : TG} {g n k : Nat} {f : Nat → Int32} {H : Heap} {N : Nat} (h : GS E tg g f n k H) (hb : E.2.2.2 0 < E.2.2.1) (hE : Ext tg tg' N) (hN : H.size ≤ N) : GS E tg' g f n k H := by
  obtain ⟨c, L, arr, cap, M, arr2, cap2, b, md, md2, xs, ys, h1, h2, h3⟩ := h
  exact ⟨c, L, arr, cap, M, arr2, cap2, b, md, md2, xs, ys, h1, h2.ext h1 hb hE hN, h3⟩
theorem GX.kept {E : EV} {tg : TG} {g c L arr cap M arr2 cap2 b : Nat} {md md2 : Int32} {xs ys : List Nat} {n k : Nat} {ru : Nat → RV} {mv : Nat → MV} {dn np : Int32} {bl : Nat → Int32} {H H1 : Heap} {A : Nat → Prop} (hx : GX E g c L arr cap M arr2 cap2 b md md2 xs ys n ru k mv dn bl np H) (ht : GT E tg g c L arr M arr2 b xs ys) (hb : E.2.2.2 0 < E.2.2.1) (hc : Chg A H H1) (hA : ∀ q, q < H.size → A q → ¬ ((tg q).1 = g ∧ (tg q).2 < 8) ∧ (tg q).2 ≠ 9) : GX E g c L arr cap M arr2 cap2 b md md2 xs ys n ru k mv dn bl np H1 := by
  obtain ⟨t0, t1, t2, t3, t4, t5, t6, t7, t9⟩ := ht
  obtain ⟨h1, h2, h3, h4, h5, h6⟩ := hx
  have no : ∀ {q j : Nat}, q < H.size → tg q = (g, j) → j < 8 → ¬ A q := fun hq ht hj ha => (hA _ hq ha).1 ⟨by rw [ht], by rw [ht]; exact hj⟩
  exact ⟨h1.kept hc (no h1.lt t0.2 (by decide)), h2.kept hc ⟨no h2.1.lt t1.2 (by decide), no h2.2.1.lt t2.2 (by decide), fun ho => no (h2.2.2.lt ho) (t5 ho) (by decide)⟩, h3.kept hc (fun x hx9 ha => (hA x (h3.lt hx9) ha).2 (t9 x hx9)), h4.kept hc ⟨no h4.1.lt t3.2 (by decide), fun ho => no (h4.2.lt ho) (t6 ho) (by decide)⟩, h5.kept hc (fun y hy => no (h5.lt hy) (t7 y hy).2 (by decide)), h6.kept hc (no h6.lt t4.2 (by decide))⟩
theorem GS.kept {E : EV} {tg : TG} {g n k : Nat} {f : Nat → Int32} {H H1 : Heap} {A : Nat → Prop} (h : GS E tg g f n k H) (hb : E.2.2.2 0 < E.2.2.1) (hc : Chg A H H1) (hA : ∀ q, q < H.size → A q → ¬ ((tg q).1 = g ∧ (tg q).2 < 8) ∧ (tg q).2 ≠ 9) : GS E tg g f n k H1 := by
  obtain ⟨c, L, arr, cap, M, arr2, cap2, b, md, md2, xs, ys, h1, h2, h3⟩ := h
  exact ⟨c, L, arr, cap, M, arr2, cap2, b, md, md2, xs, ys, h1.kept h2 hb hc hA, h2, h3⟩
/-! the rest of the state -/
def HI (E : EV) (tg : TG) (g : Nat) (hs : List Nat) (hist : Nat → Int32) (H : Heap) : Prop := hs.Nodup ∧ g ∉ hs ∧ ∀ i h, hs[i]? = some h → ∃ n k : Nat, GS E tg h (fun j => hist (169 * i + j)) n k H
def SL (E : EV) (tg : TG) (g : Nat) (hs : List Nat) (sf : Nat → Option Nat) (sl z : Nat → Int32) (H : Heap) : Prop := ∀ i, i < 2 → (sf i = none ∧ z i = 0) ∨ ∃ h n k : Nat, sf i = some h ∧ z i = 1 ∧ h ≠ g ∧ h ∉ hs ∧ GS E tg h (fun j => sl (169 * i + j)) n k H
def PD (E : EV) (tg : TG) (x pb : Nat) (pd : Nat → Int32) (ln : Nat) (H : Heap) : Prop := ∃ (pv pcap : Nat) (pmb : Int32) (pf : Nat → Int32), SB E pb pv pcap ln pmb pf H ∧ ln ≤ 60 ∧ ((∀ i, i < pcap → ∃ ch : Nat, pf i = nI ch ∧ ch < 128) ∧ ∀ i, i < ln → pf i = pd i ∧ ∃ ch : Nat, pd i = nI ch ∧ 33 ≤ ch ∧ ch < 127) ∧ Own E tg x 14 pb ∧ Own E tg x 15 pv
/-- what a guild's changes may touch -/
def RG (tg : TG) (g q : Nat) : Prop := ((tg q).1 = g ∧ (tg q).2 < 8) ∨ (tg q).2 = 10 ∨ 20 ≤ (tg q).2
section RST
variable {E : EV} {tg tg' : TG} {x g hl sa pb gl ln N : Nat} {hs : List Nat} {hist sl z pd : Nat → Int32} {sf : Nat → Option Nat} {H H1 : Heap} {A : Nat → Prop}
theorem HI.kept (h : HI E tg g hs hist H) (hb : E.2.2.2 0 < E.2.2.1) (hc : Chg A H H1) (hA : ∀ q, q < H.size → A q → (tg q).2 ≠ 9 ∧ ∀ h ∈ hs, ¬ ((tg q).1 = h ∧ (tg q).2 < 8)) : HI E tg g hs hist H1 := ⟨h.1, h.2.1, fun i a ha => by
  obtain ⟨n, k, h1⟩ := h.2.2 i a ha
  exact ⟨n, k, h1.kept hb hc (fun q h2 h3 => ⟨(hA q h2 h3).2 a (List.mem_of_getElem? ha), (hA q h2 h3).1⟩)⟩⟩
theorem SL.kept (h : SL E tg g hs sf sl z H) (hb : E.2.2.2 0 < E.2.2.1) (hc : Chg A H H1) (hA : ∀ q, q < H.size → A q → (tg q).2 ≠ 9 ∧ ∀ i h, sf i = some h → h ≠ g → ¬ ((tg q).1 = h ∧ (tg q).2 < 8)) : SL E tg g hs sf sl z H1 := fun i hi => by
  rcases h i hi with h1 | ⟨a, n, k, h1, h2, h3, h4, h5⟩
  · exact Or.inl h1
  · exact Or.inr ⟨a, n, k, h1, h2, h3, h4, h5.kept hb hc (fun q h6 h7 => ⟨(hA q h6 h7).2 i a h1 h3, (hA q h6 h7).1⟩)⟩
theorem PD.kept (h : PD E tg x pb pd ln H) (hc : Chg A H H1) (hA : ∀ q, q < H.size → A q → (tg q).2 ≠ 14 ∧ (tg q).2 ≠ 15) : PD E tg x pb pd ln H1 := by
  obtain ⟨pv, pcap, pmb, pf, ⟨h1, h2, h3, h4⟩, h5, h6, h7, h8⟩ := h
  exact ⟨pv, pcap, pmb, pf, ⟨h1.kept hc (fun ha => (hA _ h1.lt ha).1 (by rw [h7.2])), h2.kept hc (fun ha => (hA _ h2.lt ha).2 (by rw [h8.2])), h3, h4⟩, h5, h6, h7, h8⟩
theorem HI.ext (h : HI E tg g hs hist H) (hb : E.2.2.2 0 < E.2.2.1) (hE : Ext tg tg' N) (hN : H.size ≤ N) : HI E tg' g hs hist H := ⟨h.1, h.2.1, fun i a ha => by
  obtain ⟨n, k, h1⟩ := h.2.2 i a ha
  exact ⟨n, k, h1.ext hb hE hN⟩⟩
theorem SL.ext (h : SL E tg g hs sf sl z H) (hb : E.2.2.2 0 < E.2.2.1) (hE : Ext tg tg' N) (hN : H.size ≤ N) : SL E tg' g hs sf sl z H := fun i hi => by
  rcases h i hi with h1 | ⟨a, n, k, h1, h2, h3, h4, h5⟩
  · exact Or.inl h1
  · exact Or.inr ⟨a, n, k, h1, h2, h3, h4, h5.ext hb hE hN⟩
theorem PD.ext (h : PD E tg x pb pd ln H) (hE : Ext tg tg' N) (hN : H.size ≤ N) : PD E tg' x pb pd ln H := by
  obtain ⟨pv, pcap, pmb, pf, h1, h5, h6, h7, h8⟩ := h
  exact ⟨pv, pcap, pmb, pf, h1, h5, h6, h7.ext hE (Nat.lt_of_lt_of_le h1.1.lt hN), h8.ext hE (Nat.lt_of_lt_of_le h1.2.1.lt hN)⟩
/-- the history, the slots, the pad -/
def RS (E : EV) (tg : TG) (x g hl sa pb : Nat) (hist : Nat → Int32) (gl : Nat) (sl z pd : Nat → Int32) (ln : Nat) (H : Heap) : Prop := ∃ (hmd : Int32) (harr hcap : Nat) (hs : List Nat) (sf : Nat → Option Nat),
  AL E hl hmd harr hcap hs H ∧ hs.length = gl ∧ gl ≤ 7 ∧ HI E tg g hs hist H ∧ qat E sa 4 2 sf H ∧ SL E tg g hs sf sl z H ∧ PD E tg x pb pd ln H ∧ Own E tg x 11 hl ∧ (Old E harr → tg harr = (x, 12)) ∧ Own E tg x 13 sa
theorem RS.kept (h : RS E tg x g hl sa pb hist gl sl z pd ln H) (hb : E.2.2.2 0 < E.2.2.1) (hc : Chg A H H1) (hA : ∀ q, q < H.size → A q → RG tg g q) : RS E tg x g hl sa pb hist gl sl z pd ln H1 := by
  obtain ⟨hmd, harr, hcap, hs, sf, h1, h2, h3, h4, h5, h6, h7, h8, h9, h10⟩ := h
  have no : ∀ {q o j : Nat}, q < H.size → tg q = (o, j) → 8 ≤ j → j ≠ 10 → j < 20 → ¬ A q := fun hq e j8 j10 j20 ha => by
    have e2 := congrArg Prod.snd e
    simp only at e2
    rcases hA _ hq ha with ⟨-, r⟩ | r | r <;> omega
  refine ⟨hmd, harr, hcap, hs, sf, h1.kept hc ⟨no h1.1.lt h8.2 (by decide) (by decide) (by decide), fun ho => no (h1.2.lt ho) (h9 ho) (by decide) (by decide) (by decide)⟩, h2, h3,
    h4.kept hb hc (fun q hq ha => ?_), h5.kept hc (no h5.lt h10.2 (by decide) (by decide) (by decide)), h6.kept hb hc (fun q hq ha => ?_), h7.kept hc (fun q hq ha => ?_), h8, h9, h10⟩
  · rcases hA q hq ha with ⟨r1, r2⟩ | r | r
    · exact ⟨by omega, fun a ha9 h9 => h4.2.1 (by rw [← r1, h9.1]; exact ha9)⟩
    · exact ⟨by omega, fun a _ h9 => by omega⟩
    · exact ⟨by omega, fun a _ h9 => by omega⟩
  · rcases hA q hq ha with ⟨r1, r2⟩ | r | r
    · exact ⟨by omega, fun i a _ hne h9 => hne (by rw [← h9.1, r1])⟩
    · exact ⟨by omega, fun i a _ _ h9 => by omega⟩
    · exact ⟨by omega, fun i a _ _ h9 => by omega⟩
  · rcases hA q hq ha with ⟨r1, r2⟩ | r | r <;> omega
theorem RS.ext (h : RS E tg x g hl sa pb hist gl sl z pd ln H) (hb : E.2.2.2 0 < E.2.2.1) (hE : Ext tg tg' N) (hN : H.size ≤ N) : RS E tg' x g hl sa pb hist gl sl z pd ln H := by
  obtain ⟨hmd, harr, hcap, hs, sf, h1, h2, h3, h4, h5, h6, h7, h8, h9, h10⟩ := h
  have w : ∀ {q : Nat}, q < H.size → q < N := fun h => Nat.lt_of_lt_of_le h hN
  exact ⟨hmd, harr, hcap, hs, sf, h1, h2, h3, h4.ext hb hE hN, h5, h6.ext hb hE hN, h7.ext hE hN, h8.ext hE (w h1.1.lt), fun ho => (hE _ (w (h1.2.lt ho))).trans (h9 ho), h10.ext hE (w h5.lt)⟩
end RST
/-- the whole state: x is a LayeredCharters -/
def XR (E : EV) (tg : TG) (x : Nat) (f : Nat → Int32) (n k : Nat) (hist : Nat → Int32) (sl z pd : Nat → Int32) (gl ln : Nat) (H : Heap) : Prop := ∃ (g hl sa pb : Nat) (pl wr : Int32), oat E x 0 [.ref g, .ref hl, .ref sa, .ref pb, .int pl, .int wr] H ∧ Own E tg x 10 x ∧ GS E tg g f n k H ∧ RS E tg x g hl sa pb hist gl sl z pd ln H
/-- what a method of x may change -/
def XA (E : EV) (tg : TG) (N : Nat) : Nat → Prop := fun q => (Old E q ∧ (tg q).2 < 20 ∧ (tg q).2 ≠ 9) ∨ N ≤ q
theorem XA.of {E : EV} {tg : TG} {N g j q : Nat} (h : Own E tg g j q) (hj : j < 20) (h9 : j ≠ 9) : XA E tg N q := Or.inl ⟨h.1, by rw [h.2]; exact hj, by rw [h.2]; exact h9⟩
theorem XA.old {E : EV} {tg : TG} {H : Heap} {N : Nat} (hN : H.size ≤ N) : ∀ q, q < H.size → XA E tg N q → Old E q := fun q hq h => h.elim (fun h => h.1) (fun h => absurd hq (Nat.not_lt.mpr (Nat.le_trans hN h)))
theorem XA.ext {E : EV} {tg tg' : TG} {N N' : Nat} (hE : Ext tg tg' N) (hN : N ≤ N') : ∀ q, XA E tg' N' q → XA E tg N q := fun q h => by
  rcases h with ⟨h1, h2, h3⟩ | h
  · by_cases hq : q < N
    · rw [hE q hq] at h2 h3; exact Or.inl ⟨h1, h2, h3⟩
    · exact Or.inr (Nat.not_lt.mp hq)
  · exact Or.inr (Nat.le_trans hN h)
theorem XA.no9 {E : EV} {tg : TG} {N q : Nat} (hq : q < N) (h9 : (tg q).2 = 9) : ¬ XA E tg N q := fun h => h.elim (fun h => h.2.2 h9) (fun h => absurd hq (Nat.not_lt.mpr h))
theorem XA.no20 {E : EV} {tg : TG} {N q : Nat} (hq : q < N) (h9 : 20 ≤ (tg q).2) : ¬ XA E tg N q := fun h => h.elim (fun h => absurd h.2.1 (Nat.not_lt.mpr h9)) (fun h => absurd hq (Nat.not_lt.mpr h))
theorem XR.kept {E : EV} {tg : TG} {x n k gl ln : Nat} {f hist sl z pd : Nat → Int32} {H H1 : Heap} {A : Nat → Prop} (h : XR E tg x f n k hist sl z pd gl ln H) (hb : E.2.2.2 0 < E.2.2.1) (hc : Chg A H H1) (hA : ∀ q, q < H.size → A q → 20 ≤ (tg q).2) : XR E tg x f n k hist sl z pd gl ln H1 := by
  obtain ⟨g, hl, sa, pb, pl, wr, h1, h2, h3, h4⟩ := h
  exact ⟨g, hl, sa, pb, pl, wr, h1.kept hc (fun ha => by have := hA _ h1.lt ha; rw [h2.2] at this; exact absurd this (show ¬ 20 ≤ 10 by decide)), h2, h3.kept hb hc (fun q hq ha => by have := hA q hq ha; exact ⟨fun h9 => by omega, by omega⟩), h4.kept hb hc (fun q hq ha => Or.inr (Or.inr (hA q hq ha)))⟩
theorem XR.grow {E : EV} {tg : TG} {x n k gl ln : Nat} {f hist sl z pd : Nat → Int32} {H H1 : Heap} (h : XR E tg x f n k hist sl z pd gl ln H) (hb : E.2.2.2 0 < E.2.2.1) (hc : Chg (fun q => H.size ≤ q) H H1) : XR E tg x f n k hist sl z pd gl ln H1 := h.kept hb hc (fun q h1 h2 => absurd h1 (Nat.not_lt.mpr h2))
theorem XR.ext {E : EV} {tg tg' : TG} {x n k gl ln N : Nat} {f hist sl z pd : Nat → Int32} {H : Heap} (h : XR E tg x f n k hist sl z pd gl ln H) (hb : E.2.2.2 0 < E.2.2.1) (hE : Ext tg tg' N) (hN : H.size ≤ N) : XR E tg' x f n k hist sl z pd gl ln H := by
  obtain ⟨g, hl, sa, pb, pl, wr, h1, h2, h3, h4⟩ := h
  exact ⟨g, hl, sa, pb, pl, wr, h1, h2.ext hE (Nat.lt_of_lt_of_le h1.lt hN), h3.ext hb hE hN, h4.ext hb hE hN⟩
theorem XR.lt {E : EV} {tg : TG} {x n k gl ln : Nat} {f hist sl z pd : Nat → Int32} {H : Heap} (h : XR E tg x f n k hist sl z pd gl ln H) : x < H.size := by
  obtain ⟨g, hl, sa, pb, pl, wr, h1, -⟩ := h
  exact h1.lt
theorem XR.vok {E : EV} {tg : TG} {x n k gl ln : Nat} {f hist sl z pd : Nat → Int32} {H : Heap} (h : XR E tg x f n k hist sl z pd gl ln H) : Vok f n k := by
  obtain ⟨g, hl, sa, pb, pl, wr, h1, h2, h3, -⟩ := h
  exact h3.vok
/-- all old cells of A are of the guild g, of the parts J -/
def TgA (tg : TG) (H : Heap) (A : Nat → Prop) (g : Nat) (J : List Nat) : Prop := ∀ q, q < H.size → A q → (tg q).1 = g ∧ (tg q).2 ∈ J
theorem TgA.no {tg : TG} {H : Heap} {A : Nat → Prop} {g : Nat} {J : List Nat} (h : TgA tg H A g J) {q o j : Nat} (hq : q < H.size) (ht : tg q = (o, j)) (hj : j ∉ J) : ¬ A q := fun ha => hj (by have h9 := (h q hq ha).2; rw [ht] at h9; exact h9)
theorem TgA.no9 {tg : TG} {H : Heap} {A : Nat → Prop} {g : Nat} {J : List Nat} (h : TgA tg H A g J) {q : Nat} (hq : q < H.size) (ht : (tg q).2 = 9) (hj : 9 ∉ J) : ¬ A q := fun ha => hj (by have h9 := (h q hq ha).2; rw [ht] at h9; exact h9)
theorem TgA.rg {tg : TG} {H : Heap} {A : Nat → Prop} {g : Nat} {J : List Nat} (h : TgA tg H A g J) (hJ : ∀ j ∈ J, j < 8) : ∀ q, q < H.size → A q → RG tg g q := fun q hq ha => Or.inl ⟨(h q hq ha).1, hJ _ (h q hq ha).2⟩
theorem TgA.la {E : EV} {tg : TG} {H : Heap} {g L arr i j : Nat} (hL : tg L = (g, i)) (ha : Old E arr → tg arr = (g, j)) : TgA tg H (LA E L arr H.size) g [i, j] := fun q hq h => by
  rcases h with e | ⟨e, ho⟩ | h
  · rw [e, hL]; exact ⟨rfl, List.mem_cons_self⟩
  · rw [e] at ho ⊢; rw [ha ho]; exact ⟨rfl, List.mem_cons_of_mem _ List.mem_cons_self⟩
  · exact absurd hq (Nat.not_lt.mpr h)
theorem TgA.lb {E : EV} {tg : TG} {H : Heap} {g L arr i j : Nat} (hL : tg L = (g, i)) (ha : Old E arr → tg arr = (g, j)) : TgA tg H (fun x => x = L ∨ (x = arr ∧ Old E x)) g [i, j] := fun q hq h => by
  rcases h with e | ⟨e, ho⟩
  · rw [e, hL]; exact ⟨rfl, List.mem_cons_self⟩
  · rw [e] at ho ⊢; rw [ha ho]; exact ⟨rfl, List.mem_cons_of_mem _ List.mem_cons_self⟩
/-! a copied guild gets tags -/
def tgN (tg : TG) (N c L M b arr arr2 : Nat) : TG := fun q => if q < N then tg q else (N, if q = N then 0 else if q = c then 1 else if q = L then 2 else if q = M then 3 else if q = b then 4 else if q = arr then 5 else if q = arr2 then 6 else 7)
theorem tgN_ext {tg : TG} {N c L M b arr arr2 : Nat} : Ext tg (tgN tg N c L M b arr arr2) N := fun q hq => by unfold tgN; rw [if_pos hq]
theorem GS.born {E : EV} {tg : TG} {s : State} {N c L arr cap M arr2 cap2 b B1 : Nat} {md md2 : Int32} {xs ys : List Nat} {n k : Nat} {f : Nat → Int32} {H1 : Heap} (hW : WK E s H1) (hN : E.2.2.1 ≤ N) (hx : GX E N c L arr cap M arr2 cap2 b md md2 xs ys n (ruA f) k (mbA f) (f 2) (fun j => f (3 + j)) (f 8) H1) (hf : GFr E N c L arr M arr2 b B1 ys) (hxs : ∀ x ∈ xs, x < N ∧ (tg x).2 = 9) (hv : Vok f n k) : GS E (tgN tg N c L M b arr arr2) N f n k H1 := by
  obtain ⟨f1, f2, f3, f4, f5, f6, f7, f8⟩ := hf
  have hb := hW.b0
  have hx0 := hx
  obtain ⟨h1, h2, h3, h4, h5, h6⟩ := hx
  have a1 : Old E arr → arr ≠ L := fun ho => Arr.ne hW h2.2.2 h2.2.1 ho
  have a2 : ∀ y ∈ ys, Old E arr2 → arr2 ≠ y := fun y hy ho => by
    obtain ⟨i, hi⟩ := h5.mem y hy
    exact Arr.ne hW h4.2 hi ho
  have o : ∀ q : Nat, N ≤ q → Old E q := fun q h => Nat.le_trans hN h
  have v : ∀ q : Nat, N ≤ q → tgN tg N c L M b arr arr2 q = (N, if q = N then 0 else if q = c then 1 else if q = L then 2 else if q = M then 3 else if q = b then 4 else if q = arr then 5 else if q = arr2 then 6 else 7) := fun q h => by unfold tgN; rw [if_neg (by omega)]
  refine ⟨c, L, arr, cap, M, arr2, cap2, b, md, md2, xs, ys, hx0, ⟨⟨o _ (by omega), ?_⟩, ⟨o _ (by omega), ?_⟩, ⟨o _ (by omega), ?_⟩, ⟨o _ (by omega), ?_⟩, ⟨o _ (by omega), ?_⟩, fun ho => ?_, fun ho => ?_, fun y hy => ⟨o _ (by have := f8 y hy; omega), ?_⟩, fun x hx9 => ?_⟩, hv⟩
  · rw [v _ (by omega), if_pos rfl]
  · rw [v _ (by omega), if_neg (by omega), if_pos rfl]
  · rw [v _ (by omega), if_neg (by omega), if_neg (by omega), if_pos rfl]
  · rw [v _ (by omega), if_neg (by omega), if_neg (by omega), if_neg (by omega), if_pos rfl]
  · rw [v _ (by omega), if_neg (by omega), if_neg (by omega), if_neg (by omega), if_neg (by omega), if_pos rfl]
  · have a3 := a1 ho
    have a4 : E.2.2.1 ≤ arr := ho
    rcases f6 with f6 | f6
    · omega
    · rw [v _ (by omega), if_neg (by omega), if_neg (by omega), if_neg a3, if_neg (by omega), if_neg (by omega), if_pos rfl]
  · have a4 : E.2.2.1 ≤ arr2 := ho
    rcases f7 with f7 | f7
    · omega
    · rw [v _ (by omega), if_neg (by omega), if_neg (by omega), if_neg (by omega), if_neg (by omega), if_neg (by omega), if_neg (by omega), if_pos rfl]
  · have a5 := f8 y hy
    rw [v _ (by omega), if_neg (by omega), if_neg (by omega), if_neg (by omega), if_neg (by omega), if_neg (by omega), if_neg (by omega), if_neg (fun e => a2 y hy (by show E.2.2.1 ≤ arr2; omega) e.symm)]
  · rw [tgN_ext _ (hxs x hx9).1]; exact (hxs x hx9).2
