/-! GUILD: acts -/
set_option maxRecDepth 100000
/-- a guild's cells are its own; its rules are nobody's -/
def GT (E : EV) (tg : TG) (g c L arr M arr2 b : Nat) (xs ys : List Nat) : Prop := Own E tg g 0 g ∧ Own E tg g 1 c ∧ Own E tg g 2 L ∧ Own E tg g 3 M ∧ Own E tg g 4 b ∧ (Old E arr → tg arr = (g, 5)) ∧ (Old E arr2 → tg arr2 = (g, 6)) ∧ (∀ y ∈ ys, Own E tg g 7 y) ∧ ∀ x ∈ xs, (tg x).2 = 9
theorem tne {tg : TG} {u v i j x y : Nat} (hx : tg x = (u, i)) (hy : tg y = (v, j)) (h : i ≠ j) : x ≠ y := fun e => h (by have h1 := hx.symm.trans ((congrArg tg e).trans hy); exact congrArg Prod.snd h1)
theorem tne9 {tg : TG} {v j x y : Nat} (hx : (tg x).2 = 9) (hy : tg y = (v, j)) (h : 9 ≠ j) : x ≠ y := fun e => h (by rw [← hx, e, hy])
theorem Rls.kept {E : EV} {xs : List Nat} {n : Nat} {ru : Nat → RV} {H H1 : Heap} {A : Nat → Prop} (h : Rls E xs n ru H) (hc : Chg A H H1) (hA : ∀ x ∈ xs, ¬ A x) : Rls E xs n ru H1 := ⟨h.1, h.2.1, fun i x hx => (h.2.2 i x hx).kept hc (hA x (List.mem_of_getElem? hx))⟩
/-- the members but the j-th, who is v -/
def mvS (mv : Nat → MV) (j : Nat) (v : MV) : Nat → MV := fun i => if i = j then v else mv i
theorem Mbs.set {E : EV} {ys : List Nat} {k j y : Nat} {mv : Nat → MV} {v : MV} {H H1 : Heap} (h : Mbs E ys k mv H) (hc : ∀ z ∈ ys, z ≠ y → ∀ w : MV, oat E z 4 (mvF w) H → oat E z 4 (mvF w) H1) (hj : ys[j]? = some y) (hy : oat E y 4 (mvF v) H1) : Mbs E ys k (mvS mv j v) H1 := by
  refine ⟨h.1, h.2.1, h.2.2.1, fun i z hz => ?_⟩
  unfold mvS
  by_cases e : i = j
  · subst e; cases hz.symm.trans hj; rw [if_pos rfl]; exact hy
  · rw [if_neg e]
    refine hc z (List.mem_of_getElem? hz) (fun e2 => ?_) _ (h.2.2.2 i z hz)
    subst e2
    have h1 : i < ys.length := (List.getElem?_eq_some_iff.mp hz).1
    exact e ((List.getElem?_inj h1 h.2.2.1).mp (hz.trans hj.symm))
def i01 (b : Bool) : Int32 := if b then 1 else 0
def acR (ru : Nat → RV) (n : Nat) (v : MV) (d : Int32) : Int32 := rsX ru n v.1 d v.2.1
def acM (v : MV) (r : Int32) : MV := (v.1, v.2.1, v.2.2.1 + (if 0 ≤ r then 0 else 1), v.2.2.2 + (if 0 ≤ r then 1 else 0))
def acB (ru : Nat → RV) (n : Nat) (ly : Nat → Int32) (r : Int32) : Nat → Int32 := if inR r 0 (nI n - 1) = true then upd ly (jx (ru (jx r)).1) (ly (jx (ru (jx r)).1) + 1) else ly
theorem hdX1_act : Hd yX1_act 2 := by decide +kernel
set_option maxHeartbeats 1000000 in
set_option maxRecDepth 100000 in
theorem metX1_act (l : Launch) (E : EV) (H : Heap) (g c L arr cap M arr2 cap2 b : Nat) (md md2 : Int32) (xs ys : List Nat) (n : Nat) (ru : Nat → RV) (k : Nat) (mv : Nat → MV) (dn : Int32) (ly : Nat → Int32) (np : Int32) (hgx : GX E g c L arr cap M arr2 cap2 b md md2 xs ys n ru k mv dn ly np H) (tg : TG) (hgt : GT E tg g c L arr M arr2 b xs ys) (j y : Nat) (hjy : ys[j]? = some y) (d : Int32) (hlay : ∀ i, i < n → ∃ w : Nat, w < 5 ∧ (ru i).1 = nI w) : Ct l yX1_act cX1_act 4 (some .int) 7 162 (0) (0) [.ref g, .ref y, .int d] E H (fun q => q = g ∨ q = y ∨ q = b) (pI (fun r H1 => r = acR ru n (mv j) d ∧ GX E g c L arr cap M arr2 cap2 b md md2 xs ys n ru k (mvS mv j (acM (mv j) (acR ru n (mv j) d))) (dn + (if 0 ≤ acR ru n (mv j) d then 0 else 1)) (acB ru n ly (acR ru n (mv j) d)) (np + (if acR ru n (mv j) d = 100 then 1 else 0)) H1)) := by
  obtain ⟨hg, hcx, hrl, hal, hmb, hbl⟩ := hgx
  have hy := hmb.2.2.2 j y hjy
  have hym := List.mem_of_getElem? hjy
  have hcr : CR E c n ru H := ⟨L, md, arr, cap, xs, hcx.1, hcx.2, hrl⟩
  have hc0 := hcx.1
  obtain ⟨tg0, tg1, tg2, tg3, tg4, tg5, tg6, tg7, tg9⟩ := hgt
  have ty := tg7 y hym
  refine Ct.ofZ (by decide) (Nat.le_of_ble_eq_true rfl) ?_
  intro p e s m bl mt cd ls Q hF hW hH hl hend
  obtain ⟨F, hin⟩ := hF
  have hx := F.1
  have hb := F.2.1
  have hts := F.2.2.2.2
  have hl : lv_has ls 4 [(0, .ref g), (1, .ref y), (2, .int d)] := hl
  have hS : va_S (fun q => q = g ∨ q = y ∨ q = b) H H [] := va_S.rf
  generalize hr : acR ru n (mv j) d = r at hend
  have hcx2 := hcx.2
  obtain ⟨cC, hat⟩ := cat (ci := 6) hW rfl
  refine lv_aload_n hx hb dX1_act_0 rfl (lv_at hl 0 rfl) ?_
  refine xget (ref := "LayeredCharters$Guild") (ci := 1) (v := .ref c) (C := RX1) (T := TX1) (N := 5) F in_X1 hW hg rfl 0 (by decide) q119 (fun _ h9 => h9) rfl dX1_act_1 ?_
  refine lv_aload_n hx hb dX1_act_4 rfl (lv_at hl 1 rfl) ?_
  refine xget (ref := "LayeredCharters$Member") (ci := 4) (v := .int ((mv j).1)) (C := RX5) (T := TX5) (N := 4) F in_X5 hW hy rfl 0 (by decide) q334 (fun _ h9 => h9) rfl dX1_act_5 ?_
  refine lv_iload_n hx hb dX1_act_8 rfl (lv_at hl 2 rfl) ?_
  refine lv_aload_n hx hb dX1_act_9 rfl (lv_at hl 1 rfl) ?_
  refine xget (ref := "LayeredCharters$Member") (ci := 4) (v := .int ((mv j).2.1)) (C := RX5) (T := TX5) (N := 4) F in_X5 hW hy rfl 1 (by decide) q337 (fun _ h9 => h9) rfl dX1_act_10 ?_
  refine run_ro (w := .int (rsX ru n ((mv j).1) d ((mv j).2.1))) (rest := []) (kV F hW (metX2_reason l E H c n ru hcr ((mv j).1) d ((mv j).2.1)) (lw_V q734 q735 q736 q44 q737) hdX2_reason ⟨Nat.le_of_ble_eq_true rfl, Nat.le_of_ble_eq_true rfl⟩ (recv hW hc0 rfl) hl.1 rfl (Nat.le_of_ble_eq_true rfl) dX1_act_13 ⟨Nat.le_of_ble_eq_true rfl, Nat.le_of_ble_eq_true rfl⟩) ?_
  refine lv_val (y := r) (show rsX ru n (mv j).1 d (mv j).2.1 = r from hr) ?_
  refine lv_istore_n (lv' := [(3, .int r), (0, .ref g), (1, .ref y), (2, .int d)]) hx hb dX1_act_16 rfl hl (by decide) rfl (fun ls hl => ?_)
  refine lv_aload_n hx hb dX1_act_17 rfl (lv_at hl 2 rfl) ?_
  refine lv_dup hx hb dX1_act_18 rfl ?_
  refine xget (ref := "LayeredCharters$Member") (ci := 4) (v := .int ((mv j).2.2.1)) (C := RX5) (T := TX5) (N := 4) F in_X5 hW hy rfl 2 (by decide) q340 (fun _ h9 => h9) rfl dX1_act_19 ?_
  refine lv_iload_n hx hb dX1_act_22 rfl (lv_at hl 0 rfl) ?_
  refine lv_if_ge (tgt := 30) hx hb dX1_act_23 (by decide) (fun c_1 => ?_) (fun c_1 => ?_)
  · skip
    refine lv_iconst (v := 0) hx hb dX1_act_30 (by decide) ?_
    refine lv_iadd hx hb dX1_act_31 ?_
    refine xput (ref := "LayeredCharters$Member") (ci := 4) (v := .int (((mv j).2.2.1) + 0)) (C := RX5) (T := TX5) (N := 4) F in_X5 tyX5 tyX5_ok nmX5 hW hy hS (Or.inr (Or.inl rfl)) rfl 2 (by decide) q340 (fun _ h9 => h9) rfl rfl rfl (Nat.le_of_ble_eq_true rfl) dX1_act_32 (fun H_2 locs ho_2 hu_2 hS_2 => ?_)
    have ho_2 : oat E y 4 [.int ((mv j).1), .int ((mv j).2.1), .int (((mv j).2.2.1) + 0), .int ((mv j).2.2.2)] H_2 := ho_2
    have hz_H_2 : H_2.size = H.size := hu_2.1
    have hW_H_2 := hW.kept hu_2.chg (fun q _ hq => hq ▸ ty.1)
    have hg_H_2 := hg.kept hu_2.chg (tne tg0.2 ty.2 (by decide))
    have hc0_H_2 := hc0.kept hu_2.chg (tne tg1.2 ty.2 (by decide))
    have hbl_H_2 := hbl.kept hu_2.chg (tne tg4.2 ty.2 (by decide))
    have hcx2_H_2 := hcx2.kept hu_2.chg ⟨(tne tg2.2 ty.2 (by decide)), fun h8 => tne (tg5 h8) ty.2 (by decide)⟩
    have hrl_H_2 := hrl.kept hu_2.chg (fun x hx9 => tne9 (tg9 x hx9) ty.2 (by decide))
    refine lv_aload_n hx hb dX1_act_35 rfl (lv_at hl 1 rfl) ?_
    refine lv_dup hx hb dX1_act_36 rfl ?_
    refine xget (ref := "LayeredCharters$Guild") (ci := 1) (v := .int dn) (C := RX1) (T := TX1) (N := 5) F in_X1 hW_H_2 hg_H_2 rfl 2 (by decide) q123 (fun _ h9 => h9) rfl dX1_act_37 ?_
    refine lv_iload_n hx hb dX1_act_40 rfl (lv_at hl 0 rfl) ?_
    refine lv_if_ge (tgt := 48) hx hb dX1_act_41 (by decide) (fun _ => ?_) (fun c9 => absurd c_1 c9)
    refine lv_iconst (v := 0) hx hb dX1_act_48 (by decide) ?_
    refine lv_iadd hx hb dX1_act_49 ?_
    refine xput (ref := "LayeredCharters$Guild") (ci := 1) (v := .int (dn + 0)) (C := RX1) (T := TX1) (N := 5) F in_X1 tyX1 tyX1_ok nmX1 hW_H_2 hg_H_2 hS_2 (Or.inl rfl) rfl 2 (by decide) q123 (fun _ h9 => h9) rfl rfl rfl (Nat.le_of_ble_eq_true rfl) dX1_act_50 (fun H_3 locs ho_3 hu_3 hS_3 => ?_)
    have ho_3 : oat E g 1 [.ref c, .ref M, .int (dn + 0), .ref b, .int np] H_3 := ho_3
    have hz_H_3 : H_3.size = H_2.size := hu_3.1
    have hW_H_3 := hW_H_2.kept hu_3.chg (fun q _ hq => hq ▸ tg0.1)
    have hc0_H_3 := hc0_H_2.kept hu_3.chg (tne tg1.2 tg0.2 (by decide))
    have hx2_H_3 := ho_2.kept hu_3.chg (tne ty.2 tg0.2 (by decide))
    have hbl_H_3 := hbl_H_2.kept hu_3.chg (tne tg4.2 tg0.2 (by decide))
    have hcx2_H_3 := hcx2_H_2.kept hu_3.chg ⟨(tne tg2.2 tg0.2 (by decide)), fun h8 => tne (tg5 h8) tg0.2 (by decide)⟩
    have hrl_H_3 := hrl_H_2.kept hu_3.chg (fun x hx9 => tne9 (tg9 x hx9) tg0.2 (by decide))
    refine lv_aload_n hx hb dX1_act_53 rfl (lv_at hl 2 rfl) ?_
    refine lv_dup hx hb dX1_act_54 rfl ?_
    refine xget (ref := "LayeredCharters$Member") (ci := 4) (v := .int ((mv j).2.2.2)) (C := RX5) (T := TX5) (N := 4) F in_X5 hW_H_3 hx2_H_3 rfl 3 (by decide) q343 (fun _ h9 => h9) rfl dX1_act_55 ?_
    refine lv_iload_n hx hb dX1_act_58 rfl (lv_at hl 0 rfl) ?_
    refine lv_if_ge (tgt := 66) hx hb dX1_act_59 (by decide) (fun _ => ?_) (fun c9 => absurd c_1 c9)
    refine lv_iconst (v := 1) hx hb dX1_act_66 (by decide) ?_
    refine lv_iadd hx hb dX1_act_67 ?_
    refine xput (ref := "LayeredCharters$Member") (ci := 4) (v := .int (((mv j).2.2.2) + 1)) (C := RX5) (T := TX5) (N := 4) F in_X5 tyX5 tyX5_ok nmX5 hW_H_3 hx2_H_3 hS_3 (Or.inr (Or.inl rfl)) rfl 3 (by decide) q343 (fun _ h9 => h9) rfl rfl rfl (Nat.le_of_ble_eq_true rfl) dX1_act_68 (fun H_4 locs ho_4 hu_4 hS_4 => ?_)
    have ho_4 : oat E y 4 [.int ((mv j).1), .int ((mv j).2.1), .int (((mv j).2.2.1) + 0), .int (((mv j).2.2.2) + 1)] H_4 := ho_4
    have hz_H_4 : H_4.size = H_3.size := hu_4.1
    have hW_H_4 := hW_H_3.kept hu_4.chg (fun q _ hq => hq ▸ ty.1)
    have hx3_H_4 := ho_3.kept hu_4.chg (tne tg0.2 ty.2 (by decide))
    have hc0_H_4 := hc0_H_3.kept hu_4.chg (tne tg1.2 ty.2 (by decide))
    have hbl_H_4 := hbl_H_3.kept hu_4.chg (tne tg4.2 ty.2 (by decide))
    have hcx2_H_4 := hcx2_H_3.kept hu_4.chg ⟨(tne tg2.2 ty.2 (by decide)), fun h8 => tne (tg5 h8) ty.2 (by decide)⟩
    have hrl_H_4 := hrl_H_3.kept hu_4.chg (fun x hx9 => tne9 (tg9 x hx9) ty.2 (by decide))
    refine lv_aload_n hx hb dX1_act_71 rfl (lv_at hl 1 rfl) ?_
    refine lv_dup hx hb dX1_act_72 rfl ?_
    refine xget (ref := "LayeredCharters$Guild") (ci := 1) (v := .int np) (C := RX1) (T := TX1) (N := 5) F in_X1 hW_H_4 hx3_H_4 rfl 4 (by decide) q127 (fun _ h9 => h9) rfl dX1_act_73 ?_
    refine lv_iload_n hx hb dX1_act_76 rfl (lv_at hl 0 rfl) ?_
    refine lv_bipush (v := 100) hx hb dX1_act_77 (by decide) ?_
    refine lv_icmp_ne (tgt := 86) hx hb dX1_act_79 (by decide) (fun c_5 => ?_) (fun c_5 => ?_)
    · skip
      refine lv_iconst (v := 0) hx hb dX1_act_86 (by decide) ?_
      refine lv_iadd hx hb dX1_act_87 ?_
      refine xput (ref := "LayeredCharters$Guild") (ci := 1) (v := .int (np + 0)) (C := RX1) (T := TX1) (N := 5) F in_X1 tyX1 tyX1_ok nmX1 hW_H_4 hx3_H_4 hS_4 (Or.inl rfl) rfl 4 (by decide) q127 (fun _ h9 => h9) rfl rfl rfl (Nat.le_of_ble_eq_true rfl) dX1_act_88 (fun H_6 locs ho_6 hu_6 hS_6 => ?_)
      have ho_6 : oat E g 1 [.ref c, .ref M, .int (dn + 0), .ref b, .int (np + 0)] H_6 := ho_6
      have hz_H_6 : H_6.size = H_4.size := hu_6.1
      have hW_H_6 := hW_H_4.kept hu_6.chg (fun q _ hq => hq ▸ tg0.1)
      have hc0_H_6 := hc0_H_4.kept hu_6.chg (tne tg1.2 tg0.2 (by decide))
      have hx4_H_6 := ho_4.kept hu_6.chg (tne ty.2 tg0.2 (by decide))
      have hbl_H_6 := hbl_H_4.kept hu_6.chg (tne tg4.2 tg0.2 (by decide))
      have hcx2_H_6 := hcx2_H_4.kept hu_6.chg ⟨(tne tg2.2 tg0.2 (by decide)), fun h8 => tne (tg5 h8) tg0.2 (by decide)⟩
      have hrl_H_6 := hrl_H_4.kept hu_6.chg (fun x hx9 => tne9 (tg9 x hx9) tg0.2 (by decide))
      refine lv_aload_n hx hb dX1_act_91 rfl (lv_at hl 1 rfl) ?_
      refine xget (ref := "LayeredCharters$Guild") (ci := 1) (v := .ref c) (C := RX1) (T := TX1) (N := 5) F in_X1 hW_H_6 ho_6 rfl 0 (by decide) q119 (fun _ h9 => h9) rfl dX1_act_92 ?_
      refine lv_iload_n hx hb dX1_act_95 rfl (lv_at hl 0 rfl) ?_
      have hcr2 : CR E c n ru H_6 := ⟨L, md, arr, cap, xs, hc0_H_6, hcx2_H_6, hrl_H_6⟩
      refine run_ro (w := .int (b2i (inR r 0 (nI n - 1)))) (rest := []) (kV F hW_H_6 (metX2_hasRule l E H_6 c n ru hcr2 r) (lw_V q755 q422 q423 q44 q424) hdX2_hasRule ⟨Nat.le_of_ble_eq_true rfl, Nat.le_of_ble_eq_true rfl⟩ (recv hW_H_6 hc0_H_6 rfl) hl.1 rfl (Nat.le_of_ble_eq_true rfl) dX1_act_96 ⟨Nat.le_of_ble_eq_true rfl, Nat.le_of_ble_eq_true rfl⟩) ?_
      refine lv_if_eq (tgt := 130) hx hb dX1_act_99 (by decide) (fun c_7 => ?_) (fun c_7 => ?_)
      · skip
        have bc_7 := c_7
        have c_7 := b2i_f c_7
        refine lv_iload_n hx hb dX1_act_130 rfl (lv_at hl 0 rfl) ?_
        have hby : acB ru n ly r = ly := by unfold acB; rw [if_neg (by rw [c_7]; decide)]
        have hmy : acM (mv j) r = ((mv j).1, (mv j).2.1, ((mv j).2.2.1) + 0, ((mv j).2.2.2) + 1) := by unfold acM; simp [c_1, c_5, c_7]
        have hyE : oat E y 4 (mvF (acM (mv j) r)) H_6 := by rw [hmy]; exact hx4_H_6
        have hgE : oat E g 1 [.ref c, .ref M, .int (dn + (if 0 ≤ r then 0 else 1)), .ref b, .int (np + (if r = 100 then 1 else 0))] H_6 := by simpa [c_1, c_5, c_7] using ho_6
        have hbE : iat E b 0 5 (acB ru n ly r) H_6 := by rw [hby]; exact hbl_H_6
        have hch := hS_6.chg
        have halE := hal.kept hch ⟨fun h9 => h9.elim (tne tg3.2 tg0.2 (by decide)) (fun h8 => h8.elim (tne tg3.2 ty.2 (by decide)) (tne tg3.2 tg4.2 (by decide))), fun h7 h9 => h9.elim (tne (tg6 h7) tg0.2 (by decide)) (fun h8 => h8.elim (tne (tg6 h7) ty.2 (by decide)) (tne (tg6 h7) tg4.2 (by decide)))⟩
        have hmbE := hmb.set (H1 := H_6) (fun z hz hzy w9 hw => hw.kept hch (fun h9 => h9.elim (tne (tg7 z hz).2 tg0.2 (by decide)) (fun h8 => h8.elim hzy (tne (tg7 z hz).2 tg4.2 (by decide))))) hjy hyE
        exact hend _ _ _ _ _ _ _ rfl dX1_act_131 (⟨_, rfl, rfl, hgE, ⟨hc0_H_6, hcx2_H_6⟩, hrl_H_6, halE, hmbE, hbE⟩) hS_6 (Nat.zero_le _) (Nat.zero_le _)
      · skip
        have bc_7 := c_7
        have c_7 := b2i_t c_7
        refine lv_aload_n hx hb dX1_act_102 rfl (lv_at hl 1 rfl) ?_
        refine xget (ref := "LayeredCharters$Guild") (ci := 1) (v := .ref b) (C := RX1) (T := TX1) (N := 5) F in_X1 hW_H_6 ho_6 rfl 3 (by decide) q125 (fun _ h9 => h9) rfl dX1_act_103 ?_
        refine lv_aload_n hx hb dX1_act_106 rfl (lv_at hl 1 rfl) ?_
        refine xget (ref := "LayeredCharters$Guild") (ci := 1) (v := .ref c) (C := RX1) (T := TX1) (N := 5) F in_X1 hW_H_6 ho_6 rfl 0 (by decide) q119 (fun _ h9 => h9) rfl dX1_act_107 ?_
        refine xget (ref := "LayeredCharters$Charter") (ci := 2) (v := .ref L) (C := RX2) (T := TX2) (N := 1) F in_X2 hW_H_6 hc0_H_6 rfl 0 (by decide) q113 (fun _ h9 => h9) rfl dX1_act_110 ?_
        refine lv_iload_n hx hb dX1_act_113 rfl (lv_at hl 0 rfl) ?_
        obtain ⟨i, hi, eri⟩ := idx_of c_7 (by have h9 := hrl.2.1; omega)
        obtain ⟨x_i, hgi⟩ : ∃ x, xs[i]? = some x := ⟨_, List.getElem?_eq_getElem (show i < xs.length by rw [hrl.1]; exact hi)⟩
        have hxi := hrl_H_6.2.2 i x_i hgi
        obtain ⟨lw, hlw, elw⟩ := hlay i hi
        refine lv_val (y := nI i) eri ?_
        refine run_ro5 (w := .ref x_i) (rest := [.ref b]) (kF (x := ⟨"java/util/List", "get", "(I)Ljava/lang/Object;"⟩) F hW_H_6 (metJ2_get l E H_6 L arr cap i x_i xs md hcx2_H_6 hgi) (by decide +kernel) hat q304 q307 q309 q47 q311 hdJ2_getF ⟨Nat.le_of_ble_eq_true rfl, Nat.le_of_ble_eq_true rfl⟩ (recv hW_H_6 hcx2_H_6.1 rfl) hl.1 rfl (Nat.le_of_ble_eq_true rfl) dX1_act_114 ⟨Nat.le_of_ble_eq_true rfl, Nat.le_of_ble_eq_true rfl⟩) ?_
        refine xcast (ci := 5) F hW_H_6 hxi rfl q756 dX1_act_119 ?_
        refine xget (ref := "LayeredCharters$Rule") (ci := 5) (v := .int ((ru i).1)) (C := RX6) (T := TX6) (N := 5) F in_X6 hW_H_6 hxi rfl 0 (by decide) q393 (fun _ h9 => h9) rfl dX1_act_122 ?_
        refine lv_val (y := nI lw) elw ?_
        refine lv_dup2_11 hx hb dX1_act_125 rfl rfl ?_
        refine xild F hW_H_6 hbl_H_6 (vp_in_nI (by omega) (by omega)) dX1_act_126 ?_
        refine lv_val (y := ly lw) ((by rw [nI_clamp (by omega)])) ?_
        refine lv_iconst (v := 1) hx hb dX1_act_127 (by decide) ?_
        refine lv_iadd hx hb dX1_act_128 ?_
        refine xist F hW_H_6 hbl_H_6 hS_6 (Or.inr (Or.inr rfl)) (vp_in_nI (by omega) (by omega)) dX1_act_129 (fun H_8 locs ho_8 hu_8 hS_8 => ?_)
        have ho_8 : iat E b 0 5 (upd ly lw ((ly lw) + 1)) H_8 := by have h9 := ho_8; rw [show (nI lw : Int32).toNatClampNeg = lw from by rw [nI_clamp (by omega)]] at h9; exact h9
        have hz_H_8 : H_8.size = H_6.size := hu_8.1
        have hW_H_8 := hW_H_6.kept hu_8.chg (fun q _ hq => hq ▸ tg4.1)
        have hx6_H_8 := ho_6.kept hu_8.chg (tne tg0.2 tg4.2 (by decide))
        have hc0_H_8 := hc0_H_6.kept hu_8.chg (tne tg1.2 tg4.2 (by decide))
        have hx4_H_8 := hx4_H_6.kept hu_8.chg (tne ty.2 tg4.2 (by decide))
        have hcx2_H_8 := hcx2_H_6.kept hu_8.chg ⟨(tne tg2.2 tg4.2 (by decide)), fun h8 => tne (tg5 h8) tg4.2 (by decide)⟩
        have hrl_H_8 := hrl_H_6.kept hu_8.chg (fun x hx9 => tne9 (tg9 x hx9) tg4.2 (by decide))
        refine lv_iload_n hx hb dX1_act_130 rfl (lv_at hl 0 rfl) ?_
        have hby : acB ru n ly r = upd ly lw ((ly lw) + 1) := by unfold acB; rw [if_pos c_7, eri, jx_nI (show i < 2 ^ 31 by have h9 := hrl.2.1; omega), elw, jx_nI (show lw < 2 ^ 31 by omega)]
        have hmy : acM (mv j) r = ((mv j).1, (mv j).2.1, ((mv j).2.2.1) + 0, ((mv j).2.2.2) + 1) := by unfold acM; simp [c_1, c_5, c_7]
        have hyE : oat E y 4 (mvF (acM (mv j) r)) H_8 := by rw [hmy]; exact hx4_H_8
        have hgE : oat E g 1 [.ref c, .ref M, .int (dn + (if 0 ≤ r then 0 else 1)), .ref b, .int (np + (if r = 100 then 1 else 0))] H_8 := by simpa [c_1, c_5, c_7] using hx6_H_8
        have hbE : iat E b 0 5 (acB ru n ly r) H_8 := by rw [hby]; exact ho_8
        have hch := hS_8.chg
        have halE := hal.kept hch ⟨fun h9 => h9.elim (tne tg3.2 tg0.2 (by decide)) (fun h8 => h8.elim (tne tg3.2 ty.2 (by decide)) (tne tg3.2 tg4.2 (by decide))), fun h7 h9 => h9.elim (tne (tg6 h7) tg0.2 (by decide)) (fun h8 => h8.elim (tne (tg6 h7) ty.2 (by decide)) (tne (tg6 h7) tg4.2 (by decide)))⟩
        have hmbE := hmb.set (H1 := H_8) (fun z hz hzy w9 hw => hw.kept hch (fun h9 => h9.elim (tne (tg7 z hz).2 tg0.2 (by decide)) (fun h8 => h8.elim hzy (tne (tg7 z hz).2 tg4.2 (by decide))))) hjy hyE
        exact hend _ _ _ _ _ _ _ rfl dX1_act_131 (⟨_, rfl, rfl, hgE, ⟨hc0_H_8, hcx2_H_8⟩, hrl_H_8, halE, hmbE, hbE⟩) hS_8 (Nat.zero_le _) (Nat.zero_le _)
    · skip
      refine lv_iconst (v := 1) hx hb dX1_act_82 (by decide) ?_
      refine lv_goto (tgt := 87) hx hb dX1_act_83 (by decide) ?_
      refine lv_iadd hx hb dX1_act_87 ?_
      refine xput (ref := "LayeredCharters$Guild") (ci := 1) (v := .int (np + 1)) (C := RX1) (T := TX1) (N := 5) F in_X1 tyX1 tyX1_ok nmX1 hW_H_4 hx3_H_4 hS_4 (Or.inl rfl) rfl 4 (by decide) q127 (fun _ h9 => h9) rfl rfl rfl (Nat.le_of_ble_eq_true rfl) dX1_act_88 (fun H_9 locs ho_9 hu_9 hS_9 => ?_)
      have ho_9 : oat E g 1 [.ref c, .ref M, .int (dn + 0), .ref b, .int (np + 1)] H_9 := ho_9
      have hz_H_9 : H_9.size = H_4.size := hu_9.1
      have hW_H_9 := hW_H_4.kept hu_9.chg (fun q _ hq => hq ▸ tg0.1)
      have hc0_H_9 := hc0_H_4.kept hu_9.chg (tne tg1.2 tg0.2 (by decide))
      have hx4_H_9 := ho_4.kept hu_9.chg (tne ty.2 tg0.2 (by decide))
      have hbl_H_9 := hbl_H_4.kept hu_9.chg (tne tg4.2 tg0.2 (by decide))
      have hcx2_H_9 := hcx2_H_4.kept hu_9.chg ⟨(tne tg2.2 tg0.2 (by decide)), fun h8 => tne (tg5 h8) tg0.2 (by decide)⟩
      have hrl_H_9 := hrl_H_4.kept hu_9.chg (fun x hx9 => tne9 (tg9 x hx9) tg0.2 (by decide))
      refine lv_aload_n hx hb dX1_act_91 rfl (lv_at hl 1 rfl) ?_
      refine xget (ref := "LayeredCharters$Guild") (ci := 1) (v := .ref c) (C := RX1) (T := TX1) (N := 5) F in_X1 hW_H_9 ho_9 rfl 0 (by decide) q119 (fun _ h9 => h9) rfl dX1_act_92 ?_
      refine lv_iload_n hx hb dX1_act_95 rfl (lv_at hl 0 rfl) ?_
      have hcr2 : CR E c n ru H_9 := ⟨L, md, arr, cap, xs, hc0_H_9, hcx2_H_9, hrl_H_9⟩
      refine run_ro (w := .int (b2i (inR r 0 (nI n - 1)))) (rest := []) (kV F hW_H_9 (metX2_hasRule l E H_9 c n ru hcr2 r) (lw_V q755 q422 q423 q44 q424) hdX2_hasRule ⟨Nat.le_of_ble_eq_true rfl, Nat.le_of_ble_eq_true rfl⟩ (recv hW_H_9 hc0_H_9 rfl) hl.1 rfl (Nat.le_of_ble_eq_true rfl) dX1_act_96 ⟨Nat.le_of_ble_eq_true rfl, Nat.le_of_ble_eq_true rfl⟩) ?_
      refine lv_if_eq (tgt := 130) hx hb dX1_act_99 (by decide) (fun c_10 => ?_) (fun c_10 => ?_)
      · skip
        have bc_10 := c_10
        have c_10 := b2i_f c_10
        refine lv_iload_n hx hb dX1_act_130 rfl (lv_at hl 0 rfl) ?_
        have hby : acB ru n ly r = ly := by unfold acB; rw [if_neg (by rw [c_10]; decide)]
        have hmy : acM (mv j) r = ((mv j).1, (mv j).2.1, ((mv j).2.2.1) + 0, ((mv j).2.2.2) + 1) := by unfold acM; simp [c_1, c_5, c_10]
        have hyE : oat E y 4 (mvF (acM (mv j) r)) H_9 := by rw [hmy]; exact hx4_H_9
        have hgE : oat E g 1 [.ref c, .ref M, .int (dn + (if 0 ≤ r then 0 else 1)), .ref b, .int (np + (if r = 100 then 1 else 0))] H_9 := by simpa [c_1, c_5, c_10] using ho_9
        have hbE : iat E b 0 5 (acB ru n ly r) H_9 := by rw [hby]; exact hbl_H_9
        have hch := hS_9.chg
        have halE := hal.kept hch ⟨fun h9 => h9.elim (tne tg3.2 tg0.2 (by decide)) (fun h8 => h8.elim (tne tg3.2 ty.2 (by decide)) (tne tg3.2 tg4.2 (by decide))), fun h7 h9 => h9.elim (tne (tg6 h7) tg0.2 (by decide)) (fun h8 => h8.elim (tne (tg6 h7) ty.2 (by decide)) (tne (tg6 h7) tg4.2 (by decide)))⟩
        have hmbE := hmb.set (H1 := H_9) (fun z hz hzy w9 hw => hw.kept hch (fun h9 => h9.elim (tne (tg7 z hz).2 tg0.2 (by decide)) (fun h8 => h8.elim hzy (tne (tg7 z hz).2 tg4.2 (by decide))))) hjy hyE
        exact hend _ _ _ _ _ _ _ rfl dX1_act_131 (⟨_, rfl, rfl, hgE, ⟨hc0_H_9, hcx2_H_9⟩, hrl_H_9, halE, hmbE, hbE⟩) hS_9 (Nat.zero_le _) (Nat.zero_le _)
      · skip
        have bc_10 := c_10
        have c_10 := b2i_t c_10
        refine lv_aload_n hx hb dX1_act_102 rfl (lv_at hl 1 rfl) ?_
        refine xget (ref := "LayeredCharters$Guild") (ci := 1) (v := .ref b) (C := RX1) (T := TX1) (N := 5) F in_X1 hW_H_9 ho_9 rfl 3 (by decide) q125 (fun _ h9 => h9) rfl dX1_act_103 ?_
        refine lv_aload_n hx hb dX1_act_106 rfl (lv_at hl 1 rfl) ?_
        refine xget (ref := "LayeredCharters$Guild") (ci := 1) (v := .ref c) (C := RX1) (T := TX1) (N := 5) F in_X1 hW_H_9 ho_9 rfl 0 (by decide) q119 (fun _ h9 => h9) rfl dX1_act_107 ?_
        refine xget (ref := "LayeredCharters$Charter") (ci := 2) (v := .ref L) (C := RX2) (T := TX2) (N := 1) F in_X2 hW_H_9 hc0_H_9 rfl 0 (by decide) q113 (fun _ h9 => h9) rfl dX1_act_110 ?_
        refine lv_iload_n hx hb dX1_act_113 rfl (lv_at hl 0 rfl) ?_
        obtain ⟨i, hi, eri⟩ := idx_of c_10 (by have h9 := hrl.2.1; omega)
        obtain ⟨x_i, hgi⟩ : ∃ x, xs[i]? = some x := ⟨_, List.getElem?_eq_getElem (show i < xs.length by rw [hrl.1]; exact hi)⟩
        have hxi := hrl_H_9.2.2 i x_i hgi
        obtain ⟨lw, hlw, elw⟩ := hlay i hi
        refine lv_val (y := nI i) eri ?_
        refine run_ro5 (w := .ref x_i) (rest := [.ref b]) (kF (x := ⟨"java/util/List", "get", "(I)Ljava/lang/Object;"⟩) F hW_H_9 (metJ2_get l E H_9 L arr cap i x_i xs md hcx2_H_9 hgi) (by decide +kernel) hat q304 q307 q309 q47 q311 hdJ2_getF ⟨Nat.le_of_ble_eq_true rfl, Nat.le_of_ble_eq_true rfl⟩ (recv hW_H_9 hcx2_H_9.1 rfl) hl.1 rfl (Nat.le_of_ble_eq_true rfl) dX1_act_114 ⟨Nat.le_of_ble_eq_true rfl, Nat.le_of_ble_eq_true rfl⟩) ?_
        refine xcast (ci := 5) F hW_H_9 hxi rfl q756 dX1_act_119 ?_
        refine xget (ref := "LayeredCharters$Rule") (ci := 5) (v := .int ((ru i).1)) (C := RX6) (T := TX6) (N := 5) F in_X6 hW_H_9 hxi rfl 0 (by decide) q393 (fun _ h9 => h9) rfl dX1_act_122 ?_
        refine lv_val (y := nI lw) elw ?_
        refine lv_dup2_11 hx hb dX1_act_125 rfl rfl ?_
        refine xild F hW_H_9 hbl_H_9 (vp_in_nI (by omega) (by omega)) dX1_act_126 ?_
        refine lv_val (y := ly lw) ((by rw [nI_clamp (by omega)])) ?_
        refine lv_iconst (v := 1) hx hb dX1_act_127 (by decide) ?_
        refine lv_iadd hx hb dX1_act_128 ?_
        refine xist F hW_H_9 hbl_H_9 hS_9 (Or.inr (Or.inr rfl)) (vp_in_nI (by omega) (by omega)) dX1_act_129 (fun H_11 locs ho_11 hu_11 hS_11 => ?_)
        have ho_11 : iat E b 0 5 (upd ly lw ((ly lw) + 1)) H_11 := by have h9 := ho_11; rw [show (nI lw : Int32).toNatClampNeg = lw from by rw [nI_clamp (by omega)]] at h9; exact h9
        have hz_H_11 : H_11.size = H_9.size := hu_11.1
        have hW_H_11 := hW_H_9.kept hu_11.chg (fun q _ hq => hq ▸ tg4.1)
        have hx9_H_11 := ho_9.kept hu_11.chg (tne tg0.2 tg4.2 (by decide))
        have hc0_H_11 := hc0_H_9.kept hu_11.chg (tne tg1.2 tg4.2 (by decide))
        have hx4_H_11 := hx4_H_9.kept hu_11.chg (tne ty.2 tg4.2 (by decide))
        have hcx2_H_11 := hcx2_H_9.kept hu_11.chg ⟨(tne tg2.2 tg4.2 (by decide)), fun h8 => tne (tg5 h8) tg4.2 (by decide)⟩
        have hrl_H_11 := hrl_H_9.kept hu_11.chg (fun x hx9 => tne9 (tg9 x hx9) tg4.2 (by decide))
        refine lv_iload_n hx hb dX1_act_130 rfl (lv_at hl 0 rfl) ?_
        have hby : acB ru n ly r = upd ly lw ((ly lw) + 1) := by unfold acB; rw [if_pos c_10, eri, jx_nI (show i < 2 ^ 31 by have h9 := hrl.2.1; omega), elw, jx_nI (show lw < 2 ^ 31 by omega)]
        have hmy : acM (mv j) r = ((mv j).1, (mv j).2.1, ((mv j).2.2.1) + 0, ((mv j).2.2.2) + 1) := by unfold acM; simp [c_1, c_5, c_10]
        have hyE : oat E y 4 (mvF (acM (mv j) r)) H_11 := by rw [hmy]; exact hx4_H_11
        have hgE : oat E g 1 [.ref c, .ref M, .int (dn + (if 0 ≤ r then 0 else 1)), .ref b, .int (np + (if r = 100 then 1 else 0))] H_11 := by simpa [c_1, c_5, c_10] using hx9_H_11
        have hbE : iat E b 0 5 (acB ru n ly r) H_11 := by rw [hby]; exact ho_11
        have hch := hS_11.chg
        have halE := hal.kept hch ⟨fun h9 => h9.elim (tne tg3.2 tg0.2 (by decide)) (fun h8 => h8.elim (tne tg3.2 ty.2 (by decide)) (tne tg3.2 tg4.2 (by decide))), fun h7 h9 => h9.elim (tne (tg6 h7) tg0.2 (by decide)) (fun h8 => h8.elim (tne (tg6 h7) ty.2 (by decide)) (tne (tg6 h7) tg4.2 (by decide)))⟩
        have hmbE := hmb.set (H1 := H_11) (fun z hz hzy w9 hw => hw.kept hch (fun h9 => h9.elim (tne (tg7 z hz).2 tg0.2 (by decide)) (fun h8 => h8.elim hzy (tne (tg7 z hz).2 tg4.2 (by decide))))) hjy hyE
        exact hend _ _ _ _ _ _ _ rfl dX1_act_131 (⟨_, rfl, rfl, hgE, ⟨hc0_H_11, hcx2_H_11⟩, hrl_H_11, halE, hmbE, hbE⟩) hS_11 (Nat.zero_le _) (Nat.zero_le _)
  · skip
    refine lv_iconst (v := 1) hx hb dX1_act_26 (by decide) ?_
    refine lv_goto (tgt := 31) hx hb dX1_act_27 (by decide) ?_
    refine lv_iadd hx hb dX1_act_31 ?_
    refine xput (ref := "LayeredCharters$Member") (ci := 4) (v := .int (((mv j).2.2.1) + 1)) (C := RX5) (T := TX5) (N := 4) F in_X5 tyX5 tyX5_ok nmX5 hW hy hS (Or.inr (Or.inl rfl)) rfl 2 (by decide) q340 (fun _ h9 => h9) rfl rfl rfl (Nat.le_of_ble_eq_true rfl) dX1_act_32 (fun H_12 locs ho_12 hu_12 hS_12 => ?_)
    have ho_12 : oat E y 4 [.int ((mv j).1), .int ((mv j).2.1), .int (((mv j).2.2.1) + 1), .int ((mv j).2.2.2)] H_12 := ho_12
    have hz_H_12 : H_12.size = H.size := hu_12.1
    have hW_H_12 := hW.kept hu_12.chg (fun q _ hq => hq ▸ ty.1)
    have hg_H_12 := hg.kept hu_12.chg (tne tg0.2 ty.2 (by decide))
    have hc0_H_12 := hc0.kept hu_12.chg (tne tg1.2 ty.2 (by decide))
    have hbl_H_12 := hbl.kept hu_12.chg (tne tg4.2 ty.2 (by decide))
    have hcx2_H_12 := hcx2.kept hu_12.chg ⟨(tne tg2.2 ty.2 (by decide)), fun h8 => tne (tg5 h8) ty.2 (by decide)⟩
    have hrl_H_12 := hrl.kept hu_12.chg (fun x hx9 => tne9 (tg9 x hx9) ty.2 (by decide))
    refine lv_aload_n hx hb dX1_act_35 rfl (lv_at hl 1 rfl) ?_
    refine lv_dup hx hb dX1_act_36 rfl ?_
    refine xget (ref := "LayeredCharters$Guild") (ci := 1) (v := .int dn) (C := RX1) (T := TX1) (N := 5) F in_X1 hW_H_12 hg_H_12 rfl 2 (by decide) q123 (fun _ h9 => h9) rfl dX1_act_37 ?_
    refine lv_iload_n hx hb dX1_act_40 rfl (lv_at hl 0 rfl) ?_
    refine lv_if_ge (tgt := 48) hx hb dX1_act_41 (by decide) (fun c9 => absurd c9 c_1) (fun _ => ?_)
    refine lv_iconst (v := 1) hx hb dX1_act_44 (by decide) ?_
    refine lv_goto (tgt := 49) hx hb dX1_act_45 (by decide) ?_
    refine lv_iadd hx hb dX1_act_49 ?_
    refine xput (ref := "LayeredCharters$Guild") (ci := 1) (v := .int (dn + 1)) (C := RX1) (T := TX1) (N := 5) F in_X1 tyX1 tyX1_ok nmX1 hW_H_12 hg_H_12 hS_12 (Or.inl rfl) rfl 2 (by decide) q123 (fun _ h9 => h9) rfl rfl rfl (Nat.le_of_ble_eq_true rfl) dX1_act_50 (fun H_13 locs ho_13 hu_13 hS_13 => ?_)
    have ho_13 : oat E g 1 [.ref c, .ref M, .int (dn + 1), .ref b, .int np] H_13 := ho_13
    have hz_H_13 : H_13.size = H_12.size := hu_13.1
    have hW_H_13 := hW_H_12.kept hu_13.chg (fun q _ hq => hq ▸ tg0.1)
    have hc0_H_13 := hc0_H_12.kept hu_13.chg (tne tg1.2 tg0.2 (by decide))
    have hx12_H_13 := ho_12.kept hu_13.chg (tne ty.2 tg0.2 (by decide))
    have hbl_H_13 := hbl_H_12.kept hu_13.chg (tne tg4.2 tg0.2 (by decide))
    have hcx2_H_13 := hcx2_H_12.kept hu_13.chg ⟨(tne tg2.2 tg0.2 (by decide)), fun h8 => tne (tg5 h8) tg0.2 (by decide)⟩
    have hrl_H_13 := hrl_H_12.kept hu_13.chg (fun x hx9 => tne9 (tg9 x hx9) tg0.2 (by decide))
    refine lv_aload_n hx hb dX1_act_53 rfl (lv_at hl 2 rfl) ?_
    refine lv_dup hx hb dX1_act_54 rfl ?_
    refine xget (ref := "LayeredCharters$Member") (ci := 4) (v := .int ((mv j).2.2.2)) (C := RX5) (T := TX5) (N := 4) F in_X5 hW_H_13 hx12_H_13 rfl 3 (by decide) q343 (fun _ h9 => h9) rfl dX1_act_55 ?_
    refine lv_iload_n hx hb dX1_act_58 rfl (lv_at hl 0 rfl) ?_
    refine lv_if_ge (tgt := 66) hx hb dX1_act_59 (by decide) (fun c9 => absurd c9 c_1) (fun _ => ?_)
    refine lv_iconst (v := 0) hx hb dX1_act_62 (by decide) ?_
    refine lv_goto (tgt := 67) hx hb dX1_act_63 (by decide) ?_
    refine lv_iadd hx hb dX1_act_67 ?_
    refine xput (ref := "LayeredCharters$Member") (ci := 4) (v := .int (((mv j).2.2.2) + 0)) (C := RX5) (T := TX5) (N := 4) F in_X5 tyX5 tyX5_ok nmX5 hW_H_13 hx12_H_13 hS_13 (Or.inr (Or.inl rfl)) rfl 3 (by decide) q343 (fun _ h9 => h9) rfl rfl rfl (Nat.le_of_ble_eq_true rfl) dX1_act_68 (fun H_14 locs ho_14 hu_14 hS_14 => ?_)
    have ho_14 : oat E y 4 [.int ((mv j).1), .int ((mv j).2.1), .int (((mv j).2.2.1) + 1), .int (((mv j).2.2.2) + 0)] H_14 := ho_14
    have hz_H_14 : H_14.size = H_13.size := hu_14.1
    have hW_H_14 := hW_H_13.kept hu_14.chg (fun q _ hq => hq ▸ ty.1)
    have hx13_H_14 := ho_13.kept hu_14.chg (tne tg0.2 ty.2 (by decide))
    have hc0_H_14 := hc0_H_13.kept hu_14.chg (tne tg1.2 ty.2 (by decide))
    have hbl_H_14 := hbl_H_13.kept hu_14.chg (tne tg4.2 ty.2 (by decide))
    have hcx2_H_14 := hcx2_H_13.kept hu_14.chg ⟨(tne tg2.2 ty.2 (by decide)), fun h8 => tne (tg5 h8) ty.2 (by decide)⟩
    have hrl_H_14 := hrl_H_13.kept hu_14.chg (fun x hx9 => tne9 (tg9 x hx9) ty.2 (by decide))
    refine lv_aload_n hx hb dX1_act_71 rfl (lv_at hl 1 rfl) ?_
    refine lv_dup hx hb dX1_act_72 rfl ?_
    refine xget (ref := "LayeredCharters$Guild") (ci := 1) (v := .int np) (C := RX1) (T := TX1) (N := 5) F in_X1 hW_H_14 hx13_H_14 rfl 4 (by decide) q127 (fun _ h9 => h9) rfl dX1_act_73 ?_
    refine lv_iload_n hx hb dX1_act_76 rfl (lv_at hl 0 rfl) ?_
    refine lv_bipush (v := 100) hx hb dX1_act_77 (by decide) ?_
    refine lv_icmp_ne (tgt := 86) hx hb dX1_act_79 (by decide) (fun _ => ?_) (fun c9 => absurd c9 (fun h9 : r = 100 => c_1 (by rw [h9]; decide)))
    refine lv_iconst (v := 0) hx hb dX1_act_86 (by decide) ?_
    refine lv_iadd hx hb dX1_act_87 ?_
    refine xput (ref := "LayeredCharters$Guild") (ci := 1) (v := .int (np + 0)) (C := RX1) (T := TX1) (N := 5) F in_X1 tyX1 tyX1_ok nmX1 hW_H_14 hx13_H_14 hS_14 (Or.inl rfl) rfl 4 (by decide) q127 (fun _ h9 => h9) rfl rfl rfl (Nat.le_of_ble_eq_true rfl) dX1_act_88 (fun H_15 locs ho_15 hu_15 hS_15 => ?_)
    have ho_15 : oat E g 1 [.ref c, .ref M, .int (dn + 1), .ref b, .int (np + 0)] H_15 := ho_15
    have hz_H_15 : H_15.size = H_14.size := hu_15.1
    have hW_H_15 := hW_H_14.kept hu_15.chg (fun q _ hq => hq ▸ tg0.1)
    have hc0_H_15 := hc0_H_14.kept hu_15.chg (tne tg1.2 tg0.2 (by decide))
    have hx14_H_15 := ho_14.kept hu_15.chg (tne ty.2 tg0.2 (by decide))
    have hbl_H_15 := hbl_H_14.kept hu_15.chg (tne tg4.2 tg0.2 (by decide))
    have hcx2_H_15 := hcx2_H_14.kept hu_15.chg ⟨(tne tg2.2 tg0.2 (by decide)), fun h8 => tne (tg5 h8) tg0.2 (by decide)⟩
    have hrl_H_15 := hrl_H_14.kept hu_15.chg (fun x hx9 => tne9 (tg9 x hx9) tg0.2 (by decide))
    refine lv_aload_n hx hb dX1_act_91 rfl (lv_at hl 1 rfl) ?_
    refine xget (ref := "LayeredCharters$Guild") (ci := 1) (v := .ref c) (C := RX1) (T := TX1) (N := 5) F in_X1 hW_H_15 ho_15 rfl 0 (by decide) q119 (fun _ h9 => h9) rfl dX1_act_92 ?_
    refine lv_iload_n hx hb dX1_act_95 rfl (lv_at hl 0 rfl) ?_
    have hcr2 : CR E c n ru H_15 := ⟨L, md, arr, cap, xs, hc0_H_15, hcx2_H_15, hrl_H_15⟩
    refine run_ro (w := .int (b2i (inR r 0 (nI n - 1)))) (rest := []) (kV F hW_H_15 (metX2_hasRule l E H_15 c n ru hcr2 r) (lw_V q755 q422 q423 q44 q424) hdX2_hasRule ⟨Nat.le_of_ble_eq_true rfl, Nat.le_of_ble_eq_true rfl⟩ (recv hW_H_15 hc0_H_15 rfl) hl.1 rfl (Nat.le_of_ble_eq_true rfl) dX1_act_96 ⟨Nat.le_of_ble_eq_true rfl, Nat.le_of_ble_eq_true rfl⟩) ?_
    refine lv_if_eq (tgt := 130) hx hb dX1_act_99 (by decide) (fun c_16 => ?_) (fun c_16 => ?_)
    · skip
      have bc_16 := c_16
      have c_16 := b2i_f c_16
      refine lv_iload_n hx hb dX1_act_130 rfl (lv_at hl 0 rfl) ?_
      have hn100 : ¬ r = 100 := fun h9 => c_1 (by rw [h9]; decide)
      have hby : acB ru n ly r = ly := by unfold acB; rw [if_neg (by rw [c_16]; decide)]
      have hmy : acM (mv j) r = ((mv j).1, (mv j).2.1, ((mv j).2.2.1) + 1, ((mv j).2.2.2) + 0) := by unfold acM; simp [hn100, c_1, c_16]
      have hyE : oat E y 4 (mvF (acM (mv j) r)) H_15 := by rw [hmy]; exact hx14_H_15
      have hgE : oat E g 1 [.ref c, .ref M, .int (dn + (if 0 ≤ r then 0 else 1)), .ref b, .int (np + (if r = 100 then 1 else 0))] H_15 := by simpa [hn100, c_1, c_16] using ho_15
      have hbE : iat E b 0 5 (acB ru n ly r) H_15 := by rw [hby]; exact hbl_H_15
      have hch := hS_15.chg
      have halE := hal.kept hch ⟨fun h9 => h9.elim (tne tg3.2 tg0.2 (by decide)) (fun h8 => h8.elim (tne tg3.2 ty.2 (by decide)) (tne tg3.2 tg4.2 (by decide))), fun h7 h9 => h9.elim (tne (tg6 h7) tg0.2 (by decide)) (fun h8 => h8.elim (tne (tg6 h7) ty.2 (by decide)) (tne (tg6 h7) tg4.2 (by decide)))⟩
      have hmbE := hmb.set (H1 := H_15) (fun z hz hzy w9 hw => hw.kept hch (fun h9 => h9.elim (tne (tg7 z hz).2 tg0.2 (by decide)) (fun h8 => h8.elim hzy (tne (tg7 z hz).2 tg4.2 (by decide))))) hjy hyE
      exact hend _ _ _ _ _ _ _ rfl dX1_act_131 (⟨_, rfl, rfl, hgE, ⟨hc0_H_15, hcx2_H_15⟩, hrl_H_15, halE, hmbE, hbE⟩) hS_15 (Nat.zero_le _) (Nat.zero_le _)
    · skip
      have bc_16 := c_16
      have c_16 := b2i_t c_16
      refine lv_aload_n hx hb dX1_act_102 rfl (lv_at hl 1 rfl) ?_
      refine xget (ref := "LayeredCharters$Guild") (ci := 1) (v := .ref b) (C := RX1) (T := TX1) (N := 5) F in_X1 hW_H_15 ho_15 rfl 3 (by decide) q125 (fun _ h9 => h9) rfl dX1_act_103 ?_
      refine lv_aload_n hx hb dX1_act_106 rfl (lv_at hl 1 rfl) ?_
      refine xget (ref := "LayeredCharters$Guild") (ci := 1) (v := .ref c) (C := RX1) (T := TX1) (N := 5) F in_X1 hW_H_15 ho_15 rfl 0 (by decide) q119 (fun _ h9 => h9) rfl dX1_act_107 ?_
      refine xget (ref := "LayeredCharters$Charter") (ci := 2) (v := .ref L) (C := RX2) (T := TX2) (N := 1) F in_X2 hW_H_15 hc0_H_15 rfl 0 (by decide) q113 (fun _ h9 => h9) rfl dX1_act_110 ?_
      refine lv_iload_n hx hb dX1_act_113 rfl (lv_at hl 0 rfl) ?_
      obtain ⟨i, hi, eri⟩ := idx_of c_16 (by have h9 := hrl.2.1; omega)
      obtain ⟨x_i, hgi⟩ : ∃ x, xs[i]? = some x := ⟨_, List.getElem?_eq_getElem (show i < xs.length by rw [hrl.1]; exact hi)⟩
      have hxi := hrl_H_15.2.2 i x_i hgi
      obtain ⟨lw, hlw, elw⟩ := hlay i hi
      refine lv_val (y := nI i) eri ?_
      refine run_ro5 (w := .ref x_i) (rest := [.ref b]) (kF (x := ⟨"java/util/List", "get", "(I)Ljava/lang/Object;"⟩) F hW_H_15 (metJ2_get l E H_15 L arr cap i x_i xs md hcx2_H_15 hgi) (by decide +kernel) hat q304 q307 q309 q47 q311 hdJ2_getF ⟨Nat.le_of_ble_eq_true rfl, Nat.le_of_ble_eq_true rfl⟩ (recv hW_H_15 hcx2_H_15.1 rfl) hl.1 rfl (Nat.le_of_ble_eq_true rfl) dX1_act_114 ⟨Nat.le_of_ble_eq_true rfl, Nat.le_of_ble_eq_true rfl⟩) ?_
      refine xcast (ci := 5) F hW_H_15 hxi rfl q756 dX1_act_119 ?_
      refine xget (ref := "LayeredCharters$Rule") (ci := 5) (v := .int ((ru i).1)) (C := RX6) (T := TX6) (N := 5) F in_X6 hW_H_15 hxi rfl 0 (by decide) q393 (fun _ h9 => h9) rfl dX1_act_122 ?_
      refine lv_val (y := nI lw) elw ?_
      refine lv_dup2_11 hx hb dX1_act_125 rfl rfl ?_
      refine xild F hW_H_15 hbl_H_15 (vp_in_nI (by omega) (by omega)) dX1_act_126 ?_
      refine lv_val (y := ly lw) ((by rw [nI_clamp (by omega)])) ?_
      refine lv_iconst (v := 1) hx hb dX1_act_127 (by decide) ?_
      refine lv_iadd hx hb dX1_act_128 ?_
      refine xist F hW_H_15 hbl_H_15 hS_15 (Or.inr (Or.inr rfl)) (vp_in_nI (by omega) (by omega)) dX1_act_129 (fun H_17 locs ho_17 hu_17 hS_17 => ?_)
      have ho_17 : iat E b 0 5 (upd ly lw ((ly lw) + 1)) H_17 := by have h9 := ho_17; rw [show (nI lw : Int32).toNatClampNeg = lw from by rw [nI_clamp (by omega)]] at h9; exact h9
      have hz_H_17 : H_17.size = H_15.size := hu_17.1
      have hW_H_17 := hW_H_15.kept hu_17.chg (fun q _ hq => hq ▸ tg4.1)
      have hx15_H_17 := ho_15.kept hu_17.chg (tne tg0.2 tg4.2 (by decide))
      have hc0_H_17 := hc0_H_15.kept hu_17.chg (tne tg1.2 tg4.2 (by decide))
      have hx14_H_17 := hx14_H_15.kept hu_17.chg (tne ty.2 tg4.2 (by decide))
      have hcx2_H_17 := hcx2_H_15.kept hu_17.chg ⟨(tne tg2.2 tg4.2 (by decide)), fun h8 => tne (tg5 h8) tg4.2 (by decide)⟩
      have hrl_H_17 := hrl_H_15.kept hu_17.chg (fun x hx9 => tne9 (tg9 x hx9) tg4.2 (by decide))
      refine lv_iload_n hx hb dX1_act_130 rfl (lv_at hl 0 rfl) ?_
      have hn100 : ¬ r = 100 := fun h9 => c_1 (by rw [h9]; decide)
      have hby : acB ru n ly r = upd ly lw ((ly lw) + 1) := by unfold acB; rw [if_pos c_16, eri, jx_nI (show i < 2 ^ 31 by have h9 := hrl.2.1; omega), elw, jx_nI (show lw < 2 ^ 31 by omega)]
      have hmy : acM (mv j) r = ((mv j).1, (mv j).2.1, ((mv j).2.2.1) + 1, ((mv j).2.2.2) + 0) := by unfold acM; simp [hn100, c_1, c_16]
      have hyE : oat E y 4 (mvF (acM (mv j) r)) H_17 := by rw [hmy]; exact hx14_H_17
      have hgE : oat E g 1 [.ref c, .ref M, .int (dn + (if 0 ≤ r then 0 else 1)), .ref b, .int (np + (if r = 100 then 1 else 0))] H_17 := by simpa [hn100, c_1, c_16] using hx15_H_17
      have hbE : iat E b 0 5 (acB ru n ly r) H_17 := by rw [hby]; exact ho_17
      have hch := hS_17.chg
      have halE := hal.kept hch ⟨fun h9 => h9.elim (tne tg3.2 tg0.2 (by decide)) (fun h8 => h8.elim (tne tg3.2 ty.2 (by decide)) (tne tg3.2 tg4.2 (by decide))), fun h7 h9 => h9.elim (tne (tg6 h7) tg0.2 (by decide)) (fun h8 => h8.elim (tne (tg6 h7) ty.2 (by decide)) (tne (tg6 h7) tg4.2 (by decide)))⟩
      have hmbE := hmb.set (H1 := H_17) (fun z hz hzy w9 hw => hw.kept hch (fun h9 => h9.elim (tne (tg7 z hz).2 tg0.2 (by decide)) (fun h8 => h8.elim hzy (tne (tg7 z hz).2 tg4.2 (by decide))))) hjy hyE
      exact hend _ _ _ _ _ _ _ rfl dX1_act_131 (⟨_, rfl, rfl, hgE, ⟨hc0_H_17, hcx2_H_17⟩, hrl_H_17, halE, hmbE, hbE⟩) hS_17 (Nat.zero_le _) (Nat.zero_le _)

