/-! CHARTER: what only reads -/
set_option maxRecDepth 100000
theorem b2i_tt : b2i true = 1 := rfl
theorem b2i_ff : b2i false = 0 := rfl
theorem b2i_or0 (a : Bool) : b2i a ||| 0 = b2i a := by cases a <;> rfl
theorem b2i_or1 (a : Bool) : b2i a ||| 1 = 1 := by cases a <;> rfl
theorem b2i_orb (a b : Bool) : b2i a ||| b2i b = b2i (a || b) := by cases a <;> cases b <;> rfl
theorem b2i_and0 (a : Bool) : b2i a &&& 0 = 0 := by cases a <;> rfl
theorem b2i_and1 (a : Bool) : b2i a &&& 1 = b2i a := by cases a <;> rfl
/-- the rules at xs: ru -/
def Rls (E : EV) (xs : List Nat) (n : Nat) (ru : Nat → RV) (H : Heap) : Prop := xs.length = n ∧ n ≤ 25 ∧ ∀ i x, xs[i]? = some x → oat E x 5 (rvF (ru i)) H
/-- a charter of n rules -/
def CR (E : EV) (c n : Nat) (ru : Nat → RV) (H : Heap) : Prop := ∃ (L : Nat) (md : Int32) (arr cap : Nat) (xs : List Nat), oat E c 2 [.ref L] H ∧ AL E L md arr cap xs H ∧ Rls E xs n ru H
def pmXst (ru : Nat → RV) (c d : Int32) (k : Nat) (is : Bool) : Bool := is || (decide ((ru k).2.1 = 0) && fitsV (ru k) c d)
def pmX (ru : Nat → RV) (c d : Int32) (n : Nat) : Bool := foldN (pmXst ru c d) false n
theorem pmX_s {ru : Nat → RV} {c d : Int32} {i : Nat} : pmX ru c d (i + 1) = pmXst ru c d i (pmX ru c d i) := rfl
def liX (ru : Nat → RV) (v : RV) (c d : Int32) (n : Nat) : Bool := foldN (fun k is => is || liftsV (ru k) v c d) false n
theorem liX_s {ru : Nat → RV} {v : RV} {c d : Int32} {i : Nat} : liX ru v c d (i + 1) = (liX ru v c d i || liftsV (ru i) v c d) := rfl
def hoX (ru : Nat → RV) (n : Nat) (v : RV) (c d rank : Int32) : Bool := decide (v.2.1 = 1) && (fitsV v c d && (!decide (v.2.2.2.2 ≤ rank) && !liX ru v c d n))
def jx (v : Int32) : Nat := v.toNatClampNeg
def bnst (ru : Nat → RV) (n : Nat) (c d rank : Int32) (k : Nat) (best : Int32) : Int32 := if hoX ru n (ru k) c d rank = true ∧ (best < 0 ∨ ¬ (ru (jx best)).1 ≤ (ru k).1) then nI k else best
def bnX (ru : Nat → RV) (n : Nat) (c d rank : Int32) (i : Nat) : Int32 := foldN (bnst ru n c d rank) (-6) i
theorem bnX_s {ru : Nat → RV} {n : Nat} {c d rank : Int32} {i : Nat} : bnX ru n c d rank (i + 1) = bnst ru n c d rank i (bnX ru n c d rank i) := rfl
theorem bnX_ix {ru : Nat → RV} {n : Nat} {c d rank : Int32} : ∀ i, bnX ru n c d rank i = -6 ∨ ∃ j, j < i ∧ bnX ru n c d rank i = nI j := by
  intro i
  induction i with
  | zero => exact Or.inl rfl
  | succ i ih =>
    rw [bnX_s]
    unfold bnst
    split
    · exact Or.inr ⟨i, Nat.lt_succ_self _, rfl⟩
    · rcases ih with h | ⟨j, h1, h2⟩
      · exact Or.inl h
      · exact Or.inr ⟨j, Nat.lt_succ_of_lt h1, h2⟩
theorem jx_nI {j : Nat} (h : j < 2 ^ 31) : jx (nI j) = j := nI_clamp h
def rsX (ru : Nat → RV) (n : Nat) (c d rank : Int32) : Int32 := if pmX ru c d n = true then bnX ru n c d rank n else 100
def sgst (ru : Nat → RV) (kind layer c d : Int32) (k : Nat) (most : Int32) : Int32 := if (ru k).2.1 = kind ∧ (ru k).1 = layer ∧ fitsV (ru k) c d = true then mxI (ru k).2.2.2.2 most else most
def sgX (ru : Nat → RV) (kind layer c d : Int32) (n : Nat) : Int32 := foldN (sgst ru kind layer c d) 0 n
theorem sgX_s {ru : Nat → RV} {kind layer c d : Int32} {i : Nat} : sgX ru kind layer c d (i + 1) = sgst ru kind layer c d i (sgX ru kind layer c d i) := rfl
/-- the strongest waiver of the first i layers -/
def wvX (ru : Nat → RV) (n : Nat) (c d : Int32) (i : Nat) : Int32 := foldN (fun l w => mxI (sgX ru 2 (nI l) c d n) w) 0 i
theorem wvX_s {ru : Nat → RV} {n : Nat} {c d : Int32} {i : Nat} : wvX ru n c d (i + 1) = mxI (sgX ru 2 (nI i) c d n) (wvX ru n c d i) := rfl
def alst (ru : Nat → RV) (n : Nat) (c d rank : Int32) (l : Nat) (is : Bool) : Bool := is && (decide (sgX ru 1 (nI l) c d n ≤ wvX ru n c d (l + 1)) || !decide (rank < sgX ru 1 (nI l) c d n))
def alX (ru : Nat → RV) (n : Nat) (c d rank : Int32) (i : Nat) : Bool := foldN (alst ru n c d rank) (pmX ru c d n) i
theorem alX_s {ru : Nat → RV} {n : Nat} {c d rank : Int32} {i : Nat} : alX ru n c d rank (i + 1) = alst ru n c d rank i (alX ru n c d rank i) := rfl
def lest (ru : Nat → RV) (n : Nat) (c d : Int32) (l : Nat) (le : Int32) : Int32 := if sgX ru 1 (nI l) c d n ≤ wvX ru n c d (l + 1) then le else mxI (sgX ru 1 (nI l) c d n) le
def leX (ru : Nat → RV) (n : Nat) (c d : Int32) (i : Nat) : Int32 := foldN (lest ru n c d) (if pmX ru c d n = true then 0 else 10) i
theorem leX_s {ru : Nat → RV} {n : Nat} {c d : Int32} {i : Nat} : leX ru n c d (i + 1) = lest ru n c d i (leX ru n c d i) := rfl
/-- the triples of the first crafts, and of the first deeds of the next -/
def trXr (ru : Nat → RV) (n : Nat) (c : Nat) (a : Int32) (j : Nat) : Int32 := foldN (fun d a => a + (10 - leX ru n (nI c) (nI d) 5)) a j
theorem trXr_s {ru : Nat → RV} {n c : Nat} {a : Int32} {j : Nat} : trXr ru n c a (j + 1) = trXr ru n c a j + (10 - leX ru n (nI c) (nI j) 5) := rfl
theorem trXr_0 {ru : Nat → RV} {n c : Nat} {a : Int32} : trXr ru n c a 0 = a := by simp only [trXr, foldN]
def trX (ru : Nat → RV) (n : Nat) (i : Nat) : Int32 := foldN (fun c a => trXr ru n c a 6) 0 i
theorem trX_s {ru : Nat → RV} {n i : Nat} : trX ru n (i + 1) = trXr ru n i (trX ru n i) 6 := by simp only [trX, foldN]
def saXr (ru : Nat → RV) (n : Nat) (ru2 : Nat → RV) (n2 : Nat) (c : Nat) (a : Bool) (j : Nat) : Bool := foldN (fun d a => a && decide (leX ru n (nI c) (nI d) 5 = leX ru2 n2 (nI c) (nI d) 5)) a j
theorem saXr_s {ru ru2 : Nat → RV} {n n2 c : Nat} {a : Bool} {j : Nat} : saXr ru n ru2 n2 c a (j + 1) = (saXr ru n ru2 n2 c a j && decide (leX ru n (nI c) (nI j) 5 = leX ru2 n2 (nI c) (nI j) 5)) := rfl
theorem saXr_0 {ru ru2 : Nat → RV} {n n2 c : Nat} {a : Bool} : saXr ru n ru2 n2 c a 0 = a := by simp only [saXr, foldN]
def saX (ru : Nat → RV) (n : Nat) (ru2 : Nat → RV) (n2 : Nat) (i : Nat) : Bool := foldN (fun c a => saXr ru n ru2 n2 c a 6) true i
theorem saX_s {ru ru2 : Nat → RV} {n n2 i : Nat} : saX ru n ru2 n2 (i + 1) = saXr ru n ru2 n2 i (saX ru n ru2 n2 i) 6 := by simp only [saX, foldN]
theorem hdX2_hasRule : Hd yX2_hasRule 1 := by decide +kernel
set_option maxHeartbeats 1000000 in
set_option maxRecDepth 100000 in
theorem metX2_hasRule (l : Launch) (E : EV) (H : Heap) (c n : Nat) (ru : Nat → RV) (hcr : CR E c n ru H) (r : Int32) : Ro l yX2_hasRule cX2_hasRule 2 (some .boolean) 1 22 [.ref c, .int r] E H (some (.int (b2i (inR r 0 (nI n - 1))))) := by
  have hcr0 := hcr
  obtain ⟨L, md, arr, cap, xs, hc, hal, rfl, h25, hru⟩ := hcr
  refine Ct.ofZ (by decide) (Nat.le_of_ble_eq_true rfl) ?_
  intro p e s m bl mt cd ls Q hF hW hH hl hend
  obtain ⟨F, hin⟩ := hF
  have hx := F.1
  have hb := F.2.1
  have hts := F.2.2.2.2
  have hl : lv_has ls 2 [(0, .ref c), (1, .int r)] := hl
  have hS : va_S (fun _ => False) H H [] := va_S.rf
  obtain ⟨cC, hat⟩ := cat (ci := 6) hW rfl
  refine lv_iload_n hx hb dX2_hasRule_0 rfl (lv_at hl 1 rfl) ?_
  refine lv_iconst (v := 0) hx hb dX2_hasRule_1 (by decide) ?_
  refine lv_aload_n hx hb dX2_hasRule_2 rfl (lv_at hl 0 rfl) ?_
  refine xget (ref := "LayeredCharters$Charter") (ci := 2) (v := .ref L) (C := RX2) (T := TX2) (N := 1) F in_X2 hW hc rfl 0 (by decide) q111 (fun _ h9 => h9) rfl dX2_hasRule_3 ?_
  refine run_ro5 (w := .int (nI xs.length)) (rest := [.int 0, .int r]) (kF (x := ⟨"java/util/List", "size", "()I"⟩) F hW (metJ2_size l E H L arr md (nI xs.length) hal.1) (by decide +kernel) hat q426 q215 q217 q47 q219 hdJ2_sizeF ⟨Nat.le_of_ble_eq_true rfl, Nat.le_of_ble_eq_true rfl⟩ (recv hW hal.1 rfl) hl.1 rfl (Nat.le_of_ble_eq_true rfl) dX2_hasRule_6 ⟨Nat.le_of_ble_eq_true rfl, Nat.le_of_ble_eq_true rfl⟩) ?_
  refine lv_iconst (v := 1) hx hb dX2_hasRule_11 (by decide) ?_
  refine lv_isub hx hb dX2_hasRule_12 ?_
  refine run_ro (w := .int (b2i (inR r 0 ((nI xs.length) - 1)))) (rest := []) (kS F hW (metX4_holds l E H r 0 ((nI xs.length) - 1)) (lw_S q427 q204 q53 q205) hdX4_holds ⟨Nat.le_of_ble_eq_true rfl, Nat.le_of_ble_eq_true rfl⟩ hl.1 rfl (Nat.le_of_ble_eq_true rfl) dX2_hasRule_13 ⟨Nat.le_of_ble_eq_true rfl, Nat.le_of_ble_eq_true rfl⟩) ?_
  exact hend _ _ _ _ _ _ _ (b2i_nar _) dX2_hasRule_16 (⟨congrArg (fun z : Int32 => some (Value.int z)) (rfl), rfl⟩) hS (Nat.zero_le _) (Nat.zero_le _)

theorem hdX2_isPermitted : Hd yX2_isPermitted 2 := by decide +kernel
set_option maxHeartbeats 1000000 in
set_option maxRecDepth 100000 in
theorem metX2_isPermitted (l : Launch) (E : EV) (H : Heap) (c n : Nat) (ru : Nat → RV) (hcr : CR E c n ru H) (cr d : Int32) : Ro l yX2_isPermitted cX2_isPermitted 5 (some .boolean) 3 64 [.ref c, .int cr, .int d] E H (some (.int (b2i (pmX ru cr d n)))) := by
  have hcr0 := hcr
  obtain ⟨L, md, arr, cap, xs, hc, hal, rfl, h25, hru⟩ := hcr
  refine Ct.ofZ (by decide) (Nat.le_of_ble_eq_true rfl) ?_
  intro p e s m bl mt cd ls Q hF hW hH hl hend
  obtain ⟨F, hin⟩ := hF
  have hx := F.1
  have hb := F.2.1
  have hts := F.2.2.2.2
  have hl : lv_has ls 5 [(0, .ref c), (1, .int cr), (2, .int d)] := hl
  have hS : va_S (fun _ => False) H H [] := va_S.rf
  obtain ⟨cC, hat⟩ := cat (ci := 6) hW rfl
  refine lv_iconst (v := 0) hx hb dX2_isPermitted_0 (by decide) ?_
  refine lv_istore_n (lv' := [(3, .int 0), (0, .ref c), (1, .int cr), (2, .int d)]) hx hb dX2_isPermitted_1 rfl hl (by decide) rfl (fun ls hl => ?_)
  refine lv_iconst (v := 0) hx hb dX2_isPermitted_2 (by decide) ?_
  refine lv_istore (lv' := [(4, .int 0), (3, .int 0), (0, .ref c), (1, .int cr), (2, .int d)]) hx hb dX2_isPermitted_3 hl (by decide) rfl (fun ls hl => ?_)
  have loop5 : ∀ (nn i : Nat) (x4 a3 : Int32), i + nn = xs.length → a3 = b2i (pmX ru cr d i) → x4 = nI i → ∀ ls : Array Slot, lv_has ls 5 [(4, .int x4), (3, .int a3), (0, .ref c), (1, .int cr), (2, .int d)] → W p l e ({ frames := 3, cells := 0, slots := 0, locals := 64 } : Room) s m ([.ref c, .int cr, .int d] : List Value).toArray bl mt cd H [] 0 0 Q (F0 m 5 ls []) := by
    intro nn
    induction nn with
    | zero =>
      intro i x4 a3 hn e3 e4  ls hl
      have hiN : i = xs.length := by omega
      rw [hiN] at e4
      try rw [hiN] at e3
      rw [e4, e3] at hl
      clear e4 e3
      refine lv_iload hx hb dX2_isPermitted_5 (lv_at hl 0 rfl) ?_
      refine lv_aload_n hx hb dX2_isPermitted_7 rfl (lv_at hl 2 rfl) ?_
      refine xget (ref := "LayeredCharters$Charter") (ci := 2) (v := .ref L) (C := RX2) (T := TX2) (N := 1) F in_X2 hW hc rfl 0 (by decide) q111 (fun _ h9 => h9) rfl dX2_isPermitted_8 ?_
      refine run_ro5 (w := .int (nI xs.length)) (rest := [.int (nI xs.length)]) (kF (x := ⟨"java/util/List", "size", "()I"⟩) F hW (metJ2_size l E H L arr md (nI xs.length) hal.1) (by decide +kernel) hat q426 q215 q217 q47 q219 hdJ2_sizeF ⟨Nat.le_of_ble_eq_true rfl, Nat.le_of_ble_eq_true rfl⟩ (recv hW hal.1 rfl) hl.1 rfl (Nat.le_of_ble_eq_true rfl) dX2_isPermitted_11 ⟨Nat.le_of_ble_eq_true rfl, Nat.le_of_ble_eq_true rfl⟩) ?_
      refine lv_icmp_ge (tgt := 75) hx hb dX2_isPermitted_16 (by decide) (fun _ => ?_) (fun c9 => absurd (nI_le (by omega) (by omega)) c9)
      refine lv_iload_n hx hb dX2_isPermitted_75 rfl (lv_at hl 1 rfl) ?_
      exact hend _ _ _ _ _ _ _ (b2i_nar _) dX2_isPermitted_76 (⟨congrArg (fun z : Int32 => some (Value.int z)) (rfl), rfl⟩) hS (Nat.zero_le _) (Nat.zero_le _)
    | succ nn ih5 =>
      intro i x4 a3 hn e3 e4  ls hl
      rw [e4, e3] at hl
      clear e4 e3
      obtain ⟨x_i, hg_i⟩ : ∃ x, xs[i]? = some x := ⟨_, List.getElem?_eq_getElem (show i < xs.length by omega)⟩
      have hr_i := hru i x_i hg_i
      refine lv_iload hx hb dX2_isPermitted_5 (lv_at hl 0 rfl) ?_
      refine lv_aload_n hx hb dX2_isPermitted_7 rfl (lv_at hl 2 rfl) ?_
      refine xget (ref := "LayeredCharters$Charter") (ci := 2) (v := .ref L) (C := RX2) (T := TX2) (N := 1) F in_X2 hW hc rfl 0 (by decide) q111 (fun _ h9 => h9) rfl dX2_isPermitted_8 ?_
      refine run_ro5 (w := .int (nI xs.length)) (rest := [.int (nI i)]) (kF (x := ⟨"java/util/List", "size", "()I"⟩) F hW (metJ2_size l E H L arr md (nI xs.length) hal.1) (by decide +kernel) hat q426 q215 q217 q47 q219 hdJ2_sizeF ⟨Nat.le_of_ble_eq_true rfl, Nat.le_of_ble_eq_true rfl⟩ (recv hW hal.1 rfl) hl.1 rfl (Nat.le_of_ble_eq_true rfl) dX2_isPermitted_11 ⟨Nat.le_of_ble_eq_true rfl, Nat.le_of_ble_eq_true rfl⟩) ?_
      refine lv_icmp_ge (tgt := 75) hx hb dX2_isPermitted_16 (by decide) (fun c9 => absurd c9 (nI_ge (by omega) (by omega))) (fun _ => ?_)
      refine lv_iload_n hx hb dX2_isPermitted_19 rfl (lv_at hl 1 rfl) ?_
      refine lv_aload_n hx hb dX2_isPermitted_20 rfl (lv_at hl 2 rfl) ?_
      refine xget (ref := "LayeredCharters$Charter") (ci := 2) (v := .ref L) (C := RX2) (T := TX2) (N := 1) F in_X2 hW hc rfl 0 (by decide) q111 (fun _ h9 => h9) rfl dX2_isPermitted_21 ?_
      refine lv_iload hx hb dX2_isPermitted_24 (lv_at hl 0 rfl) ?_
      refine run_ro5 (w := .ref x_i) (rest := [.int (b2i (pmX ru cr d i))]) (kF (x := ⟨"java/util/List", "get", "(I)Ljava/lang/Object;"⟩) F hW (metJ2_get l E H L arr cap i x_i xs md hal hg_i) (by decide +kernel) hat q687 q307 q309 q47 q311 hdJ2_getF ⟨Nat.le_of_ble_eq_true rfl, Nat.le_of_ble_eq_true rfl⟩ (recv hW hal.1 rfl) hl.1 rfl (Nat.le_of_ble_eq_true rfl) dX2_isPermitted_26 ⟨Nat.le_of_ble_eq_true rfl, Nat.le_of_ble_eq_true rfl⟩) ?_
      refine xcast (ci := 5) F hW hr_i rfl q688 dX2_isPermitted_31 ?_
      refine xget (ref := "LayeredCharters$Rule") (ci := 5) (v := .int ((ru i).2.1)) (C := RX6) (T := TX6) (N := 5) F in_X6 hW hr_i rfl 1 (by decide) q397 (fun _ h9 => h9) rfl dX2_isPermitted_34 ?_
      refine lv_if_ne (tgt := 66) hx hb dX2_isPermitted_37 (by decide) (fun c_1 => ?_) (fun c_1 => ?_)
      · skip
        refine lv_iconst (v := 0) hx hb dX2_isPermitted_66 (by decide) ?_
        refine lv_ior hx hb dX2_isPermitted_67 ?_
        refine lv_istore_n (lv' := [(3, .int ((b2i (pmX ru cr d i)) ||| 0)), (4, .int (nI i)), (0, .ref c), (1, .int cr), (2, .int d)]) hx hb dX2_isPermitted_68 rfl hl (by decide) rfl (fun ls hl => ?_)
        refine lv_iinc (v := nI (i + 1)) (lv' := [(4, .int (nI (i + 1))), (3, .int ((b2i (pmX ru cr d i)) ||| 0)), (0, .ref c), (1, .int cr), (2, .int d)]) hx hb dX2_isPermitted_69 hl (k := 1) rfl (nI_1 _) (by decide) rfl (fun ls hl => ?_)
        refine lv_goto (tgt := 5) hx hb dX2_isPermitted_72 (by decide) ?_
        exact ih5 (i + 1) _ _ (by omega) (by simp only [pmX_s]; simp [pmXst, b2i_or0, b2i_or1, b2i_orb, b2i_and0, b2i_and1, b2i_tt, b2i_ff, c_1]) rfl ls (lv_sub hl [0, 1, 2, 3, 4] rfl)
      · skip
        refine lv_aload_n hx hb dX2_isPermitted_40 rfl (lv_at hl 2 rfl) ?_
        refine xget (ref := "LayeredCharters$Charter") (ci := 2) (v := .ref L) (C := RX2) (T := TX2) (N := 1) F in_X2 hW hc rfl 0 (by decide) q111 (fun _ h9 => h9) rfl dX2_isPermitted_41 ?_
        refine lv_iload hx hb dX2_isPermitted_44 (lv_at hl 0 rfl) ?_
        refine run_ro5 (w := .ref x_i) (rest := [.int (b2i (pmX ru cr d i))]) (kF (x := ⟨"java/util/List", "get", "(I)Ljava/lang/Object;"⟩) F hW (metJ2_get l E H L arr cap i x_i xs md hal hg_i) (by decide +kernel) hat q687 q307 q309 q47 q311 hdJ2_getF ⟨Nat.le_of_ble_eq_true rfl, Nat.le_of_ble_eq_true rfl⟩ (recv hW hal.1 rfl) hl.1 rfl (Nat.le_of_ble_eq_true rfl) dX2_isPermitted_46 ⟨Nat.le_of_ble_eq_true rfl, Nat.le_of_ble_eq_true rfl⟩) ?_
        refine xcast (ci := 5) F hW hr_i rfl q688 dX2_isPermitted_51 ?_
        refine lv_iload_n hx hb dX2_isPermitted_54 rfl (lv_at hl 3 rfl) ?_
        refine lv_iload_n hx hb dX2_isPermitted_55 rfl (lv_at hl 4 rfl) ?_
        refine run_ro (w := .int (b2i (fitsV (ru i) cr d))) (rest := [.int (b2i (pmX ru cr d i))]) (kV F hW (metX6_fits l E H x_i (ru i) hr_i cr d) (lw_V q689 q690 q691 q61 q692) hdX6_fits ⟨Nat.le_of_ble_eq_true rfl, Nat.le_of_ble_eq_true rfl⟩ (recv hW hr_i rfl) hl.1 rfl (Nat.le_of_ble_eq_true rfl) dX2_isPermitted_56 ⟨Nat.le_of_ble_eq_true rfl, Nat.le_of_ble_eq_true rfl⟩) ?_
        refine lv_if_eq (tgt := 66) hx hb dX2_isPermitted_59 (by decide) (fun c_2 => ?_) (fun c_2 => ?_)
        · skip
          have bc_2 := c_2
          have c_2 := b2i_f c_2
          refine lv_iconst (v := 0) hx hb dX2_isPermitted_66 (by decide) ?_
          refine lv_ior hx hb dX2_isPermitted_67 ?_
          refine lv_istore_n (lv' := [(3, .int ((b2i (pmX ru cr d i)) ||| 0)), (4, .int (nI i)), (0, .ref c), (1, .int cr), (2, .int d)]) hx hb dX2_isPermitted_68 rfl hl (by decide) rfl (fun ls hl => ?_)
          refine lv_iinc (v := nI (i + 1)) (lv' := [(4, .int (nI (i + 1))), (3, .int ((b2i (pmX ru cr d i)) ||| 0)), (0, .ref c), (1, .int cr), (2, .int d)]) hx hb dX2_isPermitted_69 hl (k := 1) rfl (nI_1 _) (by decide) rfl (fun ls hl => ?_)
          refine lv_goto (tgt := 5) hx hb dX2_isPermitted_72 (by decide) ?_
          exact ih5 (i + 1) _ _ (by omega) (by simp only [pmX_s]; simp [pmXst, b2i_or0, b2i_or1, b2i_orb, b2i_and0, b2i_and1, b2i_tt, b2i_ff, c_1, c_2]) rfl ls (lv_sub hl [0, 1, 2, 3, 4] rfl)
        · skip
          have bc_2 := c_2
          have c_2 := b2i_t c_2
          refine lv_iconst (v := 1) hx hb dX2_isPermitted_62 (by decide) ?_
          refine lv_goto (tgt := 67) hx hb dX2_isPermitted_63 (by decide) ?_
          refine lv_ior hx hb dX2_isPermitted_67 ?_
          refine lv_istore_n (lv' := [(3, .int ((b2i (pmX ru cr d i)) ||| 1)), (4, .int (nI i)), (0, .ref c), (1, .int cr), (2, .int d)]) hx hb dX2_isPermitted_68 rfl hl (by decide) rfl (fun ls hl => ?_)
          refine lv_iinc (v := nI (i + 1)) (lv' := [(4, .int (nI (i + 1))), (3, .int ((b2i (pmX ru cr d i)) ||| 1)), (0, .ref c), (1, .int cr), (2, .int d)]) hx hb dX2_isPermitted_69 hl (k := 1) rfl (nI_1 _) (by decide) rfl (fun ls hl => ?_)
          refine lv_goto (tgt := 5) hx hb dX2_isPermitted_72 (by decide) ?_
          exact ih5 (i + 1) _ _ (by omega) (by simp only [pmX_s]; simp [pmXst, b2i_or0, b2i_or1, b2i_orb, b2i_and0, b2i_and1, b2i_tt, b2i_ff, c_1, c_2]) rfl ls (lv_sub hl [0, 1, 2, 3, 4] rfl)
  exact loop5 (xs.length - 0) 0 _ _ (by omega) rfl rfl  ls (lv_sub hl [0, 1, 2, 3, 4] rfl)

theorem hdX2_isLifted : Hd yX2_isLifted 3 := by decide +kernel
set_option maxHeartbeats 1000000 in
set_option maxRecDepth 100000 in
theorem metX2_isLifted (l : Launch) (E : EV) (H : Heap) (c n : Nat) (ru : Nat → RV) (hcr : CR E c n ru H) (b : Nat) (v : RV) (hb5 : oat E b 5 (rvF v) H) (cr d : Int32) : Ro l yX2_isLifted cX2_isLifted 6 (some .boolean) 3 64 [.ref c, .ref b, .int cr, .int d] E H (some (.int (b2i (liX ru v cr d n)))) := by
  have hcr0 := hcr
  obtain ⟨L, md, arr, cap, xs, hc, hal, rfl, h25, hru⟩ := hcr
  refine Ct.ofZ (by decide) (Nat.le_of_ble_eq_true rfl) ?_
  intro p e s m bl mt cd ls Q hF hW hH hl hend
  obtain ⟨F, hin⟩ := hF
  have hx := F.1
  have hb := F.2.1
  have hts := F.2.2.2.2
  have hl : lv_has ls 6 [(0, .ref c), (1, .ref b), (2, .int cr), (3, .int d)] := hl
  have hS : va_S (fun _ => False) H H [] := va_S.rf
  obtain ⟨cC, hat⟩ := cat (ci := 6) hW rfl
  refine lv_iconst (v := 0) hx hb dX2_isLifted_0 (by decide) ?_
  refine lv_istore (lv' := [(4, .int 0), (0, .ref c), (1, .ref b), (2, .int cr), (3, .int d)]) hx hb dX2_isLifted_1 hl (by decide) rfl (fun ls hl => ?_)
  refine lv_iconst (v := 0) hx hb dX2_isLifted_3 (by decide) ?_
  refine lv_istore (lv' := [(5, .int 0), (4, .int 0), (0, .ref c), (1, .ref b), (2, .int cr), (3, .int d)]) hx hb dX2_isLifted_4 hl (by decide) rfl (fun ls hl => ?_)
  have loop6 : ∀ (nn i : Nat) (x5 a4 : Int32), i + nn = xs.length → a4 = b2i (liX ru v cr d i) → x5 = nI i → ∀ ls : Array Slot, lv_has ls 6 [(5, .int x5), (4, .int a4), (0, .ref c), (1, .ref b), (2, .int cr), (3, .int d)] → W p l e ({ frames := 3, cells := 0, slots := 0, locals := 64 } : Room) s m ([.ref c, .ref b, .int cr, .int d] : List Value).toArray bl mt cd H [] 0 0 Q (F0 m 6 ls []) := by
    intro nn
    induction nn with
    | zero =>
      intro i x5 a4 hn e4 e5  ls hl
      have hiN : i = xs.length := by omega
      rw [hiN] at e5
      try rw [hiN] at e4
      rw [e5, e4] at hl
      clear e5 e4
      refine lv_iload hx hb dX2_isLifted_6 (lv_at hl 0 rfl) ?_
      refine lv_aload_n hx hb dX2_isLifted_8 rfl (lv_at hl 2 rfl) ?_
      refine xget (ref := "LayeredCharters$Charter") (ci := 2) (v := .ref L) (C := RX2) (T := TX2) (N := 1) F in_X2 hW hc rfl 0 (by decide) q111 (fun _ h9 => h9) rfl dX2_isLifted_9 ?_
      refine run_ro5 (w := .int (nI xs.length)) (rest := [.int (nI xs.length)]) (kF (x := ⟨"java/util/List", "size", "()I"⟩) F hW (metJ2_size l E H L arr md (nI xs.length) hal.1) (by decide +kernel) hat q426 q215 q217 q47 q219 hdJ2_sizeF ⟨Nat.le_of_ble_eq_true rfl, Nat.le_of_ble_eq_true rfl⟩ (recv hW hal.1 rfl) hl.1 rfl (Nat.le_of_ble_eq_true rfl) dX2_isLifted_12 ⟨Nat.le_of_ble_eq_true rfl, Nat.le_of_ble_eq_true rfl⟩) ?_
      refine lv_icmp_ge (tgt := 51) hx hb dX2_isLifted_17 (by decide) (fun _ => ?_) (fun c9 => absurd (nI_le (by omega) (by omega)) c9)
      refine lv_iload hx hb dX2_isLifted_51 (lv_at hl 1 rfl) ?_
      exact hend _ _ _ _ _ _ _ (b2i_nar _) dX2_isLifted_53 (⟨congrArg (fun z : Int32 => some (Value.int z)) (rfl), rfl⟩) hS (Nat.zero_le _) (Nat.zero_le _)
    | succ nn ih6 =>
      intro i x5 a4 hn e4 e5  ls hl
      rw [e5, e4] at hl
      clear e5 e4
      obtain ⟨x_i, hg_i⟩ : ∃ x, xs[i]? = some x := ⟨_, List.getElem?_eq_getElem (show i < xs.length by omega)⟩
      have hr_i := hru i x_i hg_i
      refine lv_iload hx hb dX2_isLifted_6 (lv_at hl 0 rfl) ?_
      refine lv_aload_n hx hb dX2_isLifted_8 rfl (lv_at hl 2 rfl) ?_
      refine xget (ref := "LayeredCharters$Charter") (ci := 2) (v := .ref L) (C := RX2) (T := TX2) (N := 1) F in_X2 hW hc rfl 0 (by decide) q111 (fun _ h9 => h9) rfl dX2_isLifted_9 ?_
      refine run_ro5 (w := .int (nI xs.length)) (rest := [.int (nI i)]) (kF (x := ⟨"java/util/List", "size", "()I"⟩) F hW (metJ2_size l E H L arr md (nI xs.length) hal.1) (by decide +kernel) hat q426 q215 q217 q47 q219 hdJ2_sizeF ⟨Nat.le_of_ble_eq_true rfl, Nat.le_of_ble_eq_true rfl⟩ (recv hW hal.1 rfl) hl.1 rfl (Nat.le_of_ble_eq_true rfl) dX2_isLifted_12 ⟨Nat.le_of_ble_eq_true rfl, Nat.le_of_ble_eq_true rfl⟩) ?_
      refine lv_icmp_ge (tgt := 51) hx hb dX2_isLifted_17 (by decide) (fun c9 => absurd c9 (nI_ge (by omega) (by omega))) (fun _ => ?_)
      refine lv_iload hx hb dX2_isLifted_20 (lv_at hl 1 rfl) ?_
      refine lv_aload_n hx hb dX2_isLifted_22 rfl (lv_at hl 2 rfl) ?_
      refine xget (ref := "LayeredCharters$Charter") (ci := 2) (v := .ref L) (C := RX2) (T := TX2) (N := 1) F in_X2 hW hc rfl 0 (by decide) q111 (fun _ h9 => h9) rfl dX2_isLifted_23 ?_
      refine lv_iload hx hb dX2_isLifted_26 (lv_at hl 0 rfl) ?_
      refine run_ro5 (w := .ref x_i) (rest := [.int (b2i (liX ru v cr d i))]) (kF (x := ⟨"java/util/List", "get", "(I)Ljava/lang/Object;"⟩) F hW (metJ2_get l E H L arr cap i x_i xs md hal hg_i) (by decide +kernel) hat q687 q307 q309 q47 q311 hdJ2_getF ⟨Nat.le_of_ble_eq_true rfl, Nat.le_of_ble_eq_true rfl⟩ (recv hW hal.1 rfl) hl.1 rfl (Nat.le_of_ble_eq_true rfl) dX2_isLifted_28 ⟨Nat.le_of_ble_eq_true rfl, Nat.le_of_ble_eq_true rfl⟩) ?_
      refine xcast (ci := 5) F hW hr_i rfl q688 dX2_isLifted_33 ?_
      refine lv_aload_n hx hb dX2_isLifted_36 rfl (lv_at hl 3 rfl) ?_
      refine lv_iload_n hx hb dX2_isLifted_37 rfl (lv_at hl 4 rfl) ?_
      refine lv_iload_n hx hb dX2_isLifted_38 rfl (lv_at hl 5 rfl) ?_
      refine run_ro (w := .int (b2i (liftsV (ru i) v cr d))) (rest := [.int (b2i (liX ru v cr d i))]) (kV F hW (metX6_lifts l E H x_i (ru i) hr_i b v hb5 cr d) (lw_V q750 q751 q752 q61 q753) hdX6_lifts ⟨Nat.le_of_ble_eq_true rfl, Nat.le_of_ble_eq_true rfl⟩ (recv hW hr_i rfl) hl.1 rfl (Nat.le_of_ble_eq_true rfl) dX2_isLifted_39 ⟨Nat.le_of_ble_eq_true rfl, Nat.le_of_ble_eq_true rfl⟩) ?_
      refine lv_ior hx hb dX2_isLifted_42 ?_
      refine lv_istore (lv' := [(4, .int ((b2i (liX ru v cr d i)) ||| (b2i (liftsV (ru i) v cr d)))), (5, .int (nI i)), (0, .ref c), (1, .ref b), (2, .int cr), (3, .int d)]) hx hb dX2_isLifted_43 hl (by decide) rfl (fun ls hl => ?_)
      refine lv_iinc (v := nI (i + 1)) (lv' := [(5, .int (nI (i + 1))), (4, .int ((b2i (liX ru v cr d i)) ||| (b2i (liftsV (ru i) v cr d)))), (0, .ref c), (1, .ref b), (2, .int cr), (3, .int d)]) hx hb dX2_isLifted_45 hl (k := 1) rfl (nI_1 _) (by decide) rfl (fun ls hl => ?_)
      refine lv_goto (tgt := 6) hx hb dX2_isLifted_48 (by decide) ?_
      exact ih6 (i + 1) _ _ (by omega) (by simp only [liX_s]; simp [b2i_or0, b2i_or1, b2i_orb, b2i_and0, b2i_and1, b2i_tt, b2i_ff]) rfl ls (lv_sub hl [0, 1, 2, 3, 4, 5] rfl)
  exact loop6 (xs.length - 0) 0 _ _ (by omega) rfl rfl  ls (lv_sub hl [0, 1, 2, 3, 4, 5] rfl)

theorem hdX2_holds : Hd yX2_holds 4 := by decide +kernel
set_option maxHeartbeats 1000000 in
set_option maxRecDepth 100000 in
theorem metX2_holds (l : Launch) (E : EV) (H : Heap) (c n : Nat) (ru : Nat → RV) (hcr : CR E c n ru H) (b : Nat) (v : RV) (hb5 : oat E b 5 (rvF v) H) (cr d rank : Int32) : Ro l yX2_holds cX2_holds 5 (some .boolean) 4 89 [.ref c, .ref b, .int cr, .int d, .int rank] E H (some (.int (b2i (hoX ru n v cr d rank)))) := by
  have hcr0 := hcr
  obtain ⟨L, md, arr, cap, xs, hc, hal, rfl, h25, hru⟩ := hcr
  refine Ct.ofZ (by decide) (Nat.le_of_ble_eq_true rfl) ?_
  intro p e s m bl mt cd ls Q hF hW hH hl hend
  obtain ⟨F, hin⟩ := hF
  have hx := F.1
  have hb := F.2.1
  have hts := F.2.2.2.2
  have hl : lv_has ls 5 [(0, .ref c), (1, .ref b), (2, .int cr), (3, .int d), (4, .int rank)] := hl
  have hS : va_S (fun _ => False) H H [] := va_S.rf
  refine lv_aload_n hx hb dX2_holds_0 rfl (lv_at hl 1 rfl) ?_
  refine xget (ref := "LayeredCharters$Rule") (ci := 5) (v := .int v.2.1) (C := RX6) (T := TX6) (N := 5) F in_X6 hW hb5 rfl 1 (by decide) q397 (fun _ h9 => h9) rfl dX2_holds_1 ?_
  refine lv_iconst (v := 1) hx hb dX2_holds_4 (by decide) ?_
  refine lv_icmp_ne (tgt := 40) hx hb dX2_holds_5 (by decide) (fun c_1 => ?_) (fun c_1 => ?_)
  · skip
    refine lv_iconst (v := 0) hx hb dX2_holds_40 (by decide) ?_
    exact hend _ _ _ _ _ _ _ rfl dX2_holds_41 (⟨congrArg (fun z : Int32 => some (Value.int z)) (by simp [b2i, hoX, c_1]), rfl⟩) hS (Nat.zero_le _) (Nat.zero_le _)
  · skip
    refine lv_aload_n hx hb dX2_holds_8 rfl (lv_at hl 1 rfl) ?_
    refine lv_iload_n hx hb dX2_holds_9 rfl (lv_at hl 2 rfl) ?_
    refine lv_iload_n hx hb dX2_holds_10 rfl (lv_at hl 3 rfl) ?_
    refine run_ro (w := .int (b2i (fitsV v cr d))) (rest := []) (kV F hW (metX6_fits l E H b v hb5 cr d) (lw_V q689 q690 q691 q61 q692) hdX6_fits ⟨Nat.le_of_ble_eq_true rfl, Nat.le_of_ble_eq_true rfl⟩ (recv hW hb5 rfl) hl.1 rfl (Nat.le_of_ble_eq_true rfl) dX2_holds_11 ⟨Nat.le_of_ble_eq_true rfl, Nat.le_of_ble_eq_true rfl⟩) ?_
    refine lv_if_eq (tgt := 40) hx hb dX2_holds_14 (by decide) (fun c_2 => ?_) (fun c_2 => ?_)
    · skip
      have bc_2 := c_2
      have c_2 := b2i_f c_2
      refine lv_iconst (v := 0) hx hb dX2_holds_40 (by decide) ?_
      exact hend _ _ _ _ _ _ _ rfl dX2_holds_41 (⟨congrArg (fun z : Int32 => some (Value.int z)) (by simp [b2i, hoX, c_1, c_2]), rfl⟩) hS (Nat.zero_le _) (Nat.zero_le _)
    · skip
      have bc_2 := c_2
      have c_2 := b2i_t c_2
      refine lv_iload hx hb dX2_holds_17 (lv_at hl 4 rfl) ?_
      refine lv_aload_n hx hb dX2_holds_19 rfl (lv_at hl 1 rfl) ?_
      refine xget (ref := "LayeredCharters$Rule") (ci := 5) (v := .int v.2.2.2.2) (C := RX6) (T := TX6) (N := 5) F in_X6 hW hb5 rfl 4 (by decide) q405 (fun _ h9 => h9) rfl dX2_holds_20 ?_
      refine lv_icmp_ge (tgt := 40) hx hb dX2_holds_23 (by decide) (fun c_3 => ?_) (fun c_3 => ?_)
      · skip
        refine lv_iconst (v := 0) hx hb dX2_holds_40 (by decide) ?_
        exact hend _ _ _ _ _ _ _ rfl dX2_holds_41 (⟨congrArg (fun z : Int32 => some (Value.int z)) (by simp [b2i, hoX, c_1, c_2, c_3]), rfl⟩) hS (Nat.zero_le _) (Nat.zero_le _)
      · skip
        refine lv_aload_n hx hb dX2_holds_26 rfl (lv_at hl 0 rfl) ?_
        refine lv_aload_n hx hb dX2_holds_27 rfl (lv_at hl 1 rfl) ?_
        refine lv_iload_n hx hb dX2_holds_28 rfl (lv_at hl 2 rfl) ?_
        refine lv_iload_n hx hb dX2_holds_29 rfl (lv_at hl 3 rfl) ?_
        refine run_ro (w := .int (b2i (liX ru v cr d xs.length))) (rest := []) (kV F hW (metX2_isLifted l E H c xs.length ru hcr0 b v hb5 cr d) (lw_V q746 q747 q748 q44 q749) hdX2_isLifted ⟨Nat.le_of_ble_eq_true rfl, Nat.le_of_ble_eq_true rfl⟩ (recv hW hc rfl) hl.1 rfl (Nat.le_of_ble_eq_true rfl) dX2_holds_30 ⟨Nat.le_of_ble_eq_true rfl, Nat.le_of_ble_eq_true rfl⟩) ?_
        refine lv_if_ne (tgt := 40) hx hb dX2_holds_33 (by decide) (fun c_4 => ?_) (fun c_4 => ?_)
        · skip
          have bc_4 := c_4
          have c_4 := b2i_t c_4
          refine lv_iconst (v := 0) hx hb dX2_holds_40 (by decide) ?_
          exact hend _ _ _ _ _ _ _ rfl dX2_holds_41 (⟨congrArg (fun z : Int32 => some (Value.int z)) (by simp [b2i, hoX, c_1, c_2, c_3, c_4]), rfl⟩) hS (Nat.zero_le _) (Nat.zero_le _)
        · skip
          have bc_4 := c_4
          have c_4 := b2i_f c_4
          refine lv_iconst (v := 1) hx hb dX2_holds_36 (by decide) ?_
          refine lv_goto (tgt := 41) hx hb dX2_holds_37 (by decide) ?_
          exact hend _ _ _ _ _ _ _ rfl dX2_holds_41 (⟨congrArg (fun z : Int32 => some (Value.int z)) (by simp [b2i, hoX, c_1, c_2, c_3, c_4]), rfl⟩) hS (Nat.zero_le _) (Nat.zero_le _)

theorem hdX2_ban : Hd yX2_ban 3 := by decide +kernel
set_option maxHeartbeats 1000000 in
set_option maxRecDepth 100000 in
theorem metX2_ban (l : Launch) (E : EV) (H : Heap) (c n : Nat) (ru : Nat → RV) (hcr : CR E c n ru H) (cr d rank : Int32) : Ro l yX2_ban cX2_ban 7 (some .int) 5 113 [.ref c, .int cr, .int d, .int rank] E H (some (.int (bnX ru n cr d rank n))) := by
  have hcr0 := hcr
  obtain ⟨L, md, arr, cap, xs, hc, hal, rfl, h25, hru⟩ := hcr
  refine Ct.ofZ (by decide) (Nat.le_of_ble_eq_true rfl) ?_
  intro p e s m bl mt cd ls Q hF hW hH hl hend
  obtain ⟨F, hin⟩ := hF
  have hx := F.1
  have hb := F.2.1
  have hts := F.2.2.2.2
  have hl : lv_has ls 7 [(0, .ref c), (1, .int cr), (2, .int d), (3, .int rank)] := hl
  have hS : va_S (fun _ => False) H H [] := va_S.rf
  obtain ⟨cC, hat⟩ := cat (ci := 6) hW rfl
  refine lv_bipush (v := (-6)) hx hb dX2_ban_0 (by decide) ?_
  refine lv_istore (lv' := [(4, .int (-6)), (0, .ref c), (1, .int cr), (2, .int d), (3, .int rank)]) hx hb dX2_ban_2 hl (by decide) rfl (fun ls hl => ?_)
  refine lv_iconst (v := 0) hx hb dX2_ban_4 (by decide) ?_
  refine lv_istore (lv' := [(5, .int 0), (4, .int (-6)), (0, .ref c), (1, .int cr), (2, .int d), (3, .int rank)]) hx hb dX2_ban_5 hl (by decide) rfl (fun ls hl => ?_)
  have loop7 : ∀ (nn i : Nat) (x5 a4 : Int32), i + nn = xs.length → a4 = bnX ru xs.length cr d rank i → x5 = nI i → ∀ ls : Array Slot, lv_has ls 7 [(5, .int x5), (4, .int a4), (0, .ref c), (1, .int cr), (2, .int d), (3, .int rank)] → W p l e ({ frames := 5, cells := 0, slots := 0, locals := 113 } : Room) s m ([.ref c, .int cr, .int d, .int rank] : List Value).toArray bl mt cd H [] 0 0 Q (F0 m 7 ls []) := by
    intro nn
    induction nn with
    | zero =>
      intro i x5 a4 hn e4 e5  ls hl
      have hiN : i = xs.length := by omega
      rw [hiN] at e5
      try rw [hiN] at e4
      rw [e5, e4] at hl
      clear e5 e4
      refine lv_iload hx hb dX2_ban_7 (lv_at hl 0 rfl) ?_
      refine lv_aload_n hx hb dX2_ban_9 rfl (lv_at hl 2 rfl) ?_
      refine xget (ref := "LayeredCharters$Charter") (ci := 2) (v := .ref L) (C := RX2) (T := TX2) (N := 1) F in_X2 hW hc rfl 0 (by decide) q111 (fun _ h9 => h9) rfl dX2_ban_10 ?_
      refine run_ro5 (w := .int (nI xs.length)) (rest := [.int (nI xs.length)]) (kF (x := ⟨"java/util/List", "size", "()I"⟩) F hW (metJ2_size l E H L arr md (nI xs.length) hal.1) (by decide +kernel) hat q426 q215 q217 q47 q219 hdJ2_sizeF ⟨Nat.le_of_ble_eq_true rfl, Nat.le_of_ble_eq_true rfl⟩ (recv hW hal.1 rfl) hl.1 rfl (Nat.le_of_ble_eq_true rfl) dX2_ban_13 ⟨Nat.le_of_ble_eq_true rfl, Nat.le_of_ble_eq_true rfl⟩) ?_
      refine lv_icmp_ge (tgt := 106) hx hb dX2_ban_18 (by decide) (fun _ => ?_) (fun c9 => absurd (nI_le (by omega) (by omega)) c9)
      refine lv_iload hx hb dX2_ban_106 (lv_at hl 1 rfl) ?_
      exact hend _ _ _ _ _ _ _ rfl dX2_ban_108 (⟨congrArg (fun z : Int32 => some (Value.int z)) (rfl), rfl⟩) hS (Nat.zero_le _) (Nat.zero_le _)
    | succ nn ih7 =>
      intro i x5 a4 hn e4 e5  ls hl
      rw [e5, e4] at hl
      clear e5 e4
      obtain ⟨x_i, hg_i⟩ : ∃ x, xs[i]? = some x := ⟨_, List.getElem?_eq_getElem (show i < xs.length by omega)⟩
      have hr_i := hru i x_i hg_i
      refine lv_iload hx hb dX2_ban_7 (lv_at hl 0 rfl) ?_
      refine lv_aload_n hx hb dX2_ban_9 rfl (lv_at hl 2 rfl) ?_
      refine xget (ref := "LayeredCharters$Charter") (ci := 2) (v := .ref L) (C := RX2) (T := TX2) (N := 1) F in_X2 hW hc rfl 0 (by decide) q111 (fun _ h9 => h9) rfl dX2_ban_10 ?_
      refine run_ro5 (w := .int (nI xs.length)) (rest := [.int (nI i)]) (kF (x := ⟨"java/util/List", "size", "()I"⟩) F hW (metJ2_size l E H L arr md (nI xs.length) hal.1) (by decide +kernel) hat q426 q215 q217 q47 q219 hdJ2_sizeF ⟨Nat.le_of_ble_eq_true rfl, Nat.le_of_ble_eq_true rfl⟩ (recv hW hal.1 rfl) hl.1 rfl (Nat.le_of_ble_eq_true rfl) dX2_ban_13 ⟨Nat.le_of_ble_eq_true rfl, Nat.le_of_ble_eq_true rfl⟩) ?_
      refine lv_icmp_ge (tgt := 106) hx hb dX2_ban_18 (by decide) (fun c9 => absurd c9 (nI_ge (by omega) (by omega))) (fun _ => ?_)
      refine lv_aload_n hx hb dX2_ban_21 rfl (lv_at hl 2 rfl) ?_
      refine lv_aload_n hx hb dX2_ban_22 rfl (lv_at hl 2 rfl) ?_
      refine xget (ref := "LayeredCharters$Charter") (ci := 2) (v := .ref L) (C := RX2) (T := TX2) (N := 1) F in_X2 hW hc rfl 0 (by decide) q111 (fun _ h9 => h9) rfl dX2_ban_23 ?_
      refine lv_iload hx hb dX2_ban_26 (lv_at hl 0 rfl) ?_
      refine run_ro5 (w := .ref x_i) (rest := [.ref c]) (kF (x := ⟨"java/util/List", "get", "(I)Ljava/lang/Object;"⟩) F hW (metJ2_get l E H L arr cap i x_i xs md hal hg_i) (by decide +kernel) hat q687 q307 q309 q47 q311 hdJ2_getF ⟨Nat.le_of_ble_eq_true rfl, Nat.le_of_ble_eq_true rfl⟩ (recv hW hal.1 rfl) hl.1 rfl (Nat.le_of_ble_eq_true rfl) dX2_ban_28 ⟨Nat.le_of_ble_eq_true rfl, Nat.le_of_ble_eq_true rfl⟩) ?_
      refine xcast (ci := 5) F hW hr_i rfl q688 dX2_ban_33 ?_
      refine lv_iload_n hx hb dX2_ban_36 rfl (lv_at hl 3 rfl) ?_
      refine lv_iload_n hx hb dX2_ban_37 rfl (lv_at hl 4 rfl) ?_
      refine lv_iload_n hx hb dX2_ban_38 rfl (lv_at hl 5 rfl) ?_
      refine run_ro (w := .int (b2i (hoX ru xs.length (ru i) cr d rank))) (rest := []) (kV F hW (metX2_holds l E H c xs.length ru hcr0 x_i (ru i) hr_i cr d rank) (lw_V q742 q743 q744 q44 q745) hdX2_holds ⟨Nat.le_of_ble_eq_true rfl, Nat.le_of_ble_eq_true rfl⟩ (recv hW hc rfl) hl.1 rfl (Nat.le_of_ble_eq_true rfl) dX2_ban_39 ⟨Nat.le_of_ble_eq_true rfl, Nat.le_of_ble_eq_true rfl⟩) ?_
      refine lv_istore (lv' := [(6, .int (b2i (hoX ru xs.length (ru i) cr d rank))), (5, .int (nI i)), (4, .int (bnX ru xs.length cr d rank i)), (0, .ref c), (1, .int cr), (2, .int d), (3, .int rank)]) hx hb dX2_ban_42 hl (by decide) rfl (fun ls hl => ?_)
      refine lv_iload hx hb dX2_ban_44 (lv_at hl 0 rfl) ?_
      refine lv_if_eq (tgt := 96) hx hb dX2_ban_46 (by decide) (fun c_1 => ?_) (fun c_1 => ?_)
      · skip
        have bc_1 := c_1
        have c_1 := b2i_f c_1
        refine lv_iload hx hb dX2_ban_96 (lv_at hl 2 rfl) ?_
        refine lv_istore (lv' := [(4, .int (bnX ru xs.length cr d rank i)), (6, .int (b2i (hoX ru xs.length (ru i) cr d rank))), (5, .int (nI i)), (0, .ref c), (1, .int cr), (2, .int d), (3, .int rank)]) hx hb dX2_ban_98 hl (by decide) rfl (fun ls hl => ?_)
        refine lv_iinc (v := nI (i + 1)) (lv' := [(5, .int (nI (i + 1))), (4, .int (bnX ru xs.length cr d rank i)), (6, .int (b2i (hoX ru xs.length (ru i) cr d rank))), (0, .ref c), (1, .int cr), (2, .int d), (3, .int rank)]) hx hb dX2_ban_100 hl (k := 2) rfl (nI_1 _) (by decide) rfl (fun ls hl => ?_)
        refine lv_goto (tgt := 7) hx hb dX2_ban_103 (by decide) ?_
        exact ih7 (i + 1) _ _ (by omega) (by rw [bnX_s]; simp [bnst, c_1]) rfl ls (lv_sub hl [0, 1, 3, 4, 5, 6] rfl)
      · skip
        have bc_1 := c_1
        have c_1 := b2i_t c_1
        refine lv_iload hx hb dX2_ban_49 (lv_at hl 2 rfl) ?_
        refine lv_if_lt (tgt := 91) hx hb dX2_ban_51 (by decide) (fun c_2 => ?_) (fun c_2 => ?_)
        · skip
          refine lv_iload hx hb dX2_ban_91 (lv_at hl 1 rfl) ?_
          refine lv_goto (tgt := 98) hx hb dX2_ban_93 (by decide) ?_
          refine lv_istore (lv' := [(4, .int (nI i)), (6, .int (b2i (hoX ru xs.length (ru i) cr d rank))), (5, .int (nI i)), (0, .ref c), (1, .int cr), (2, .int d), (3, .int rank)]) hx hb dX2_ban_98 hl (by decide) rfl (fun ls hl => ?_)
          refine lv_iinc (v := nI (i + 1)) (lv' := [(5, .int (nI (i + 1))), (4, .int (nI i)), (6, .int (b2i (hoX ru xs.length (ru i) cr d rank))), (0, .ref c), (1, .int cr), (2, .int d), (3, .int rank)]) hx hb dX2_ban_100 hl (k := 2) rfl (nI_1 _) (by decide) rfl (fun ls hl => ?_)
          refine lv_goto (tgt := 7) hx hb dX2_ban_103 (by decide) ?_
          exact ih7 (i + 1) _ _ (by omega) (by rw [bnX_s]; simp [bnst, c_1, c_2]) rfl ls (lv_sub hl [0, 1, 3, 4, 5, 6] rfl)
        · skip
          refine lv_aload_n hx hb dX2_ban_54 rfl (lv_at hl 3 rfl) ?_
          refine xget (ref := "LayeredCharters$Charter") (ci := 2) (v := .ref L) (C := RX2) (T := TX2) (N := 1) F in_X2 hW hc rfl 0 (by decide) q111 (fun _ h9 => h9) rfl dX2_ban_55 ?_
          refine lv_iload hx hb dX2_ban_58 (lv_at hl 1 rfl) ?_
          refine run_ro5 (w := .ref x_i) (rest := []) (kF (x := ⟨"java/util/List", "get", "(I)Ljava/lang/Object;"⟩) F hW (metJ2_get l E H L arr cap i x_i xs md hal hg_i) (by decide +kernel) hat q687 q307 q309 q47 q311 hdJ2_getF ⟨Nat.le_of_ble_eq_true rfl, Nat.le_of_ble_eq_true rfl⟩ (recv hW hal.1 rfl) hl.1 rfl (Nat.le_of_ble_eq_true rfl) dX2_ban_60 ⟨Nat.le_of_ble_eq_true rfl, Nat.le_of_ble_eq_true rfl⟩) ?_
          refine xcast (ci := 5) F hW hr_i rfl q688 dX2_ban_65 ?_
          refine xget (ref := "LayeredCharters$Rule") (ci := 5) (v := .int ((ru i).1)) (C := RX6) (T := TX6) (N := 5) F in_X6 hW hr_i rfl 0 (by decide) q395 (fun _ h9 => h9) rfl dX2_ban_68 ?_
          refine lv_aload_n hx hb dX2_ban_71 rfl (lv_at hl 3 rfl) ?_
          refine xget (ref := "LayeredCharters$Charter") (ci := 2) (v := .ref L) (C := RX2) (T := TX2) (N := 1) F in_X2 hW hc rfl 0 (by decide) q111 (fun _ h9 => h9) rfl dX2_ban_72 ?_
          refine lv_iload hx hb dX2_ban_75 (lv_at hl 2 rfl) ?_
          obtain ⟨j, hj, hbj⟩ := (bnX_ix (ru := ru) (n := xs.length) (c := cr) (d := d) (rank := rank) i).resolve_left (fun h9 => absurd (show bnX ru xs.length cr d rank i < 0 by rw [h9]; decide) c_2)
          obtain ⟨x_j, hg_j⟩ : ∃ x, xs[j]? = some x := ⟨_, List.getElem?_eq_getElem (show j < xs.length by omega)⟩
          have hr_j := hru j x_j hg_j
          refine lv_val (y := nI j) hbj ?_
          refine run_ro5 (w := .ref x_j) (rest := [.int ((ru i).1)]) (kF (x := ⟨"java/util/List", "get", "(I)Ljava/lang/Object;"⟩) F hW (metJ2_get l E H L arr cap j x_j xs md hal hg_j) (by decide +kernel) hat q687 q307 q309 q47 q311 hdJ2_getF ⟨Nat.le_of_ble_eq_true rfl, Nat.le_of_ble_eq_true rfl⟩ (recv hW hal.1 rfl) hl.1 rfl (Nat.le_of_ble_eq_true rfl) dX2_ban_77 ⟨Nat.le_of_ble_eq_true rfl, Nat.le_of_ble_eq_true rfl⟩) ?_
          refine xcast (ci := 5) F hW hr_j rfl q688 dX2_ban_82 ?_
          refine xget (ref := "LayeredCharters$Rule") (ci := 5) (v := .int ((ru j).1)) (C := RX6) (T := TX6) (N := 5) F in_X6 hW hr_j rfl 0 (by decide) q395 (fun _ h9 => h9) rfl dX2_ban_85 ?_
          refine lv_icmp_ge (tgt := 96) hx hb dX2_ban_88 (by decide) (fun c_3 => ?_) (fun c_3 => ?_)
          · skip
            refine lv_iload hx hb dX2_ban_96 (lv_at hl 2 rfl) ?_
            refine lv_istore (lv' := [(4, .int (bnX ru xs.length cr d rank i)), (6, .int (b2i (hoX ru xs.length (ru i) cr d rank))), (5, .int (nI i)), (0, .ref c), (1, .int cr), (2, .int d), (3, .int rank)]) hx hb dX2_ban_98 hl (by decide) rfl (fun ls hl => ?_)
            refine lv_iinc (v := nI (i + 1)) (lv' := [(5, .int (nI (i + 1))), (4, .int (bnX ru xs.length cr d rank i)), (6, .int (b2i (hoX ru xs.length (ru i) cr d rank))), (0, .ref c), (1, .int cr), (2, .int d), (3, .int rank)]) hx hb dX2_ban_100 hl (k := 2) rfl (nI_1 _) (by decide) rfl (fun ls hl => ?_)
            refine lv_goto (tgt := 7) hx hb dX2_ban_103 (by decide) ?_
            exact ih7 (i + 1) _ _ (by omega) (by rw [bnX_s]; simp [bnst, c_1, hbj, c_3, jx_nI (show j < 2 ^ 31 by omega), nI_pos (show j < 2 ^ 31 by omega)]) rfl ls (lv_sub hl [0, 1, 3, 4, 5, 6] rfl)
          · skip
            refine lv_iload hx hb dX2_ban_91 (lv_at hl 1 rfl) ?_
            refine lv_goto (tgt := 98) hx hb dX2_ban_93 (by decide) ?_
            refine lv_istore (lv' := [(4, .int (nI i)), (6, .int (b2i (hoX ru xs.length (ru i) cr d rank))), (5, .int (nI i)), (0, .ref c), (1, .int cr), (2, .int d), (3, .int rank)]) hx hb dX2_ban_98 hl (by decide) rfl (fun ls hl => ?_)
            refine lv_iinc (v := nI (i + 1)) (lv' := [(5, .int (nI (i + 1))), (4, .int (nI i)), (6, .int (b2i (hoX ru xs.length (ru i) cr d rank))), (0, .ref c), (1, .int cr), (2, .int d), (3, .int rank)]) hx hb dX2_ban_100 hl (k := 2) rfl (nI_1 _) (by decide) rfl (fun ls hl => ?_)
            refine lv_goto (tgt := 7) hx hb dX2_ban_103 (by decide) ?_
            exact ih7 (i + 1) _ _ (by omega) (by rw [bnX_s]; simp [bnst, c_1, hbj, c_3, jx_nI (show j < 2 ^ 31 by omega), nI_pos (show j < 2 ^ 31 by omega)]) rfl ls (lv_sub hl [0, 1, 3, 4, 5, 6] rfl)
  exact loop7 (xs.length - 0) 0 _ _ (by omega) rfl rfl  ls (lv_sub hl [0, 1, 2, 3, 4, 5] rfl)

theorem hdX2_reason : Hd yX2_reason 3 := by decide +kernel
set_option maxHeartbeats 1000000 in
set_option maxRecDepth 100000 in
theorem metX2_reason (l : Launch) (E : EV) (H : Heap) (c n : Nat) (ru : Nat → RV) (hcr : CR E c n ru H) (cr d rank : Int32) : Ro l yX2_reason cX2_reason 4 (some .int) 6 139 [.ref c, .int cr, .int d, .int rank] E H (some (.int (rsX ru n cr d rank))) := by
  have hcr0 := hcr
  obtain ⟨L, md, arr, cap, xs, hc, hal, rfl, h25, hru⟩ := hcr
  refine Ct.ofZ (by decide) (Nat.le_of_ble_eq_true rfl) ?_
  intro p e s m bl mt cd ls Q hF hW hH hl hend
  obtain ⟨F, hin⟩ := hF
  have hx := F.1
  have hb := F.2.1
  have hts := F.2.2.2.2
  have hl : lv_has ls 4 [(0, .ref c), (1, .int cr), (2, .int d), (3, .int rank)] := hl
  have hS : va_S (fun _ => False) H H [] := va_S.rf
  refine lv_aload_n hx hb dX2_reason_0 rfl (lv_at hl 0 rfl) ?_
  refine lv_iload_n hx hb dX2_reason_1 rfl (lv_at hl 1 rfl) ?_
  refine lv_iload_n hx hb dX2_reason_2 rfl (lv_at hl 2 rfl) ?_
  refine run_ro (w := .int (b2i (pmX ru cr d xs.length))) (rest := []) (kV F hW (metX2_isPermitted l E H c xs.length ru hcr0 cr d) (lw_V q682 q683 q684 q44 q685) hdX2_isPermitted ⟨Nat.le_of_ble_eq_true rfl, Nat.le_of_ble_eq_true rfl⟩ (recv hW hc rfl) hl.1 rfl (Nat.le_of_ble_eq_true rfl) dX2_reason_3 ⟨Nat.le_of_ble_eq_true rfl, Nat.le_of_ble_eq_true rfl⟩) ?_
  refine lv_if_eq (tgt := 19) hx hb dX2_reason_6 (by decide) (fun c_1 => ?_) (fun c_1 => ?_)
  · skip
    have bc_1 := c_1
    have c_1 := b2i_f c_1
    refine lv_bipush (v := 100) hx hb dX2_reason_19 (by decide) ?_
    exact hend _ _ _ _ _ _ _ rfl dX2_reason_21 (⟨congrArg (fun z : Int32 => some (Value.int z)) (by simp [rsX, c_1]), rfl⟩) hS (Nat.zero_le _) (Nat.zero_le _)
  · skip
    have bc_1 := c_1
    have c_1 := b2i_t c_1
    refine lv_aload_n hx hb dX2_reason_9 rfl (lv_at hl 0 rfl) ?_
    refine lv_iload_n hx hb dX2_reason_10 rfl (lv_at hl 1 rfl) ?_
    refine lv_iload_n hx hb dX2_reason_11 rfl (lv_at hl 2 rfl) ?_
    refine lv_iload_n hx hb dX2_reason_12 rfl (lv_at hl 3 rfl) ?_
    refine run_ro (w := .int (bnX ru xs.length cr d rank xs.length)) (rest := []) (kV F hW (metX2_ban l E H c xs.length ru hcr0 cr d rank) (lw_V q738 q739 q740 q44 q741) hdX2_ban ⟨Nat.le_of_ble_eq_true rfl, Nat.le_of_ble_eq_true rfl⟩ (recv hW hc rfl) hl.1 rfl (Nat.le_of_ble_eq_true rfl) dX2_reason_13 ⟨Nat.le_of_ble_eq_true rfl, Nat.le_of_ble_eq_true rfl⟩) ?_
    refine lv_goto (tgt := 21) hx hb dX2_reason_16 (by decide) ?_
    exact hend _ _ _ _ _ _ _ rfl dX2_reason_21 (⟨congrArg (fun z : Int32 => some (Value.int z)) (by simp [rsX, c_1]), rfl⟩) hS (Nat.zero_le _) (Nat.zero_le _)

theorem hdX2_strongest : Hd yX2_strongest 4 := by decide +kernel
set_option maxHeartbeats 1000000 in
set_option maxRecDepth 100000 in
theorem metX2_strongest (l : Launch) (E : EV) (H : Heap) (c n : Nat) (ru : Nat → RV) (hcr : CR E c n ru H) (kind layer cr d : Int32) : Ro l yX2_strongest cX2_strongest 8 (some .int) 3 64 [.ref c, .int kind, .int layer, .int cr, .int d] E H (some (.int (sgX ru kind layer cr d n))) := by
  have hcr0 := hcr
  obtain ⟨L, md, arr, cap, xs, hc, hal, rfl, h25, hru⟩ := hcr
  refine Ct.ofZ (by decide) (Nat.le_of_ble_eq_true rfl) ?_
  intro p e s m bl mt cd ls Q hF hW hH hl hend
  obtain ⟨F, hin⟩ := hF
  have hx := F.1
  have hb := F.2.1
  have hts := F.2.2.2.2
  have hl : lv_has ls 8 [(0, .ref c), (1, .int kind), (2, .int layer), (3, .int cr), (4, .int d)] := hl
  have hS : va_S (fun _ => False) H H [] := va_S.rf
  obtain ⟨cC, hat⟩ := cat (ci := 6) hW rfl
  refine lv_iconst (v := 0) hx hb dX2_strongest_0 (by decide) ?_
  refine lv_istore (lv' := [(5, .int 0), (0, .ref c), (1, .int kind), (2, .int layer), (3, .int cr), (4, .int d)]) hx hb dX2_strongest_1 hl (by decide) rfl (fun ls hl => ?_)
  refine lv_iconst (v := 0) hx hb dX2_strongest_3 (by decide) ?_
  refine lv_istore (lv' := [(6, .int 0), (5, .int 0), (0, .ref c), (1, .int kind), (2, .int layer), (3, .int cr), (4, .int d)]) hx hb dX2_strongest_4 hl (by decide) rfl (fun ls hl => ?_)
  have loop6 : ∀ (nn i : Nat) (x6 a5 : Int32), i + nn = xs.length → a5 = sgX ru kind layer cr d i → x6 = nI i → ∀ ls : Array Slot, lv_has ls 8 [(6, .int x6), (5, .int a5), (0, .ref c), (1, .int kind), (2, .int layer), (3, .int cr), (4, .int d)] → W p l e ({ frames := 3, cells := 0, slots := 0, locals := 64 } : Room) s m ([.ref c, .int kind, .int layer, .int cr, .int d] : List Value).toArray bl mt cd H [] 0 0 Q (F0 m 6 ls []) := by
    intro nn
    induction nn with
    | zero =>
      intro i x6 a5 hn e5 e6  ls hl
      have hiN : i = xs.length := by omega
      rw [hiN] at e6
      try rw [hiN] at e5
      rw [e6, e5] at hl
      clear e6 e5
      refine lv_iload hx hb dX2_strongest_6 (lv_at hl 0 rfl) ?_
      refine lv_aload_n hx hb dX2_strongest_8 rfl (lv_at hl 2 rfl) ?_
      refine xget (ref := "LayeredCharters$Charter") (ci := 2) (v := .ref L) (C := RX2) (T := TX2) (N := 1) F in_X2 hW hc rfl 0 (by decide) q111 (fun _ h9 => h9) rfl dX2_strongest_9 ?_
      refine run_ro5 (w := .int (nI xs.length)) (rest := [.int (nI xs.length)]) (kF (x := ⟨"java/util/List", "size", "()I"⟩) F hW (metJ2_size l E H L arr md (nI xs.length) hal.1) (by decide +kernel) hat q426 q215 q217 q47 q219 hdJ2_sizeF ⟨Nat.le_of_ble_eq_true rfl, Nat.le_of_ble_eq_true rfl⟩ (recv hW hal.1 rfl) hl.1 rfl (Nat.le_of_ble_eq_true rfl) dX2_strongest_12 ⟨Nat.le_of_ble_eq_true rfl, Nat.le_of_ble_eq_true rfl⟩) ?_
      refine lv_icmp_ge (tgt := 88) hx hb dX2_strongest_17 (by decide) (fun _ => ?_) (fun c9 => absurd (nI_le (by omega) (by omega)) c9)
      refine lv_iload hx hb dX2_strongest_88 (lv_at hl 1 rfl) ?_
      exact hend _ _ _ _ _ _ _ rfl dX2_strongest_90 (⟨congrArg (fun z : Int32 => some (Value.int z)) (rfl), rfl⟩) hS (Nat.zero_le _) (Nat.zero_le _)
    | succ nn ih6 =>
      intro i x6 a5 hn e5 e6  ls hl
      rw [e6, e5] at hl
      clear e6 e5
      obtain ⟨x_i, hg_i⟩ : ∃ x, xs[i]? = some x := ⟨_, List.getElem?_eq_getElem (show i < xs.length by omega)⟩
      have hr_i := hru i x_i hg_i
      refine lv_iload hx hb dX2_strongest_6 (lv_at hl 0 rfl) ?_
      refine lv_aload_n hx hb dX2_strongest_8 rfl (lv_at hl 2 rfl) ?_
      refine xget (ref := "LayeredCharters$Charter") (ci := 2) (v := .ref L) (C := RX2) (T := TX2) (N := 1) F in_X2 hW hc rfl 0 (by decide) q111 (fun _ h9 => h9) rfl dX2_strongest_9 ?_
      refine run_ro5 (w := .int (nI xs.length)) (rest := [.int (nI i)]) (kF (x := ⟨"java/util/List", "size", "()I"⟩) F hW (metJ2_size l E H L arr md (nI xs.length) hal.1) (by decide +kernel) hat q426 q215 q217 q47 q219 hdJ2_sizeF ⟨Nat.le_of_ble_eq_true rfl, Nat.le_of_ble_eq_true rfl⟩ (recv hW hal.1 rfl) hl.1 rfl (Nat.le_of_ble_eq_true rfl) dX2_strongest_12 ⟨Nat.le_of_ble_eq_true rfl, Nat.le_of_ble_eq_true rfl⟩) ?_
      refine lv_icmp_ge (tgt := 88) hx hb dX2_strongest_17 (by decide) (fun c9 => absurd c9 (nI_ge (by omega) (by omega))) (fun _ => ?_)
      refine lv_aload_n hx hb dX2_strongest_20 rfl (lv_at hl 2 rfl) ?_
      refine xget (ref := "LayeredCharters$Charter") (ci := 2) (v := .ref L) (C := RX2) (T := TX2) (N := 1) F in_X2 hW hc rfl 0 (by decide) q111 (fun _ h9 => h9) rfl dX2_strongest_21 ?_
      refine lv_iload hx hb dX2_strongest_24 (lv_at hl 0 rfl) ?_
      refine run_ro5 (w := .ref x_i) (rest := []) (kF (x := ⟨"java/util/List", "get", "(I)Ljava/lang/Object;"⟩) F hW (metJ2_get l E H L arr cap i x_i xs md hal hg_i) (by decide +kernel) hat q687 q307 q309 q47 q311 hdJ2_getF ⟨Nat.le_of_ble_eq_true rfl, Nat.le_of_ble_eq_true rfl⟩ (recv hW hal.1 rfl) hl.1 rfl (Nat.le_of_ble_eq_true rfl) dX2_strongest_26 ⟨Nat.le_of_ble_eq_true rfl, Nat.le_of_ble_eq_true rfl⟩) ?_
      refine xcast (ci := 5) F hW hr_i rfl q688 dX2_strongest_31 ?_
      refine lv_astore (lv' := [(7, .ref x_i), (6, .int (nI i)), (5, .int (sgX ru kind layer cr d i)), (0, .ref c), (1, .int kind), (2, .int layer), (3, .int cr), (4, .int d)]) hx hb dX2_strongest_34 hl (by decide) rfl (fun ls hl => ?_)
      refine lv_aload hx hb dX2_strongest_36 (lv_at hl 0 rfl) ?_
      refine xget (ref := "LayeredCharters$Rule") (ci := 5) (v := .int ((ru i).2.1)) (C := RX6) (T := TX6) (N := 5) F in_X6 hW hr_i rfl 1 (by decide) q397 (fun _ h9 => h9) rfl dX2_strongest_38 ?_
      refine lv_iload_n hx hb dX2_strongest_41 rfl (lv_at hl 4 rfl) ?_
      refine lv_icmp_ne (tgt := 78) hx hb dX2_strongest_42 (by decide) (fun c_1 => ?_) (fun c_1 => ?_)
      · skip
        refine lv_iload hx hb dX2_strongest_78 (lv_at hl 2 rfl) ?_
        refine lv_istore (lv' := [(5, .int (sgX ru kind layer cr d i)), (7, .ref x_i), (6, .int (nI i)), (0, .ref c), (1, .int kind), (2, .int layer), (3, .int cr), (4, .int d)]) hx hb dX2_strongest_80 hl (by decide) rfl (fun ls hl => ?_)
        refine lv_iinc (v := nI (i + 1)) (lv' := [(6, .int (nI (i + 1))), (5, .int (sgX ru kind layer cr d i)), (7, .ref x_i), (0, .ref c), (1, .int kind), (2, .int layer), (3, .int cr), (4, .int d)]) hx hb dX2_strongest_82 hl (k := 2) rfl (nI_1 _) (by decide) rfl (fun ls hl => ?_)
        refine lv_goto (tgt := 6) hx hb dX2_strongest_85 (by decide) ?_
        exact ih6 (i + 1) _ _ (by omega) (by rw [sgX_s]; simp [sgst, c_1]) rfl ls (lv_sub hl [0, 1, 3, 4, 5, 6, 7] rfl)
      · skip
        refine lv_aload hx hb dX2_strongest_45 (lv_at hl 0 rfl) ?_
        refine xget (ref := "LayeredCharters$Rule") (ci := 5) (v := .int ((ru i).1)) (C := RX6) (T := TX6) (N := 5) F in_X6 hW hr_i rfl 0 (by decide) q395 (fun _ h9 => h9) rfl dX2_strongest_47 ?_
        refine lv_iload_n hx hb dX2_strongest_50 rfl (lv_at hl 5 rfl) ?_
        refine lv_icmp_ne (tgt := 78) hx hb dX2_strongest_51 (by decide) (fun c_2 => ?_) (fun c_2 => ?_)
        · skip
          refine lv_iload hx hb dX2_strongest_78 (lv_at hl 2 rfl) ?_
          refine lv_istore (lv' := [(5, .int (sgX ru kind layer cr d i)), (7, .ref x_i), (6, .int (nI i)), (0, .ref c), (1, .int kind), (2, .int layer), (3, .int cr), (4, .int d)]) hx hb dX2_strongest_80 hl (by decide) rfl (fun ls hl => ?_)
          refine lv_iinc (v := nI (i + 1)) (lv' := [(6, .int (nI (i + 1))), (5, .int (sgX ru kind layer cr d i)), (7, .ref x_i), (0, .ref c), (1, .int kind), (2, .int layer), (3, .int cr), (4, .int d)]) hx hb dX2_strongest_82 hl (k := 2) rfl (nI_1 _) (by decide) rfl (fun ls hl => ?_)
          refine lv_goto (tgt := 6) hx hb dX2_strongest_85 (by decide) ?_
          exact ih6 (i + 1) _ _ (by omega) (by rw [sgX_s]; simp [sgst, c_1, c_2]) rfl ls (lv_sub hl [0, 1, 3, 4, 5, 6, 7] rfl)
        · skip
          refine lv_aload hx hb dX2_strongest_54 (lv_at hl 0 rfl) ?_
          refine lv_iload_n hx hb dX2_strongest_56 rfl (lv_at hl 6 rfl) ?_
          refine lv_iload hx hb dX2_strongest_57 (lv_at hl 7 rfl) ?_
          refine run_ro (w := .int (b2i (fitsV (ru i) cr d))) (rest := []) (kV F hW (metX6_fits l E H x_i (ru i) hr_i cr d) (lw_V q689 q690 q691 q61 q692) hdX6_fits ⟨Nat.le_of_ble_eq_true rfl, Nat.le_of_ble_eq_true rfl⟩ (recv hW hr_i rfl) hl.1 rfl (Nat.le_of_ble_eq_true rfl) dX2_strongest_59 ⟨Nat.le_of_ble_eq_true rfl, Nat.le_of_ble_eq_true rfl⟩) ?_
          refine lv_if_eq (tgt := 78) hx hb dX2_strongest_62 (by decide) (fun c_3 => ?_) (fun c_3 => ?_)
          · skip
            have bc_3 := c_3
            have c_3 := b2i_f c_3
            refine lv_iload hx hb dX2_strongest_78 (lv_at hl 2 rfl) ?_
            refine lv_istore (lv' := [(5, .int (sgX ru kind layer cr d i)), (7, .ref x_i), (6, .int (nI i)), (0, .ref c), (1, .int kind), (2, .int layer), (3, .int cr), (4, .int d)]) hx hb dX2_strongest_80 hl (by decide) rfl (fun ls hl => ?_)
            refine lv_iinc (v := nI (i + 1)) (lv' := [(6, .int (nI (i + 1))), (5, .int (sgX ru kind layer cr d i)), (7, .ref x_i), (0, .ref c), (1, .int kind), (2, .int layer), (3, .int cr), (4, .int d)]) hx hb dX2_strongest_82 hl (k := 2) rfl (nI_1 _) (by decide) rfl (fun ls hl => ?_)
            refine lv_goto (tgt := 6) hx hb dX2_strongest_85 (by decide) ?_
            exact ih6 (i + 1) _ _ (by omega) (by rw [sgX_s]; simp [sgst, c_1, c_2, c_3]) rfl ls (lv_sub hl [0, 1, 3, 4, 5, 6, 7] rfl)
          · skip
            have bc_3 := c_3
            have c_3 := b2i_t c_3
            refine lv_aload hx hb dX2_strongest_65 (lv_at hl 0 rfl) ?_
            refine xget (ref := "LayeredCharters$Rule") (ci := 5) (v := .int ((ru i).2.2.2.2)) (C := RX6) (T := TX6) (N := 5) F in_X6 hW hr_i rfl 4 (by decide) q405 (fun _ h9 => h9) rfl dX2_strongest_67 ?_
            refine lv_iload hx hb dX2_strongest_70 (lv_at hl 2 rfl) ?_
            refine xmax (hl.1 ▸ F) q697 (Nat.le_of_ble_eq_true rfl) (Nat.le_of_ble_eq_true rfl) (by show 0 ≤ 0; omega) (by show 0 ≤ 0; omega) dX2_strongest_72 ?_
            refine lv_goto (tgt := 80) hx hb dX2_strongest_75 (by decide) ?_
            refine lv_istore (lv' := [(5, .int (mxI ((ru i).2.2.2.2) (sgX ru kind layer cr d i))), (7, .ref x_i), (6, .int (nI i)), (0, .ref c), (1, .int kind), (2, .int layer), (3, .int cr), (4, .int d)]) hx hb dX2_strongest_80 hl (by decide) rfl (fun ls hl => ?_)
            refine lv_iinc (v := nI (i + 1)) (lv' := [(6, .int (nI (i + 1))), (5, .int (mxI ((ru i).2.2.2.2) (sgX ru kind layer cr d i))), (7, .ref x_i), (0, .ref c), (1, .int kind), (2, .int layer), (3, .int cr), (4, .int d)]) hx hb dX2_strongest_82 hl (k := 2) rfl (nI_1 _) (by decide) rfl (fun ls hl => ?_)
            refine lv_goto (tgt := 6) hx hb dX2_strongest_85 (by decide) ?_
            exact ih6 (i + 1) _ _ (by omega) (by rw [sgX_s]; simp [sgst, c_1, c_2, c_3]) rfl ls (lv_sub hl [0, 1, 3, 4, 5, 6, 7] rfl)
  exact loop6 (xs.length - 0) 0 _ _ (by omega) rfl rfl  ls (lv_sub hl [0, 1, 2, 3, 4, 5, 6] rfl)

theorem hdX2_isAllowedByLayers : Hd yX2_isAllowedByLayers 3 := by decide +kernel
set_option maxHeartbeats 1000000 in
set_option maxRecDepth 100000 in
theorem metX2_isAllowedByLayers (l : Launch) (E : EV) (H : Heap) (c n : Nat) (ru : Nat → RV) (hcr : CR E c n ru H) (cr d rank : Int32) : Ro l yX2_isAllowedByLayers cX2_isAllowedByLayers 8 (some .boolean) 4 91 [.ref c, .int cr, .int d, .int rank] E H (some (.int (b2i (alX ru n cr d rank 5)))) := by
  have hcr0 := hcr
  obtain ⟨L, md, arr, cap, xs, hc, hal, rfl, h25, hru⟩ := hcr
  refine Ct.ofZ (by decide) (Nat.le_of_ble_eq_true rfl) ?_
  intro p e s m bl mt cd ls Q hF hW hH hl hend
  obtain ⟨F, hin⟩ := hF
  have hx := F.1
  have hb := F.2.1
  have hts := F.2.2.2.2
  have hl : lv_has ls 8 [(0, .ref c), (1, .int cr), (2, .int d), (3, .int rank)] := hl
  have hS : va_S (fun _ => False) H H [] := va_S.rf
  refine lv_aload_n hx hb dX2_isAllowedByLayers_0 rfl (lv_at hl 0 rfl) ?_
  refine lv_iload_n hx hb dX2_isAllowedByLayers_1 rfl (lv_at hl 1 rfl) ?_
  refine lv_iload_n hx hb dX2_isAllowedByLayers_2 rfl (lv_at hl 2 rfl) ?_
  refine run_ro (w := .int (b2i (pmX ru cr d xs.length))) (rest := []) (kV F hW (metX2_isPermitted l E H c xs.length ru hcr0 cr d) (lw_V q682 q683 q684 q44 q685) hdX2_isPermitted ⟨Nat.le_of_ble_eq_true rfl, Nat.le_of_ble_eq_true rfl⟩ (recv hW hc rfl) hl.1 rfl (Nat.le_of_ble_eq_true rfl) dX2_isAllowedByLayers_3 ⟨Nat.le_of_ble_eq_true rfl, Nat.le_of_ble_eq_true rfl⟩) ?_
  refine lv_istore (lv' := [(4, .int (b2i (pmX ru cr d xs.length))), (0, .ref c), (1, .int cr), (2, .int d), (3, .int rank)]) hx hb dX2_isAllowedByLayers_6 hl (by decide) rfl (fun ls hl => ?_)
  refine lv_iconst (v := 0) hx hb dX2_isAllowedByLayers_8 (by decide) ?_
  refine lv_istore (lv' := [(5, .int 0), (4, .int (b2i (pmX ru cr d xs.length))), (0, .ref c), (1, .int cr), (2, .int d), (3, .int rank)]) hx hb dX2_isAllowedByLayers_9 hl (by decide) rfl (fun ls hl => ?_)
  refine lv_iconst (v := 0) hx hb dX2_isAllowedByLayers_11 (by decide) ?_
  refine lv_istore (lv' := [(6, .int 0), (5, .int 0), (4, .int (b2i (pmX ru cr d xs.length))), (0, .ref c), (1, .int cr), (2, .int d), (3, .int rank)]) hx hb dX2_isAllowedByLayers_12 hl (by decide) rfl (fun ls hl => ?_)
  have loop14 : ∀ (nn i : Nat) (x6 a4 a5 : Int32), i + nn = 5 → a4 = b2i (alX ru xs.length cr d rank i) → a5 = wvX ru xs.length cr d i → x6 = nI i → ∀ ls : Array Slot, lv_has ls 8 [(6, .int x6), (4, .int a4), (5, .int a5), (0, .ref c), (1, .int cr), (2, .int d), (3, .int rank)] → W p l e ({ frames := 4, cells := 0, slots := 0, locals := 91 } : Room) s m ([.ref c, .int cr, .int d, .int rank] : List Value).toArray bl mt cd H [] 0 0 Q (F0 m 14 ls []) := by
    intro nn
    induction nn with
    | zero =>
      intro i x6 a4 a5 hn e4 e5 e6  ls hl
      have hiN : i = 5 := by omega
      rw [hiN] at e6
      try rw [hiN] at e4
      try rw [hiN] at e5
      rw [e6, e4, e5] at hl
      clear e6 e4 e5
      refine lv_iload hx hb dX2_isAllowedByLayers_14 (lv_at hl 0 rfl) ?_
      refine lv_iconst (v := 5) hx hb dX2_isAllowedByLayers_16 (by decide) ?_
      refine lv_icmp_ge (tgt := 76) hx hb dX2_isAllowedByLayers_17 (by decide) (fun _ => ?_) (fun c9 => absurd (nI_le (a := 5) (b := 5) (by decide) (by decide)) c9)
      refine lv_iload hx hb dX2_isAllowedByLayers_76 (lv_at hl 1 rfl) ?_
      exact hend _ _ _ _ _ _ _ (b2i_nar _) dX2_isAllowedByLayers_78 (⟨congrArg (fun z : Int32 => some (Value.int z)) (rfl), rfl⟩) hS (Nat.zero_le _) (Nat.zero_le _)
    | succ nn ih14 =>
      intro i x6 a4 a5 hn e4 e5 e6  ls hl
      rw [e6, e4, e5] at hl
      clear e6 e4 e5
      refine lv_iload hx hb dX2_isAllowedByLayers_14 (lv_at hl 0 rfl) ?_
      refine lv_iconst (v := 5) hx hb dX2_isAllowedByLayers_16 (by decide) ?_
      refine lv_icmp_ge (tgt := 76) hx hb dX2_isAllowedByLayers_17 (by decide) (fun c9 => absurd c9 (nI_ge (a := i) (b := 5) (by omega) (by decide))) (fun _ => ?_)
      refine lv_aload_n hx hb dX2_isAllowedByLayers_20 rfl (lv_at hl 3 rfl) ?_
      refine lv_iconst (v := 2) hx hb dX2_isAllowedByLayers_21 (by decide) ?_
      refine lv_iload hx hb dX2_isAllowedByLayers_22 (lv_at hl 0 rfl) ?_
      refine lv_iload_n hx hb dX2_isAllowedByLayers_24 rfl (lv_at hl 4 rfl) ?_
      refine lv_iload_n hx hb dX2_isAllowedByLayers_25 rfl (lv_at hl 5 rfl) ?_
      refine run_ro (w := .int (sgX ru 2 (nI i) cr d xs.length)) (rest := []) (kV F hW (metX2_strongest l E H c xs.length ru hcr0 2 (nI i) cr d) (lw_V q693 q695 qs11 q44 q696) hdX2_strongest ⟨Nat.le_of_ble_eq_true rfl, Nat.le_of_ble_eq_true rfl⟩ (recv hW hc rfl) hl.1 rfl (Nat.le_of_ble_eq_true rfl) dX2_isAllowedByLayers_26 ⟨Nat.le_of_ble_eq_true rfl, Nat.le_of_ble_eq_true rfl⟩) ?_
      refine lv_iload hx hb dX2_isAllowedByLayers_29 (lv_at hl 2 rfl) ?_
      refine xmax (hl.1 ▸ F) q697 (Nat.le_of_ble_eq_true rfl) (Nat.le_of_ble_eq_true rfl) (by show 0 ≤ 0; omega) (by show 0 ≤ 0; omega) dX2_isAllowedByLayers_31 ?_
      refine lv_istore (lv' := [(5, .int (mxI (sgX ru 2 (nI i) cr d xs.length) (wvX ru xs.length cr d i))), (6, .int (nI i)), (4, .int (b2i (alX ru xs.length cr d rank i))), (0, .ref c), (1, .int cr), (2, .int d), (3, .int rank)]) hx hb dX2_isAllowedByLayers_34 hl (by decide) rfl (fun ls hl => ?_)
      refine lv_aload_n hx hb dX2_isAllowedByLayers_36 rfl (lv_at hl 3 rfl) ?_
      refine lv_iconst (v := 1) hx hb dX2_isAllowedByLayers_37 (by decide) ?_
      refine lv_iload hx hb dX2_isAllowedByLayers_38 (lv_at hl 1 rfl) ?_
      refine lv_iload_n hx hb dX2_isAllowedByLayers_40 rfl (lv_at hl 4 rfl) ?_
      refine lv_iload_n hx hb dX2_isAllowedByLayers_41 rfl (lv_at hl 5 rfl) ?_
      refine run_ro (w := .int (sgX ru 1 (nI i) cr d xs.length)) (rest := []) (kV F hW (metX2_strongest l E H c xs.length ru hcr0 1 (nI i) cr d) (lw_V q693 q695 qs11 q44 q696) hdX2_strongest ⟨Nat.le_of_ble_eq_true rfl, Nat.le_of_ble_eq_true rfl⟩ (recv hW hc rfl) hl.1 rfl (Nat.le_of_ble_eq_true rfl) dX2_isAllowedByLayers_42 ⟨Nat.le_of_ble_eq_true rfl, Nat.le_of_ble_eq_true rfl⟩) ?_
      refine lv_istore (lv' := [(7, .int (sgX ru 1 (nI i) cr d xs.length)), (5, .int (mxI (sgX ru 2 (nI i) cr d xs.length) (wvX ru xs.length cr d i))), (6, .int (nI i)), (4, .int (b2i (alX ru xs.length cr d rank i))), (0, .ref c), (1, .int cr), (2, .int d), (3, .int rank)]) hx hb dX2_isAllowedByLayers_45 hl (by decide) rfl (fun ls hl => ?_)
      refine lv_iload hx hb dX2_isAllowedByLayers_47 (lv_at hl 3 rfl) ?_
      refine lv_iload hx hb dX2_isAllowedByLayers_49 (lv_at hl 0 rfl) ?_
      refine lv_iload hx hb dX2_isAllowedByLayers_51 (lv_at hl 1 rfl) ?_
      refine lv_icmp_le (tgt := 62) hx hb dX2_isAllowedByLayers_53 (by decide) (fun c_1 => ?_) (fun c_1 => ?_)
      · skip
        refine lv_iconst (v := 1) hx hb dX2_isAllowedByLayers_62 (by decide) ?_
        refine lv_goto (tgt := 67) hx hb dX2_isAllowedByLayers_63 (by decide) ?_
        refine lv_iand hx hb dX2_isAllowedByLayers_67 ?_
        refine lv_istore (lv' := [(4, .int ((b2i (alX ru xs.length cr d rank i)) &&& 1)), (7, .int (sgX ru 1 (nI i) cr d xs.length)), (5, .int (mxI (sgX ru 2 (nI i) cr d xs.length) (wvX ru xs.length cr d i))), (6, .int (nI i)), (0, .ref c), (1, .int cr), (2, .int d), (3, .int rank)]) hx hb dX2_isAllowedByLayers_68 hl (by decide) rfl (fun ls hl => ?_)
        refine lv_iinc (v := nI (i + 1)) (lv' := [(6, .int (nI (i + 1))), (4, .int ((b2i (alX ru xs.length cr d rank i)) &&& 1)), (7, .int (sgX ru 1 (nI i) cr d xs.length)), (5, .int (mxI (sgX ru 2 (nI i) cr d xs.length) (wvX ru xs.length cr d i))), (0, .ref c), (1, .int cr), (2, .int d), (3, .int rank)]) hx hb dX2_isAllowedByLayers_70 hl (k := 3) rfl (nI_1 _) (by decide) rfl (fun ls hl => ?_)
        refine lv_goto (tgt := 14) hx hb dX2_isAllowedByLayers_73 (by decide) ?_
        exact ih14 (i + 1) _ _ _ (by omega) (by rw [alX_s]; simp [alst, wvX_s, b2i_and0, b2i_and1, b2i_tt, b2i_ff, c_1]) (by exact wvX_s.symm) rfl ls (lv_sub hl [0, 1, 3, 4, 5, 6, 7] rfl)
      · skip
        refine lv_iload_n hx hb dX2_isAllowedByLayers_56 rfl (lv_at hl 7 rfl) ?_
        refine lv_iload hx hb dX2_isAllowedByLayers_57 (lv_at hl 0 rfl) ?_
        refine lv_icmp_lt (tgt := 66) hx hb dX2_isAllowedByLayers_59 (by decide) (fun c_2 => ?_) (fun c_2 => ?_)
        · skip
          refine lv_iconst (v := 0) hx hb dX2_isAllowedByLayers_66 (by decide) ?_
          refine lv_iand hx hb dX2_isAllowedByLayers_67 ?_
          refine lv_istore (lv' := [(4, .int ((b2i (alX ru xs.length cr d rank i)) &&& 0)), (7, .int (sgX ru 1 (nI i) cr d xs.length)), (5, .int (mxI (sgX ru 2 (nI i) cr d xs.length) (wvX ru xs.length cr d i))), (6, .int (nI i)), (0, .ref c), (1, .int cr), (2, .int d), (3, .int rank)]) hx hb dX2_isAllowedByLayers_68 hl (by decide) rfl (fun ls hl => ?_)
          refine lv_iinc (v := nI (i + 1)) (lv' := [(6, .int (nI (i + 1))), (4, .int ((b2i (alX ru xs.length cr d rank i)) &&& 0)), (7, .int (sgX ru 1 (nI i) cr d xs.length)), (5, .int (mxI (sgX ru 2 (nI i) cr d xs.length) (wvX ru xs.length cr d i))), (0, .ref c), (1, .int cr), (2, .int d), (3, .int rank)]) hx hb dX2_isAllowedByLayers_70 hl (k := 3) rfl (nI_1 _) (by decide) rfl (fun ls hl => ?_)
          refine lv_goto (tgt := 14) hx hb dX2_isAllowedByLayers_73 (by decide) ?_
          exact ih14 (i + 1) _ _ _ (by omega) (by rw [alX_s]; simp [alst, wvX_s, b2i_and0, b2i_and1, b2i_tt, b2i_ff, c_1, c_2]) (by exact wvX_s.symm) rfl ls (lv_sub hl [0, 1, 3, 4, 5, 6, 7] rfl)
        · skip
          refine lv_iconst (v := 1) hx hb dX2_isAllowedByLayers_62 (by decide) ?_
          refine lv_goto (tgt := 67) hx hb dX2_isAllowedByLayers_63 (by decide) ?_
          refine lv_iand hx hb dX2_isAllowedByLayers_67 ?_
          refine lv_istore (lv' := [(4, .int ((b2i (alX ru xs.length cr d rank i)) &&& 1)), (7, .int (sgX ru 1 (nI i) cr d xs.length)), (5, .int (mxI (sgX ru 2 (nI i) cr d xs.length) (wvX ru xs.length cr d i))), (6, .int (nI i)), (0, .ref c), (1, .int cr), (2, .int d), (3, .int rank)]) hx hb dX2_isAllowedByLayers_68 hl (by decide) rfl (fun ls hl => ?_)
          refine lv_iinc (v := nI (i + 1)) (lv' := [(6, .int (nI (i + 1))), (4, .int ((b2i (alX ru xs.length cr d rank i)) &&& 1)), (7, .int (sgX ru 1 (nI i) cr d xs.length)), (5, .int (mxI (sgX ru 2 (nI i) cr d xs.length) (wvX ru xs.length cr d i))), (0, .ref c), (1, .int cr), (2, .int d), (3, .int rank)]) hx hb dX2_isAllowedByLayers_70 hl (k := 3) rfl (nI_1 _) (by decide) rfl (fun ls hl => ?_)
          refine lv_goto (tgt := 14) hx hb dX2_isAllowedByLayers_73 (by decide) ?_
          exact ih14 (i + 1) _ _ _ (by omega) (by rw [alX_s]; simp [alst, wvX_s, b2i_and0, b2i_and1, b2i_tt, b2i_ff, c_1, c_2]) (by exact wvX_s.symm) rfl ls (lv_sub hl [0, 1, 3, 4, 5, 6, 7] rfl)
  exact loop14 (5 - 0) 0 _ _ _ (by omega) rfl rfl rfl  ls (lv_sub hl [0, 2, 1, 3, 4, 5, 6] rfl)

theorem hdX2_least : Hd yX2_least 2 := by decide +kernel
set_option maxHeartbeats 1000000 in
set_option maxRecDepth 100000 in
theorem metX2_least (l : Launch) (E : EV) (H : Heap) (c n : Nat) (ru : Nat → RV) (hcr : CR E c n ru H) (cr d : Int32) : Ro l yX2_least cX2_least 7 (some .int) 4 91 [.ref c, .int cr, .int d] E H (some (.int (leX ru n cr d 5))) := by
  have hcr0 := hcr
  obtain ⟨L, md, arr, cap, xs, hc, hal, rfl, h25, hru⟩ := hcr
  refine Ct.ofZ (by decide) (Nat.le_of_ble_eq_true rfl) ?_
  intro p e s m bl mt cd ls Q hF hW hH hl hend
  obtain ⟨F, hin⟩ := hF
  have hx := F.1
  have hb := F.2.1
  have hts := F.2.2.2.2
  have hl : lv_has ls 7 [(0, .ref c), (1, .int cr), (2, .int d)] := hl
  have hS : va_S (fun _ => False) H H [] := va_S.rf
  refine lv_aload_n hx hb dX2_least_0 rfl (lv_at hl 0 rfl) ?_
  refine lv_iload_n hx hb dX2_least_1 rfl (lv_at hl 1 rfl) ?_
  refine lv_iload_n hx hb dX2_least_2 rfl (lv_at hl 2 rfl) ?_
  refine run_ro (w := .int (b2i (pmX ru cr d xs.length))) (rest := []) (kV F hW (metX2_isPermitted l E H c xs.length ru hcr0 cr d) (lw_V q682 q683 q684 q44 q685) hdX2_isPermitted ⟨Nat.le_of_ble_eq_true rfl, Nat.le_of_ble_eq_true rfl⟩ (recv hW hc rfl) hl.1 rfl (Nat.le_of_ble_eq_true rfl) dX2_least_3 ⟨Nat.le_of_ble_eq_true rfl, Nat.le_of_ble_eq_true rfl⟩) ?_
  refine lv_if_eq (tgt := 13) hx hb dX2_least_6 (by decide) (fun c_1 => ?_) (fun c_1 => ?_)
  · skip
    have bc_1 := c_1
    have c_1 := b2i_f c_1
    refine lv_bipush (v := 10) hx hb dX2_least_13 (by decide) ?_
    refine lv_istore_n (lv' := [(3, .int 10), (0, .ref c), (1, .int cr), (2, .int d)]) hx hb dX2_least_15 rfl hl (by decide) rfl (fun ls hl => ?_)
    refine lv_iconst (v := 0) hx hb dX2_least_16 (by decide) ?_
    refine lv_istore (lv' := [(4, .int 0), (3, .int 10), (0, .ref c), (1, .int cr), (2, .int d)]) hx hb dX2_least_17 hl (by decide) rfl (fun ls hl => ?_)
    refine lv_iconst (v := 0) hx hb dX2_least_19 (by decide) ?_
    refine lv_istore (lv' := [(5, .int 0), (4, .int 0), (3, .int 10), (0, .ref c), (1, .int cr), (2, .int d)]) hx hb dX2_least_20 hl (by decide) rfl (fun ls hl => ?_)
    have loop22 : ∀ (nn i : Nat) (x5 a3 a4 : Int32), i + nn = 5 → a3 = leX ru xs.length cr d i → a4 = wvX ru xs.length cr d i → x5 = nI i → ∀ ls : Array Slot, lv_has ls 7 [(5, .int x5), (3, .int a3), (4, .int a4), (0, .ref c), (1, .int cr), (2, .int d)] → W p l e ({ frames := 4, cells := 0, slots := 0, locals := 91 } : Room) s m ([.ref c, .int cr, .int d] : List Value).toArray bl mt cd H [] 0 0 Q (F0 m 22 ls []) := by
      intro nn
      induction nn with
      | zero =>
        intro i x5 a3 a4 hn e3 e4 e5  ls hl
        have hiN : i = 5 := by omega
        rw [hiN] at e5
        try rw [hiN] at e3
        try rw [hiN] at e4
        rw [e5, e3, e4] at hl
        clear e5 e3 e4
        refine lv_iload hx hb dX2_least_22 (lv_at hl 0 rfl) ?_
        refine lv_iconst (v := 5) hx hb dX2_least_24 (by decide) ?_
        refine lv_icmp_ge (tgt := 79) hx hb dX2_least_25 (by decide) (fun _ => ?_) (fun c9 => absurd (nI_le (a := 5) (b := 5) (by decide) (by decide)) c9)
        refine lv_iload_n hx hb dX2_least_79 rfl (lv_at hl 1 rfl) ?_
        exact hend _ _ _ _ _ _ _ rfl dX2_least_80 (⟨congrArg (fun z : Int32 => some (Value.int z)) (rfl), rfl⟩) hS (Nat.zero_le _) (Nat.zero_le _)
      | succ nn ih22 =>
        intro i x5 a3 a4 hn e3 e4 e5  ls hl
        rw [e5, e3, e4] at hl
        clear e5 e3 e4
        refine lv_iload hx hb dX2_least_22 (lv_at hl 0 rfl) ?_
        refine lv_iconst (v := 5) hx hb dX2_least_24 (by decide) ?_
        refine lv_icmp_ge (tgt := 79) hx hb dX2_least_25 (by decide) (fun c9 => absurd c9 (nI_ge (a := i) (b := 5) (by omega) (by decide))) (fun _ => ?_)
        refine lv_aload_n hx hb dX2_least_28 rfl (lv_at hl 3 rfl) ?_
        refine lv_iconst (v := 2) hx hb dX2_least_29 (by decide) ?_
        refine lv_iload hx hb dX2_least_30 (lv_at hl 0 rfl) ?_
        refine lv_iload_n hx hb dX2_least_32 rfl (lv_at hl 4 rfl) ?_
        refine lv_iload_n hx hb dX2_least_33 rfl (lv_at hl 5 rfl) ?_
        refine run_ro (w := .int (sgX ru 2 (nI i) cr d xs.length)) (rest := []) (kV F hW (metX2_strongest l E H c xs.length ru hcr0 2 (nI i) cr d) (lw_V q693 q695 qs11 q44 q696) hdX2_strongest ⟨Nat.le_of_ble_eq_true rfl, Nat.le_of_ble_eq_true rfl⟩ (recv hW hc rfl) hl.1 rfl (Nat.le_of_ble_eq_true rfl) dX2_least_34 ⟨Nat.le_of_ble_eq_true rfl, Nat.le_of_ble_eq_true rfl⟩) ?_
        refine lv_iload hx hb dX2_least_37 (lv_at hl 2 rfl) ?_
        refine xmax (hl.1 ▸ F) q697 (Nat.le_of_ble_eq_true rfl) (Nat.le_of_ble_eq_true rfl) (by show 0 ≤ 0; omega) (by show 0 ≤ 0; omega) dX2_least_39 ?_
        refine lv_istore (lv' := [(4, .int (mxI (sgX ru 2 (nI i) cr d xs.length) (wvX ru xs.length cr d i))), (5, .int (nI i)), (3, .int (leX ru xs.length cr d i)), (0, .ref c), (1, .int cr), (2, .int d)]) hx hb dX2_least_42 hl (by decide) rfl (fun ls hl => ?_)
        refine lv_aload_n hx hb dX2_least_44 rfl (lv_at hl 3 rfl) ?_
        refine lv_iconst (v := 1) hx hb dX2_least_45 (by decide) ?_
        refine lv_iload hx hb dX2_least_46 (lv_at hl 1 rfl) ?_
        refine lv_iload_n hx hb dX2_least_48 rfl (lv_at hl 4 rfl) ?_
        refine lv_iload_n hx hb dX2_least_49 rfl (lv_at hl 5 rfl) ?_
        refine run_ro (w := .int (sgX ru 1 (nI i) cr d xs.length)) (rest := []) (kV F hW (metX2_strongest l E H c xs.length ru hcr0 1 (nI i) cr d) (lw_V q693 q695 qs11 q44 q696) hdX2_strongest ⟨Nat.le_of_ble_eq_true rfl, Nat.le_of_ble_eq_true rfl⟩ (recv hW hc rfl) hl.1 rfl (Nat.le_of_ble_eq_true rfl) dX2_least_50 ⟨Nat.le_of_ble_eq_true rfl, Nat.le_of_ble_eq_true rfl⟩) ?_
        refine lv_istore (lv' := [(6, .int (sgX ru 1 (nI i) cr d xs.length)), (4, .int (mxI (sgX ru 2 (nI i) cr d xs.length) (wvX ru xs.length cr d i))), (5, .int (nI i)), (3, .int (leX ru xs.length cr d i)), (0, .ref c), (1, .int cr), (2, .int d)]) hx hb dX2_least_53 hl (by decide) rfl (fun ls hl => ?_)
        refine lv_iload hx hb dX2_least_55 (lv_at hl 0 rfl) ?_
        refine lv_iload hx hb dX2_least_57 (lv_at hl 1 rfl) ?_
        refine lv_icmp_le (tgt := 71) hx hb dX2_least_59 (by decide) (fun c_2 => ?_) (fun c_2 => ?_)
        · skip
          refine lv_iload_n hx hb dX2_least_71 rfl (lv_at hl 3 rfl) ?_
          refine lv_istore_n (lv' := [(3, .int (leX ru xs.length cr d i)), (6, .int (sgX ru 1 (nI i) cr d xs.length)), (4, .int (mxI (sgX ru 2 (nI i) cr d xs.length) (wvX ru xs.length cr d i))), (5, .int (nI i)), (0, .ref c), (1, .int cr), (2, .int d)]) hx hb dX2_least_72 rfl hl (by decide) rfl (fun ls hl => ?_)
          refine lv_iinc (v := nI (i + 1)) (lv' := [(5, .int (nI (i + 1))), (3, .int (leX ru xs.length cr d i)), (6, .int (sgX ru 1 (nI i) cr d xs.length)), (4, .int (mxI (sgX ru 2 (nI i) cr d xs.length) (wvX ru xs.length cr d i))), (0, .ref c), (1, .int cr), (2, .int d)]) hx hb dX2_least_73 hl (k := 3) rfl (nI_1 _) (by decide) rfl (fun ls hl => ?_)
          refine lv_goto (tgt := 22) hx hb dX2_least_76 (by decide) ?_
          exact ih22 (i + 1) _ _ _ (by omega) (by rw [leX_s]; simp [lest, wvX_s, c_2]) (by exact wvX_s.symm) rfl ls (lv_sub hl [0, 1, 3, 4, 5, 6] rfl)
        · skip
          refine lv_iload hx hb dX2_least_62 (lv_at hl 0 rfl) ?_
          refine lv_iload_n hx hb dX2_least_64 rfl (lv_at hl 3 rfl) ?_
          refine xmax (hl.1 ▸ F) q697 (Nat.le_of_ble_eq_true rfl) (Nat.le_of_ble_eq_true rfl) (by show 0 ≤ 0; omega) (by show 0 ≤ 0; omega) dX2_least_65 ?_
          refine lv_goto (tgt := 72) hx hb dX2_least_68 (by decide) ?_
          refine lv_istore_n (lv' := [(3, .int (mxI (sgX ru 1 (nI i) cr d xs.length) (leX ru xs.length cr d i))), (6, .int (sgX ru 1 (nI i) cr d xs.length)), (4, .int (mxI (sgX ru 2 (nI i) cr d xs.length) (wvX ru xs.length cr d i))), (5, .int (nI i)), (0, .ref c), (1, .int cr), (2, .int d)]) hx hb dX2_least_72 rfl hl (by decide) rfl (fun ls hl => ?_)
          refine lv_iinc (v := nI (i + 1)) (lv' := [(5, .int (nI (i + 1))), (3, .int (mxI (sgX ru 1 (nI i) cr d xs.length) (leX ru xs.length cr d i))), (6, .int (sgX ru 1 (nI i) cr d xs.length)), (4, .int (mxI (sgX ru 2 (nI i) cr d xs.length) (wvX ru xs.length cr d i))), (0, .ref c), (1, .int cr), (2, .int d)]) hx hb dX2_least_73 hl (k := 3) rfl (nI_1 _) (by decide) rfl (fun ls hl => ?_)
          refine lv_goto (tgt := 22) hx hb dX2_least_76 (by decide) ?_
          exact ih22 (i + 1) _ _ _ (by omega) (by rw [leX_s]; simp [lest, wvX_s, c_2]) (by exact wvX_s.symm) rfl ls (lv_sub hl [0, 1, 3, 4, 5, 6] rfl)
    exact loop22 (5 - 0) 0 _ _ _ (by omega) (by simp [leX, foldN, c_1]) rfl rfl  ls (lv_sub hl [0, 2, 1, 3, 4, 5] rfl)
  · skip
    have bc_1 := c_1
    have c_1 := b2i_t c_1
    refine lv_iconst (v := 0) hx hb dX2_least_9 (by decide) ?_
    refine lv_goto (tgt := 15) hx hb dX2_least_10 (by decide) ?_
    refine lv_istore_n (lv' := [(3, .int 0), (0, .ref c), (1, .int cr), (2, .int d)]) hx hb dX2_least_15 rfl hl (by decide) rfl (fun ls hl => ?_)
    refine lv_iconst (v := 0) hx hb dX2_least_16 (by decide) ?_
    refine lv_istore (lv' := [(4, .int 0), (3, .int 0), (0, .ref c), (1, .int cr), (2, .int d)]) hx hb dX2_least_17 hl (by decide) rfl (fun ls hl => ?_)
    refine lv_iconst (v := 0) hx hb dX2_least_19 (by decide) ?_
    refine lv_istore (lv' := [(5, .int 0), (4, .int 0), (3, .int 0), (0, .ref c), (1, .int cr), (2, .int d)]) hx hb dX2_least_20 hl (by decide) rfl (fun ls hl => ?_)
    have loop22 : ∀ (nn i : Nat) (x5 a3 a4 : Int32), i + nn = 5 → a3 = leX ru xs.length cr d i → a4 = wvX ru xs.length cr d i → x5 = nI i → ∀ ls : Array Slot, lv_has ls 7 [(5, .int x5), (3, .int a3), (4, .int a4), (0, .ref c), (1, .int cr), (2, .int d)] → W p l e ({ frames := 4, cells := 0, slots := 0, locals := 91 } : Room) s m ([.ref c, .int cr, .int d] : List Value).toArray bl mt cd H [] 0 0 Q (F0 m 22 ls []) := by
      intro nn
      induction nn with
      | zero =>
        intro i x5 a3 a4 hn e3 e4 e5  ls hl
        have hiN : i = 5 := by omega
        rw [hiN] at e5
        try rw [hiN] at e3
        try rw [hiN] at e4
        rw [e5, e3, e4] at hl
        clear e5 e3 e4
        refine lv_iload hx hb dX2_least_22 (lv_at hl 0 rfl) ?_
        refine lv_iconst (v := 5) hx hb dX2_least_24 (by decide) ?_
        refine lv_icmp_ge (tgt := 79) hx hb dX2_least_25 (by decide) (fun _ => ?_) (fun c9 => absurd (nI_le (a := 5) (b := 5) (by decide) (by decide)) c9)
        refine lv_iload_n hx hb dX2_least_79 rfl (lv_at hl 1 rfl) ?_
        exact hend _ _ _ _ _ _ _ rfl dX2_least_80 (⟨congrArg (fun z : Int32 => some (Value.int z)) (rfl), rfl⟩) hS (Nat.zero_le _) (Nat.zero_le _)
      | succ nn ih22 =>
        intro i x5 a3 a4 hn e3 e4 e5  ls hl
        rw [e5, e3, e4] at hl
        clear e5 e3 e4
        refine lv_iload hx hb dX2_least_22 (lv_at hl 0 rfl) ?_
        refine lv_iconst (v := 5) hx hb dX2_least_24 (by decide) ?_
        refine lv_icmp_ge (tgt := 79) hx hb dX2_least_25 (by decide) (fun c9 => absurd c9 (nI_ge (a := i) (b := 5) (by omega) (by decide))) (fun _ => ?_)
        refine lv_aload_n hx hb dX2_least_28 rfl (lv_at hl 3 rfl) ?_
        refine lv_iconst (v := 2) hx hb dX2_least_29 (by decide) ?_
        refine lv_iload hx hb dX2_least_30 (lv_at hl 0 rfl) ?_
        refine lv_iload_n hx hb dX2_least_32 rfl (lv_at hl 4 rfl) ?_
        refine lv_iload_n hx hb dX2_least_33 rfl (lv_at hl 5 rfl) ?_
        refine run_ro (w := .int (sgX ru 2 (nI i) cr d xs.length)) (rest := []) (kV F hW (metX2_strongest l E H c xs.length ru hcr0 2 (nI i) cr d) (lw_V q693 q695 qs11 q44 q696) hdX2_strongest ⟨Nat.le_of_ble_eq_true rfl, Nat.le_of_ble_eq_true rfl⟩ (recv hW hc rfl) hl.1 rfl (Nat.le_of_ble_eq_true rfl) dX2_least_34 ⟨Nat.le_of_ble_eq_true rfl, Nat.le_of_ble_eq_true rfl⟩) ?_
        refine lv_iload hx hb dX2_least_37 (lv_at hl 2 rfl) ?_
        refine xmax (hl.1 ▸ F) q697 (Nat.le_of_ble_eq_true rfl) (Nat.le_of_ble_eq_true rfl) (by show 0 ≤ 0; omega) (by show 0 ≤ 0; omega) dX2_least_39 ?_
        refine lv_istore (lv' := [(4, .int (mxI (sgX ru 2 (nI i) cr d xs.length) (wvX ru xs.length cr d i))), (5, .int (nI i)), (3, .int (leX ru xs.length cr d i)), (0, .ref c), (1, .int cr), (2, .int d)]) hx hb dX2_least_42 hl (by decide) rfl (fun ls hl => ?_)
        refine lv_aload_n hx hb dX2_least_44 rfl (lv_at hl 3 rfl) ?_
        refine lv_iconst (v := 1) hx hb dX2_least_45 (by decide) ?_
        refine lv_iload hx hb dX2_least_46 (lv_at hl 1 rfl) ?_
        refine lv_iload_n hx hb dX2_least_48 rfl (lv_at hl 4 rfl) ?_
        refine lv_iload_n hx hb dX2_least_49 rfl (lv_at hl 5 rfl) ?_
        refine run_ro (w := .int (sgX ru 1 (nI i) cr d xs.length)) (rest := []) (kV F hW (metX2_strongest l E H c xs.length ru hcr0 1 (nI i) cr d) (lw_V q693 q695 qs11 q44 q696) hdX2_strongest ⟨Nat.le_of_ble_eq_true rfl, Nat.le_of_ble_eq_true rfl⟩ (recv hW hc rfl) hl.1 rfl (Nat.le_of_ble_eq_true rfl) dX2_least_50 ⟨Nat.le_of_ble_eq_true rfl, Nat.le_of_ble_eq_true rfl⟩) ?_
        refine lv_istore (lv' := [(6, .int (sgX ru 1 (nI i) cr d xs.length)), (4, .int (mxI (sgX ru 2 (nI i) cr d xs.length) (wvX ru xs.length cr d i))), (5, .int (nI i)), (3, .int (leX ru xs.length cr d i)), (0, .ref c), (1, .int cr), (2, .int d)]) hx hb dX2_least_53 hl (by decide) rfl (fun ls hl => ?_)
        refine lv_iload hx hb dX2_least_55 (lv_at hl 0 rfl) ?_
        refine lv_iload hx hb dX2_least_57 (lv_at hl 1 rfl) ?_
        refine lv_icmp_le (tgt := 71) hx hb dX2_least_59 (by decide) (fun c_3 => ?_) (fun c_3 => ?_)
        · skip
          refine lv_iload_n hx hb dX2_least_71 rfl (lv_at hl 3 rfl) ?_
          refine lv_istore_n (lv' := [(3, .int (leX ru xs.length cr d i)), (6, .int (sgX ru 1 (nI i) cr d xs.length)), (4, .int (mxI (sgX ru 2 (nI i) cr d xs.length) (wvX ru xs.length cr d i))), (5, .int (nI i)), (0, .ref c), (1, .int cr), (2, .int d)]) hx hb dX2_least_72 rfl hl (by decide) rfl (fun ls hl => ?_)
          refine lv_iinc (v := nI (i + 1)) (lv' := [(5, .int (nI (i + 1))), (3, .int (leX ru xs.length cr d i)), (6, .int (sgX ru 1 (nI i) cr d xs.length)), (4, .int (mxI (sgX ru 2 (nI i) cr d xs.length) (wvX ru xs.length cr d i))), (0, .ref c), (1, .int cr), (2, .int d)]) hx hb dX2_least_73 hl (k := 3) rfl (nI_1 _) (by decide) rfl (fun ls hl => ?_)
          refine lv_goto (tgt := 22) hx hb dX2_least_76 (by decide) ?_
          exact ih22 (i + 1) _ _ _ (by omega) (by rw [leX_s]; simp [lest, wvX_s, c_3]) (by exact wvX_s.symm) rfl ls (lv_sub hl [0, 1, 3, 4, 5, 6] rfl)
        · skip
          refine lv_iload hx hb dX2_least_62 (lv_at hl 0 rfl) ?_
          refine lv_iload_n hx hb dX2_least_64 rfl (lv_at hl 3 rfl) ?_
          refine xmax (hl.1 ▸ F) q697 (Nat.le_of_ble_eq_true rfl) (Nat.le_of_ble_eq_true rfl) (by show 0 ≤ 0; omega) (by show 0 ≤ 0; omega) dX2_least_65 ?_
          refine lv_goto (tgt := 72) hx hb dX2_least_68 (by decide) ?_
          refine lv_istore_n (lv' := [(3, .int (mxI (sgX ru 1 (nI i) cr d xs.length) (leX ru xs.length cr d i))), (6, .int (sgX ru 1 (nI i) cr d xs.length)), (4, .int (mxI (sgX ru 2 (nI i) cr d xs.length) (wvX ru xs.length cr d i))), (5, .int (nI i)), (0, .ref c), (1, .int cr), (2, .int d)]) hx hb dX2_least_72 rfl hl (by decide) rfl (fun ls hl => ?_)
          refine lv_iinc (v := nI (i + 1)) (lv' := [(5, .int (nI (i + 1))), (3, .int (mxI (sgX ru 1 (nI i) cr d xs.length) (leX ru xs.length cr d i))), (6, .int (sgX ru 1 (nI i) cr d xs.length)), (4, .int (mxI (sgX ru 2 (nI i) cr d xs.length) (wvX ru xs.length cr d i))), (0, .ref c), (1, .int cr), (2, .int d)]) hx hb dX2_least_73 hl (k := 3) rfl (nI_1 _) (by decide) rfl (fun ls hl => ?_)
          refine lv_goto (tgt := 22) hx hb dX2_least_76 (by decide) ?_
          exact ih22 (i + 1) _ _ _ (by omega) (by rw [leX_s]; simp [lest, wvX_s, c_3]) (by exact wvX_s.symm) rfl ls (lv_sub hl [0, 1, 3, 4, 5, 6] rfl)
    exact loop22 (5 - 0) 0 _ _ _ (by omega) (by simp [leX, foldN, c_1]) rfl rfl  ls (lv_sub hl [0, 2, 1, 3, 4, 5] rfl)

theorem hdX2_triples : Hd yX2_triples 0 := by decide +kernel
set_option maxHeartbeats 1000000 in
set_option maxRecDepth 100000 in
theorem metX2_triples (l : Launch) (E : EV) (H : Heap) (c n : Nat) (ru : Nat → RV) (hcr : CR E c n ru H) : Ro l yX2_triples cX2_triples 4 (some .int) 5 117 [.ref c] E H (some (.int (trX ru n 5))) := by
  have hcr0 := hcr
  obtain ⟨L, md, arr, cap, xs, hc, hal, rfl, h25, hru⟩ := hcr
  refine Ct.ofZ (by decide) (Nat.le_of_ble_eq_true rfl) ?_
  intro p e s m bl mt cd ls Q hF hW hH hl hend
  obtain ⟨F, hin⟩ := hF
  have hx := F.1
  have hb := F.2.1
  have hts := F.2.2.2.2
  have hl : lv_has ls 4 [(0, .ref c)] := hl
  have hS : va_S (fun _ => False) H H [] := va_S.rf
  refine lv_iconst (v := 0) hx hb dX2_triples_0 (by decide) ?_
  refine lv_istore_n (lv' := [(1, .int 0), (0, .ref c)]) hx hb dX2_triples_1 rfl hl (by decide) rfl (fun ls hl => ?_)
  refine lv_iconst (v := 0) hx hb dX2_triples_2 (by decide) ?_
  refine lv_istore_n (lv' := [(2, .int 0), (1, .int 0), (0, .ref c)]) hx hb dX2_triples_3 rfl hl (by decide) rfl (fun ls hl => ?_)
  have loop4 : ∀ (nn i : Nat) (x2 a1 : Int32), i + nn = 5 → a1 = trX ru xs.length i → x2 = nI i → ∀ ls : Array Slot, lv_has ls 4 [(2, .int x2), (1, .int a1), (0, .ref c)] → W p l e ({ frames := 5, cells := 0, slots := 0, locals := 117 } : Room) s m ([.ref c] : List Value).toArray bl mt cd H [] 0 0 Q (F0 m 4 ls []) := by
    intro nn
    induction nn with
    | zero =>
      intro i x2 a1 hn e1 e2  ls hl
      have hiN : i = 5 := by omega
      rw [hiN] at e2
      try rw [hiN] at e1
      rw [e2, e1] at hl
      clear e2 e1
      refine lv_iload_n hx hb dX2_triples_4 rfl (lv_at hl 0 rfl) ?_
      refine lv_iconst (v := 5) hx hb dX2_triples_5 (by decide) ?_
      refine lv_icmp_ge (tgt := 41) hx hb dX2_triples_6 (by decide) (fun _ => ?_) (fun c9 => absurd (nI_le (a := 5) (b := 5) (by decide) (by decide)) c9)
      refine lv_iload_n hx hb dX2_triples_41 rfl (lv_at hl 1 rfl) ?_
      exact hend _ _ _ _ _ _ _ rfl dX2_triples_42 (⟨congrArg (fun z : Int32 => some (Value.int z)) (rfl), rfl⟩) hS (Nat.zero_le _) (Nat.zero_le _)
    | succ nn ih4 =>
      intro i x2 a1 hn e1 e2  ls hl
      rw [e2, e1] at hl
      clear e2 e1
      refine lv_iload_n hx hb dX2_triples_4 rfl (lv_at hl 0 rfl) ?_
      refine lv_iconst (v := 5) hx hb dX2_triples_5 (by decide) ?_
      refine lv_icmp_ge (tgt := 41) hx hb dX2_triples_6 (by decide) (fun c9 => absurd c9 (nI_ge (a := i) (b := 5) (by omega) (by decide))) (fun _ => ?_)
      refine lv_iconst (v := 0) hx hb dX2_triples_9 (by decide) ?_
      refine lv_istore_n (lv' := [(3, .int 0), (2, .int (nI i)), (1, .int (trX ru xs.length i)), (0, .ref c)]) hx hb dX2_triples_10 rfl hl (by decide) rfl (fun ls hl => ?_)
      have loop11 : ∀ (nn k : Nat) (x3 b1 : Int32), k + nn = 6 → b1 = trXr ru xs.length i (trX ru xs.length i) k → x3 = nI k → ∀ ls : Array Slot, lv_has ls 4 [(3, .int x3), (1, .int b1), (0, .ref c), (2, .int (nI i))] → W p l e ({ frames := 5, cells := 0, slots := 0, locals := 117 } : Room) s m ([.ref c] : List Value).toArray bl mt cd H [] 0 0 Q (F0 m 11 ls []) := by
        intro nn
        induction nn with
        | zero =>
          intro k x3 b1 hn e1 e3  ls hl
          have hiN : k = 6 := by omega
          rw [hiN] at e3
          try rw [hiN] at e1
          rw [e3, e1] at hl
          clear e3 e1
          refine lv_iload_n hx hb dX2_triples_11 rfl (lv_at hl 0 rfl) ?_
          refine lv_bipush (v := 6) hx hb dX2_triples_12 (by decide) ?_
          refine lv_icmp_ge (tgt := 35) hx hb dX2_triples_14 (by decide) (fun _ => ?_) (fun c9 => absurd (nI_le (a := 6) (b := 6) (by decide) (by decide)) c9)
          refine lv_iinc (v := nI (i + 1)) (lv' := [(2, .int (nI (i + 1))), (3, .int (nI 6)), (1, .int (trXr ru xs.length i (trX ru xs.length i) 6)), (0, .ref c)]) hx hb dX2_triples_35 hl (k := 3) rfl (nI_1 _) (by decide) rfl (fun ls hl => ?_)
          refine lv_goto (tgt := 4) hx hb dX2_triples_38 (by decide) ?_
          exact ih4 (i + 1) _ _ (by omega) (by exact trX_s.symm) rfl ls (lv_sub hl [0, 2, 3] rfl)
        | succ nn ih11 =>
          intro k x3 b1 hn e1 e3  ls hl
          rw [e3, e1] at hl
          clear e3 e1
          refine lv_iload_n hx hb dX2_triples_11 rfl (lv_at hl 0 rfl) ?_
          refine lv_bipush (v := 6) hx hb dX2_triples_12 (by decide) ?_
          refine lv_icmp_ge (tgt := 35) hx hb dX2_triples_14 (by decide) (fun c9 => absurd c9 (nI_ge (a := k) (b := 6) (by omega) (by decide))) (fun _ => ?_)
          refine lv_iload_n hx hb dX2_triples_17 rfl (lv_at hl 1 rfl) ?_
          refine lv_bipush (v := 10) hx hb dX2_triples_18 (by decide) ?_
          refine lv_aload_n hx hb dX2_triples_20 rfl (lv_at hl 2 rfl) ?_
          refine lv_iload_n hx hb dX2_triples_21 rfl (lv_at hl 3 rfl) ?_
          refine lv_iload_n hx hb dX2_triples_22 rfl (lv_at hl 0 rfl) ?_
          refine run_ro (w := .int (leX ru xs.length (nI i) (nI k) 5)) (rest := [.int 10, .int (trXr ru xs.length i (trX ru xs.length i) k)]) (kV F hW (metX2_least l E H c xs.length ru hcr0 (nI i) (nI k)) (lw_V q678 q679 q680 q44 q681) hdX2_least ⟨Nat.le_of_ble_eq_true rfl, Nat.le_of_ble_eq_true rfl⟩ (recv hW hc rfl) hl.1 rfl (Nat.le_of_ble_eq_true rfl) dX2_triples_23 ⟨Nat.le_of_ble_eq_true rfl, Nat.le_of_ble_eq_true rfl⟩) ?_
          refine lv_isub hx hb dX2_triples_26 ?_
          refine lv_iadd hx hb dX2_triples_27 ?_
          refine lv_istore_n (lv' := [(1, .int ((trXr ru xs.length i (trX ru xs.length i) k) + (10 - (leX ru xs.length (nI i) (nI k) 5)))), (3, .int (nI k)), (0, .ref c), (2, .int (nI i))]) hx hb dX2_triples_28 rfl hl (by decide) rfl (fun ls hl => ?_)
          refine lv_iinc (v := nI (k + 1)) (lv' := [(3, .int (nI (k + 1))), (1, .int ((trXr ru xs.length i (trX ru xs.length i) k) + (10 - (leX ru xs.length (nI i) (nI k) 5)))), (0, .ref c), (2, .int (nI i))]) hx hb dX2_triples_29 hl (k := 1) rfl (nI_1 _) (by decide) rfl (fun ls hl => ?_)
          refine lv_goto (tgt := 11) hx hb dX2_triples_32 (by decide) ?_
          exact ih11 (k + 1) _ _ (by omega) (by exact trXr_s.symm) rfl ls (lv_sub hl [0, 1, 2, 3] rfl)
      exact loop11 (6 - 0) 0 _ _ (by omega) trXr_0.symm rfl  ls (lv_sub hl [0, 2, 3, 1] rfl)
  exact loop4 (5 - 0) 0 _ _ (by omega) rfl rfl  ls (lv_sub hl [0, 1, 2] rfl)

theorem hdX2_allowsTheSame : Hd yX2_allowsTheSame 1 := by decide +kernel
set_option maxHeartbeats 1000000 in
set_option maxRecDepth 100000 in
theorem metX2_allowsTheSame (l : Launch) (E : EV) (H : Heap) (c n : Nat) (ru : Nat → RV) (hcr : CR E c n ru H) (c2 n2 : Nat) (ru2 : Nat → RV) (hcr2 : CR E c2 n2 ru2 H) : Ro l yX2_allowsTheSame cX2_allowsTheSame 5 (some .boolean) 5 117 [.ref c, .ref c2] E H (some (.int (b2i (saX ru n ru2 n2 5)))) := by
  have hcr0 := hcr
  obtain ⟨L, md, arr, cap, xs, hc, hal, rfl, h25, hru⟩ := hcr
  have hcr3 := hcr2
  obtain ⟨L2, md2, arr2, cap2, xs2, hc2, -⟩ := hcr3
  refine Ct.ofZ (by decide) (Nat.le_of_ble_eq_true rfl) ?_
  intro p e s m bl mt cd ls Q hF hW hH hl hend
  obtain ⟨F, hin⟩ := hF
  have hx := F.1
  have hb := F.2.1
  have hts := F.2.2.2.2
  have hl : lv_has ls 5 [(0, .ref c), (1, .ref c2)] := hl
  have hS : va_S (fun _ => False) H H [] := va_S.rf
  refine lv_iconst (v := 1) hx hb dX2_allowsTheSame_0 (by decide) ?_
  refine lv_istore_n (lv' := [(2, .int 1), (0, .ref c), (1, .ref c2)]) hx hb dX2_allowsTheSame_1 rfl hl (by decide) rfl (fun ls hl => ?_)
  refine lv_iconst (v := 0) hx hb dX2_allowsTheSame_2 (by decide) ?_
  refine lv_istore_n (lv' := [(3, .int 0), (2, .int 1), (0, .ref c), (1, .ref c2)]) hx hb dX2_allowsTheSame_3 rfl hl (by decide) rfl (fun ls hl => ?_)
  have loop4 : ∀ (nn i : Nat) (x3 a1 : Int32), i + nn = 5 → a1 = b2i (saX ru xs.length ru2 n2 i) → x3 = nI i → ∀ ls : Array Slot, lv_has ls 5 [(3, .int x3), (2, .int a1), (0, .ref c), (1, .ref c2)] → W p l e ({ frames := 5, cells := 0, slots := 0, locals := 117 } : Room) s m ([.ref c, .ref c2] : List Value).toArray bl mt cd H [] 0 0 Q (F0 m 4 ls []) := by
    intro nn
    induction nn with
    | zero =>
      intro i x3 a1 hn e2 e3  ls hl
      have hiN : i = 5 := by omega
      rw [hiN] at e3
      try rw [hiN] at e2
      rw [e3, e2] at hl
      clear e3 e2
      refine lv_iload_n hx hb dX2_allowsTheSame_4 rfl (lv_at hl 0 rfl) ?_
      refine lv_iconst (v := 5) hx hb dX2_allowsTheSame_5 (by decide) ?_
      refine lv_icmp_ge (tgt := 56) hx hb dX2_allowsTheSame_6 (by decide) (fun _ => ?_) (fun c9 => absurd (nI_le (a := 5) (b := 5) (by decide) (by decide)) c9)
      refine lv_iload_n hx hb dX2_allowsTheSame_56 rfl (lv_at hl 1 rfl) ?_
      exact hend _ _ _ _ _ _ _ (b2i_nar _) dX2_allowsTheSame_57 (⟨congrArg (fun z : Int32 => some (Value.int z)) (rfl), rfl⟩) hS (Nat.zero_le _) (Nat.zero_le _)
    | succ nn ih4 =>
      intro i x3 a1 hn e2 e3  ls hl
      rw [e3, e2] at hl
      clear e3 e2
      refine lv_iload_n hx hb dX2_allowsTheSame_4 rfl (lv_at hl 0 rfl) ?_
      refine lv_iconst (v := 5) hx hb dX2_allowsTheSame_5 (by decide) ?_
      refine lv_icmp_ge (tgt := 56) hx hb dX2_allowsTheSame_6 (by decide) (fun c9 => absurd c9 (nI_ge (a := i) (b := 5) (by omega) (by decide))) (fun _ => ?_)
      refine lv_iconst (v := 0) hx hb dX2_allowsTheSame_9 (by decide) ?_
      refine lv_istore (lv' := [(4, .int 0), (3, .int (nI i)), (2, .int (b2i (saX ru xs.length ru2 n2 i))), (0, .ref c), (1, .ref c2)]) hx hb dX2_allowsTheSame_10 hl (by decide) rfl (fun ls hl => ?_)
      have loop12 : ∀ (nn k : Nat) (x4 b1 : Int32), k + nn = 6 → b1 = b2i (saXr ru xs.length ru2 n2 i (saX ru xs.length ru2 n2 i) k) → x4 = nI k → ∀ ls : Array Slot, lv_has ls 5 [(4, .int x4), (2, .int b1), (0, .ref c), (1, .ref c2), (3, .int (nI i))] → W p l e ({ frames := 5, cells := 0, slots := 0, locals := 117 } : Room) s m ([.ref c, .ref c2] : List Value).toArray bl mt cd H [] 0 0 Q (F0 m 12 ls []) := by
        intro nn
        induction nn with
        | zero =>
          intro k x4 b1 hn e2 e4  ls hl
          have hiN : k = 6 := by omega
          rw [hiN] at e4
          try rw [hiN] at e2
          rw [e4, e2] at hl
          clear e4 e2
          refine lv_iload hx hb dX2_allowsTheSame_12 (lv_at hl 0 rfl) ?_
          refine lv_bipush (v := 6) hx hb dX2_allowsTheSame_14 (by decide) ?_
          refine lv_icmp_ge (tgt := 50) hx hb dX2_allowsTheSame_16 (by decide) (fun _ => ?_) (fun c9 => absurd (nI_le (a := 6) (b := 6) (by decide) (by decide)) c9)
          refine lv_iinc (v := nI (i + 1)) (lv' := [(3, .int (nI (i + 1))), (4, .int (nI 6)), (2, .int (b2i (saXr ru xs.length ru2 n2 i (saX ru xs.length ru2 n2 i) 6))), (0, .ref c), (1, .ref c2)]) hx hb dX2_allowsTheSame_50 hl (k := 4) rfl (nI_1 _) (by decide) rfl (fun ls hl => ?_)
          refine lv_goto (tgt := 4) hx hb dX2_allowsTheSame_53 (by decide) ?_
          exact ih4 (i + 1) _ _ (by omega) (by rw [saX_s]) rfl ls (lv_sub hl [0, 2, 3, 4] rfl)
        | succ nn ih12 =>
          intro k x4 b1 hn e2 e4  ls hl
          rw [e4, e2] at hl
          clear e4 e2
          refine lv_iload hx hb dX2_allowsTheSame_12 (lv_at hl 0 rfl) ?_
          refine lv_bipush (v := 6) hx hb dX2_allowsTheSame_14 (by decide) ?_
          refine lv_icmp_ge (tgt := 50) hx hb dX2_allowsTheSame_16 (by decide) (fun c9 => absurd c9 (nI_ge (a := k) (b := 6) (by omega) (by decide))) (fun _ => ?_)
          refine lv_iload_n hx hb dX2_allowsTheSame_19 rfl (lv_at hl 1 rfl) ?_
          refine lv_aload_n hx hb dX2_allowsTheSame_20 rfl (lv_at hl 2 rfl) ?_
          refine lv_iload_n hx hb dX2_allowsTheSame_21 rfl (lv_at hl 4 rfl) ?_
          refine lv_iload hx hb dX2_allowsTheSame_22 (lv_at hl 0 rfl) ?_
          refine run_ro (w := .int (leX ru xs.length (nI i) (nI k) 5)) (rest := [.int (b2i (saXr ru xs.length ru2 n2 i (saX ru xs.length ru2 n2 i) k))]) (kV F hW (metX2_least l E H c xs.length ru hcr0 (nI i) (nI k)) (lw_V q678 q679 q680 q44 q681) hdX2_least ⟨Nat.le_of_ble_eq_true rfl, Nat.le_of_ble_eq_true rfl⟩ (recv hW hc rfl) hl.1 rfl (Nat.le_of_ble_eq_true rfl) dX2_allowsTheSame_24 ⟨Nat.le_of_ble_eq_true rfl, Nat.le_of_ble_eq_true rfl⟩) ?_
          refine lv_aload_n hx hb dX2_allowsTheSame_27 rfl (lv_at hl 3 rfl) ?_
          refine lv_iload_n hx hb dX2_allowsTheSame_28 rfl (lv_at hl 4 rfl) ?_
          refine lv_iload hx hb dX2_allowsTheSame_29 (lv_at hl 0 rfl) ?_
          refine run_ro (w := .int (leX ru2 n2 (nI i) (nI k) 5)) (rest := [.int (leX ru xs.length (nI i) (nI k) 5), .int (b2i (saXr ru xs.length ru2 n2 i (saX ru xs.length ru2 n2 i) k))]) (kV F hW (metX2_least l E H c2 n2 ru2 hcr2 (nI i) (nI k)) (lw_V q678 q679 q680 q44 q681) hdX2_least ⟨Nat.le_of_ble_eq_true rfl, Nat.le_of_ble_eq_true rfl⟩ (recv hW hc2 rfl) hl.1 rfl (Nat.le_of_ble_eq_true rfl) dX2_allowsTheSame_31 ⟨Nat.le_of_ble_eq_true rfl, Nat.le_of_ble_eq_true rfl⟩) ?_
          refine lv_icmp_ne (tgt := 41) hx hb dX2_allowsTheSame_34 (by decide) (fun c_1 => ?_) (fun c_1 => ?_)
          · skip
            refine lv_iconst (v := 0) hx hb dX2_allowsTheSame_41 (by decide) ?_
            refine lv_iand hx hb dX2_allowsTheSame_42 ?_
            refine lv_istore_n (lv' := [(2, .int ((b2i (saXr ru xs.length ru2 n2 i (saX ru xs.length ru2 n2 i) k)) &&& 0)), (4, .int (nI k)), (0, .ref c), (1, .ref c2), (3, .int (nI i))]) hx hb dX2_allowsTheSame_43 rfl hl (by decide) rfl (fun ls hl => ?_)
            refine lv_iinc (v := nI (k + 1)) (lv' := [(4, .int (nI (k + 1))), (2, .int ((b2i (saXr ru xs.length ru2 n2 i (saX ru xs.length ru2 n2 i) k)) &&& 0)), (0, .ref c), (1, .ref c2), (3, .int (nI i))]) hx hb dX2_allowsTheSame_44 hl (k := 1) rfl (nI_1 _) (by decide) rfl (fun ls hl => ?_)
            refine lv_goto (tgt := 12) hx hb dX2_allowsTheSame_47 (by decide) ?_
            exact ih12 (k + 1) _ _ (by omega) (by rw [saXr_s]; simp [b2i_and0, b2i_and1, b2i_tt, b2i_ff, c_1]) rfl ls (lv_sub hl [0, 1, 2, 3, 4] rfl)
          · skip
            refine lv_iconst (v := 1) hx hb dX2_allowsTheSame_37 (by decide) ?_
            refine lv_goto (tgt := 42) hx hb dX2_allowsTheSame_38 (by decide) ?_
            refine lv_iand hx hb dX2_allowsTheSame_42 ?_
            refine lv_istore_n (lv' := [(2, .int ((b2i (saXr ru xs.length ru2 n2 i (saX ru xs.length ru2 n2 i) k)) &&& 1)), (4, .int (nI k)), (0, .ref c), (1, .ref c2), (3, .int (nI i))]) hx hb dX2_allowsTheSame_43 rfl hl (by decide) rfl (fun ls hl => ?_)
            refine lv_iinc (v := nI (k + 1)) (lv' := [(4, .int (nI (k + 1))), (2, .int ((b2i (saXr ru xs.length ru2 n2 i (saX ru xs.length ru2 n2 i) k)) &&& 1)), (0, .ref c), (1, .ref c2), (3, .int (nI i))]) hx hb dX2_allowsTheSame_44 hl (k := 1) rfl (nI_1 _) (by decide) rfl (fun ls hl => ?_)
            refine lv_goto (tgt := 12) hx hb dX2_allowsTheSame_47 (by decide) ?_
            exact ih12 (k + 1) _ _ (by omega) (by rw [saXr_s]; simp [b2i_and0, b2i_and1, b2i_tt, b2i_ff, c_1]) rfl ls (lv_sub hl [0, 1, 2, 3, 4] rfl)
      exact loop12 (6 - 0) 0 _ _ (by omega) (by rw [saXr_0]) rfl  ls (lv_sub hl [0, 2, 3, 4, 1] rfl)
  exact loop4 (5 - 0) 0 _ _ (by omega) rfl rfl  ls (lv_sub hl [0, 1, 2, 3] rfl)

