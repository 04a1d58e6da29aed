/-! THE TWIN: what there is, what if -/
set_option maxRecDepth 100000
theorem ix_nI {i : Nat} (h : i < 2 ^ 31) : ix (nI i) = i := nI_clamp h
theorem mb0 (i : Nat) : (129 : Int32) + 4 * nI i + 0 = nI (129 + 4 * i) := by show nI 129 + nI 4 * nI i + nI 0 = _; rw [pk_mul, nI_add, nI_add, Nat.add_zero]
theorem mb1 (i : Nat) : (129 : Int32) + 4 * nI i + 1 = nI (129 + 4 * i + 1) := by show nI 129 + nI 4 * nI i + nI 1 = _; rw [pk_mul, nI_add, nI_add]
theorem mb2 (i : Nat) : (129 : Int32) + 4 * nI i + 2 = nI (129 + 4 * i + 2) := by show nI 129 + nI 4 * nI i + nI 2 = _; rw [pk_mul, nI_add, nI_add]
theorem mb3 (i : Nat) : (129 : Int32) + 4 * nI i + 3 = nI (129 + 4 * i + 3) := by show nI 129 + nI 4 * nI i + nI 3 = _; rw [pk_mul, nI_add, nI_add]
theorem mbk (i k : Nat) : (129 : Int32) + 4 * nI i + nI k = nI (129 + 4 * i + k) := by show nI 129 + nI 4 * nI i + nI k = _; rw [pk_mul, nI_add, nI_add]
theorem atk (i k : Nat) : (9 : Int32) + 5 * nI i + nI k = nI (9 + 5 * i + k) := by show nI 9 + nI 5 * nI i + nI k = _; rw [pk_mul, nI_add, nI_add]
theorem dn_step {n i : Nat} (h : i < n) : nI (n - i) - 1 = nI (n - 1 - i) := by
  rw [show n - i = (n - 1 - i) + 1 by omega]; exact nI_pred _
theorem dn_next {n i : Nat} (h : i < n) : nI (n - 1 - i) + (-1) = nI (n - (i + 1)) - 1 := by
  rw [show n - (i + 1) = n - 1 - i by omega, Int32.sub_eq_add_neg]
def odst (ru : Nat → RV) (n : Nat) (i : Nat) (k : Nat) (a : Int32) : Int32 := a + b2i (oddsV (ru i) (ru k))
def odM (ru : Nat → RV) (n : Nat) (i : Nat) (k : Nat) : Int32 := foldN (odst ru n i) 0 k
theorem odM_s {ru : Nat → RV} {n i k : Nat} : odM ru n i (k + 1) = odM ru n i k + b2i (oddsV (ru i) (ru k)) := rfl
/-- the reason: from the last rule down -/
def rsst (ru : Nat → RV) (c d rank : Int32) (G : Nat → Int32) (r : Nat) (fd : Int32) : Int32 :=
  if (ru r).2.1 = 1 then (if fitsV (ru r) c d = true then (if (ru r).2.2.2.2 ≤ G (ix (ru r).1) then fd else if (ru r).2.2.2.2 ≤ rank then fd else if fd = -6 then nI r else if (ru (ix fd)).1 < (ru r).1 then fd else nI r) else fd) else fd
def rsM (ru : Nat → RV) (n : Nat) (c d rank : Int32) (G : Nat → Int32) (i : Nat) : Int32 := foldN (fun j fd => rsst ru c d rank G (n - 1 - j) fd) (-6) i
theorem rsM_s {ru : Nat → RV} {n : Nat} {c d rank : Int32} {G : Nat → Int32} {i : Nat} : rsM ru n c d rank G (i + 1) = rsst ru c d rank G (n - 1 - i) (rsM ru n c d rank G i) := rfl
theorem rsM_in {ru : Nat → RV} {n : Nat} {c d rank : Int32} {G : Nat → Int32} : ∀ i, i ≤ n → rsM ru n c d rank G i = -6 ∨ ∃ q, q < n ∧ rsM ru n c d rank G i = nI q := by
  intro i
  induction i with
  | zero => intro _; exact Or.inl rfl
  | succ i ih =>
    intro hi
    have h := ih (by omega)
    have hr : ∃ q, q < n ∧ nI (n - 1 - i) = nI q := ⟨n - 1 - i, by omega, rfl⟩
    rw [rsM_s]
    unfold rsst
    repeat' split
    all_goals first | exact h | exact Or.inr hr
def reasonM (ru : Nat → RV) (n : Nat) (c d rank : Int32) : Int32 :=
  if leastM ru n c d (-6) (-6) 0 = 10 then 100 else if leastM ru n c d (-6) (-6) 0 ≤ rank then -6 else rsM ru n c d rank (lsM ru n c d (-6) (-6) 0) n
def mdst (ru : Nat → RV) (n : Nat) (craft rank : Int32) (d : Nat) (a : Int32) : Int32 := a ||| (if rank < leastM ru n craft (nI d) (-6) (-6) 0 then 0 else (1 : Int32) <<< (nI d &&& 31))
def mdM (ru : Nat → RV) (n : Nat) (craft rank : Int32) (d : Nat) : Int32 := foldN (mdst ru n craft rank) 0 d
theorem mdM_s {ru : Nat → RV} {n : Nat} {craft rank : Int32} {d : Nat} : mdM ru n craft rank (d + 1) = mdM ru n craft rank d ||| (if rank < leastM ru n craft (nI d) (-6) (-6) 0 then 0 else (1 : Int32) <<< (nI d &&& 31)) := rfl
def smst (ru : Nat → RV) (n : Nat) (w : Int32) (r : Nat) (a : Int32) : Int32 := a + (if w = 5 then odM ru n r n else if w = 4 then b2i (idM ru n (nI r) 30) else if (ru r).2.1 = w - 1 then 1 else 0)
def smM (ru : Nat → RV) (n : Nat) (w : Int32) (r : Nat) : Int32 := foldN (smst ru n w) 0 r
theorem smM_s {ru : Nat → RV} {n : Nat} {w : Int32} {r : Nat} : smM ru n w (r + 1) = smM ru n w r + (if w = 5 then odM ru n r n else if w = 4 then b2i (idM ru n (nI r) 30) else if (ru r).2.1 = w - 1 then 1 else 0) := rfl
def wbst (ru : Nat → RV) (n : Nat) (r : Nat) (p : Int32 × Int32) : Int32 × Int32 :=
  if (ru r).2.1 = 1 then (if p.1 = -6 then (nI r, trM ru n (nI r) (-6) 0 30) else if trM ru n (nI r) (-6) 0 30 ≤ p.2 then p else (nI r, trM ru n (nI r) (-6) 0 30)) else p
def wbM (ru : Nat → RV) (n : Nat) (r : Nat) : Int32 × Int32 := foldN (wbst ru n) (-6, 0) r
theorem wbM_s {ru : Nat → RV} {n r : Nat} : wbM ru n (r + 1) = wbst ru n r (wbM ru n r) := rfl
def bwst (ru : Nat → RV) (n : Nat) (sv : Int32) (l : Nat) (p : Int32 × Int32) : Int32 × Int32 :=
  if trM ru n (-6) (nI l) sv 30 < p.2 then p else (nI l, trM ru n (-6) (nI l) sv 30)
def bwM (ru : Nat → RV) (n : Nat) (sv : Int32) (l : Nat) : Int32 × Int32 := foldN (bwst ru n sv) (0, 0) l
theorem bwM_s {ru : Nat → RV} {n : Nat} {sv : Int32} {l : Nat} : bwM ru n sv (l + 1) = bwst ru n sv l (bwM ru n sv l) := rfl
def ruleM (f : Nat → Int32) (n : Nat) (r w : Int32) : Int32 :=
  if inR r 0 (nI n - 1) = true then (if w = 5 then b2i (idM (ruA f) n r 30) else if w = 6 then odM (ruA f) n (ix r) n else if w = 7 then pairsV (ruA f (ix r)) else if inR w 0 4 = true then f (9 + 5 * ix r + ix w) else -2) else -1
def memberM (f : Nat → Int32) (n mm : Nat) (j w : Int32) : Int32 :=
  if inR j 0 (nI mm - 1) = true then (if w = 0 then f (129 + 4 * ix j) else if w = 1 then f (129 + 4 * ix j + 1) else if w = 2 then mdM (ruA f) n (f (129 + 4 * ix j)) (f (129 + 4 * ix j + 1)) 6 else if w = 3 then f (129 + 4 * ix j + 2) else if w = 4 then f (129 + 4 * ix j + 3) else -2) else -1
def allowedM (f : Nat → Int32) (n : Nat) (c d rank way : Int32) : Int32 :=
  if (inR c 0 4 && inR d 0 5) = true then (if inR rank 0 9 = true then (if inR way 0 1 = true then (if rank < leastM (ruA f) n c d (-6) (-6) 0 then 0 else 1) else -2) else -2) else -1
def whyM (f : Nat → Int32) (n : Nat) (c d rank : Int32) : Int32 :=
  if (inR c 0 4 && inR d 0 5) = true then (if inR rank 0 9 = true then reasonM (ruA f) n c d rank else -2) else -1
def countM (f : Nat → Int32) (n mm : Nat) (kept len : Int32) (w : Int32) : Int32 :=
  if w = 0 then nI n else if w = 1 then smM (ruA f) n w n else if w = 2 then smM (ruA f) n w n else if w = 3 then smM (ruA f) n w n else if w = 4 then smM (ruA f) n w n
  else if w = 5 then smM (ruA f) n 5 n / 2 else if w = 6 then trM (ruA f) n (-6) (-6) 0 30 else if w = 7 then nI mm
  else if w = 8 then f 2 else if w = 9 then f 3 else if w = 10 then f 4 else if w = 11 then f 5 else if w = 12 then f 6 else if w = 13 then f 7 else if w = 14 then f 8
  else if w = 15 then len else if w = 16 then kept else -2
def leastRankM (f : Nat → Int32) (n : Nat) (c d : Int32) : Int32 :=
  if (inR c 0 4 && inR d 0 5) = true then (if leastM (ruA f) n c d (-6) (-6) 0 = 10 then -6 else leastM (ruA f) n c d (-6) (-6) 0) else -1
def ifStruckM (f : Nat → Int32) (n : Nat) (r : Int32) : Int32 :=
  if inR r 0 (nI n - 1) = true then 1000 + trM (ruA f) n r (-6) 0 30 - trM (ruA f) n (-6) (-6) 0 30 else -1
def bestWaiverM (f : Nat → Int32) (n : Nat) (sv : Int32) : Int32 := if inR sv 1 9 = true then (bwM (ruA f) n sv 5).1 else -2
theorem hdX3_areAtOdds : Hd yX3_areAtOdds 2 := by decide +kernel
set_option maxHeartbeats 1000000 in
set_option maxRecDepth 100000 in
theorem metX3_areAtOdds (l : Launch) (E : EV) (H : Heap) (ad : Nat → Nat) (kept len told : Int32) (hm : oat E (ad 0) 3 (mfs ad kept len told) H) (f : Nat → Int32) (hs : iat E (ad 1) 0 169 f H) (i j : Nat) (hi : i < 24) (hj : j < 24) : Ro l yX3_areAtOdds cX3_areAtOdds 5 (some .boolean) 2 43 [.ref (ad 0), .int (nI i), .int (nI j)] E H (some (.int (b2i (oddsV (ruA f i) (ruA f j))))) := by
  refine Ct.ofZ (by decide) (Nat.le_of_ble_eq_true rfl) ?_
  intro p e s m bl mt cd ls Q hF hW hH hl hend
  obtain ⟨F, hin⟩ := hF
  have hx := F.1
  have hb := F.2.1
  have hts := F.2.2.2.2
  have hl : lv_has ls 5 [(0, .ref (ad 0)), (1, .int (nI i)), (2, .int (nI j))] := hl
  have hS : va_S (fun _ => False) H H [] := va_S.rf
  refine lv_aload_n hx hb dX3_areAtOdds_0 rfl (lv_at hl 0 rfl) ?_
  refine lv_iload_n hx hb dX3_areAtOdds_1 rfl (lv_at hl 1 rfl) ?_
  refine lv_iconst (v := 2) hx hb dX3_areAtOdds_2 (by decide) ?_
  refine run_ro (w := .int ((ruA f i).2.2.1)) (rest := []) (kV F hW (metX3_of l E H ad kept len told hm f hs (nI i) 2 (9 + 5 * i + 2) (at2 _) (by omega)) (lw_V q1087 q1089 qs21 q52 q1090) hdX3_of ⟨Nat.le_of_ble_eq_true rfl, Nat.le_of_ble_eq_true rfl⟩ (recv hW hm rfl) hl.1 rfl (Nat.le_of_ble_eq_true rfl) dX3_areAtOdds_3 ⟨Nat.le_of_ble_eq_true rfl, Nat.le_of_ble_eq_true rfl⟩) ?_
  refine lv_aload_n hx hb dX3_areAtOdds_6 rfl (lv_at hl 0 rfl) ?_
  refine lv_iload_n hx hb dX3_areAtOdds_7 rfl (lv_at hl 2 rfl) ?_
  refine lv_iconst (v := 2) hx hb dX3_areAtOdds_8 (by decide) ?_
  refine run_ro (w := .int ((ruA f j).2.2.1)) (rest := [.int ((ruA f i).2.2.1)]) (kV F hW (metX3_of l E H ad kept len told hm f hs (nI j) 2 (9 + 5 * j + 2) (at2 _) (by omega)) (lw_V q1087 q1089 qs21 q52 q1090) hdX3_of ⟨Nat.le_of_ble_eq_true rfl, Nat.le_of_ble_eq_true rfl⟩ (recv hW hm rfl) hl.1 rfl (Nat.le_of_ble_eq_true rfl) dX3_areAtOdds_9 ⟨Nat.le_of_ble_eq_true rfl, Nat.le_of_ble_eq_true rfl⟩) ?_
  refine lv_icmp_eq (tgt := 35) hx hb dX3_areAtOdds_12 (by decide) (fun c_1 => ?_) (fun c_1 => ?_)
  · skip
    refine lv_iconst (v := 1) hx hb dX3_areAtOdds_35 (by decide) ?_
    refine lv_goto (tgt := 40) hx hb dX3_areAtOdds_36 (by decide) ?_
    refine lv_istore_n (lv' := [(3, .int 1), (0, .ref (ad 0)), (1, .int (nI i)), (2, .int (nI j))]) hx hb dX3_areAtOdds_40 rfl hl (by decide) rfl (fun ls hl => ?_)
    refine lv_aload_n hx hb dX3_areAtOdds_41 rfl (lv_at hl 1 rfl) ?_
    refine lv_iload_n hx hb dX3_areAtOdds_42 rfl (lv_at hl 2 rfl) ?_
    refine lv_iconst (v := 3) hx hb dX3_areAtOdds_43 (by decide) ?_
    refine run_ro (w := .int ((ruA f i).2.2.2.1)) (rest := []) (kV F hW (metX3_of l E H ad kept len told hm f hs (nI i) 3 (9 + 5 * i + 3) (at3 _) (by omega)) (lw_V q1087 q1089 qs21 q52 q1090) hdX3_of ⟨Nat.le_of_ble_eq_true rfl, Nat.le_of_ble_eq_true rfl⟩ (recv hW hm rfl) hl.1 rfl (Nat.le_of_ble_eq_true rfl) dX3_areAtOdds_44 ⟨Nat.le_of_ble_eq_true rfl, Nat.le_of_ble_eq_true rfl⟩) ?_
    refine lv_aload_n hx hb dX3_areAtOdds_47 rfl (lv_at hl 1 rfl) ?_
    refine lv_iload_n hx hb dX3_areAtOdds_48 rfl (lv_at hl 3 rfl) ?_
    refine lv_iconst (v := 3) hx hb dX3_areAtOdds_49 (by decide) ?_
    refine run_ro (w := .int ((ruA f j).2.2.2.1)) (rest := [.int ((ruA f i).2.2.2.1)]) (kV F hW (metX3_of l E H ad kept len told hm f hs (nI j) 3 (9 + 5 * j + 3) (at3 _) (by omega)) (lw_V q1087 q1089 qs21 q52 q1090) hdX3_of ⟨Nat.le_of_ble_eq_true rfl, Nat.le_of_ble_eq_true rfl⟩ (recv hW hm rfl) hl.1 rfl (Nat.le_of_ble_eq_true rfl) dX3_areAtOdds_50 ⟨Nat.le_of_ble_eq_true rfl, Nat.le_of_ble_eq_true rfl⟩) ?_
    refine lv_icmp_eq (tgt := 78) hx hb dX3_areAtOdds_53 (by decide) (fun c_2 => ?_) (fun c_2 => ?_)
    · skip
      refine lv_iconst (v := 1) hx hb dX3_areAtOdds_78 (by decide) ?_
      refine lv_goto (tgt := 83) hx hb dX3_areAtOdds_79 (by decide) ?_
      refine lv_istore (lv' := [(4, .int 1), (3, .int 1), (0, .ref (ad 0)), (1, .int (nI i)), (2, .int (nI j))]) hx hb dX3_areAtOdds_83 hl (by decide) rfl (fun ls hl => ?_)
      refine lv_iload_n hx hb dX3_areAtOdds_85 rfl (lv_at hl 1 rfl) ?_
      refine lv_if_eq (tgt := 131) hx hb dX3_areAtOdds_86 (by decide) (fun c9 => absurd c9 (by decide)) (fun _ => ?_)
      refine lv_iload hx hb dX3_areAtOdds_89 (lv_at hl 0 rfl) ?_
      refine lv_if_eq (tgt := 131) hx hb dX3_areAtOdds_91 (by decide) (fun c9 => absurd c9 (by decide)) (fun _ => ?_)
      refine lv_aload_n hx hb dX3_areAtOdds_94 rfl (lv_at hl 2 rfl) ?_
      refine lv_iload_n hx hb dX3_areAtOdds_95 rfl (lv_at hl 3 rfl) ?_
      refine lv_iconst (v := 1) hx hb dX3_areAtOdds_96 (by decide) ?_
      refine run_ro (w := .int ((ruA f i).2.1)) (rest := []) (kV F hW (metX3_of l E H ad kept len told hm f hs (nI i) 1 (9 + 5 * i + 1) (at1 _) (by omega)) (lw_V q1087 q1089 qs21 q52 q1090) hdX3_of ⟨Nat.le_of_ble_eq_true rfl, Nat.le_of_ble_eq_true rfl⟩ (recv hW hm rfl) hl.1 rfl (Nat.le_of_ble_eq_true rfl) dX3_areAtOdds_97 ⟨Nat.le_of_ble_eq_true rfl, Nat.le_of_ble_eq_true rfl⟩) ?_
      refine lv_iconst (v := 1) hx hb dX3_areAtOdds_100 (by decide) ?_
      refine lv_icmp_ne (tgt := 108) hx hb dX3_areAtOdds_101 (by decide) (fun c_3 => ?_) (fun c_3 => ?_)
      · skip
        refine lv_iconst (v := 0) hx hb dX3_areAtOdds_108 (by decide) ?_
        refine lv_aload_n hx hb dX3_areAtOdds_109 rfl (lv_at hl 2 rfl) ?_
        refine lv_iload_n hx hb dX3_areAtOdds_110 rfl (lv_at hl 4 rfl) ?_
        refine lv_iconst (v := 1) hx hb dX3_areAtOdds_111 (by decide) ?_
        refine run_ro (w := .int ((ruA f j).2.1)) (rest := [.int 0]) (kV F hW (metX3_of l E H ad kept len told hm f hs (nI j) 1 (9 + 5 * j + 1) (at1 _) (by omega)) (lw_V q1087 q1089 qs21 q52 q1090) hdX3_of ⟨Nat.le_of_ble_eq_true rfl, Nat.le_of_ble_eq_true rfl⟩ (recv hW hm rfl) hl.1 rfl (Nat.le_of_ble_eq_true rfl) dX3_areAtOdds_112 ⟨Nat.le_of_ble_eq_true rfl, Nat.le_of_ble_eq_true rfl⟩) ?_
        refine lv_iconst (v := 1) hx hb dX3_areAtOdds_115 (by decide) ?_
        refine lv_icmp_ne (tgt := 123) hx hb dX3_areAtOdds_116 (by decide) (fun c_4 => ?_) (fun c_4 => ?_)
        · skip
          refine lv_iconst (v := 0) hx hb dX3_areAtOdds_123 (by decide) ?_
          refine lv_icmp_eq (tgt := 131) hx hb dX3_areAtOdds_124 (by decide) (fun _ => ?_) (fun c9 => absurd (by decide) c9)
          refine lv_iconst (v := 0) hx hb dX3_areAtOdds_131 (by decide) ?_
          exact hend _ _ _ _ _ _ _ rfl dX3_areAtOdds_132 (⟨congrArg (fun z : Int32 => some (Value.int z)) (by simp [b2i, oddsV, meetsV, c_1, c_2, c_3, c_4]), rfl⟩) hS (Nat.zero_le _) (Nat.zero_le _)
        · skip
          refine lv_iconst (v := 1) hx hb dX3_areAtOdds_119 (by decide) ?_
          refine lv_goto (tgt := 124) hx hb dX3_areAtOdds_120 (by decide) ?_
          refine lv_icmp_eq (tgt := 131) hx hb dX3_areAtOdds_124 (by decide) (fun c9 => absurd c9 (by decide)) (fun _ => ?_)
          refine lv_iconst (v := 1) hx hb dX3_areAtOdds_127 (by decide) ?_
          refine lv_goto (tgt := 132) hx hb dX3_areAtOdds_128 (by decide) ?_
          exact hend _ _ _ _ _ _ _ rfl dX3_areAtOdds_132 (⟨congrArg (fun z : Int32 => some (Value.int z)) (by simp [b2i, oddsV, meetsV, c_1, c_2, c_3, c_4]), rfl⟩) hS (Nat.zero_le _) (Nat.zero_le _)
      · skip
        refine lv_iconst (v := 1) hx hb dX3_areAtOdds_104 (by decide) ?_
        refine lv_goto (tgt := 109) hx hb dX3_areAtOdds_105 (by decide) ?_
        refine lv_aload_n hx hb dX3_areAtOdds_109 rfl (lv_at hl 2 rfl) ?_
        refine lv_iload_n hx hb dX3_areAtOdds_110 rfl (lv_at hl 4 rfl) ?_
        refine lv_iconst (v := 1) hx hb dX3_areAtOdds_111 (by decide) ?_
        refine run_ro (w := .int ((ruA f j).2.1)) (rest := [.int 1]) (kV F hW (metX3_of l E H ad kept len told hm f hs (nI j) 1 (9 + 5 * j + 1) (at1 _) (by omega)) (lw_V q1087 q1089 qs21 q52 q1090) hdX3_of ⟨Nat.le_of_ble_eq_true rfl, Nat.le_of_ble_eq_true rfl⟩ (recv hW hm rfl) hl.1 rfl (Nat.le_of_ble_eq_true rfl) dX3_areAtOdds_112 ⟨Nat.le_of_ble_eq_true rfl, Nat.le_of_ble_eq_true rfl⟩) ?_
        refine lv_iconst (v := 1) hx hb dX3_areAtOdds_115 (by decide) ?_
        refine lv_icmp_ne (tgt := 123) hx hb dX3_areAtOdds_116 (by decide) (fun c_5 => ?_) (fun c_5 => ?_)
        · skip
          refine lv_iconst (v := 0) hx hb dX3_areAtOdds_123 (by decide) ?_
          refine lv_icmp_eq (tgt := 131) hx hb dX3_areAtOdds_124 (by decide) (fun c9 => absurd c9 (by decide)) (fun _ => ?_)
          refine lv_iconst (v := 1) hx hb dX3_areAtOdds_127 (by decide) ?_
          refine lv_goto (tgt := 132) hx hb dX3_areAtOdds_128 (by decide) ?_
          exact hend _ _ _ _ _ _ _ rfl dX3_areAtOdds_132 (⟨congrArg (fun z : Int32 => some (Value.int z)) (by simp [b2i, oddsV, meetsV, c_1, c_2, c_3, c_5]), rfl⟩) hS (Nat.zero_le _) (Nat.zero_le _)
        · skip
          refine lv_iconst (v := 1) hx hb dX3_areAtOdds_119 (by decide) ?_
          refine lv_goto (tgt := 124) hx hb dX3_areAtOdds_120 (by decide) ?_
          refine lv_icmp_eq (tgt := 131) hx hb dX3_areAtOdds_124 (by decide) (fun _ => ?_) (fun c9 => absurd (by decide) c9)
          refine lv_iconst (v := 0) hx hb dX3_areAtOdds_131 (by decide) ?_
          exact hend _ _ _ _ _ _ _ rfl dX3_areAtOdds_132 (⟨congrArg (fun z : Int32 => some (Value.int z)) (by simp [b2i, oddsV, meetsV, c_1, c_2, c_3, c_5]), rfl⟩) hS (Nat.zero_le _) (Nat.zero_le _)
    · skip
      refine lv_aload_n hx hb dX3_areAtOdds_56 rfl (lv_at hl 1 rfl) ?_
      refine lv_iload_n hx hb dX3_areAtOdds_57 rfl (lv_at hl 2 rfl) ?_
      refine lv_iconst (v := 3) hx hb dX3_areAtOdds_58 (by decide) ?_
      refine run_ro (w := .int ((ruA f i).2.2.2.1)) (rest := []) (kV F hW (metX3_of l E H ad kept len told hm f hs (nI i) 3 (9 + 5 * i + 3) (at3 _) (by omega)) (lw_V q1087 q1089 qs21 q52 q1090) hdX3_of ⟨Nat.le_of_ble_eq_true rfl, Nat.le_of_ble_eq_true rfl⟩ (recv hW hm rfl) hl.1 rfl (Nat.le_of_ble_eq_true rfl) dX3_areAtOdds_59 ⟨Nat.le_of_ble_eq_true rfl, Nat.le_of_ble_eq_true rfl⟩) ?_
      refine lv_bipush (v := 6) hx hb dX3_areAtOdds_62 (by decide) ?_
      refine lv_icmp_eq (tgt := 78) hx hb dX3_areAtOdds_64 (by decide) (fun c_6 => ?_) (fun c_6 => ?_)
      · skip
        refine lv_iconst (v := 1) hx hb dX3_areAtOdds_78 (by decide) ?_
        refine lv_goto (tgt := 83) hx hb dX3_areAtOdds_79 (by decide) ?_
        refine lv_istore (lv' := [(4, .int 1), (3, .int 1), (0, .ref (ad 0)), (1, .int (nI i)), (2, .int (nI j))]) hx hb dX3_areAtOdds_83 hl (by decide) rfl (fun ls hl => ?_)
        refine lv_iload_n hx hb dX3_areAtOdds_85 rfl (lv_at hl 1 rfl) ?_
        refine lv_if_eq (tgt := 131) hx hb dX3_areAtOdds_86 (by decide) (fun c9 => absurd c9 (by decide)) (fun _ => ?_)
        refine lv_iload hx hb dX3_areAtOdds_89 (lv_at hl 0 rfl) ?_
        refine lv_if_eq (tgt := 131) hx hb dX3_areAtOdds_91 (by decide) (fun c9 => absurd c9 (by decide)) (fun _ => ?_)
        refine lv_aload_n hx hb dX3_areAtOdds_94 rfl (lv_at hl 2 rfl) ?_
        refine lv_iload_n hx hb dX3_areAtOdds_95 rfl (lv_at hl 3 rfl) ?_
        refine lv_iconst (v := 1) hx hb dX3_areAtOdds_96 (by decide) ?_
        refine run_ro (w := .int ((ruA f i).2.1)) (rest := []) (kV F hW (metX3_of l E H ad kept len told hm f hs (nI i) 1 (9 + 5 * i + 1) (at1 _) (by omega)) (lw_V q1087 q1089 qs21 q52 q1090) hdX3_of ⟨Nat.le_of_ble_eq_true rfl, Nat.le_of_ble_eq_true rfl⟩ (recv hW hm rfl) hl.1 rfl (Nat.le_of_ble_eq_true rfl) dX3_areAtOdds_97 ⟨Nat.le_of_ble_eq_true rfl, Nat.le_of_ble_eq_true rfl⟩) ?_
        refine lv_iconst (v := 1) hx hb dX3_areAtOdds_100 (by decide) ?_
        refine lv_icmp_ne (tgt := 108) hx hb dX3_areAtOdds_101 (by decide) (fun c_7 => ?_) (fun c_7 => ?_)
        · skip
          refine lv_iconst (v := 0) hx hb dX3_areAtOdds_108 (by decide) ?_
          refine lv_aload_n hx hb dX3_areAtOdds_109 rfl (lv_at hl 2 rfl) ?_
          refine lv_iload_n hx hb dX3_areAtOdds_110 rfl (lv_at hl 4 rfl) ?_
          refine lv_iconst (v := 1) hx hb dX3_areAtOdds_111 (by decide) ?_
          refine run_ro (w := .int ((ruA f j).2.1)) (rest := [.int 0]) (kV F hW (metX3_of l E H ad kept len told hm f hs (nI j) 1 (9 + 5 * j + 1) (at1 _) (by omega)) (lw_V q1087 q1089 qs21 q52 q1090) hdX3_of ⟨Nat.le_of_ble_eq_true rfl, Nat.le_of_ble_eq_true rfl⟩ (recv hW hm rfl) hl.1 rfl (Nat.le_of_ble_eq_true rfl) dX3_areAtOdds_112 ⟨Nat.le_of_ble_eq_true rfl, Nat.le_of_ble_eq_true rfl⟩) ?_
          refine lv_iconst (v := 1) hx hb dX3_areAtOdds_115 (by decide) ?_
          refine lv_icmp_ne (tgt := 123) hx hb dX3_areAtOdds_116 (by decide) (fun c_8 => ?_) (fun c_8 => ?_)
          · skip
            refine lv_iconst (v := 0) hx hb dX3_areAtOdds_123 (by decide) ?_
            refine lv_icmp_eq (tgt := 131) hx hb dX3_areAtOdds_124 (by decide) (fun _ => ?_) (fun c9 => absurd (by decide) c9)
            refine lv_iconst (v := 0) hx hb dX3_areAtOdds_131 (by decide) ?_
            exact hend _ _ _ _ _ _ _ rfl dX3_areAtOdds_132 (⟨congrArg (fun z : Int32 => some (Value.int z)) (by simp [b2i, oddsV, meetsV, c_1, c_2, c_6, c_7, c_8]), rfl⟩) hS (Nat.zero_le _) (Nat.zero_le _)
          · skip
            refine lv_iconst (v := 1) hx hb dX3_areAtOdds_119 (by decide) ?_
            refine lv_goto (tgt := 124) hx hb dX3_areAtOdds_120 (by decide) ?_
            refine lv_icmp_eq (tgt := 131) hx hb dX3_areAtOdds_124 (by decide) (fun c9 => absurd c9 (by decide)) (fun _ => ?_)
            refine lv_iconst (v := 1) hx hb dX3_areAtOdds_127 (by decide) ?_
            refine lv_goto (tgt := 132) hx hb dX3_areAtOdds_128 (by decide) ?_
            exact hend _ _ _ _ _ _ _ rfl dX3_areAtOdds_132 (⟨congrArg (fun z : Int32 => some (Value.int z)) (by simp [b2i, oddsV, meetsV, c_1, c_2, c_6, c_7, c_8]), rfl⟩) hS (Nat.zero_le _) (Nat.zero_le _)
        · skip
          refine lv_iconst (v := 1) hx hb dX3_areAtOdds_104 (by decide) ?_
          refine lv_goto (tgt := 109) hx hb dX3_areAtOdds_105 (by decide) ?_
          refine lv_aload_n hx hb dX3_areAtOdds_109 rfl (lv_at hl 2 rfl) ?_
          refine lv_iload_n hx hb dX3_areAtOdds_110 rfl (lv_at hl 4 rfl) ?_
          refine lv_iconst (v := 1) hx hb dX3_areAtOdds_111 (by decide) ?_
          refine run_ro (w := .int ((ruA f j).2.1)) (rest := [.int 1]) (kV F hW (metX3_of l E H ad kept len told hm f hs (nI j) 1 (9 + 5 * j + 1) (at1 _) (by omega)) (lw_V q1087 q1089 qs21 q52 q1090) hdX3_of ⟨Nat.le_of_ble_eq_true rfl, Nat.le_of_ble_eq_true rfl⟩ (recv hW hm rfl) hl.1 rfl (Nat.le_of_ble_eq_true rfl) dX3_areAtOdds_112 ⟨Nat.le_of_ble_eq_true rfl, Nat.le_of_ble_eq_true rfl⟩) ?_
          refine lv_iconst (v := 1) hx hb dX3_areAtOdds_115 (by decide) ?_
          refine lv_icmp_ne (tgt := 123) hx hb dX3_areAtOdds_116 (by decide) (fun c_9 => ?_) (fun c_9 => ?_)
          · skip
            refine lv_iconst (v := 0) hx hb dX3_areAtOdds_123 (by decide) ?_
            refine lv_icmp_eq (tgt := 131) hx hb dX3_areAtOdds_124 (by decide) (fun c9 => absurd c9 (by decide)) (fun _ => ?_)
            refine lv_iconst (v := 1) hx hb dX3_areAtOdds_127 (by decide) ?_
            refine lv_goto (tgt := 132) hx hb dX3_areAtOdds_128 (by decide) ?_
            exact hend _ _ _ _ _ _ _ rfl dX3_areAtOdds_132 (⟨congrArg (fun z : Int32 => some (Value.int z)) (by simp [b2i, oddsV, meetsV, c_1, c_2, c_6, c_7, c_9]), rfl⟩) hS (Nat.zero_le _) (Nat.zero_le _)
          · skip
            refine lv_iconst (v := 1) hx hb dX3_areAtOdds_119 (by decide) ?_
            refine lv_goto (tgt := 124) hx hb dX3_areAtOdds_120 (by decide) ?_
            refine lv_icmp_eq (tgt := 131) hx hb dX3_areAtOdds_124 (by decide) (fun _ => ?_) (fun c9 => absurd (by decide) c9)
            refine lv_iconst (v := 0) hx hb dX3_areAtOdds_131 (by decide) ?_
            exact hend _ _ _ _ _ _ _ rfl dX3_areAtOdds_132 (⟨congrArg (fun z : Int32 => some (Value.int z)) (by simp [b2i, oddsV, meetsV, c_1, c_2, c_6, c_7, c_9]), rfl⟩) hS (Nat.zero_le _) (Nat.zero_le _)
      · skip
        refine lv_aload_n hx hb dX3_areAtOdds_67 rfl (lv_at hl 1 rfl) ?_
        refine lv_iload_n hx hb dX3_areAtOdds_68 rfl (lv_at hl 3 rfl) ?_
        refine lv_iconst (v := 3) hx hb dX3_areAtOdds_69 (by decide) ?_
        refine run_ro (w := .int ((ruA f j).2.2.2.1)) (rest := []) (kV F hW (metX3_of l E H ad kept len told hm f hs (nI j) 3 (9 + 5 * j + 3) (at3 _) (by omega)) (lw_V q1087 q1089 qs21 q52 q1090) hdX3_of ⟨Nat.le_of_ble_eq_true rfl, Nat.le_of_ble_eq_true rfl⟩ (recv hW hm rfl) hl.1 rfl (Nat.le_of_ble_eq_true rfl) dX3_areAtOdds_70 ⟨Nat.le_of_ble_eq_true rfl, Nat.le_of_ble_eq_true rfl⟩) ?_
        refine lv_bipush (v := 6) hx hb dX3_areAtOdds_73 (by decide) ?_
        refine lv_icmp_ne (tgt := 82) hx hb dX3_areAtOdds_75 (by decide) (fun c_10 => ?_) (fun c_10 => ?_)
        · skip
          refine lv_iconst (v := 0) hx hb dX3_areAtOdds_82 (by decide) ?_
          refine lv_istore (lv' := [(4, .int 0), (3, .int 1), (0, .ref (ad 0)), (1, .int (nI i)), (2, .int (nI j))]) hx hb dX3_areAtOdds_83 hl (by decide) rfl (fun ls hl => ?_)
          refine lv_iload_n hx hb dX3_areAtOdds_85 rfl (lv_at hl 1 rfl) ?_
          refine lv_if_eq (tgt := 131) hx hb dX3_areAtOdds_86 (by decide) (fun c9 => absurd c9 (by decide)) (fun _ => ?_)
          refine lv_iload hx hb dX3_areAtOdds_89 (lv_at hl 0 rfl) ?_
          refine lv_if_eq (tgt := 131) hx hb dX3_areAtOdds_91 (by decide) (fun _ => ?_) (fun c9 => absurd (by decide) c9)
          refine lv_iconst (v := 0) hx hb dX3_areAtOdds_131 (by decide) ?_
          exact hend _ _ _ _ _ _ _ rfl dX3_areAtOdds_132 (⟨congrArg (fun z : Int32 => some (Value.int z)) (by simp [b2i, oddsV, meetsV, c_1, c_2, c_6, c_10]), rfl⟩) hS (Nat.zero_le _) (Nat.zero_le _)
        · skip
          refine lv_iconst (v := 1) hx hb dX3_areAtOdds_78 (by decide) ?_
          refine lv_goto (tgt := 83) hx hb dX3_areAtOdds_79 (by decide) ?_
          refine lv_istore (lv' := [(4, .int 1), (3, .int 1), (0, .ref (ad 0)), (1, .int (nI i)), (2, .int (nI j))]) hx hb dX3_areAtOdds_83 hl (by decide) rfl (fun ls hl => ?_)
          refine lv_iload_n hx hb dX3_areAtOdds_85 rfl (lv_at hl 1 rfl) ?_
          refine lv_if_eq (tgt := 131) hx hb dX3_areAtOdds_86 (by decide) (fun c9 => absurd c9 (by decide)) (fun _ => ?_)
          refine lv_iload hx hb dX3_areAtOdds_89 (lv_at hl 0 rfl) ?_
          refine lv_if_eq (tgt := 131) hx hb dX3_areAtOdds_91 (by decide) (fun c9 => absurd c9 (by decide)) (fun _ => ?_)
          refine lv_aload_n hx hb dX3_areAtOdds_94 rfl (lv_at hl 2 rfl) ?_
          refine lv_iload_n hx hb dX3_areAtOdds_95 rfl (lv_at hl 3 rfl) ?_
          refine lv_iconst (v := 1) hx hb dX3_areAtOdds_96 (by decide) ?_
          refine run_ro (w := .int ((ruA f i).2.1)) (rest := []) (kV F hW (metX3_of l E H ad kept len told hm f hs (nI i) 1 (9 + 5 * i + 1) (at1 _) (by omega)) (lw_V q1087 q1089 qs21 q52 q1090) hdX3_of ⟨Nat.le_of_ble_eq_true rfl, Nat.le_of_ble_eq_true rfl⟩ (recv hW hm rfl) hl.1 rfl (Nat.le_of_ble_eq_true rfl) dX3_areAtOdds_97 ⟨Nat.le_of_ble_eq_true rfl, Nat.le_of_ble_eq_true rfl⟩) ?_
          refine lv_iconst (v := 1) hx hb dX3_areAtOdds_100 (by decide) ?_
          refine lv_icmp_ne (tgt := 108) hx hb dX3_areAtOdds_101 (by decide) (fun c_11 => ?_) (fun c_11 => ?_)
          · skip
            refine lv_iconst (v := 0) hx hb dX3_areAtOdds_108 (by decide) ?_
            refine lv_aload_n hx hb dX3_areAtOdds_109 rfl (lv_at hl 2 rfl) ?_
            refine lv_iload_n hx hb dX3_areAtOdds_110 rfl (lv_at hl 4 rfl) ?_
            refine lv_iconst (v := 1) hx hb dX3_areAtOdds_111 (by decide) ?_
            refine run_ro (w := .int ((ruA f j).2.1)) (rest := [.int 0]) (kV F hW (metX3_of l E H ad kept len told hm f hs (nI j) 1 (9 + 5 * j + 1) (at1 _) (by omega)) (lw_V q1087 q1089 qs21 q52 q1090) hdX3_of ⟨Nat.le_of_ble_eq_true rfl, Nat.le_of_ble_eq_true rfl⟩ (recv hW hm rfl) hl.1 rfl (Nat.le_of_ble_eq_true rfl) dX3_areAtOdds_112 ⟨Nat.le_of_ble_eq_true rfl, Nat.le_of_ble_eq_true rfl⟩) ?_
            refine lv_iconst (v := 1) hx hb dX3_areAtOdds_115 (by decide) ?_
            refine lv_icmp_ne (tgt := 123) hx hb dX3_areAtOdds_116 (by decide) (fun c_12 => ?_) (fun c_12 => ?_)
            · skip
              refine lv_iconst (v := 0) hx hb dX3_areAtOdds_123 (by decide) ?_
              refine lv_icmp_eq (tgt := 131) hx hb dX3_areAtOdds_124 (by decide) (fun _ => ?_) (fun c9 => absurd (by decide) c9)
              refine lv_iconst (v := 0) hx hb dX3_areAtOdds_131 (by decide) ?_
              exact hend _ _ _ _ _ _ _ rfl dX3_areAtOdds_132 (⟨congrArg (fun z : Int32 => some (Value.int z)) (by simp [b2i, oddsV, meetsV, c_1, c_2, c_6, c_10, c_11, c_12]), rfl⟩) hS (Nat.zero_le _) (Nat.zero_le _)
            · skip
              refine lv_iconst (v := 1) hx hb dX3_areAtOdds_119 (by decide) ?_
              refine lv_goto (tgt := 124) hx hb dX3_areAtOdds_120 (by decide) ?_
              refine lv_icmp_eq (tgt := 131) hx hb dX3_areAtOdds_124 (by decide) (fun c9 => absurd c9 (by decide)) (fun _ => ?_)
              refine lv_iconst (v := 1) hx hb dX3_areAtOdds_127 (by decide) ?_
              refine lv_goto (tgt := 132) hx hb dX3_areAtOdds_128 (by decide) ?_
              exact hend _ _ _ _ _ _ _ rfl dX3_areAtOdds_132 (⟨congrArg (fun z : Int32 => some (Value.int z)) (by simp [b2i, oddsV, meetsV, c_1, c_2, c_6, c_10, c_11, c_12]), rfl⟩) hS (Nat.zero_le _) (Nat.zero_le _)
          · skip
            refine lv_iconst (v := 1) hx hb dX3_areAtOdds_104 (by decide) ?_
            refine lv_goto (tgt := 109) hx hb dX3_areAtOdds_105 (by decide) ?_
            refine lv_aload_n hx hb dX3_areAtOdds_109 rfl (lv_at hl 2 rfl) ?_
            refine lv_iload_n hx hb dX3_areAtOdds_110 rfl (lv_at hl 4 rfl) ?_
            refine lv_iconst (v := 1) hx hb dX3_areAtOdds_111 (by decide) ?_
            refine run_ro (w := .int ((ruA f j).2.1)) (rest := [.int 1]) (kV F hW (metX3_of l E H ad kept len told hm f hs (nI j) 1 (9 + 5 * j + 1) (at1 _) (by omega)) (lw_V q1087 q1089 qs21 q52 q1090) hdX3_of ⟨Nat.le_of_ble_eq_true rfl, Nat.le_of_ble_eq_true rfl⟩ (recv hW hm rfl) hl.1 rfl (Nat.le_of_ble_eq_true rfl) dX3_areAtOdds_112 ⟨Nat.le_of_ble_eq_true rfl, Nat.le_of_ble_eq_true rfl⟩) ?_
            refine lv_iconst (v := 1) hx hb dX3_areAtOdds_115 (by decide) ?_
            refine lv_icmp_ne (tgt := 123) hx hb dX3_areAtOdds_116 (by decide) (fun c_13 => ?_) (fun c_13 => ?_)
            · skip
              refine lv_iconst (v := 0) hx hb dX3_areAtOdds_123 (by decide) ?_
              refine lv_icmp_eq (tgt := 131) hx hb dX3_areAtOdds_124 (by decide) (fun c9 => absurd c9 (by decide)) (fun _ => ?_)
              refine lv_iconst (v := 1) hx hb dX3_areAtOdds_127 (by decide) ?_
              refine lv_goto (tgt := 132) hx hb dX3_areAtOdds_128 (by decide) ?_
              exact hend _ _ _ _ _ _ _ rfl dX3_areAtOdds_132 (⟨congrArg (fun z : Int32 => some (Value.int z)) (by simp [b2i, oddsV, meetsV, c_1, c_2, c_6, c_10, c_11, c_13]), rfl⟩) hS (Nat.zero_le _) (Nat.zero_le _)
            · skip
              refine lv_iconst (v := 1) hx hb dX3_areAtOdds_119 (by decide) ?_
              refine lv_goto (tgt := 124) hx hb dX3_areAtOdds_120 (by decide) ?_
              refine lv_icmp_eq (tgt := 131) hx hb dX3_areAtOdds_124 (by decide) (fun _ => ?_) (fun c9 => absurd (by decide) c9)
              refine lv_iconst (v := 0) hx hb dX3_areAtOdds_131 (by decide) ?_
              exact hend _ _ _ _ _ _ _ rfl dX3_areAtOdds_132 (⟨congrArg (fun z : Int32 => some (Value.int z)) (by simp [b2i, oddsV, meetsV, c_1, c_2, c_6, c_10, c_11, c_13]), rfl⟩) hS (Nat.zero_le _) (Nat.zero_le _)
  · skip
    refine lv_aload_n hx hb dX3_areAtOdds_15 rfl (lv_at hl 0 rfl) ?_
    refine lv_iload_n hx hb dX3_areAtOdds_16 rfl (lv_at hl 1 rfl) ?_
    refine lv_iconst (v := 2) hx hb dX3_areAtOdds_17 (by decide) ?_
    refine run_ro (w := .int ((ruA f i).2.2.1)) (rest := []) (kV F hW (metX3_of l E H ad kept len told hm f hs (nI i) 2 (9 + 5 * i + 2) (at2 _) (by omega)) (lw_V q1087 q1089 qs21 q52 q1090) hdX3_of ⟨Nat.le_of_ble_eq_true rfl, Nat.le_of_ble_eq_true rfl⟩ (recv hW hm rfl) hl.1 rfl (Nat.le_of_ble_eq_true rfl) dX3_areAtOdds_18 ⟨Nat.le_of_ble_eq_true rfl, Nat.le_of_ble_eq_true rfl⟩) ?_
    refine lv_iconst (v := 5) hx hb dX3_areAtOdds_21 (by decide) ?_
    refine lv_icmp_eq (tgt := 35) hx hb dX3_areAtOdds_22 (by decide) (fun c_14 => ?_) (fun c_14 => ?_)
    · skip
      refine lv_iconst (v := 1) hx hb dX3_areAtOdds_35 (by decide) ?_
      refine lv_goto (tgt := 40) hx hb dX3_areAtOdds_36 (by decide) ?_
      refine lv_istore_n (lv' := [(3, .int 1), (0, .ref (ad 0)), (1, .int (nI i)), (2, .int (nI j))]) hx hb dX3_areAtOdds_40 rfl hl (by decide) rfl (fun ls hl => ?_)
      refine lv_aload_n hx hb dX3_areAtOdds_41 rfl (lv_at hl 1 rfl) ?_
      refine lv_iload_n hx hb dX3_areAtOdds_42 rfl (lv_at hl 2 rfl) ?_
      refine lv_iconst (v := 3) hx hb dX3_areAtOdds_43 (by decide) ?_
      refine run_ro (w := .int ((ruA f i).2.2.2.1)) (rest := []) (kV F hW (metX3_of l E H ad kept len told hm f hs (nI i) 3 (9 + 5 * i + 3) (at3 _) (by omega)) (lw_V q1087 q1089 qs21 q52 q1090) hdX3_of ⟨Nat.le_of_ble_eq_true rfl, Nat.le_of_ble_eq_true rfl⟩ (recv hW hm rfl) hl.1 rfl (Nat.le_of_ble_eq_true rfl) dX3_areAtOdds_44 ⟨Nat.le_of_ble_eq_true rfl, Nat.le_of_ble_eq_true rfl⟩) ?_
      refine lv_aload_n hx hb dX3_areAtOdds_47 rfl (lv_at hl 1 rfl) ?_
      refine lv_iload_n hx hb dX3_areAtOdds_48 rfl (lv_at hl 3 rfl) ?_
      refine lv_iconst (v := 3) hx hb dX3_areAtOdds_49 (by decide) ?_
      refine run_ro (w := .int ((ruA f j).2.2.2.1)) (rest := [.int ((ruA f i).2.2.2.1)]) (kV F hW (metX3_of l E H ad kept len told hm f hs (nI j) 3 (9 + 5 * j + 3) (at3 _) (by omega)) (lw_V q1087 q1089 qs21 q52 q1090) hdX3_of ⟨Nat.le_of_ble_eq_true rfl, Nat.le_of_ble_eq_true rfl⟩ (recv hW hm rfl) hl.1 rfl (Nat.le_of_ble_eq_true rfl) dX3_areAtOdds_50 ⟨Nat.le_of_ble_eq_true rfl, Nat.le_of_ble_eq_true rfl⟩) ?_
      refine lv_icmp_eq (tgt := 78) hx hb dX3_areAtOdds_53 (by decide) (fun c_15 => ?_) (fun c_15 => ?_)
      · skip
        refine lv_iconst (v := 1) hx hb dX3_areAtOdds_78 (by decide) ?_
        refine lv_goto (tgt := 83) hx hb dX3_areAtOdds_79 (by decide) ?_
        refine lv_istore (lv' := [(4, .int 1), (3, .int 1), (0, .ref (ad 0)), (1, .int (nI i)), (2, .int (nI j))]) hx hb dX3_areAtOdds_83 hl (by decide) rfl (fun ls hl => ?_)
        refine lv_iload_n hx hb dX3_areAtOdds_85 rfl (lv_at hl 1 rfl) ?_
        refine lv_if_eq (tgt := 131) hx hb dX3_areAtOdds_86 (by decide) (fun c9 => absurd c9 (by decide)) (fun _ => ?_)
        refine lv_iload hx hb dX3_areAtOdds_89 (lv_at hl 0 rfl) ?_
        refine lv_if_eq (tgt := 131) hx hb dX3_areAtOdds_91 (by decide) (fun c9 => absurd c9 (by decide)) (fun _ => ?_)
        refine lv_aload_n hx hb dX3_areAtOdds_94 rfl (lv_at hl 2 rfl) ?_
        refine lv_iload_n hx hb dX3_areAtOdds_95 rfl (lv_at hl 3 rfl) ?_
        refine lv_iconst (v := 1) hx hb dX3_areAtOdds_96 (by decide) ?_
        refine run_ro (w := .int ((ruA f i).2.1)) (rest := []) (kV F hW (metX3_of l E H ad kept len told hm f hs (nI i) 1 (9 + 5 * i + 1) (at1 _) (by omega)) (lw_V q1087 q1089 qs21 q52 q1090) hdX3_of ⟨Nat.le_of_ble_eq_true rfl, Nat.le_of_ble_eq_true rfl⟩ (recv hW hm rfl) hl.1 rfl (Nat.le_of_ble_eq_true rfl) dX3_areAtOdds_97 ⟨Nat.le_of_ble_eq_true rfl, Nat.le_of_ble_eq_true rfl⟩) ?_
        refine lv_iconst (v := 1) hx hb dX3_areAtOdds_100 (by decide) ?_
        refine lv_icmp_ne (tgt := 108) hx hb dX3_areAtOdds_101 (by decide) (fun c_16 => ?_) (fun c_16 => ?_)
        · skip
          refine lv_iconst (v := 0) hx hb dX3_areAtOdds_108 (by decide) ?_
          refine lv_aload_n hx hb dX3_areAtOdds_109 rfl (lv_at hl 2 rfl) ?_
          refine lv_iload_n hx hb dX3_areAtOdds_110 rfl (lv_at hl 4 rfl) ?_
          refine lv_iconst (v := 1) hx hb dX3_areAtOdds_111 (by decide) ?_
          refine run_ro (w := .int ((ruA f j).2.1)) (rest := [.int 0]) (kV F hW (metX3_of l E H ad kept len told hm f hs (nI j) 1 (9 + 5 * j + 1) (at1 _) (by omega)) (lw_V q1087 q1089 qs21 q52 q1090) hdX3_of ⟨Nat.le_of_ble_eq_true rfl, Nat.le_of_ble_eq_true rfl⟩ (recv hW hm rfl) hl.1 rfl (Nat.le_of_ble_eq_true rfl) dX3_areAtOdds_112 ⟨Nat.le_of_ble_eq_true rfl, Nat.le_of_ble_eq_true rfl⟩) ?_
          refine lv_iconst (v := 1) hx hb dX3_areAtOdds_115 (by decide) ?_
          refine lv_icmp_ne (tgt := 123) hx hb dX3_areAtOdds_116 (by decide) (fun c_17 => ?_) (fun c_17 => ?_)
          · skip
            refine lv_iconst (v := 0) hx hb dX3_areAtOdds_123 (by decide) ?_
            refine lv_icmp_eq (tgt := 131) hx hb dX3_areAtOdds_124 (by decide) (fun _ => ?_) (fun c9 => absurd (by decide) c9)
            refine lv_iconst (v := 0) hx hb dX3_areAtOdds_131 (by decide) ?_
            exact hend _ _ _ _ _ _ _ rfl dX3_areAtOdds_132 (⟨congrArg (fun z : Int32 => some (Value.int z)) (by simp [b2i, oddsV, meetsV, c_1, c_14, c_15, c_16, c_17]), rfl⟩) hS (Nat.zero_le _) (Nat.zero_le _)
          · skip
            refine lv_iconst (v := 1) hx hb dX3_areAtOdds_119 (by decide) ?_
            refine lv_goto (tgt := 124) hx hb dX3_areAtOdds_120 (by decide) ?_
            refine lv_icmp_eq (tgt := 131) hx hb dX3_areAtOdds_124 (by decide) (fun c9 => absurd c9 (by decide)) (fun _ => ?_)
            refine lv_iconst (v := 1) hx hb dX3_areAtOdds_127 (by decide) ?_
            refine lv_goto (tgt := 132) hx hb dX3_areAtOdds_128 (by decide) ?_
            exact hend _ _ _ _ _ _ _ rfl dX3_areAtOdds_132 (⟨congrArg (fun z : Int32 => some (Value.int z)) (by simp [b2i, oddsV, meetsV, c_1, c_14, c_15, c_16, c_17]), rfl⟩) hS (Nat.zero_le _) (Nat.zero_le _)
        · skip
          refine lv_iconst (v := 1) hx hb dX3_areAtOdds_104 (by decide) ?_
          refine lv_goto (tgt := 109) hx hb dX3_areAtOdds_105 (by decide) ?_
          refine lv_aload_n hx hb dX3_areAtOdds_109 rfl (lv_at hl 2 rfl) ?_
          refine lv_iload_n hx hb dX3_areAtOdds_110 rfl (lv_at hl 4 rfl) ?_
          refine lv_iconst (v := 1) hx hb dX3_areAtOdds_111 (by decide) ?_
          refine run_ro (w := .int ((ruA f j).2.1)) (rest := [.int 1]) (kV F hW (metX3_of l E H ad kept len told hm f hs (nI j) 1 (9 + 5 * j + 1) (at1 _) (by omega)) (lw_V q1087 q1089 qs21 q52 q1090) hdX3_of ⟨Nat.le_of_ble_eq_true rfl, Nat.le_of_ble_eq_true rfl⟩ (recv hW hm rfl) hl.1 rfl (Nat.le_of_ble_eq_true rfl) dX3_areAtOdds_112 ⟨Nat.le_of_ble_eq_true rfl, Nat.le_of_ble_eq_true rfl⟩) ?_
          refine lv_iconst (v := 1) hx hb dX3_areAtOdds_115 (by decide) ?_
          refine lv_icmp_ne (tgt := 123) hx hb dX3_areAtOdds_116 (by decide) (fun c_18 => ?_) (fun c_18 => ?_)
          · skip
            refine lv_iconst (v := 0) hx hb dX3_areAtOdds_123 (by decide) ?_
            refine lv_icmp_eq (tgt := 131) hx hb dX3_areAtOdds_124 (by decide) (fun c9 => absurd c9 (by decide)) (fun _ => ?_)
            refine lv_iconst (v := 1) hx hb dX3_areAtOdds_127 (by decide) ?_
            refine lv_goto (tgt := 132) hx hb dX3_areAtOdds_128 (by decide) ?_
            exact hend _ _ _ _ _ _ _ rfl dX3_areAtOdds_132 (⟨congrArg (fun z : Int32 => some (Value.int z)) (by simp [b2i, oddsV, meetsV, c_1, c_14, c_15, c_16, c_18]), rfl⟩) hS (Nat.zero_le _) (Nat.zero_le _)
          · skip
            refine lv_iconst (v := 1) hx hb dX3_areAtOdds_119 (by decide) ?_
            refine lv_goto (tgt := 124) hx hb dX3_areAtOdds_120 (by decide) ?_
            refine lv_icmp_eq (tgt := 131) hx hb dX3_areAtOdds_124 (by decide) (fun _ => ?_) (fun c9 => absurd (by decide) c9)
            refine lv_iconst (v := 0) hx hb dX3_areAtOdds_131 (by decide) ?_
            exact hend _ _ _ _ _ _ _ rfl dX3_areAtOdds_132 (⟨congrArg (fun z : Int32 => some (Value.int z)) (by simp [b2i, oddsV, meetsV, c_1, c_14, c_15, c_16, c_18]), rfl⟩) hS (Nat.zero_le _) (Nat.zero_le _)
      · skip
        refine lv_aload_n hx hb dX3_areAtOdds_56 rfl (lv_at hl 1 rfl) ?_
        refine lv_iload_n hx hb dX3_areAtOdds_57 rfl (lv_at hl 2 rfl) ?_
        refine lv_iconst (v := 3) hx hb dX3_areAtOdds_58 (by decide) ?_
        refine run_ro (w := .int ((ruA f i).2.2.2.1)) (rest := []) (kV F hW (metX3_of l E H ad kept len told hm f hs (nI i) 3 (9 + 5 * i + 3) (at3 _) (by omega)) (lw_V q1087 q1089 qs21 q52 q1090) hdX3_of ⟨Nat.le_of_ble_eq_true rfl, Nat.le_of_ble_eq_true rfl⟩ (recv hW hm rfl) hl.1 rfl (Nat.le_of_ble_eq_true rfl) dX3_areAtOdds_59 ⟨Nat.le_of_ble_eq_true rfl, Nat.le_of_ble_eq_true rfl⟩) ?_
        refine lv_bipush (v := 6) hx hb dX3_areAtOdds_62 (by decide) ?_
        refine lv_icmp_eq (tgt := 78) hx hb dX3_areAtOdds_64 (by decide) (fun c_19 => ?_) (fun c_19 => ?_)
        · skip
          refine lv_iconst (v := 1) hx hb dX3_areAtOdds_78 (by decide) ?_
          refine lv_goto (tgt := 83) hx hb dX3_areAtOdds_79 (by decide) ?_
          refine lv_istore (lv' := [(4, .int 1), (3, .int 1), (0, .ref (ad 0)), (1, .int (nI i)), (2, .int (nI j))]) hx hb dX3_areAtOdds_83 hl (by decide) rfl (fun ls hl => ?_)
          refine lv_iload_n hx hb dX3_areAtOdds_85 rfl (lv_at hl 1 rfl) ?_
          refine lv_if_eq (tgt := 131) hx hb dX3_areAtOdds_86 (by decide) (fun c9 => absurd c9 (by decide)) (fun _ => ?_)
          refine lv_iload hx hb dX3_areAtOdds_89 (lv_at hl 0 rfl) ?_
          refine lv_if_eq (tgt := 131) hx hb dX3_areAtOdds_91 (by decide) (fun c9 => absurd c9 (by decide)) (fun _ => ?_)
          refine lv_aload_n hx hb dX3_areAtOdds_94 rfl (lv_at hl 2 rfl) ?_
          refine lv_iload_n hx hb dX3_areAtOdds_95 rfl (lv_at hl 3 rfl) ?_
          refine lv_iconst (v := 1) hx hb dX3_areAtOdds_96 (by decide) ?_
          refine run_ro (w := .int ((ruA f i).2.1)) (rest := []) (kV F hW (metX3_of l E H ad kept len told hm f hs (nI i) 1 (9 + 5 * i + 1) (at1 _) (by omega)) (lw_V q1087 q1089 qs21 q52 q1090) hdX3_of ⟨Nat.le_of_ble_eq_true rfl, Nat.le_of_ble_eq_true rfl⟩ (recv hW hm rfl) hl.1 rfl (Nat.le_of_ble_eq_true rfl) dX3_areAtOdds_97 ⟨Nat.le_of_ble_eq_true rfl, Nat.le_of_ble_eq_true rfl⟩) ?_
          refine lv_iconst (v := 1) hx hb dX3_areAtOdds_100 (by decide) ?_
          refine lv_icmp_ne (tgt := 108) hx hb dX3_areAtOdds_101 (by decide) (fun c_20 => ?_) (fun c_20 => ?_)
          · skip
            refine lv_iconst (v := 0) hx hb dX3_areAtOdds_108 (by decide) ?_
            refine lv_aload_n hx hb dX3_areAtOdds_109 rfl (lv_at hl 2 rfl) ?_
            refine lv_iload_n hx hb dX3_areAtOdds_110 rfl (lv_at hl 4 rfl) ?_
            refine lv_iconst (v := 1) hx hb dX3_areAtOdds_111 (by decide) ?_
            refine run_ro (w := .int ((ruA f j).2.1)) (rest := [.int 0]) (kV F hW (metX3_of l E H ad kept len told hm f hs (nI j) 1 (9 + 5 * j + 1) (at1 _) (by omega)) (lw_V q1087 q1089 qs21 q52 q1090) hdX3_of ⟨Nat.le_of_ble_eq_true rfl, Nat.le_of_ble_eq_true rfl⟩ (recv hW hm rfl) hl.1 rfl (Nat.le_of_ble_eq_true rfl) dX3_areAtOdds_112 ⟨Nat.le_of_ble_eq_true rfl, Nat.le_of_ble_eq_true rfl⟩) ?_
            refine lv_iconst (v := 1) hx hb dX3_areAtOdds_115 (by decide) ?_
            refine lv_icmp_ne (tgt := 123) hx hb dX3_areAtOdds_116 (by decide) (fun c_21 => ?_) (fun c_21 => ?_)
            · skip
              refine lv_iconst (v := 0) hx hb dX3_areAtOdds_123 (by decide) ?_
              refine lv_icmp_eq (tgt := 131) hx hb dX3_areAtOdds_124 (by decide) (fun _ => ?_) (fun c9 => absurd (by decide) c9)
              refine lv_iconst (v := 0) hx hb dX3_areAtOdds_131 (by decide) ?_
              exact hend _ _ _ _ _ _ _ rfl dX3_areAtOdds_132 (⟨congrArg (fun z : Int32 => some (Value.int z)) (by simp [b2i, oddsV, meetsV, c_1, c_14, c_15, c_19, c_20, c_21]), rfl⟩) hS (Nat.zero_le _) (Nat.zero_le _)
            · skip
              refine lv_iconst (v := 1) hx hb dX3_areAtOdds_119 (by decide) ?_
              refine lv_goto (tgt := 124) hx hb dX3_areAtOdds_120 (by decide) ?_
              refine lv_icmp_eq (tgt := 131) hx hb dX3_areAtOdds_124 (by decide) (fun c9 => absurd c9 (by decide)) (fun _ => ?_)
              refine lv_iconst (v := 1) hx hb dX3_areAtOdds_127 (by decide) ?_
              refine lv_goto (tgt := 132) hx hb dX3_areAtOdds_128 (by decide) ?_
              exact hend _ _ _ _ _ _ _ rfl dX3_areAtOdds_132 (⟨congrArg (fun z : Int32 => some (Value.int z)) (by simp [b2i, oddsV, meetsV, c_1, c_14, c_15, c_19, c_20, c_21]), rfl⟩) hS (Nat.zero_le _) (Nat.zero_le _)
          · skip
            refine lv_iconst (v := 1) hx hb dX3_areAtOdds_104 (by decide) ?_
            refine lv_goto (tgt := 109) hx hb dX3_areAtOdds_105 (by decide) ?_
            refine lv_aload_n hx hb dX3_areAtOdds_109 rfl (lv_at hl 2 rfl) ?_
            refine lv_iload_n hx hb dX3_areAtOdds_110 rfl (lv_at hl 4 rfl) ?_
            refine lv_iconst (v := 1) hx hb dX3_areAtOdds_111 (by decide) ?_
            refine run_ro (w := .int ((ruA f j).2.1)) (rest := [.int 1]) (kV F hW (metX3_of l E H ad kept len told hm f hs (nI j) 1 (9 + 5 * j + 1) (at1 _) (by omega)) (lw_V q1087 q1089 qs21 q52 q1090) hdX3_of ⟨Nat.le_of_ble_eq_true rfl, Nat.le_of_ble_eq_true rfl⟩ (recv hW hm rfl) hl.1 rfl (Nat.le_of_ble_eq_true rfl) dX3_areAtOdds_112 ⟨Nat.le_of_ble_eq_true rfl, Nat.le_of_ble_eq_true rfl⟩) ?_
            refine lv_iconst (v := 1) hx hb dX3_areAtOdds_115 (by decide) ?_
            refine lv_icmp_ne (tgt := 123) hx hb dX3_areAtOdds_116 (by decide) (fun c_22 => ?_) (fun c_22 => ?_)
            · skip
              refine lv_iconst (v := 0) hx hb dX3_areAtOdds_123 (by decide) ?_
              refine lv_icmp_eq (tgt := 131) hx hb dX3_areAtOdds_124 (by decide) (fun c9 => absurd c9 (by decide)) (fun _ => ?_)
              refine lv_iconst (v := 1) hx hb dX3_areAtOdds_127 (by decide) ?_
              refine lv_goto (tgt := 132) hx hb dX3_areAtOdds_128 (by decide) ?_
              exact hend _ _ _ _ _ _ _ rfl dX3_areAtOdds_132 (⟨congrArg (fun z : Int32 => some (Value.int z)) (by simp [b2i, oddsV, meetsV, c_1, c_14, c_15, c_19, c_20, c_22]), rfl⟩) hS (Nat.zero_le _) (Nat.zero_le _)
            · skip
              refine lv_iconst (v := 1) hx hb dX3_areAtOdds_119 (by decide) ?_
              refine lv_goto (tgt := 124) hx hb dX3_areAtOdds_120 (by decide) ?_
              refine lv_icmp_eq (tgt := 131) hx hb dX3_areAtOdds_124 (by decide) (fun _ => ?_) (fun c9 => absurd (by decide) c9)
              refine lv_iconst (v := 0) hx hb dX3_areAtOdds_131 (by decide) ?_
              exact hend _ _ _ _ _ _ _ rfl dX3_areAtOdds_132 (⟨congrArg (fun z : Int32 => some (Value.int z)) (by simp [b2i, oddsV, meetsV, c_1, c_14, c_15, c_19, c_20, c_22]), rfl⟩) hS (Nat.zero_le _) (Nat.zero_le _)
        · skip
          refine lv_aload_n hx hb dX3_areAtOdds_67 rfl (lv_at hl 1 rfl) ?_
          refine lv_iload_n hx hb dX3_areAtOdds_68 rfl (lv_at hl 3 rfl) ?_
          refine lv_iconst (v := 3) hx hb dX3_areAtOdds_69 (by decide) ?_
          refine run_ro (w := .int ((ruA f j).2.2.2.1)) (rest := []) (kV F hW (metX3_of l E H ad kept len told hm f hs (nI j) 3 (9 + 5 * j + 3) (at3 _) (by omega)) (lw_V q1087 q1089 qs21 q52 q1090) hdX3_of ⟨Nat.le_of_ble_eq_true rfl, Nat.le_of_ble_eq_true rfl⟩ (recv hW hm rfl) hl.1 rfl (Nat.le_of_ble_eq_true rfl) dX3_areAtOdds_70 ⟨Nat.le_of_ble_eq_true rfl, Nat.le_of_ble_eq_true rfl⟩) ?_
          refine lv_bipush (v := 6) hx hb dX3_areAtOdds_73 (by decide) ?_
          refine lv_icmp_ne (tgt := 82) hx hb dX3_areAtOdds_75 (by decide) (fun c_23 => ?_) (fun c_23 => ?_)
          · skip
            refine lv_iconst (v := 0) hx hb dX3_areAtOdds_82 (by decide) ?_
            refine lv_istore (lv' := [(4, .int 0), (3, .int 1), (0, .ref (ad 0)), (1, .int (nI i)), (2, .int (nI j))]) hx hb dX3_areAtOdds_83 hl (by decide) rfl (fun ls hl => ?_)
            refine lv_iload_n hx hb dX3_areAtOdds_85 rfl (lv_at hl 1 rfl) ?_
            refine lv_if_eq (tgt := 131) hx hb dX3_areAtOdds_86 (by decide) (fun c9 => absurd c9 (by decide)) (fun _ => ?_)
            refine lv_iload hx hb dX3_areAtOdds_89 (lv_at hl 0 rfl) ?_
            refine lv_if_eq (tgt := 131) hx hb dX3_areAtOdds_91 (by decide) (fun _ => ?_) (fun c9 => absurd (by decide) c9)
            refine lv_iconst (v := 0) hx hb dX3_areAtOdds_131 (by decide) ?_
            exact hend _ _ _ _ _ _ _ rfl dX3_areAtOdds_132 (⟨congrArg (fun z : Int32 => some (Value.int z)) (by simp [b2i, oddsV, meetsV, c_1, c_14, c_15, c_19, c_23]), rfl⟩) hS (Nat.zero_le _) (Nat.zero_le _)
          · skip
            refine lv_iconst (v := 1) hx hb dX3_areAtOdds_78 (by decide) ?_
            refine lv_goto (tgt := 83) hx hb dX3_areAtOdds_79 (by decide) ?_
            refine lv_istore (lv' := [(4, .int 1), (3, .int 1), (0, .ref (ad 0)), (1, .int (nI i)), (2, .int (nI j))]) hx hb dX3_areAtOdds_83 hl (by decide) rfl (fun ls hl => ?_)
            refine lv_iload_n hx hb dX3_areAtOdds_85 rfl (lv_at hl 1 rfl) ?_
            refine lv_if_eq (tgt := 131) hx hb dX3_areAtOdds_86 (by decide) (fun c9 => absurd c9 (by decide)) (fun _ => ?_)
            refine lv_iload hx hb dX3_areAtOdds_89 (lv_at hl 0 rfl) ?_
            refine lv_if_eq (tgt := 131) hx hb dX3_areAtOdds_91 (by decide) (fun c9 => absurd c9 (by decide)) (fun _ => ?_)
            refine lv_aload_n hx hb dX3_areAtOdds_94 rfl (lv_at hl 2 rfl) ?_
            refine lv_iload_n hx hb dX3_areAtOdds_95 rfl (lv_at hl 3 rfl) ?_
            refine lv_iconst (v := 1) hx hb dX3_areAtOdds_96 (by decide) ?_
            refine run_ro (w := .int ((ruA f i).2.1)) (rest := []) (kV F hW (metX3_of l E H ad kept len told hm f hs (nI i) 1 (9 + 5 * i + 1) (at1 _) (by omega)) (lw_V q1087 q1089 qs21 q52 q1090) hdX3_of ⟨Nat.le_of_ble_eq_true rfl, Nat.le_of_ble_eq_true rfl⟩ (recv hW hm rfl) hl.1 rfl (Nat.le_of_ble_eq_true rfl) dX3_areAtOdds_97 ⟨Nat.le_of_ble_eq_true rfl, Nat.le_of_ble_eq_true rfl⟩) ?_
            refine lv_iconst (v := 1) hx hb dX3_areAtOdds_100 (by decide) ?_
            refine lv_icmp_ne (tgt := 108) hx hb dX3_areAtOdds_101 (by decide) (fun c_24 => ?_) (fun c_24 => ?_)
            · skip
              refine lv_iconst (v := 0) hx hb dX3_areAtOdds_108 (by decide) ?_
              refine lv_aload_n hx hb dX3_areAtOdds_109 rfl (lv_at hl 2 rfl) ?_
              refine lv_iload_n hx hb dX3_areAtOdds_110 rfl (lv_at hl 4 rfl) ?_
              refine lv_iconst (v := 1) hx hb dX3_areAtOdds_111 (by decide) ?_
              refine run_ro (w := .int ((ruA f j).2.1)) (rest := [.int 0]) (kV F hW (metX3_of l E H ad kept len told hm f hs (nI j) 1 (9 + 5 * j + 1) (at1 _) (by omega)) (lw_V q1087 q1089 qs21 q52 q1090) hdX3_of ⟨Nat.le_of_ble_eq_true rfl, Nat.le_of_ble_eq_true rfl⟩ (recv hW hm rfl) hl.1 rfl (Nat.le_of_ble_eq_true rfl) dX3_areAtOdds_112 ⟨Nat.le_of_ble_eq_true rfl, Nat.le_of_ble_eq_true rfl⟩) ?_
              refine lv_iconst (v := 1) hx hb dX3_areAtOdds_115 (by decide) ?_
              refine lv_icmp_ne (tgt := 123) hx hb dX3_areAtOdds_116 (by decide) (fun c_25 => ?_) (fun c_25 => ?_)
              · skip
                refine lv_iconst (v := 0) hx hb dX3_areAtOdds_123 (by decide) ?_
                refine lv_icmp_eq (tgt := 131) hx hb dX3_areAtOdds_124 (by decide) (fun _ => ?_) (fun c9 => absurd (by decide) c9)
                refine lv_iconst (v := 0) hx hb dX3_areAtOdds_131 (by decide) ?_
                exact hend _ _ _ _ _ _ _ rfl dX3_areAtOdds_132 (⟨congrArg (fun z : Int32 => some (Value.int z)) (by simp [b2i, oddsV, meetsV, c_1, c_14, c_15, c_19, c_23, c_24, c_25]), rfl⟩) hS (Nat.zero_le _) (Nat.zero_le _)
              · skip
                refine lv_iconst (v := 1) hx hb dX3_areAtOdds_119 (by decide) ?_
                refine lv_goto (tgt := 124) hx hb dX3_areAtOdds_120 (by decide) ?_
                refine lv_icmp_eq (tgt := 131) hx hb dX3_areAtOdds_124 (by decide) (fun c9 => absurd c9 (by decide)) (fun _ => ?_)
                refine lv_iconst (v := 1) hx hb dX3_areAtOdds_127 (by decide) ?_
                refine lv_goto (tgt := 132) hx hb dX3_areAtOdds_128 (by decide) ?_
                exact hend _ _ _ _ _ _ _ rfl dX3_areAtOdds_132 (⟨congrArg (fun z : Int32 => some (Value.int z)) (by simp [b2i, oddsV, meetsV, c_1, c_14, c_15, c_19, c_23, c_24, c_25]), rfl⟩) hS (Nat.zero_le _) (Nat.zero_le _)
            · skip
              refine lv_iconst (v := 1) hx hb dX3_areAtOdds_104 (by decide) ?_
              refine lv_goto (tgt := 109) hx hb dX3_areAtOdds_105 (by decide) ?_
              refine lv_aload_n hx hb dX3_areAtOdds_109 rfl (lv_at hl 2 rfl) ?_
              refine lv_iload_n hx hb dX3_areAtOdds_110 rfl (lv_at hl 4 rfl) ?_
              refine lv_iconst (v := 1) hx hb dX3_areAtOdds_111 (by decide) ?_
              refine run_ro (w := .int ((ruA f j).2.1)) (rest := [.int 1]) (kV F hW (metX3_of l E H ad kept len told hm f hs (nI j) 1 (9 + 5 * j + 1) (at1 _) (by omega)) (lw_V q1087 q1089 qs21 q52 q1090) hdX3_of ⟨Nat.le_of_ble_eq_true rfl, Nat.le_of_ble_eq_true rfl⟩ (recv hW hm rfl) hl.1 rfl (Nat.le_of_ble_eq_true rfl) dX3_areAtOdds_112 ⟨Nat.le_of_ble_eq_true rfl, Nat.le_of_ble_eq_true rfl⟩) ?_
              refine lv_iconst (v := 1) hx hb dX3_areAtOdds_115 (by decide) ?_
              refine lv_icmp_ne (tgt := 123) hx hb dX3_areAtOdds_116 (by decide) (fun c_26 => ?_) (fun c_26 => ?_)
              · skip
                refine lv_iconst (v := 0) hx hb dX3_areAtOdds_123 (by decide) ?_
                refine lv_icmp_eq (tgt := 131) hx hb dX3_areAtOdds_124 (by decide) (fun c9 => absurd c9 (by decide)) (fun _ => ?_)
                refine lv_iconst (v := 1) hx hb dX3_areAtOdds_127 (by decide) ?_
                refine lv_goto (tgt := 132) hx hb dX3_areAtOdds_128 (by decide) ?_
                exact hend _ _ _ _ _ _ _ rfl dX3_areAtOdds_132 (⟨congrArg (fun z : Int32 => some (Value.int z)) (by simp [b2i, oddsV, meetsV, c_1, c_14, c_15, c_19, c_23, c_24, c_26]), rfl⟩) hS (Nat.zero_le _) (Nat.zero_le _)
              · skip
                refine lv_iconst (v := 1) hx hb dX3_areAtOdds_119 (by decide) ?_
                refine lv_goto (tgt := 124) hx hb dX3_areAtOdds_120 (by decide) ?_
                refine lv_icmp_eq (tgt := 131) hx hb dX3_areAtOdds_124 (by decide) (fun _ => ?_) (fun c9 => absurd (by decide) c9)
                refine lv_iconst (v := 0) hx hb dX3_areAtOdds_131 (by decide) ?_
                exact hend _ _ _ _ _ _ _ rfl dX3_areAtOdds_132 (⟨congrArg (fun z : Int32 => some (Value.int z)) (by simp [b2i, oddsV, meetsV, c_1, c_14, c_15, c_19, c_23, c_24, c_26]), rfl⟩) hS (Nat.zero_le _) (Nat.zero_le _)
    · skip
      refine lv_aload_n hx hb dX3_areAtOdds_25 rfl (lv_at hl 0 rfl) ?_
      refine lv_iload_n hx hb dX3_areAtOdds_26 rfl (lv_at hl 2 rfl) ?_
      refine lv_iconst (v := 2) hx hb dX3_areAtOdds_27 (by decide) ?_
      refine run_ro (w := .int ((ruA f j).2.2.1)) (rest := []) (kV F hW (metX3_of l E H ad kept len told hm f hs (nI j) 2 (9 + 5 * j + 2) (at2 _) (by omega)) (lw_V q1087 q1089 qs21 q52 q1090) hdX3_of ⟨Nat.le_of_ble_eq_true rfl, Nat.le_of_ble_eq_true rfl⟩ (recv hW hm rfl) hl.1 rfl (Nat.le_of_ble_eq_true rfl) dX3_areAtOdds_28 ⟨Nat.le_of_ble_eq_true rfl, Nat.le_of_ble_eq_true rfl⟩) ?_
      refine lv_iconst (v := 5) hx hb dX3_areAtOdds_31 (by decide) ?_
      refine lv_icmp_ne (tgt := 39) hx hb dX3_areAtOdds_32 (by decide) (fun c_27 => ?_) (fun c_27 => ?_)
      · skip
        refine lv_iconst (v := 0) hx hb dX3_areAtOdds_39 (by decide) ?_
        refine lv_istore_n (lv' := [(3, .int 0), (0, .ref (ad 0)), (1, .int (nI i)), (2, .int (nI j))]) hx hb dX3_areAtOdds_40 rfl hl (by decide) rfl (fun ls hl => ?_)
        refine lv_aload_n hx hb dX3_areAtOdds_41 rfl (lv_at hl 1 rfl) ?_
        refine lv_iload_n hx hb dX3_areAtOdds_42 rfl (lv_at hl 2 rfl) ?_
        refine lv_iconst (v := 3) hx hb dX3_areAtOdds_43 (by decide) ?_
        refine run_ro (w := .int ((ruA f i).2.2.2.1)) (rest := []) (kV F hW (metX3_of l E H ad kept len told hm f hs (nI i) 3 (9 + 5 * i + 3) (at3 _) (by omega)) (lw_V q1087 q1089 qs21 q52 q1090) hdX3_of ⟨Nat.le_of_ble_eq_true rfl, Nat.le_of_ble_eq_true rfl⟩ (recv hW hm rfl) hl.1 rfl (Nat.le_of_ble_eq_true rfl) dX3_areAtOdds_44 ⟨Nat.le_of_ble_eq_true rfl, Nat.le_of_ble_eq_true rfl⟩) ?_
        refine lv_aload_n hx hb dX3_areAtOdds_47 rfl (lv_at hl 1 rfl) ?_
        refine lv_iload_n hx hb dX3_areAtOdds_48 rfl (lv_at hl 3 rfl) ?_
        refine lv_iconst (v := 3) hx hb dX3_areAtOdds_49 (by decide) ?_
        refine run_ro (w := .int ((ruA f j).2.2.2.1)) (rest := [.int ((ruA f i).2.2.2.1)]) (kV F hW (metX3_of l E H ad kept len told hm f hs (nI j) 3 (9 + 5 * j + 3) (at3 _) (by omega)) (lw_V q1087 q1089 qs21 q52 q1090) hdX3_of ⟨Nat.le_of_ble_eq_true rfl, Nat.le_of_ble_eq_true rfl⟩ (recv hW hm rfl) hl.1 rfl (Nat.le_of_ble_eq_true rfl) dX3_areAtOdds_50 ⟨Nat.le_of_ble_eq_true rfl, Nat.le_of_ble_eq_true rfl⟩) ?_
        refine lv_icmp_eq (tgt := 78) hx hb dX3_areAtOdds_53 (by decide) (fun c_28 => ?_) (fun c_28 => ?_)
        · skip
          refine lv_iconst (v := 1) hx hb dX3_areAtOdds_78 (by decide) ?_
          refine lv_goto (tgt := 83) hx hb dX3_areAtOdds_79 (by decide) ?_
          refine lv_istore (lv' := [(4, .int 1), (3, .int 0), (0, .ref (ad 0)), (1, .int (nI i)), (2, .int (nI j))]) hx hb dX3_areAtOdds_83 hl (by decide) rfl (fun ls hl => ?_)
          refine lv_iload_n hx hb dX3_areAtOdds_85 rfl (lv_at hl 1 rfl) ?_
          refine lv_if_eq (tgt := 131) hx hb dX3_areAtOdds_86 (by decide) (fun _ => ?_) (fun c9 => absurd (by decide) c9)
          refine lv_iconst (v := 0) hx hb dX3_areAtOdds_131 (by decide) ?_
          exact hend _ _ _ _ _ _ _ rfl dX3_areAtOdds_132 (⟨congrArg (fun z : Int32 => some (Value.int z)) (by simp [b2i, oddsV, meetsV, c_1, c_14, c_27, c_28]), rfl⟩) hS (Nat.zero_le _) (Nat.zero_le _)
        · skip
          refine lv_aload_n hx hb dX3_areAtOdds_56 rfl (lv_at hl 1 rfl) ?_
          refine lv_iload_n hx hb dX3_areAtOdds_57 rfl (lv_at hl 2 rfl) ?_
          refine lv_iconst (v := 3) hx hb dX3_areAtOdds_58 (by decide) ?_
          refine run_ro (w := .int ((ruA f i).2.2.2.1)) (rest := []) (kV F hW (metX3_of l E H ad kept len told hm f hs (nI i) 3 (9 + 5 * i + 3) (at3 _) (by omega)) (lw_V q1087 q1089 qs21 q52 q1090) hdX3_of ⟨Nat.le_of_ble_eq_true rfl, Nat.le_of_ble_eq_true rfl⟩ (recv hW hm rfl) hl.1 rfl (Nat.le_of_ble_eq_true rfl) dX3_areAtOdds_59 ⟨Nat.le_of_ble_eq_true rfl, Nat.le_of_ble_eq_true rfl⟩) ?_
          refine lv_bipush (v := 6) hx hb dX3_areAtOdds_62 (by decide) ?_
          refine lv_icmp_eq (tgt := 78) hx hb dX3_areAtOdds_64 (by decide) (fun c_29 => ?_) (fun c_29 => ?_)
          · skip
            refine lv_iconst (v := 1) hx hb dX3_areAtOdds_78 (by decide) ?_
            refine lv_goto (tgt := 83) hx hb dX3_areAtOdds_79 (by decide) ?_
            refine lv_istore (lv' := [(4, .int 1), (3, .int 0), (0, .ref (ad 0)), (1, .int (nI i)), (2, .int (nI j))]) hx hb dX3_areAtOdds_83 hl (by decide) rfl (fun ls hl => ?_)
            refine lv_iload_n hx hb dX3_areAtOdds_85 rfl (lv_at hl 1 rfl) ?_
            refine lv_if_eq (tgt := 131) hx hb dX3_areAtOdds_86 (by decide) (fun _ => ?_) (fun c9 => absurd (by decide) c9)
            refine lv_iconst (v := 0) hx hb dX3_areAtOdds_131 (by decide) ?_
            exact hend _ _ _ _ _ _ _ rfl dX3_areAtOdds_132 (⟨congrArg (fun z : Int32 => some (Value.int z)) (by simp [b2i, oddsV, meetsV, c_1, c_14, c_27, c_28, c_29]), rfl⟩) hS (Nat.zero_le _) (Nat.zero_le _)
          · skip
            refine lv_aload_n hx hb dX3_areAtOdds_67 rfl (lv_at hl 1 rfl) ?_
            refine lv_iload_n hx hb dX3_areAtOdds_68 rfl (lv_at hl 3 rfl) ?_
            refine lv_iconst (v := 3) hx hb dX3_areAtOdds_69 (by decide) ?_
            refine run_ro (w := .int ((ruA f j).2.2.2.1)) (rest := []) (kV F hW (metX3_of l E H ad kept len told hm f hs (nI j) 3 (9 + 5 * j + 3) (at3 _) (by omega)) (lw_V q1087 q1089 qs21 q52 q1090) hdX3_of ⟨Nat.le_of_ble_eq_true rfl, Nat.le_of_ble_eq_true rfl⟩ (recv hW hm rfl) hl.1 rfl (Nat.le_of_ble_eq_true rfl) dX3_areAtOdds_70 ⟨Nat.le_of_ble_eq_true rfl, Nat.le_of_ble_eq_true rfl⟩) ?_
            refine lv_bipush (v := 6) hx hb dX3_areAtOdds_73 (by decide) ?_
            refine lv_icmp_ne (tgt := 82) hx hb dX3_areAtOdds_75 (by decide) (fun c_30 => ?_) (fun c_30 => ?_)
            · skip
              refine lv_iconst (v := 0) hx hb dX3_areAtOdds_82 (by decide) ?_
              refine lv_istore (lv' := [(4, .int 0), (3, .int 0), (0, .ref (ad 0)), (1, .int (nI i)), (2, .int (nI j))]) hx hb dX3_areAtOdds_83 hl (by decide) rfl (fun ls hl => ?_)
              refine lv_iload_n hx hb dX3_areAtOdds_85 rfl (lv_at hl 1 rfl) ?_
              refine lv_if_eq (tgt := 131) hx hb dX3_areAtOdds_86 (by decide) (fun _ => ?_) (fun c9 => absurd (by decide) c9)
              refine lv_iconst (v := 0) hx hb dX3_areAtOdds_131 (by decide) ?_
              exact hend _ _ _ _ _ _ _ rfl dX3_areAtOdds_132 (⟨congrArg (fun z : Int32 => some (Value.int z)) (by simp [b2i, oddsV, meetsV, c_1, c_14, c_27, c_28, c_29, c_30]), rfl⟩) hS (Nat.zero_le _) (Nat.zero_le _)
            · skip
              refine lv_iconst (v := 1) hx hb dX3_areAtOdds_78 (by decide) ?_
              refine lv_goto (tgt := 83) hx hb dX3_areAtOdds_79 (by decide) ?_
              refine lv_istore (lv' := [(4, .int 1), (3, .int 0), (0, .ref (ad 0)), (1, .int (nI i)), (2, .int (nI j))]) hx hb dX3_areAtOdds_83 hl (by decide) rfl (fun ls hl => ?_)
              refine lv_iload_n hx hb dX3_areAtOdds_85 rfl (lv_at hl 1 rfl) ?_
              refine lv_if_eq (tgt := 131) hx hb dX3_areAtOdds_86 (by decide) (fun _ => ?_) (fun c9 => absurd (by decide) c9)
              refine lv_iconst (v := 0) hx hb dX3_areAtOdds_131 (by decide) ?_
              exact hend _ _ _ _ _ _ _ rfl dX3_areAtOdds_132 (⟨congrArg (fun z : Int32 => some (Value.int z)) (by simp [b2i, oddsV, meetsV, c_1, c_14, c_27, c_28, c_29, c_30]), rfl⟩) hS (Nat.zero_le _) (Nat.zero_le _)
      · skip
        refine lv_iconst (v := 1) hx hb dX3_areAtOdds_35 (by decide) ?_
        refine lv_goto (tgt := 40) hx hb dX3_areAtOdds_36 (by decide) ?_
        refine lv_istore_n (lv' := [(3, .int 1), (0, .ref (ad 0)), (1, .int (nI i)), (2, .int (nI j))]) hx hb dX3_areAtOdds_40 rfl hl (by decide) rfl (fun ls hl => ?_)
        refine lv_aload_n hx hb dX3_areAtOdds_41 rfl (lv_at hl 1 rfl) ?_
        refine lv_iload_n hx hb dX3_areAtOdds_42 rfl (lv_at hl 2 rfl) ?_
        refine lv_iconst (v := 3) hx hb dX3_areAtOdds_43 (by decide) ?_
        refine run_ro (w := .int ((ruA f i).2.2.2.1)) (rest := []) (kV F hW (metX3_of l E H ad kept len told hm f hs (nI i) 3 (9 + 5 * i + 3) (at3 _) (by omega)) (lw_V q1087 q1089 qs21 q52 q1090) hdX3_of ⟨Nat.le_of_ble_eq_true rfl, Nat.le_of_ble_eq_true rfl⟩ (recv hW hm rfl) hl.1 rfl (Nat.le_of_ble_eq_true rfl) dX3_areAtOdds_44 ⟨Nat.le_of_ble_eq_true rfl, Nat.le_of_ble_eq_true rfl⟩) ?_
        refine lv_aload_n hx hb dX3_areAtOdds_47 rfl (lv_at hl 1 rfl) ?_
        refine lv_iload_n hx hb dX3_areAtOdds_48 rfl (lv_at hl 3 rfl) ?_
        refine lv_iconst (v := 3) hx hb dX3_areAtOdds_49 (by decide) ?_
        refine run_ro (w := .int ((ruA f j).2.2.2.1)) (rest := [.int ((ruA f i).2.2.2.1)]) (kV F hW (metX3_of l E H ad kept len told hm f hs (nI j) 3 (9 + 5 * j + 3) (at3 _) (by omega)) (lw_V q1087 q1089 qs21 q52 q1090) hdX3_of ⟨Nat.le_of_ble_eq_true rfl, Nat.le_of_ble_eq_true rfl⟩ (recv hW hm rfl) hl.1 rfl (Nat.le_of_ble_eq_true rfl) dX3_areAtOdds_50 ⟨Nat.le_of_ble_eq_true rfl, Nat.le_of_ble_eq_true rfl⟩) ?_
        refine lv_icmp_eq (tgt := 78) hx hb dX3_areAtOdds_53 (by decide) (fun c_31 => ?_) (fun c_31 => ?_)
        · skip
          refine lv_iconst (v := 1) hx hb dX3_areAtOdds_78 (by decide) ?_
          refine lv_goto (tgt := 83) hx hb dX3_areAtOdds_79 (by decide) ?_
          refine lv_istore (lv' := [(4, .int 1), (3, .int 1), (0, .ref (ad 0)), (1, .int (nI i)), (2, .int (nI j))]) hx hb dX3_areAtOdds_83 hl (by decide) rfl (fun ls hl => ?_)
          refine lv_iload_n hx hb dX3_areAtOdds_85 rfl (lv_at hl 1 rfl) ?_
          refine lv_if_eq (tgt := 131) hx hb dX3_areAtOdds_86 (by decide) (fun c9 => absurd c9 (by decide)) (fun _ => ?_)
          refine lv_iload hx hb dX3_areAtOdds_89 (lv_at hl 0 rfl) ?_
          refine lv_if_eq (tgt := 131) hx hb dX3_areAtOdds_91 (by decide) (fun c9 => absurd c9 (by decide)) (fun _ => ?_)
          refine lv_aload_n hx hb dX3_areAtOdds_94 rfl (lv_at hl 2 rfl) ?_
          refine lv_iload_n hx hb dX3_areAtOdds_95 rfl (lv_at hl 3 rfl) ?_
          refine lv_iconst (v := 1) hx hb dX3_areAtOdds_96 (by decide) ?_
          refine run_ro (w := .int ((ruA f i).2.1)) (rest := []) (kV F hW (metX3_of l E H ad kept len told hm f hs (nI i) 1 (9 + 5 * i + 1) (at1 _) (by omega)) (lw_V q1087 q1089 qs21 q52 q1090) hdX3_of ⟨Nat.le_of_ble_eq_true rfl, Nat.le_of_ble_eq_true rfl⟩ (recv hW hm rfl) hl.1 rfl (Nat.le_of_ble_eq_true rfl) dX3_areAtOdds_97 ⟨Nat.le_of_ble_eq_true rfl, Nat.le_of_ble_eq_true rfl⟩) ?_
          refine lv_iconst (v := 1) hx hb dX3_areAtOdds_100 (by decide) ?_
          refine lv_icmp_ne (tgt := 108) hx hb dX3_areAtOdds_101 (by decide) (fun c_32 => ?_) (fun c_32 => ?_)
          · skip
            refine lv_iconst (v := 0) hx hb dX3_areAtOdds_108 (by decide) ?_
            refine lv_aload_n hx hb dX3_areAtOdds_109 rfl (lv_at hl 2 rfl) ?_
            refine lv_iload_n hx hb dX3_areAtOdds_110 rfl (lv_at hl 4 rfl) ?_
            refine lv_iconst (v := 1) hx hb dX3_areAtOdds_111 (by decide) ?_
            refine run_ro (w := .int ((ruA f j).2.1)) (rest := [.int 0]) (kV F hW (metX3_of l E H ad kept len told hm f hs (nI j) 1 (9 + 5 * j + 1) (at1 _) (by omega)) (lw_V q1087 q1089 qs21 q52 q1090) hdX3_of ⟨Nat.le_of_ble_eq_true rfl, Nat.le_of_ble_eq_true rfl⟩ (recv hW hm rfl) hl.1 rfl (Nat.le_of_ble_eq_true rfl) dX3_areAtOdds_112 ⟨Nat.le_of_ble_eq_true rfl, Nat.le_of_ble_eq_true rfl⟩) ?_
            refine lv_iconst (v := 1) hx hb dX3_areAtOdds_115 (by decide) ?_
            refine lv_icmp_ne (tgt := 123) hx hb dX3_areAtOdds_116 (by decide) (fun c_33 => ?_) (fun c_33 => ?_)
            · skip
              refine lv_iconst (v := 0) hx hb dX3_areAtOdds_123 (by decide) ?_
              refine lv_icmp_eq (tgt := 131) hx hb dX3_areAtOdds_124 (by decide) (fun _ => ?_) (fun c9 => absurd (by decide) c9)
              refine lv_iconst (v := 0) hx hb dX3_areAtOdds_131 (by decide) ?_
              exact hend _ _ _ _ _ _ _ rfl dX3_areAtOdds_132 (⟨congrArg (fun z : Int32 => some (Value.int z)) (by simp [b2i, oddsV, meetsV, c_1, c_14, c_27, c_31, c_32, c_33]), rfl⟩) hS (Nat.zero_le _) (Nat.zero_le _)
            · skip
              refine lv_iconst (v := 1) hx hb dX3_areAtOdds_119 (by decide) ?_
              refine lv_goto (tgt := 124) hx hb dX3_areAtOdds_120 (by decide) ?_
              refine lv_icmp_eq (tgt := 131) hx hb dX3_areAtOdds_124 (by decide) (fun c9 => absurd c9 (by decide)) (fun _ => ?_)
              refine lv_iconst (v := 1) hx hb dX3_areAtOdds_127 (by decide) ?_
              refine lv_goto (tgt := 132) hx hb dX3_areAtOdds_128 (by decide) ?_
              exact hend _ _ _ _ _ _ _ rfl dX3_areAtOdds_132 (⟨congrArg (fun z : Int32 => some (Value.int z)) (by simp [b2i, oddsV, meetsV, c_1, c_14, c_27, c_31, c_32, c_33]), rfl⟩) hS (Nat.zero_le _) (Nat.zero_le _)
          · skip
            refine lv_iconst (v := 1) hx hb dX3_areAtOdds_104 (by decide) ?_
            refine lv_goto (tgt := 109) hx hb dX3_areAtOdds_105 (by decide) ?_
            refine lv_aload_n hx hb dX3_areAtOdds_109 rfl (lv_at hl 2 rfl) ?_
            refine lv_iload_n hx hb dX3_areAtOdds_110 rfl (lv_at hl 4 rfl) ?_
            refine lv_iconst (v := 1) hx hb dX3_areAtOdds_111 (by decide) ?_
            refine run_ro (w := .int ((ruA f j).2.1)) (rest := [.int 1]) (kV F hW (metX3_of l E H ad kept len told hm f hs (nI j) 1 (9 + 5 * j + 1) (at1 _) (by omega)) (lw_V q1087 q1089 qs21 q52 q1090) hdX3_of ⟨Nat.le_of_ble_eq_true rfl, Nat.le_of_ble_eq_true rfl⟩ (recv hW hm rfl) hl.1 rfl (Nat.le_of_ble_eq_true rfl) dX3_areAtOdds_112 ⟨Nat.le_of_ble_eq_true rfl, Nat.le_of_ble_eq_true rfl⟩) ?_
            refine lv_iconst (v := 1) hx hb dX3_areAtOdds_115 (by decide) ?_
            refine lv_icmp_ne (tgt := 123) hx hb dX3_areAtOdds_116 (by decide) (fun c_34 => ?_) (fun c_34 => ?_)
            · skip
              refine lv_iconst (v := 0) hx hb dX3_areAtOdds_123 (by decide) ?_
              refine lv_icmp_eq (tgt := 131) hx hb dX3_areAtOdds_124 (by decide) (fun c9 => absurd c9 (by decide)) (fun _ => ?_)
              refine lv_iconst (v := 1) hx hb dX3_areAtOdds_127 (by decide) ?_
              refine lv_goto (tgt := 132) hx hb dX3_areAtOdds_128 (by decide) ?_
              exact hend _ _ _ _ _ _ _ rfl dX3_areAtOdds_132 (⟨congrArg (fun z : Int32 => some (Value.int z)) (by simp [b2i, oddsV, meetsV, c_1, c_14, c_27, c_31, c_32, c_34]), rfl⟩) hS (Nat.zero_le _) (Nat.zero_le _)
            · skip
              refine lv_iconst (v := 1) hx hb dX3_areAtOdds_119 (by decide) ?_
              refine lv_goto (tgt := 124) hx hb dX3_areAtOdds_120 (by decide) ?_
              refine lv_icmp_eq (tgt := 131) hx hb dX3_areAtOdds_124 (by decide) (fun _ => ?_) (fun c9 => absurd (by decide) c9)
              refine lv_iconst (v := 0) hx hb dX3_areAtOdds_131 (by decide) ?_
              exact hend _ _ _ _ _ _ _ rfl dX3_areAtOdds_132 (⟨congrArg (fun z : Int32 => some (Value.int z)) (by simp [b2i, oddsV, meetsV, c_1, c_14, c_27, c_31, c_32, c_34]), rfl⟩) hS (Nat.zero_le _) (Nat.zero_le _)
        · skip
          refine lv_aload_n hx hb dX3_areAtOdds_56 rfl (lv_at hl 1 rfl) ?_
          refine lv_iload_n hx hb dX3_areAtOdds_57 rfl (lv_at hl 2 rfl) ?_
          refine lv_iconst (v := 3) hx hb dX3_areAtOdds_58 (by decide) ?_
          refine run_ro (w := .int ((ruA f i).2.2.2.1)) (rest := []) (kV F hW (metX3_of l E H ad kept len told hm f hs (nI i) 3 (9 + 5 * i + 3) (at3 _) (by omega)) (lw_V q1087 q1089 qs21 q52 q1090) hdX3_of ⟨Nat.le_of_ble_eq_true rfl, Nat.le_of_ble_eq_true rfl⟩ (recv hW hm rfl) hl.1 rfl (Nat.le_of_ble_eq_true rfl) dX3_areAtOdds_59 ⟨Nat.le_of_ble_eq_true rfl, Nat.le_of_ble_eq_true rfl⟩) ?_
          refine lv_bipush (v := 6) hx hb dX3_areAtOdds_62 (by decide) ?_
          refine lv_icmp_eq (tgt := 78) hx hb dX3_areAtOdds_64 (by decide) (fun c_35 => ?_) (fun c_35 => ?_)
          · skip
            refine lv_iconst (v := 1) hx hb dX3_areAtOdds_78 (by decide) ?_
            refine lv_goto (tgt := 83) hx hb dX3_areAtOdds_79 (by decide) ?_
            refine lv_istore (lv' := [(4, .int 1), (3, .int 1), (0, .ref (ad 0)), (1, .int (nI i)), (2, .int (nI j))]) hx hb dX3_areAtOdds_83 hl (by decide) rfl (fun ls hl => ?_)
            refine lv_iload_n hx hb dX3_areAtOdds_85 rfl (lv_at hl 1 rfl) ?_
            refine lv_if_eq (tgt := 131) hx hb dX3_areAtOdds_86 (by decide) (fun c9 => absurd c9 (by decide)) (fun _ => ?_)
            refine lv_iload hx hb dX3_areAtOdds_89 (lv_at hl 0 rfl) ?_
            refine lv_if_eq (tgt := 131) hx hb dX3_areAtOdds_91 (by decide) (fun c9 => absurd c9 (by decide)) (fun _ => ?_)
            refine lv_aload_n hx hb dX3_areAtOdds_94 rfl (lv_at hl 2 rfl) ?_
            refine lv_iload_n hx hb dX3_areAtOdds_95 rfl (lv_at hl 3 rfl) ?_
            refine lv_iconst (v := 1) hx hb dX3_areAtOdds_96 (by decide) ?_
            refine run_ro (w := .int ((ruA f i).2.1)) (rest := []) (kV F hW (metX3_of l E H ad kept len told hm f hs (nI i) 1 (9 + 5 * i + 1) (at1 _) (by omega)) (lw_V q1087 q1089 qs21 q52 q1090) hdX3_of ⟨Nat.le_of_ble_eq_true rfl, Nat.le_of_ble_eq_true rfl⟩ (recv hW hm rfl) hl.1 rfl (Nat.le_of_ble_eq_true rfl) dX3_areAtOdds_97 ⟨Nat.le_of_ble_eq_true rfl, Nat.le_of_ble_eq_true rfl⟩) ?_
            refine lv_iconst (v := 1) hx hb dX3_areAtOdds_100 (by decide) ?_
            refine lv_icmp_ne (tgt := 108) hx hb dX3_areAtOdds_101 (by decide) (fun c_36 => ?_) (fun c_36 => ?_)
            · skip
              refine lv_iconst (v := 0) hx hb dX3_areAtOdds_108 (by decide) ?_
              refine lv_aload_n hx hb dX3_areAtOdds_109 rfl (lv_at hl 2 rfl) ?_
              refine lv_iload_n hx hb dX3_areAtOdds_110 rfl (lv_at hl 4 rfl) ?_
              refine lv_iconst (v := 1) hx hb dX3_areAtOdds_111 (by decide) ?_
              refine run_ro (w := .int ((ruA f j).2.1)) (rest := [.int 0]) (kV F hW (metX3_of l E H ad kept len told hm f hs (nI j) 1 (9 + 5 * j + 1) (at1 _) (by omega)) (lw_V q1087 q1089 qs21 q52 q1090) hdX3_of ⟨Nat.le_of_ble_eq_true rfl, Nat.le_of_ble_eq_true rfl⟩ (recv hW hm rfl) hl.1 rfl (Nat.le_of_ble_eq_true rfl) dX3_areAtOdds_112 ⟨Nat.le_of_ble_eq_true rfl, Nat.le_of_ble_eq_true rfl⟩) ?_
              refine lv_iconst (v := 1) hx hb dX3_areAtOdds_115 (by decide) ?_
              refine lv_icmp_ne (tgt := 123) hx hb dX3_areAtOdds_116 (by decide) (fun c_37 => ?_) (fun c_37 => ?_)
              · skip
                refine lv_iconst (v := 0) hx hb dX3_areAtOdds_123 (by decide) ?_
                refine lv_icmp_eq (tgt := 131) hx hb dX3_areAtOdds_124 (by decide) (fun _ => ?_) (fun c9 => absurd (by decide) c9)
                refine lv_iconst (v := 0) hx hb dX3_areAtOdds_131 (by decide) ?_
                exact hend _ _ _ _ _ _ _ rfl dX3_areAtOdds_132 (⟨congrArg (fun z : Int32 => some (Value.int z)) (by simp [b2i, oddsV, meetsV, c_1, c_14, c_27, c_31, c_35, c_36, c_37]), rfl⟩) hS (Nat.zero_le _) (Nat.zero_le _)
              · skip
                refine lv_iconst (v := 1) hx hb dX3_areAtOdds_119 (by decide) ?_
                refine lv_goto (tgt := 124) hx hb dX3_areAtOdds_120 (by decide) ?_
                refine lv_icmp_eq (tgt := 131) hx hb dX3_areAtOdds_124 (by decide) (fun c9 => absurd c9 (by decide)) (fun _ => ?_)
                refine lv_iconst (v := 1) hx hb dX3_areAtOdds_127 (by decide) ?_
                refine lv_goto (tgt := 132) hx hb dX3_areAtOdds_128 (by decide) ?_
                exact hend _ _ _ _ _ _ _ rfl dX3_areAtOdds_132 (⟨congrArg (fun z : Int32 => some (Value.int z)) (by simp [b2i, oddsV, meetsV, c_1, c_14, c_27, c_31, c_35, c_36, c_37]), rfl⟩) hS (Nat.zero_le _) (Nat.zero_le _)
            · skip
              refine lv_iconst (v := 1) hx hb dX3_areAtOdds_104 (by decide) ?_
              refine lv_goto (tgt := 109) hx hb dX3_areAtOdds_105 (by decide) ?_
              refine lv_aload_n hx hb dX3_areAtOdds_109 rfl (lv_at hl 2 rfl) ?_
              refine lv_iload_n hx hb dX3_areAtOdds_110 rfl (lv_at hl 4 rfl) ?_
              refine lv_iconst (v := 1) hx hb dX3_areAtOdds_111 (by decide) ?_
              refine run_ro (w := .int ((ruA f j).2.1)) (rest := [.int 1]) (kV F hW (metX3_of l E H ad kept len told hm f hs (nI j) 1 (9 + 5 * j + 1) (at1 _) (by omega)) (lw_V q1087 q1089 qs21 q52 q1090) hdX3_of ⟨Nat.le_of_ble_eq_true rfl, Nat.le_of_ble_eq_true rfl⟩ (recv hW hm rfl) hl.1 rfl (Nat.le_of_ble_eq_true rfl) dX3_areAtOdds_112 ⟨Nat.le_of_ble_eq_true rfl, Nat.le_of_ble_eq_true rfl⟩) ?_
              refine lv_iconst (v := 1) hx hb dX3_areAtOdds_115 (by decide) ?_
              refine lv_icmp_ne (tgt := 123) hx hb dX3_areAtOdds_116 (by decide) (fun c_38 => ?_) (fun c_38 => ?_)
              · skip
                refine lv_iconst (v := 0) hx hb dX3_areAtOdds_123 (by decide) ?_
                refine lv_icmp_eq (tgt := 131) hx hb dX3_areAtOdds_124 (by decide) (fun c9 => absurd c9 (by decide)) (fun _ => ?_)
                refine lv_iconst (v := 1) hx hb dX3_areAtOdds_127 (by decide) ?_
                refine lv_goto (tgt := 132) hx hb dX3_areAtOdds_128 (by decide) ?_
                exact hend _ _ _ _ _ _ _ rfl dX3_areAtOdds_132 (⟨congrArg (fun z : Int32 => some (Value.int z)) (by simp [b2i, oddsV, meetsV, c_1, c_14, c_27, c_31, c_35, c_36, c_38]), rfl⟩) hS (Nat.zero_le _) (Nat.zero_le _)
              · skip
                refine lv_iconst (v := 1) hx hb dX3_areAtOdds_119 (by decide) ?_
                refine lv_goto (tgt := 124) hx hb dX3_areAtOdds_120 (by decide) ?_
                refine lv_icmp_eq (tgt := 131) hx hb dX3_areAtOdds_124 (by decide) (fun _ => ?_) (fun c9 => absurd (by decide) c9)
                refine lv_iconst (v := 0) hx hb dX3_areAtOdds_131 (by decide) ?_
                exact hend _ _ _ _ _ _ _ rfl dX3_areAtOdds_132 (⟨congrArg (fun z : Int32 => some (Value.int z)) (by simp [b2i, oddsV, meetsV, c_1, c_14, c_27, c_31, c_35, c_36, c_38]), rfl⟩) hS (Nat.zero_le _) (Nat.zero_le _)
          · skip
            refine lv_aload_n hx hb dX3_areAtOdds_67 rfl (lv_at hl 1 rfl) ?_
            refine lv_iload_n hx hb dX3_areAtOdds_68 rfl (lv_at hl 3 rfl) ?_
            refine lv_iconst (v := 3) hx hb dX3_areAtOdds_69 (by decide) ?_
            refine run_ro (w := .int ((ruA f j).2.2.2.1)) (rest := []) (kV F hW (metX3_of l E H ad kept len told hm f hs (nI j) 3 (9 + 5 * j + 3) (at3 _) (by omega)) (lw_V q1087 q1089 qs21 q52 q1090) hdX3_of ⟨Nat.le_of_ble_eq_true rfl, Nat.le_of_ble_eq_true rfl⟩ (recv hW hm rfl) hl.1 rfl (Nat.le_of_ble_eq_true rfl) dX3_areAtOdds_70 ⟨Nat.le_of_ble_eq_true rfl, Nat.le_of_ble_eq_true rfl⟩) ?_
            refine lv_bipush (v := 6) hx hb dX3_areAtOdds_73 (by decide) ?_
            refine lv_icmp_ne (tgt := 82) hx hb dX3_areAtOdds_75 (by decide) (fun c_39 => ?_) (fun c_39 => ?_)
            · skip
              refine lv_iconst (v := 0) hx hb dX3_areAtOdds_82 (by decide) ?_
              refine lv_istore (lv' := [(4, .int 0), (3, .int 1), (0, .ref (ad 0)), (1, .int (nI i)), (2, .int (nI j))]) hx hb dX3_areAtOdds_83 hl (by decide) rfl (fun ls hl => ?_)
              refine lv_iload_n hx hb dX3_areAtOdds_85 rfl (lv_at hl 1 rfl) ?_
              refine lv_if_eq (tgt := 131) hx hb dX3_areAtOdds_86 (by decide) (fun c9 => absurd c9 (by decide)) (fun _ => ?_)
              refine lv_iload hx hb dX3_areAtOdds_89 (lv_at hl 0 rfl) ?_
              refine lv_if_eq (tgt := 131) hx hb dX3_areAtOdds_91 (by decide) (fun _ => ?_) (fun c9 => absurd (by decide) c9)
              refine lv_iconst (v := 0) hx hb dX3_areAtOdds_131 (by decide) ?_
              exact hend _ _ _ _ _ _ _ rfl dX3_areAtOdds_132 (⟨congrArg (fun z : Int32 => some (Value.int z)) (by simp [b2i, oddsV, meetsV, c_1, c_14, c_27, c_31, c_35, c_39]), rfl⟩) hS (Nat.zero_le _) (Nat.zero_le _)
            · skip
              refine lv_iconst (v := 1) hx hb dX3_areAtOdds_78 (by decide) ?_
              refine lv_goto (tgt := 83) hx hb dX3_areAtOdds_79 (by decide) ?_
              refine lv_istore (lv' := [(4, .int 1), (3, .int 1), (0, .ref (ad 0)), (1, .int (nI i)), (2, .int (nI j))]) hx hb dX3_areAtOdds_83 hl (by decide) rfl (fun ls hl => ?_)
              refine lv_iload_n hx hb dX3_areAtOdds_85 rfl (lv_at hl 1 rfl) ?_
              refine lv_if_eq (tgt := 131) hx hb dX3_areAtOdds_86 (by decide) (fun c9 => absurd c9 (by decide)) (fun _ => ?_)
              refine lv_iload hx hb dX3_areAtOdds_89 (lv_at hl 0 rfl) ?_
              refine lv_if_eq (tgt := 131) hx hb dX3_areAtOdds_91 (by decide) (fun c9 => absurd c9 (by decide)) (fun _ => ?_)
              refine lv_aload_n hx hb dX3_areAtOdds_94 rfl (lv_at hl 2 rfl) ?_
              refine lv_iload_n hx hb dX3_areAtOdds_95 rfl (lv_at hl 3 rfl) ?_
              refine lv_iconst (v := 1) hx hb dX3_areAtOdds_96 (by decide) ?_
              refine run_ro (w := .int ((ruA f i).2.1)) (rest := []) (kV F hW (metX3_of l E H ad kept len told hm f hs (nI i) 1 (9 + 5 * i + 1) (at1 _) (by omega)) (lw_V q1087 q1089 qs21 q52 q1090) hdX3_of ⟨Nat.le_of_ble_eq_true rfl, Nat.le_of_ble_eq_true rfl⟩ (recv hW hm rfl) hl.1 rfl (Nat.le_of_ble_eq_true rfl) dX3_areAtOdds_97 ⟨Nat.le_of_ble_eq_true rfl, Nat.le_of_ble_eq_true rfl⟩) ?_
              refine lv_iconst (v := 1) hx hb dX3_areAtOdds_100 (by decide) ?_
              refine lv_icmp_ne (tgt := 108) hx hb dX3_areAtOdds_101 (by decide) (fun c_40 => ?_) (fun c_40 => ?_)
              · skip
                refine lv_iconst (v := 0) hx hb dX3_areAtOdds_108 (by decide) ?_
                refine lv_aload_n hx hb dX3_areAtOdds_109 rfl (lv_at hl 2 rfl) ?_
                refine lv_iload_n hx hb dX3_areAtOdds_110 rfl (lv_at hl 4 rfl) ?_
                refine lv_iconst (v := 1) hx hb dX3_areAtOdds_111 (by decide) ?_
                refine run_ro (w := .int ((ruA f j).2.1)) (rest := [.int 0]) (kV F hW (metX3_of l E H ad kept len told hm f hs (nI j) 1 (9 + 5 * j + 1) (at1 _) (by omega)) (lw_V q1087 q1089 qs21 q52 q1090) hdX3_of ⟨Nat.le_of_ble_eq_true rfl, Nat.le_of_ble_eq_true rfl⟩ (recv hW hm rfl) hl.1 rfl (Nat.le_of_ble_eq_true rfl) dX3_areAtOdds_112 ⟨Nat.le_of_ble_eq_true rfl, Nat.le_of_ble_eq_true rfl⟩) ?_
                refine lv_iconst (v := 1) hx hb dX3_areAtOdds_115 (by decide) ?_
                refine lv_icmp_ne (tgt := 123) hx hb dX3_areAtOdds_116 (by decide) (fun c_41 => ?_) (fun c_41 => ?_)
                · skip
                  refine lv_iconst (v := 0) hx hb dX3_areAtOdds_123 (by decide) ?_
                  refine lv_icmp_eq (tgt := 131) hx hb dX3_areAtOdds_124 (by decide) (fun _ => ?_) (fun c9 => absurd (by decide) c9)
                  refine lv_iconst (v := 0) hx hb dX3_areAtOdds_131 (by decide) ?_
                  exact hend _ _ _ _ _ _ _ rfl dX3_areAtOdds_132 (⟨congrArg (fun z : Int32 => some (Value.int z)) (by simp [b2i, oddsV, meetsV, c_1, c_14, c_27, c_31, c_35, c_39, c_40, c_41]), rfl⟩) hS (Nat.zero_le _) (Nat.zero_le _)
                · skip
                  refine lv_iconst (v := 1) hx hb dX3_areAtOdds_119 (by decide) ?_
                  refine lv_goto (tgt := 124) hx hb dX3_areAtOdds_120 (by decide) ?_
                  refine lv_icmp_eq (tgt := 131) hx hb dX3_areAtOdds_124 (by decide) (fun c9 => absurd c9 (by decide)) (fun _ => ?_)
                  refine lv_iconst (v := 1) hx hb dX3_areAtOdds_127 (by decide) ?_
                  refine lv_goto (tgt := 132) hx hb dX3_areAtOdds_128 (by decide) ?_
                  exact hend _ _ _ _ _ _ _ rfl dX3_areAtOdds_132 (⟨congrArg (fun z : Int32 => some (Value.int z)) (by simp [b2i, oddsV, meetsV, c_1, c_14, c_27, c_31, c_35, c_39, c_40, c_41]), rfl⟩) hS (Nat.zero_le _) (Nat.zero_le _)
              · skip
                refine lv_iconst (v := 1) hx hb dX3_areAtOdds_104 (by decide) ?_
                refine lv_goto (tgt := 109) hx hb dX3_areAtOdds_105 (by decide) ?_
                refine lv_aload_n hx hb dX3_areAtOdds_109 rfl (lv_at hl 2 rfl) ?_
                refine lv_iload_n hx hb dX3_areAtOdds_110 rfl (lv_at hl 4 rfl) ?_
                refine lv_iconst (v := 1) hx hb dX3_areAtOdds_111 (by decide) ?_
                refine run_ro (w := .int ((ruA f j).2.1)) (rest := [.int 1]) (kV F hW (metX3_of l E H ad kept len told hm f hs (nI j) 1 (9 + 5 * j + 1) (at1 _) (by omega)) (lw_V q1087 q1089 qs21 q52 q1090) hdX3_of ⟨Nat.le_of_ble_eq_true rfl, Nat.le_of_ble_eq_true rfl⟩ (recv hW hm rfl) hl.1 rfl (Nat.le_of_ble_eq_true rfl) dX3_areAtOdds_112 ⟨Nat.le_of_ble_eq_true rfl, Nat.le_of_ble_eq_true rfl⟩) ?_
                refine lv_iconst (v := 1) hx hb dX3_areAtOdds_115 (by decide) ?_
                refine lv_icmp_ne (tgt := 123) hx hb dX3_areAtOdds_116 (by decide) (fun c_42 => ?_) (fun c_42 => ?_)
                · skip
                  refine lv_iconst (v := 0) hx hb dX3_areAtOdds_123 (by decide) ?_
                  refine lv_icmp_eq (tgt := 131) hx hb dX3_areAtOdds_124 (by decide) (fun c9 => absurd c9 (by decide)) (fun _ => ?_)
                  refine lv_iconst (v := 1) hx hb dX3_areAtOdds_127 (by decide) ?_
                  refine lv_goto (tgt := 132) hx hb dX3_areAtOdds_128 (by decide) ?_
                  exact hend _ _ _ _ _ _ _ rfl dX3_areAtOdds_132 (⟨congrArg (fun z : Int32 => some (Value.int z)) (by simp [b2i, oddsV, meetsV, c_1, c_14, c_27, c_31, c_35, c_39, c_40, c_42]), rfl⟩) hS (Nat.zero_le _) (Nat.zero_le _)
                · skip
                  refine lv_iconst (v := 1) hx hb dX3_areAtOdds_119 (by decide) ?_
                  refine lv_goto (tgt := 124) hx hb dX3_areAtOdds_120 (by decide) ?_
                  refine lv_icmp_eq (tgt := 131) hx hb dX3_areAtOdds_124 (by decide) (fun _ => ?_) (fun c9 => absurd (by decide) c9)
                  refine lv_iconst (v := 0) hx hb dX3_areAtOdds_131 (by decide) ?_
                  exact hend _ _ _ _ _ _ _ rfl dX3_areAtOdds_132 (⟨congrArg (fun z : Int32 => some (Value.int z)) (by simp [b2i, oddsV, meetsV, c_1, c_14, c_27, c_31, c_35, c_39, c_40, c_42]), rfl⟩) hS (Nat.zero_le _) (Nat.zero_le _)

theorem hdX3_oddsOf : Hd yX3_oddsOf 1 := by decide +kernel
set_option maxHeartbeats 1000000 in
set_option maxRecDepth 100000 in
theorem metX3_oddsOf (l : Launch) (E : EV) (H : Heap) (ad : Nat → Nat) (kept len told : Int32) (hm : oat E (ad 0) 3 (mfs ad kept len told) H) (f : Nat → Int32) (hs : iat E (ad 1) 0 169 f H) (n : Nat) (hn0 : f 0 = nI n) (hn24 : n ≤ 24) (i0 : Nat) (hi0 : i0 < 24) : Ro l yX3_oddsOf cX3_oddsOf 4 (some .int) 3 67 [.ref (ad 0), .int (nI i0)] E H (some (.int (odM (ruA f) n i0 n))) := by
  refine Ct.ofZ (by decide) (Nat.le_of_ble_eq_true rfl) ?_
  intro p e s m bl mt cd ls Q hF hW hH hl hend
  obtain ⟨F, hin⟩ := hF
  have hx := F.1
  have hb := F.2.1
  have hts := F.2.2.2.2
  have hl : lv_has ls 4 [(0, .ref (ad 0)), (1, .int (nI i0))] := hl
  have hS : va_S (fun _ => False) H H [] := va_S.rf
  refine lv_iconst (v := 0) hx hb dX3_oddsOf_0 (by decide) ?_
  refine lv_istore_n (lv' := [(2, .int 0), (0, .ref (ad 0)), (1, .int (nI i0))]) hx hb dX3_oddsOf_1 rfl hl (by decide) rfl (fun ls hl => ?_)
  refine lv_iconst (v := 0) hx hb dX3_oddsOf_2 (by decide) ?_
  refine lv_istore_n (lv' := [(3, .int 0), (2, .int 0), (0, .ref (ad 0)), (1, .int (nI i0))]) hx hb dX3_oddsOf_3 rfl hl (by decide) rfl (fun ls hl => ?_)
  have loop4 : ∀ (nn i : Nat) (x3 x2 : Int32), i + nn = n → x2 = odM (ruA f) n i0 i → x3 = nI i → ∀ ls : Array Slot, lv_has ls 4 [(3, .int x3), (2, .int x2), (0, .ref (ad 0)), (1, .int (nI i0))] → W p l e ({ frames := 3, cells := 0, slots := 0, locals := 67 } : Room) s m ([.ref (ad 0), .int (nI i0)] : List Value).toArray bl mt cd H [] 0 0 Q (F0 m 4 ls []) := by
    intro nn
    induction nn with
    | zero =>
      intro i x3 x2 hn e2 e3  ls hl
      have hiN : i = n := by omega
      rw [hiN] at e3
      try rw [hiN] at e2
      rw [e3, e2] at hl
      clear e3 e2
      refine lv_iload_n hx hb dX3_oddsOf_4 rfl (lv_at hl 0 rfl) ?_
      refine lv_aload_n hx hb dX3_oddsOf_5 rfl (lv_at hl 2 rfl) ?_
      refine xget (ref := "LayeredChartersModel") (ci := 3) (v := .ref (ad 1)) (C := RX3) (T := TX3) (N := 9) F in_X3 hW hm rfl 0 (by decide) q1016 (fun _ h9 => h9) rfl dX3_oddsOf_6 ?_
      refine lv_iconst (v := 0) hx hb dX3_oddsOf_9 (by decide) ?_
      refine xild F hW hs (vp_in_nI (n := 0) (by omega) (by omega)) dX3_oddsOf_10 ?_
      refine lv_val (y := nI n) (hn0) ?_
      refine lv_icmp_ge (tgt := 37) hx hb dX3_oddsOf_11 (by decide) (fun _ => ?_) (fun c9 => absurd (nI_le (by omega) (by omega)) c9)
      refine lv_iload_n hx hb dX3_oddsOf_37 rfl (lv_at hl 1 rfl) ?_
      exact hend _ _ _ _ _ _ _ rfl dX3_oddsOf_38 (⟨congrArg (fun z : Int32 => some (Value.int z)) (rfl), rfl⟩) hS (Nat.zero_le _) (Nat.zero_le _)
    | succ nn ih4 =>
      intro i x3 x2 hn e2 e3  ls hl
      rw [e3, e2] at hl
      clear e3 e2
      refine lv_iload_n hx hb dX3_oddsOf_4 rfl (lv_at hl 0 rfl) ?_
      refine lv_aload_n hx hb dX3_oddsOf_5 rfl (lv_at hl 2 rfl) ?_
      refine xget (ref := "LayeredChartersModel") (ci := 3) (v := .ref (ad 1)) (C := RX3) (T := TX3) (N := 9) F in_X3 hW hm rfl 0 (by decide) q1016 (fun _ h9 => h9) rfl dX3_oddsOf_6 ?_
      refine lv_iconst (v := 0) hx hb dX3_oddsOf_9 (by decide) ?_
      refine xild F hW hs (vp_in_nI (n := 0) (by omega) (by omega)) dX3_oddsOf_10 ?_
      refine lv_val (y := nI n) (hn0) ?_
      refine lv_icmp_ge (tgt := 37) hx hb dX3_oddsOf_11 (by decide) (fun c9 => absurd c9 (nI_ge (by omega) (by omega))) (fun _ => ?_)
      refine lv_iload_n hx hb dX3_oddsOf_14 rfl (lv_at hl 1 rfl) ?_
      refine lv_aload_n hx hb dX3_oddsOf_15 rfl (lv_at hl 2 rfl) ?_
      refine lv_iload_n hx hb dX3_oddsOf_16 rfl (lv_at hl 3 rfl) ?_
      refine lv_iload_n hx hb dX3_oddsOf_17 rfl (lv_at hl 0 rfl) ?_
      refine run_ro (w := .int (b2i (oddsV (ruA f i0) (ruA f i)))) (rest := [.int (odM (ruA f) n i0 i)]) (kV F hW (metX3_areAtOdds l E H ad kept len told hm f hs i0 i (by omega) (by omega)) (lw_V q1158 q1160 qs32 q52 q1161) hdX3_areAtOdds ⟨Nat.le_of_ble_eq_true rfl, Nat.le_of_ble_eq_true rfl⟩ (recv hW hm rfl) hl.1 rfl (Nat.le_of_ble_eq_true rfl) dX3_oddsOf_18 ⟨Nat.le_of_ble_eq_true rfl, Nat.le_of_ble_eq_true rfl⟩) ?_
      refine lv_if_eq (tgt := 28) hx hb dX3_oddsOf_21 (by decide) (fun c_1 => ?_) (fun c_1 => ?_)
      · skip
        have bc_1 := c_1
        have c_1 := b2i_f c_1
        refine lv_iconst (v := 0) hx hb dX3_oddsOf_28 (by decide) ?_
        refine lv_iadd hx hb dX3_oddsOf_29 ?_
        refine lv_istore_n (lv' := [(2, .int ((odM (ruA f) n i0 i) + 0)), (3, .int (nI i)), (0, .ref (ad 0)), (1, .int (nI i0))]) hx hb dX3_oddsOf_30 rfl hl (by decide) rfl (fun ls hl => ?_)
        refine lv_iinc (v := nI (i + 1)) (lv' := [(3, .int (nI (i + 1))), (2, .int ((odM (ruA f) n i0 i) + 0)), (0, .ref (ad 0)), (1, .int (nI i0))]) hx hb dX3_oddsOf_31 hl (k := 1) rfl (nI_1 _) (by decide) rfl (fun ls hl => ?_)
        refine lv_goto (tgt := 4) hx hb dX3_oddsOf_34 (by decide) ?_
        exact ih4 (i + 1) _ _ (by omega) (by simp [b2i, odM_s, c_1]) rfl ls (lv_sub hl [0, 1, 2, 3] rfl)
      · skip
        have bc_1 := c_1
        have c_1 := b2i_t c_1
        refine lv_iconst (v := 1) hx hb dX3_oddsOf_24 (by decide) ?_
        refine lv_goto (tgt := 29) hx hb dX3_oddsOf_25 (by decide) ?_
        refine lv_iadd hx hb dX3_oddsOf_29 ?_
        refine lv_istore_n (lv' := [(2, .int ((odM (ruA f) n i0 i) + 1)), (3, .int (nI i)), (0, .ref (ad 0)), (1, .int (nI i0))]) hx hb dX3_oddsOf_30 rfl hl (by decide) rfl (fun ls hl => ?_)
        refine lv_iinc (v := nI (i + 1)) (lv' := [(3, .int (nI (i + 1))), (2, .int ((odM (ruA f) n i0 i) + 1)), (0, .ref (ad 0)), (1, .int (nI i0))]) hx hb dX3_oddsOf_31 hl (k := 1) rfl (nI_1 _) (by decide) rfl (fun ls hl => ?_)
        refine lv_goto (tgt := 4) hx hb dX3_oddsOf_34 (by decide) ?_
        exact ih4 (i + 1) _ _ (by omega) (by simp [b2i, odM_s, c_1]) rfl ls (lv_sub hl [0, 1, 2, 3] rfl)
  exact loop4 (n - 0) 0 _ _ (by omega) rfl rfl  ls (lv_sub hl [0, 1, 2, 3] rfl)

theorem hdX3_reason : Hd yX3_reason 3 := by decide +kernel
set_option maxHeartbeats 1000000 in
set_option maxRecDepth 100000 in
theorem metX3_reason (l : Launch) (E : EV) (H : Heap) (ad : Nat → Nat) (f hst sl z pd : Nat → Int32) (kept len told : Int32) (hM : MPx E ad f hst sl z pd kept len told H) (hT : TW E ad) (n : Nat) (hn0 : f 0 = nI n) (hn24 : n ≤ 24) (hv : ∀ i, i < n → vp_in (ruA f i).1 5) (c d rank : Int32) : Ct l yX3_reason cX3_reason 8 (some .int) 6 143 (0) (0) [.ref (ad 0), .int c, .int d, .int rank] E H (TA ad) (pI (fun r H1 => r = reasonM (ruA f) n c d rank ∧ MPx E ad f hst sl z pd kept len told H1)) := by
  obtain ⟨g, k0, k1, k2, k3, k4, k5, k6⟩ := hM
  refine Ct.ofZ (by decide) (Nat.le_of_ble_eq_true rfl) ?_
  intro p e s m bl mt cd ls Q hF hW hH hl hend
  obtain ⟨F, hin⟩ := hF
  have hx := F.1
  have hb := F.2.1
  have hts := F.2.2.2.2
  have hl : lv_has ls 8 [(0, .ref (ad 0)), (1, .int c), (2, .int d), (3, .int rank)] := hl
  have hS : va_S (TA ad) H H [] := va_S.rf
  refine lv_aload_n hx hb dX3_reason_0 rfl (lv_at hl 0 rfl) ?_
  refine lv_iload_n hx hb dX3_reason_1 rfl (lv_at hl 1 rfl) ?_
  refine lv_iload_n hx hb dX3_reason_2 rfl (lv_at hl 2 rfl) ?_
  refine run_chI (rest := []) (kV F hW (metX3_leastNow l E H ad f hst sl z pd kept len told ⟨_, k0, k1, k2, k3, k4, k5, k6⟩ hT n hn0 hn24 hv c d) (lw_V q1103 q1105 qs24 q52 q1106) hdX3_leastNow ⟨Nat.le_of_ble_eq_true rfl, Nat.le_of_ble_eq_true rfl⟩ (recv hW k0 rfl) hl.1 rfl (Nat.le_of_ble_eq_true rfl) dX3_reason_3 ⟨Nat.le_of_ble_eq_true rfl, Nat.le_of_ble_eq_true rfl⟩) hS (fun _ h9 => h9) (fun r_1 H_1 locs hp_1 hc_1 hS_1 => ?_)
  have hW_1 := hW.kept hc_1 hT.old
  obtain ⟨hr_1, hp_1⟩ := hp_1
  obtain ⟨g_2, ⟨k0_2, k1_2, k2_2, k3_2, k4_2, k5_2, k6_2⟩, hlsp⟩ := hp_1
  have hr_1 : r_1 = leastM (ruA f) n c d (-6) (-6) 0 := hr_1
  subst hr_1
  refine lv_istore (lv' := [(4, .int (leastM (ruA f) n c d (-6) (-6) 0)), (0, .ref (ad 0)), (1, .int c), (2, .int d), (3, .int rank)]) hx hb dX3_reason_6 hl (by decide) rfl (fun ls hl => ?_)
  refine lv_iload hx hb dX3_reason_8 (lv_at hl 0 rfl) ?_
  refine lv_bipush (v := 10) hx hb dX3_reason_10 (by decide) ?_
  refine lv_icmp_ne (tgt := 18) hx hb dX3_reason_12 (by decide) (fun c_3 => ?_) (fun c_3 => ?_)
  · skip
    have hle := c_3
    have hpm : pmM (ruA f) c d (-6) n = true := by
      cases h9 : pmM (ruA f) c d (-6) n with
      | true => rfl
      | false => exact absurd (by simp [leastM, h9]) hle
    have hls := hlsp hpm
    refine lv_bipush (v := (-6)) hx hb dX3_reason_18 (by decide) ?_
    refine lv_istore (lv' := [(5, .int (-6)), (4, .int (leastM (ruA f) n c d (-6) (-6) 0)), (0, .ref (ad 0)), (1, .int c), (2, .int d), (3, .int rank)]) hx hb dX3_reason_20 hl (by decide) rfl (fun ls hl => ?_)
    refine lv_aload_n hx hb dX3_reason_22 rfl (lv_at hl 2 rfl) ?_
    refine xget (ref := "LayeredChartersModel") (ci := 3) (v := .ref (ad 1)) (C := RX3) (T := TX3) (N := 9) F in_X3 hW_1 k0_2 rfl 0 (by decide) q1016 (fun _ h9 => h9) rfl dX3_reason_23 ?_
    refine lv_iconst (v := 0) hx hb dX3_reason_26 (by decide) ?_
    refine xild F hW_1 k1_2 (vp_in_nI (n := 0) (by omega) (by omega)) dX3_reason_27 ?_
    refine lv_val (y := nI n) (hn0) ?_
    refine lv_iconst (v := 1) hx hb dX3_reason_28 (by decide) ?_
    refine lv_isub hx hb dX3_reason_29 ?_
    refine lv_istore (lv' := [(6, .int ((nI n) - 1)), (5, .int (-6)), (4, .int (leastM (ruA f) n c d (-6) (-6) 0)), (0, .ref (ad 0)), (1, .int c), (2, .int d), (3, .int rank)]) hx hb dX3_reason_30 hl (by decide) rfl (fun ls hl => ?_)
    by_cases hrl : leastM (ruA f) n c d (-6) (-6) 0 ≤ rank
    · skip
      refine lv_iload hx hb dX3_reason_32 (lv_at hl 0 rfl) ?_
      refine lv_if_lt (tgt := 149) hx hb dX3_reason_34 (by decide) (fun c_4 => ?_) (fun c_4 => ?_)
      · skip
        refine lv_iload hx hb dX3_reason_149 (lv_at hl 1 rfl) ?_
        exact hend _ _ _ _ _ _ _ rfl dX3_reason_151 (⟨_, rfl, by simp [reasonM, hle, hrl], ⟨_, k0_2, k1_2, k2_2, k3_2, k4_2, k5_2, k6_2⟩⟩) hS_1 (Nat.zero_le _) (Nat.zero_le _)
      · skip
        refine lv_iload_n hx hb dX3_reason_37 rfl (lv_at hl 6 rfl) ?_
        refine lv_iload hx hb dX3_reason_38 (lv_at hl 2 rfl) ?_
        refine lv_icmp_ge (tgt := 149) hx hb dX3_reason_40 (by decide) (fun _ => ?_) (fun c9 => absurd hrl c9)
        refine lv_iload hx hb dX3_reason_149 (lv_at hl 1 rfl) ?_
        exact hend _ _ _ _ _ _ _ rfl dX3_reason_151 (⟨_, rfl, by simp [reasonM, hle, hrl], ⟨_, k0_2, k1_2, k2_2, k3_2, k4_2, k5_2, k6_2⟩⟩) hS_1 (Nat.zero_le _) (Nat.zero_le _)
    have hcr : nI n - 1 = nI (n - 0) - 1 := rfl
    have loop32 : ∀ (nn i : Nat) (x6 x5 : Int32), i + nn = n → x5 = rsM (ruA f) n c d rank (lsM (ruA f) n c d (-6) (-6) 0) i → x6 = nI (n - i) - 1 → ∀ ls : Array Slot, lv_has ls 8 [(6, .int x6), (5, .int x5), (0, .ref (ad 0)), (1, .int c), (2, .int d), (3, .int rank), (4, .int (leastM (ruA f) n c d (-6) (-6) 0))] → W p l e ({ frames := 6, cells := 0, slots := 0, locals := 143 } : Room) s m ([.ref (ad 0), .int c, .int d, .int rank] : List Value).toArray bl mt cd H_1 locs 0 0 Q (F0 m 32 ls []) := by
      intro nn
      induction nn with
      | zero =>
        intro i x6 x5 hn e5 e6  ls hl
        have hiN : i = n := by omega
        rw [hiN] at e6
        try rw [hiN] at e5
        rw [e6, e5] at hl
        clear e6 e5
        refine lv_iload hx hb dX3_reason_32 (lv_at hl 0 rfl) ?_
        refine lv_if_lt (tgt := 149) hx hb dX3_reason_34 (by decide) (fun _ => ?_) (fun c9 => absurd (by rw [Nat.sub_self]; decide : nI (n - n) - 1 < 0) c9)
        refine lv_iload hx hb dX3_reason_149 (lv_at hl 1 rfl) ?_
        exact hend _ _ _ _ _ _ _ rfl dX3_reason_151 (⟨_, rfl, by simp [reasonM, hle, hrl], ⟨_, k0_2, k1_2, k2_2, k3_2, k4_2, k5_2, k6_2⟩⟩) hS_1 (Nat.zero_le _) (Nat.zero_le _)
      | succ nn ih32 =>
        intro i x6 x5 hn e5 e6  ls hl
        rw [e6, e5] at hl
        clear e6 e5
        rw [dn_step (n := n) (i := i) (by omega)] at hl
        refine lv_iload hx hb dX3_reason_32 (lv_at hl 0 rfl) ?_
        refine lv_if_lt (tgt := 149) hx hb dX3_reason_34 (by decide) (fun c9 => absurd c9 (nI_pos (by omega))) (fun _ => ?_)
        refine lv_iload_n hx hb dX3_reason_37 rfl (lv_at hl 5 rfl) ?_
        refine lv_iload hx hb dX3_reason_38 (lv_at hl 6 rfl) ?_
        refine lv_icmp_ge (tgt := 149) hx hb dX3_reason_40 (by decide) (fun c9 => absurd c9 hrl) (fun _ => ?_)
        refine lv_aload_n hx hb dX3_reason_43 rfl (lv_at hl 2 rfl) ?_
        refine lv_iload hx hb dX3_reason_44 (lv_at hl 0 rfl) ?_
        refine lv_iconst (v := 1) hx hb dX3_reason_46 (by decide) ?_
        refine run_ro (w := .int ((ruA f (n - 1 - i)).2.1)) (rest := []) (kV F hW_1 (metX3_of l E H_1 ad kept len told k0_2 f k1_2 (nI (n - 1 - i)) 1 (9 + 5 * (n - 1 - i) + 1) (at1 _) (by omega)) (lw_V q1087 q1089 qs21 q52 q1090) hdX3_of ⟨Nat.le_of_ble_eq_true rfl, Nat.le_of_ble_eq_true rfl⟩ (recv hW_1 k0_2 rfl) hl.1 rfl (Nat.le_of_ble_eq_true rfl) dX3_reason_47 ⟨Nat.le_of_ble_eq_true rfl, Nat.le_of_ble_eq_true rfl⟩) ?_
        refine lv_iconst (v := 1) hx hb dX3_reason_50 (by decide) ?_
        refine lv_icmp_ne (tgt := 102) hx hb dX3_reason_51 (by decide) (fun c_5 => ?_) (fun c_5 => ?_)
        · skip
          refine lv_iconst (v := 0) hx hb dX3_reason_102 (by decide) ?_
          refine lv_istore (lv' := [(7, .int 0), (6, .int (nI (n - 1 - i))), (5, .int (rsM (ruA f) n c d rank (lsM (ruA f) n c d (-6) (-6) 0) i)), (0, .ref (ad 0)), (1, .int c), (2, .int d), (3, .int rank), (4, .int (leastM (ruA f) n c d (-6) (-6) 0))]) hx hb dX3_reason_103 hl (by decide) rfl (fun ls hl => ?_)
          refine lv_iload hx hb dX3_reason_105 (lv_at hl 0 rfl) ?_
          refine lv_if_eq (tgt := 139) hx hb dX3_reason_107 (by decide) (fun _ => ?_) (fun c9 => absurd (by decide) c9)
          refine lv_iload hx hb dX3_reason_139 (lv_at hl 2 rfl) ?_
          refine lv_istore (lv' := [(5, .int (rsM (ruA f) n c d rank (lsM (ruA f) n c d (-6) (-6) 0) i)), (7, .int 0), (6, .int (nI (n - 1 - i))), (0, .ref (ad 0)), (1, .int c), (2, .int d), (3, .int rank), (4, .int (leastM (ruA f) n c d (-6) (-6) 0))]) hx hb dX3_reason_141 hl (by decide) rfl (fun ls hl => ?_)
          refine lv_iinc (v := (nI (n - 1 - i)) + (-1)) (lv' := [(6, .int ((nI (n - 1 - i)) + (-1))), (5, .int (rsM (ruA f) n c d rank (lsM (ruA f) n c d (-6) (-6) 0) i)), (7, .int 0), (0, .ref (ad 0)), (1, .int c), (2, .int d), (3, .int rank), (4, .int (leastM (ruA f) n c d (-6) (-6) 0))]) hx hb dX3_reason_143 hl (k := 2) rfl rfl (by decide) rfl (fun ls hl => ?_)
          refine lv_goto (tgt := 32) hx hb dX3_reason_146 (by decide) ?_
          exact ih32 (i + 1) _ _ (by omega) (by simp only [rsM_s, rsst]; simp [c_5]) (dn_next (by omega)) ls (lv_sub hl [0, 1, 3, 4, 5, 6, 7] rfl)
        · skip
          refine lv_aload_n hx hb dX3_reason_54 rfl (lv_at hl 2 rfl) ?_
          refine lv_iload hx hb dX3_reason_55 (lv_at hl 0 rfl) ?_
          refine lv_iload_n hx hb dX3_reason_57 rfl (lv_at hl 3 rfl) ?_
          refine lv_iload_n hx hb dX3_reason_58 rfl (lv_at hl 4 rfl) ?_
          refine run_ro (w := .int (b2i (fitsV (ruA f (n - 1 - i)) c d))) (rest := []) (kV F hW_1 (metX3_fits l E H_1 ad kept len told k0_2 f k1_2 (n - 1 - i) (by omega) c d) (lw_V q1115 q1117 qs27 q52 q1118) hdX3_fits ⟨Nat.le_of_ble_eq_true rfl, Nat.le_of_ble_eq_true rfl⟩ (recv hW_1 k0_2 rfl) hl.1 rfl (Nat.le_of_ble_eq_true rfl) dX3_reason_59 ⟨Nat.le_of_ble_eq_true rfl, Nat.le_of_ble_eq_true rfl⟩) ?_
          refine lv_if_eq (tgt := 102) hx hb dX3_reason_62 (by decide) (fun c_6 => ?_) (fun c_6 => ?_)
          · skip
            have bc_6 := c_6
            have c_6 := b2i_f c_6
            refine lv_iconst (v := 0) hx hb dX3_reason_102 (by decide) ?_
            refine lv_istore (lv' := [(7, .int 0), (6, .int (nI (n - 1 - i))), (5, .int (rsM (ruA f) n c d rank (lsM (ruA f) n c d (-6) (-6) 0) i)), (0, .ref (ad 0)), (1, .int c), (2, .int d), (3, .int rank), (4, .int (leastM (ruA f) n c d (-6) (-6) 0))]) hx hb dX3_reason_103 hl (by decide) rfl (fun ls hl => ?_)
            refine lv_iload hx hb dX3_reason_105 (lv_at hl 0 rfl) ?_
            refine lv_if_eq (tgt := 139) hx hb dX3_reason_107 (by decide) (fun _ => ?_) (fun c9 => absurd (by decide) c9)
            refine lv_iload hx hb dX3_reason_139 (lv_at hl 2 rfl) ?_
            refine lv_istore (lv' := [(5, .int (rsM (ruA f) n c d rank (lsM (ruA f) n c d (-6) (-6) 0) i)), (7, .int 0), (6, .int (nI (n - 1 - i))), (0, .ref (ad 0)), (1, .int c), (2, .int d), (3, .int rank), (4, .int (leastM (ruA f) n c d (-6) (-6) 0))]) hx hb dX3_reason_141 hl (by decide) rfl (fun ls hl => ?_)
            refine lv_iinc (v := (nI (n - 1 - i)) + (-1)) (lv' := [(6, .int ((nI (n - 1 - i)) + (-1))), (5, .int (rsM (ruA f) n c d rank (lsM (ruA f) n c d (-6) (-6) 0) i)), (7, .int 0), (0, .ref (ad 0)), (1, .int c), (2, .int d), (3, .int rank), (4, .int (leastM (ruA f) n c d (-6) (-6) 0))]) hx hb dX3_reason_143 hl (k := 2) rfl rfl (by decide) rfl (fun ls hl => ?_)
            refine lv_goto (tgt := 32) hx hb dX3_reason_146 (by decide) ?_
            exact ih32 (i + 1) _ _ (by omega) (by simp only [rsM_s, rsst]; simp [c_5, c_6]) (dn_next (by omega)) ls (lv_sub hl [0, 1, 3, 4, 5, 6, 7] rfl)
          · skip
            have bc_6 := c_6
            have c_6 := b2i_t c_6
            refine lv_aload_n hx hb dX3_reason_65 rfl (lv_at hl 2 rfl) ?_
            refine xget (ref := "LayeredChartersModel") (ci := 3) (v := .ref (ad 6)) (C := RX3) (T := TX3) (N := 9) F in_X3 hW_1 k0_2 rfl 7 (by decide) q1023 (fun _ h9 => h9) rfl dX3_reason_66 ?_
            refine lv_aload_n hx hb dX3_reason_69 rfl (lv_at hl 2 rfl) ?_
            refine lv_iload hx hb dX3_reason_70 (lv_at hl 0 rfl) ?_
            refine lv_iconst (v := 0) hx hb dX3_reason_72 (by decide) ?_
            refine run_ro (w := .int ((ruA f (n - 1 - i)).1)) (rest := [.ref (ad 6)]) (kV F hW_1 (metX3_of l E H_1 ad kept len told k0_2 f k1_2 (nI (n - 1 - i)) 0 (9 + 5 * (n - 1 - i)) (at0 _) (by omega)) (lw_V q1087 q1089 qs21 q52 q1090) hdX3_of ⟨Nat.le_of_ble_eq_true rfl, Nat.le_of_ble_eq_true rfl⟩ (recv hW_1 k0_2 rfl) hl.1 rfl (Nat.le_of_ble_eq_true rfl) dX3_reason_73 ⟨Nat.le_of_ble_eq_true rfl, Nat.le_of_ble_eq_true rfl⟩) ?_
            refine xild F hW_1 k6_2 (hv (n - 1 - i) (by omega)) dX3_reason_76 ?_
            refine lv_val (y := (lsM (ruA f) n c d (-6) (-6) 0) (ix (ruA f (n - 1 - i)).1)) (hls _ (vin_lt (hv _ (by omega)))) ?_
            refine lv_aload_n hx hb dX3_reason_77 rfl (lv_at hl 2 rfl) ?_
            refine lv_iload hx hb dX3_reason_78 (lv_at hl 0 rfl) ?_
            refine lv_iconst (v := 4) hx hb dX3_reason_80 (by decide) ?_
            refine run_ro (w := .int ((ruA f (n - 1 - i)).2.2.2.2)) (rest := [.int ((lsM (ruA f) n c d (-6) (-6) 0) (ix (ruA f (n - 1 - i)).1))]) (kV F hW_1 (metX3_of l E H_1 ad kept len told k0_2 f k1_2 (nI (n - 1 - i)) 4 (9 + 5 * (n - 1 - i) + 4) (at4 _) (by omega)) (lw_V q1087 q1089 qs21 q52 q1090) hdX3_of ⟨Nat.le_of_ble_eq_true rfl, Nat.le_of_ble_eq_true rfl⟩ (recv hW_1 k0_2 rfl) hl.1 rfl (Nat.le_of_ble_eq_true rfl) dX3_reason_81 ⟨Nat.le_of_ble_eq_true rfl, Nat.le_of_ble_eq_true rfl⟩) ?_
            refine lv_icmp_ge (tgt := 102) hx hb dX3_reason_84 (by decide) (fun c_7 => ?_) (fun c_7 => ?_)
            · skip
              refine lv_iconst (v := 0) hx hb dX3_reason_102 (by decide) ?_
              refine lv_istore (lv' := [(7, .int 0), (6, .int (nI (n - 1 - i))), (5, .int (rsM (ruA f) n c d rank (lsM (ruA f) n c d (-6) (-6) 0) i)), (0, .ref (ad 0)), (1, .int c), (2, .int d), (3, .int rank), (4, .int (leastM (ruA f) n c d (-6) (-6) 0))]) hx hb dX3_reason_103 hl (by decide) rfl (fun ls hl => ?_)
              refine lv_iload hx hb dX3_reason_105 (lv_at hl 0 rfl) ?_
              refine lv_if_eq (tgt := 139) hx hb dX3_reason_107 (by decide) (fun _ => ?_) (fun c9 => absurd (by decide) c9)
              refine lv_iload hx hb dX3_reason_139 (lv_at hl 2 rfl) ?_
              refine lv_istore (lv' := [(5, .int (rsM (ruA f) n c d rank (lsM (ruA f) n c d (-6) (-6) 0) i)), (7, .int 0), (6, .int (nI (n - 1 - i))), (0, .ref (ad 0)), (1, .int c), (2, .int d), (3, .int rank), (4, .int (leastM (ruA f) n c d (-6) (-6) 0))]) hx hb dX3_reason_141 hl (by decide) rfl (fun ls hl => ?_)
              refine lv_iinc (v := (nI (n - 1 - i)) + (-1)) (lv' := [(6, .int ((nI (n - 1 - i)) + (-1))), (5, .int (rsM (ruA f) n c d rank (lsM (ruA f) n c d (-6) (-6) 0) i)), (7, .int 0), (0, .ref (ad 0)), (1, .int c), (2, .int d), (3, .int rank), (4, .int (leastM (ruA f) n c d (-6) (-6) 0))]) hx hb dX3_reason_143 hl (k := 2) rfl rfl (by decide) rfl (fun ls hl => ?_)
              refine lv_goto (tgt := 32) hx hb dX3_reason_146 (by decide) ?_
              exact ih32 (i + 1) _ _ (by omega) (by simp only [rsM_s, rsst]; simp [c_5, c_6, c_7]) (dn_next (by omega)) ls (lv_sub hl [0, 1, 3, 4, 5, 6, 7] rfl)
            · skip
              refine lv_iload_n hx hb dX3_reason_87 rfl (lv_at hl 5 rfl) ?_
              refine lv_aload_n hx hb dX3_reason_88 rfl (lv_at hl 2 rfl) ?_
              refine lv_iload hx hb dX3_reason_89 (lv_at hl 0 rfl) ?_
              refine lv_iconst (v := 4) hx hb dX3_reason_91 (by decide) ?_
              refine run_ro (w := .int ((ruA f (n - 1 - i)).2.2.2.2)) (rest := [.int rank]) (kV F hW_1 (metX3_of l E H_1 ad kept len told k0_2 f k1_2 (nI (n - 1 - i)) 4 (9 + 5 * (n - 1 - i) + 4) (at4 _) (by omega)) (lw_V q1087 q1089 qs21 q52 q1090) hdX3_of ⟨Nat.le_of_ble_eq_true rfl, Nat.le_of_ble_eq_true rfl⟩ (recv hW_1 k0_2 rfl) hl.1 rfl (Nat.le_of_ble_eq_true rfl) dX3_reason_92 ⟨Nat.le_of_ble_eq_true rfl, Nat.le_of_ble_eq_true rfl⟩) ?_
              refine lv_icmp_ge (tgt := 102) hx hb dX3_reason_95 (by decide) (fun c_8 => ?_) (fun c_8 => ?_)
              · skip
                refine lv_iconst (v := 0) hx hb dX3_reason_102 (by decide) ?_
                refine lv_istore (lv' := [(7, .int 0), (6, .int (nI (n - 1 - i))), (5, .int (rsM (ruA f) n c d rank (lsM (ruA f) n c d (-6) (-6) 0) i)), (0, .ref (ad 0)), (1, .int c), (2, .int d), (3, .int rank), (4, .int (leastM (ruA f) n c d (-6) (-6) 0))]) hx hb dX3_reason_103 hl (by decide) rfl (fun ls hl => ?_)
                refine lv_iload hx hb dX3_reason_105 (lv_at hl 0 rfl) ?_
                refine lv_if_eq (tgt := 139) hx hb dX3_reason_107 (by decide) (fun _ => ?_) (fun c9 => absurd (by decide) c9)
                refine lv_iload hx hb dX3_reason_139 (lv_at hl 2 rfl) ?_
                refine lv_istore (lv' := [(5, .int (rsM (ruA f) n c d rank (lsM (ruA f) n c d (-6) (-6) 0) i)), (7, .int 0), (6, .int (nI (n - 1 - i))), (0, .ref (ad 0)), (1, .int c), (2, .int d), (3, .int rank), (4, .int (leastM (ruA f) n c d (-6) (-6) 0))]) hx hb dX3_reason_141 hl (by decide) rfl (fun ls hl => ?_)
                refine lv_iinc (v := (nI (n - 1 - i)) + (-1)) (lv' := [(6, .int ((nI (n - 1 - i)) + (-1))), (5, .int (rsM (ruA f) n c d rank (lsM (ruA f) n c d (-6) (-6) 0) i)), (7, .int 0), (0, .ref (ad 0)), (1, .int c), (2, .int d), (3, .int rank), (4, .int (leastM (ruA f) n c d (-6) (-6) 0))]) hx hb dX3_reason_143 hl (k := 2) rfl rfl (by decide) rfl (fun ls hl => ?_)
                refine lv_goto (tgt := 32) hx hb dX3_reason_146 (by decide) ?_
                exact ih32 (i + 1) _ _ (by omega) (by simp only [rsM_s, rsst]; simp [c_5, c_6, c_7, c_8]) (dn_next (by omega)) ls (lv_sub hl [0, 1, 3, 4, 5, 6, 7] rfl)
              · skip
                refine lv_iconst (v := 1) hx hb dX3_reason_98 (by decide) ?_
                refine lv_goto (tgt := 103) hx hb dX3_reason_99 (by decide) ?_
                refine lv_istore (lv' := [(7, .int 1), (6, .int (nI (n - 1 - i))), (5, .int (rsM (ruA f) n c d rank (lsM (ruA f) n c d (-6) (-6) 0) i)), (0, .ref (ad 0)), (1, .int c), (2, .int d), (3, .int rank), (4, .int (leastM (ruA f) n c d (-6) (-6) 0))]) hx hb dX3_reason_103 hl (by decide) rfl (fun ls hl => ?_)
                refine lv_iload hx hb dX3_reason_105 (lv_at hl 0 rfl) ?_
                refine lv_if_eq (tgt := 139) hx hb dX3_reason_107 (by decide) (fun c9 => absurd c9 (by decide)) (fun _ => ?_)
                refine lv_iload hx hb dX3_reason_110 (lv_at hl 2 rfl) ?_
                refine lv_bipush (v := (-6)) hx hb dX3_reason_112 (by decide) ?_
                refine lv_icmp_eq (tgt := 134) hx hb dX3_reason_114 (by decide) (fun c_9 => ?_) (fun c_9 => ?_)
                · skip
                  refine lv_iload hx hb dX3_reason_134 (lv_at hl 1 rfl) ?_
                  refine lv_goto (tgt := 141) hx hb dX3_reason_136 (by decide) ?_
                  refine lv_istore (lv' := [(5, .int (nI (n - 1 - i))), (7, .int 1), (6, .int (nI (n - 1 - i))), (0, .ref (ad 0)), (1, .int c), (2, .int d), (3, .int rank), (4, .int (leastM (ruA f) n c d (-6) (-6) 0))]) hx hb dX3_reason_141 hl (by decide) rfl (fun ls hl => ?_)
                  refine lv_iinc (v := (nI (n - 1 - i)) + (-1)) (lv' := [(6, .int ((nI (n - 1 - i)) + (-1))), (5, .int (nI (n - 1 - i))), (7, .int 1), (0, .ref (ad 0)), (1, .int c), (2, .int d), (3, .int rank), (4, .int (leastM (ruA f) n c d (-6) (-6) 0))]) hx hb dX3_reason_143 hl (k := 2) rfl rfl (by decide) rfl (fun ls hl => ?_)
                  refine lv_goto (tgt := 32) hx hb dX3_reason_146 (by decide) ?_
                  exact ih32 (i + 1) _ _ (by omega) (by simp only [rsM_s, rsst]; simp [c_5, c_6, c_7, c_8, c_9]) (dn_next (by omega)) ls (lv_sub hl [0, 1, 3, 4, 5, 6, 7] rfl)
                · skip
                  refine lv_aload_n hx hb dX3_reason_117 rfl (lv_at hl 3 rfl) ?_
                  refine lv_iload hx hb dX3_reason_118 (lv_at hl 1 rfl) ?_
                  refine lv_iconst (v := 0) hx hb dX3_reason_120 (by decide) ?_
                  refine run_ro (w := .int ((ruA f (n - 1 - i)).1)) (rest := []) (kV F hW_1 (metX3_of l E H_1 ad kept len told k0_2 f k1_2 (nI (n - 1 - i)) 0 (9 + 5 * (n - 1 - i)) (at0 _) (by omega)) (lw_V q1087 q1089 qs21 q52 q1090) hdX3_of ⟨Nat.le_of_ble_eq_true rfl, Nat.le_of_ble_eq_true rfl⟩ (recv hW_1 k0_2 rfl) hl.1 rfl (Nat.le_of_ble_eq_true rfl) dX3_reason_121 ⟨Nat.le_of_ble_eq_true rfl, Nat.le_of_ble_eq_true rfl⟩) ?_
                  refine lv_aload_n hx hb dX3_reason_124 rfl (lv_at hl 3 rfl) ?_
                  refine lv_iload hx hb dX3_reason_125 (lv_at hl 2 rfl) ?_
                  refine lv_iconst (v := 0) hx hb dX3_reason_127 (by decide) ?_
                  obtain ⟨q_10, hq_10, eq_10⟩ := (rsM_in (ru := ruA f) (c := c) (d := d) (rank := rank) (G := lsM (ruA f) n c d (-6) (-6) 0) i (by omega)).resolve_left c_9
                  have ex_10 : ix (rsM (ruA f) n c d rank (lsM (ruA f) n c d (-6) (-6) 0) i) = q_10 := by rw [eq_10]; exact ix_nI (by omega)
                  refine run_ro (w := .int ((ruA f q_10).1)) (rest := [.int ((ruA f (n - 1 - i)).1)]) (kV F hW_1 (metX3_of l E H_1 ad kept len told k0_2 f k1_2 _ 0 (9 + 5 * q_10) (by rw [eq_10]; exact at0 _) (by omega)) (lw_V q1087 q1089 qs21 q52 q1090) hdX3_of ⟨Nat.le_of_ble_eq_true rfl, Nat.le_of_ble_eq_true rfl⟩ (recv hW_1 k0_2 rfl) hl.1 rfl (Nat.le_of_ble_eq_true rfl) dX3_reason_128 ⟨Nat.le_of_ble_eq_true rfl, Nat.le_of_ble_eq_true rfl⟩) ?_
                  refine lv_icmp_gt (tgt := 139) hx hb dX3_reason_131 (by decide) (fun c_11 => ?_) (fun c_11 => ?_)
                  · skip
                    refine lv_iload hx hb dX3_reason_139 (lv_at hl 2 rfl) ?_
                    refine lv_istore (lv' := [(5, .int (rsM (ruA f) n c d rank (lsM (ruA f) n c d (-6) (-6) 0) i)), (7, .int 1), (6, .int (nI (n - 1 - i))), (0, .ref (ad 0)), (1, .int c), (2, .int d), (3, .int rank), (4, .int (leastM (ruA f) n c d (-6) (-6) 0))]) hx hb dX3_reason_141 hl (by decide) rfl (fun ls hl => ?_)
                    refine lv_iinc (v := (nI (n - 1 - i)) + (-1)) (lv' := [(6, .int ((nI (n - 1 - i)) + (-1))), (5, .int (rsM (ruA f) n c d rank (lsM (ruA f) n c d (-6) (-6) 0) i)), (7, .int 1), (0, .ref (ad 0)), (1, .int c), (2, .int d), (3, .int rank), (4, .int (leastM (ruA f) n c d (-6) (-6) 0))]) hx hb dX3_reason_143 hl (k := 2) rfl rfl (by decide) rfl (fun ls hl => ?_)
                    refine lv_goto (tgt := 32) hx hb dX3_reason_146 (by decide) ?_
                    exact ih32 (i + 1) _ _ (by omega) (by simp only [rsM_s, rsst]; simp [c_5, c_6, c_7, c_8, c_9, ex_10, c_11]) (dn_next (by omega)) ls (lv_sub hl [0, 1, 3, 4, 5, 6, 7] rfl)
                  · skip
                    refine lv_iload hx hb dX3_reason_134 (lv_at hl 1 rfl) ?_
                    refine lv_goto (tgt := 141) hx hb dX3_reason_136 (by decide) ?_
                    refine lv_istore (lv' := [(5, .int (nI (n - 1 - i))), (7, .int 1), (6, .int (nI (n - 1 - i))), (0, .ref (ad 0)), (1, .int c), (2, .int d), (3, .int rank), (4, .int (leastM (ruA f) n c d (-6) (-6) 0))]) hx hb dX3_reason_141 hl (by decide) rfl (fun ls hl => ?_)
                    refine lv_iinc (v := (nI (n - 1 - i)) + (-1)) (lv' := [(6, .int ((nI (n - 1 - i)) + (-1))), (5, .int (nI (n - 1 - i))), (7, .int 1), (0, .ref (ad 0)), (1, .int c), (2, .int d), (3, .int rank), (4, .int (leastM (ruA f) n c d (-6) (-6) 0))]) hx hb dX3_reason_143 hl (k := 2) rfl rfl (by decide) rfl (fun ls hl => ?_)
                    refine lv_goto (tgt := 32) hx hb dX3_reason_146 (by decide) ?_
                    exact ih32 (i + 1) _ _ (by omega) (by simp only [rsM_s, rsst]; simp [c_5, c_6, c_7, c_8, c_9, ex_10, c_11]) (dn_next (by omega)) ls (lv_sub hl [0, 1, 3, 4, 5, 6, 7] rfl)
    exact loop32 (n - 0) 0 _ _ (by omega) rfl hcr  ls (lv_sub hl [0, 1, 3, 4, 5, 6, 2] rfl)
  · skip
    refine lv_bipush (v := 100) hx hb dX3_reason_15 (by decide) ?_
    exact hend _ _ _ _ _ _ _ rfl dX3_reason_17 (⟨_, rfl, by simp [reasonM, c_3], ⟨_, k0_2, k1_2, k2_2, k3_2, k4_2, k5_2, k6_2⟩⟩) hS_1 (Nat.zero_le _) (Nat.zero_le _)

theorem hdX3_isMember : Hd yX3_isMember 1 := by decide +kernel
set_option maxHeartbeats 1000000 in
set_option maxRecDepth 100000 in
theorem metX3_isMember (l : Launch) (E : EV) (H : Heap) (ad : Nat → Nat) (kept len told : Int32) (hm : oat E (ad 0) 3 (mfs ad kept len told) H) (f : Nat → Int32) (hs : iat E (ad 1) 0 169 f H) (mm : Nat) (hm1 : f 1 = nI mm) (j : Int32) : Ro l yX3_isMember cX3_isMember 2 (some .boolean) 1 22 [.ref (ad 0), .int j] E H (some (.int (b2i (inR j 0 (nI mm - 1))))) := by
  refine Ct.ofZ (by decide) (Nat.le_of_ble_eq_true rfl) ?_
  intro p e s m bl mt cd ls Q hF hW hH hl hend
  obtain ⟨F, hin⟩ := hF
  have hx := F.1
  have hb := F.2.1
  have hts := F.2.2.2.2
  have hl : lv_has ls 2 [(0, .ref (ad 0)), (1, .int j)] := hl
  have hS : va_S (fun _ => False) H H [] := va_S.rf
  refine lv_iload_n hx hb dX3_isMember_0 rfl (lv_at hl 1 rfl) ?_
  refine lv_iconst (v := 0) hx hb dX3_isMember_1 (by decide) ?_
  refine lv_aload_n hx hb dX3_isMember_2 rfl (lv_at hl 0 rfl) ?_
  refine xget (ref := "LayeredChartersModel") (ci := 3) (v := .ref (ad 1)) (C := RX3) (T := TX3) (N := 9) F in_X3 hW hm rfl 0 (by decide) q1016 (fun _ h9 => h9) rfl dX3_isMember_3 ?_
  refine lv_iconst (v := 1) hx hb dX3_isMember_6 (by decide) ?_
  refine xild F hW hs (vp_in_nI (n := 1) (by omega) (by omega)) dX3_isMember_7 ?_
  refine lv_val (y := nI mm) (hm1) ?_
  refine lv_iconst (v := 1) hx hb dX3_isMember_8 (by decide) ?_
  refine lv_isub hx hb dX3_isMember_9 ?_
  refine run_ro (w := .int (b2i (inR j 0 ((nI mm) - 1)))) (rest := []) (kS F hW (metX3_in l E H j 0 ((nI mm) - 1)) (lw_S q1049 q1050 q52 q1051) hdX3_in ⟨Nat.le_of_ble_eq_true rfl, Nat.le_of_ble_eq_true rfl⟩ hl.1 rfl (Nat.le_of_ble_eq_true rfl) dX3_isMember_10 ⟨Nat.le_of_ble_eq_true rfl, Nat.le_of_ble_eq_true rfl⟩) ?_
  exact hend _ _ _ _ _ _ _ (b2i_nar _) dX3_isMember_13 (⟨congrArg (fun z : Int32 => some (Value.int z)) (rfl), rfl⟩) hS (Nat.zero_le _) (Nat.zero_le _)

theorem hdX3_mayDo : Hd yX3_mayDo 1 := by decide +kernel
set_option maxHeartbeats 1000000 in
set_option maxRecDepth 100000 in
theorem metX3_mayDo (l : Launch) (E : EV) (H : Heap) (ad : Nat → Nat) (f hst sl z pd : Nat → Int32) (kept len told : Int32) (hM : MPx E ad f hst sl z pd kept len told H) (hT : TW E ad) (n : Nat) (hn0 : f 0 = nI n) (hn24 : n ≤ 24) (hv : ∀ i, i < n → vp_in (ruA f i).1 5) (mm : Nat) (hm1 : f 1 = nI mm) (hm10 : mm ≤ 10) (j : Nat) (hj : j < mm) : Ct l yX3_mayDo cX3_mayDo 4 (some .int) 6 143 (0) (0) [.ref (ad 0), .int (nI j)] E H (TA ad) (pI (fun r H1 => r = mdM (ruA f) n (f (129 + 4 * j)) (f (129 + 4 * j + 1)) 6 ∧ MPx E ad f hst sl z pd kept len told H1)) := by
  obtain ⟨g, k0, k1, k2, k3, k4, k5, k6⟩ := hM
  refine Ct.ofZ (by decide) (Nat.le_of_ble_eq_true rfl) ?_
  intro p e s m bl mt cd ls Q hF hW hH hl hend
  obtain ⟨F, hin⟩ := hF
  have hx := F.1
  have hb := F.2.1
  have hts := F.2.2.2.2
  have hl : lv_has ls 4 [(0, .ref (ad 0)), (1, .int (nI j))] := hl
  have hS : va_S (TA ad) H H [] := va_S.rf
  refine lv_iconst (v := 0) hx hb dX3_mayDo_0 (by decide) ?_
  refine lv_istore_n (lv' := [(2, .int 0), (0, .ref (ad 0)), (1, .int (nI j))]) hx hb dX3_mayDo_1 rfl hl (by decide) rfl (fun ls hl => ?_)
  refine lv_iconst (v := 0) hx hb dX3_mayDo_2 (by decide) ?_
  refine lv_istore_n (lv' := [(3, .int 0), (2, .int 0), (0, .ref (ad 0)), (1, .int (nI j))]) hx hb dX3_mayDo_3 rfl hl (by decide) rfl (fun ls hl => ?_)
  have loop4 : ∀ (nn i : Nat) (x3 x2 : Int32), i + nn = 6 → x2 = mdM (ruA f) n (f (129 + 4 * j)) (f (129 + 4 * j + 1)) i → x3 = nI i → ∀ (Hl_4 : Heap) (locs : List Loc), va_S (TA ad) H Hl_4 locs → WK E s Hl_4 → MPx E ad f hst sl z pd kept len told Hl_4 → ∀ ls : Array Slot, lv_has ls 4 [(3, .int x3), (2, .int x2), (0, .ref (ad 0)), (1, .int (nI j))] → W p l e ({ frames := 6, cells := 0, slots := 0, locals := 143 } : Room) s m ([.ref (ad 0), .int (nI j)] : List Value).toArray bl mt cd Hl_4 locs 0 0 Q (F0 m 4 ls []) := by
    intro nn
    induction nn with
    | zero =>
      intro i x3 x2 hn e2 e3 Hl_4 locs hS_4 hW_4 hl_4 ls hl
      have hiN : i = 6 := by omega
      rw [hiN] at e3
      try rw [hiN] at e2
      try rw [hiN] at hl_4
      rw [e3, e2] at hl
      clear e3 e2
      obtain ⟨g_1, k0_1, k1_1, k2_1, k3_1, k4_1, k5_1, k6_1⟩ := hl_4
      refine lv_iload_n hx hb dX3_mayDo_4 rfl (lv_at hl 0 rfl) ?_
      refine lv_bipush (v := 6) hx hb dX3_mayDo_5 (by decide) ?_
      refine lv_icmp_ge (tgt := 54) hx hb dX3_mayDo_7 (by decide) (fun _ => ?_) (fun c9 => absurd (nI_le (a := 6) (b := 6) (by decide) (by decide)) c9)
      refine lv_iload_n hx hb dX3_mayDo_54 rfl (lv_at hl 1 rfl) ?_
      exact hend _ _ _ _ _ _ _ rfl dX3_mayDo_55 (⟨_, rfl, rfl, ⟨_, k0_1, k1_1, k2_1, k3_1, k4_1, k5_1, k6_1⟩⟩) hS_4 (Nat.zero_le _) (Nat.zero_le _)
    | succ nn ih4 =>
      intro i x3 x2 hn e2 e3 Hl_4 locs hS_4 hW_4 hl_4 ls hl
      rw [e3, e2] at hl
      clear e3 e2
      obtain ⟨g_2, k0_2, k1_2, k2_2, k3_2, k4_2, k5_2, k6_2⟩ := hl_4
      refine lv_iload_n hx hb dX3_mayDo_4 rfl (lv_at hl 0 rfl) ?_
      refine lv_bipush (v := 6) hx hb dX3_mayDo_5 (by decide) ?_
      refine lv_icmp_ge (tgt := 54) hx hb dX3_mayDo_7 (by decide) (fun c9 => absurd c9 (nI_ge (a := i) (b := 6) (by omega) (by decide))) (fun _ => ?_)
      refine lv_iload_n hx hb dX3_mayDo_10 rfl (lv_at hl 1 rfl) ?_
      refine lv_aload_n hx hb dX3_mayDo_11 rfl (lv_at hl 2 rfl) ?_
      refine xget (ref := "LayeredChartersModel") (ci := 3) (v := .ref (ad 1)) (C := RX3) (T := TX3) (N := 9) F in_X3 hW_4 k0_2 rfl 0 (by decide) q1016 (fun _ h9 => h9) rfl dX3_mayDo_12 ?_
      refine lv_iload_n hx hb dX3_mayDo_15 rfl (lv_at hl 3 rfl) ?_
      refine lv_iconst (v := 1) hx hb dX3_mayDo_16 (by decide) ?_
      refine run_ro (w := .int (129 + 4 * (nI j) + 1)) (rest := [.ref (ad 1), .int (mdM (ruA f) n (f (129 + 4 * j)) (f (129 + 4 * j + 1)) i)]) (kS F hW_4 (metX3_ofGuild l E Hl_4 (nI j) 1) (lw_S q1127 q1128 q52 q1129) hdX3_ofGuild ⟨Nat.le_of_ble_eq_true rfl, Nat.le_of_ble_eq_true rfl⟩ hl.1 rfl (Nat.le_of_ble_eq_true rfl) dX3_mayDo_17 ⟨Nat.le_of_ble_eq_true rfl, Nat.le_of_ble_eq_true rfl⟩) ?_
      refine xild F hW_4 k1_2 (by rw [mb1 _]; exact vp_in_nI (by omega) (by omega)) dX3_mayDo_20 ?_
      refine lv_val (y := f (129 + 4 * j + 1)) (by rw [mb1 _, nI_clamp (by omega)]) ?_
      refine lv_aload_n hx hb dX3_mayDo_21 rfl (lv_at hl 2 rfl) ?_
      refine lv_aload_n hx hb dX3_mayDo_22 rfl (lv_at hl 2 rfl) ?_
      refine xget (ref := "LayeredChartersModel") (ci := 3) (v := .ref (ad 1)) (C := RX3) (T := TX3) (N := 9) F in_X3 hW_4 k0_2 rfl 0 (by decide) q1016 (fun _ h9 => h9) rfl dX3_mayDo_23 ?_
      refine lv_iload_n hx hb dX3_mayDo_26 rfl (lv_at hl 3 rfl) ?_
      refine lv_iconst (v := 0) hx hb dX3_mayDo_27 (by decide) ?_
      refine run_ro (w := .int (129 + 4 * (nI j) + 0)) (rest := [.ref (ad 1), .ref (ad 0), .int (f (129 + 4 * j + 1)), .int (mdM (ruA f) n (f (129 + 4 * j)) (f (129 + 4 * j + 1)) i)]) (kS F hW_4 (metX3_ofGuild l E Hl_4 (nI j) 0) (lw_S q1127 q1128 q52 q1129) hdX3_ofGuild ⟨Nat.le_of_ble_eq_true rfl, Nat.le_of_ble_eq_true rfl⟩ hl.1 rfl (Nat.le_of_ble_eq_true rfl) dX3_mayDo_28 ⟨Nat.le_of_ble_eq_true rfl, Nat.le_of_ble_eq_true rfl⟩) ?_
      refine xild F hW_4 k1_2 (by rw [mb0 _]; exact vp_in_nI (by omega) (by omega)) dX3_mayDo_31 ?_
      refine lv_val (y := f (129 + 4 * j)) (by rw [mb0 _, nI_clamp (by omega)]) ?_
      refine lv_iload_n hx hb dX3_mayDo_32 rfl (lv_at hl 0 rfl) ?_
      refine run_chI (rest := [.int (f (129 + 4 * j + 1)), .int (mdM (ruA f) n (f (129 + 4 * j)) (f (129 + 4 * j + 1)) i)]) (kV F hW_4 (metX3_leastNow l E Hl_4 ad f hst sl z pd kept len told ⟨_, k0_2, k1_2, k2_2, k3_2, k4_2, k5_2, k6_2⟩ hT n hn0 hn24 hv (f (129 + 4 * j)) (nI i)) (lw_V q1103 q1105 qs24 q52 q1106) hdX3_leastNow ⟨Nat.le_of_ble_eq_true rfl, Nat.le_of_ble_eq_true rfl⟩ (recv hW_4 k0_2 rfl) hl.1 rfl (Nat.le_of_ble_eq_true rfl) dX3_mayDo_33 ⟨Nat.le_of_ble_eq_true rfl, Nat.le_of_ble_eq_true rfl⟩) hS_4 (fun _ h9 => h9) (fun r_3 H_3 locs hp_3 hc_3 hS_3 => ?_)
      have hW_3 := hW_4.kept hc_3 hT.old
      obtain ⟨hr_3, hp_3⟩ := hp_3
      obtain ⟨g9, hp9, hq9⟩ := hp_3
      obtain ⟨g_4, k0_4, k1_4, k2_4, k3_4, k4_4, k5_4, k6_4⟩ := (⟨g9, hp9⟩ : MPx E ad f hst sl z pd kept len told H_3)
      have hr_3 : r_3 = leastM (ruA f) n (f (129 + 4 * j)) (nI i) (-6) (-6) 0 := hr_3
      subst hr_3
      refine lv_icmp_lt (tgt := 45) hx hb dX3_mayDo_36 (by decide) (fun c_5 => ?_) (fun c_5 => ?_)
      · skip
        refine lv_iconst (v := 0) hx hb dX3_mayDo_45 (by decide) ?_
        refine lv_ior hx hb dX3_mayDo_46 ?_
        refine lv_istore_n (lv' := [(2, .int ((mdM (ruA f) n (f (129 + 4 * j)) (f (129 + 4 * j + 1)) i) ||| 0)), (3, .int (nI i)), (0, .ref (ad 0)), (1, .int (nI j))]) hx hb dX3_mayDo_47 rfl hl (by decide) rfl (fun ls hl => ?_)
        refine lv_iinc (v := nI (i + 1)) (lv' := [(3, .int (nI (i + 1))), (2, .int ((mdM (ruA f) n (f (129 + 4 * j)) (f (129 + 4 * j + 1)) i) ||| 0)), (0, .ref (ad 0)), (1, .int (nI j))]) hx hb dX3_mayDo_48 hl (k := 1) rfl (nI_1 _) (by decide) rfl (fun ls hl => ?_)
        refine lv_goto (tgt := 4) hx hb dX3_mayDo_51 (by decide) ?_
        exact ih4 (i + 1) _ _ (by omega) (by simp [mdM_s, c_5]) rfl _ _ hS_3 hW_3 (⟨_, k0_4, k1_4, k2_4, k3_4, k4_4, k5_4, k6_4⟩) ls (lv_sub hl [0, 1, 2, 3] rfl)
      · skip
        refine lv_iconst (v := 1) hx hb dX3_mayDo_39 (by decide) ?_
        refine lv_iload_n hx hb dX3_mayDo_40 rfl (lv_at hl 0 rfl) ?_
        refine lv_ishl hx hb dX3_mayDo_41 ?_
        refine lv_goto (tgt := 46) hx hb dX3_mayDo_42 (by decide) ?_
        refine lv_ior hx hb dX3_mayDo_46 ?_
        refine lv_istore_n (lv' := [(2, .int ((mdM (ruA f) n (f (129 + 4 * j)) (f (129 + 4 * j + 1)) i) ||| (1 <<< ((nI i) &&& 31)))), (3, .int (nI i)), (0, .ref (ad 0)), (1, .int (nI j))]) hx hb dX3_mayDo_47 rfl hl (by decide) rfl (fun ls hl => ?_)
        refine lv_iinc (v := nI (i + 1)) (lv' := [(3, .int (nI (i + 1))), (2, .int ((mdM (ruA f) n (f (129 + 4 * j)) (f (129 + 4 * j + 1)) i) ||| (1 <<< ((nI i) &&& 31)))), (0, .ref (ad 0)), (1, .int (nI j))]) hx hb dX3_mayDo_48 hl (k := 1) rfl (nI_1 _) (by decide) rfl (fun ls hl => ?_)
        refine lv_goto (tgt := 4) hx hb dX3_mayDo_51 (by decide) ?_
        exact ih4 (i + 1) _ _ (by omega) (by simp [mdM_s, c_5]) rfl _ _ hS_3 hW_3 (⟨_, k0_4, k1_4, k2_4, k3_4, k4_4, k5_4, k6_4⟩) ls (lv_sub hl [0, 1, 2, 3] rfl)
  exact loop4 (6 - 0) 0 _ _ (by omega) rfl rfl _ _ hS hW (⟨_, k0, k1, k2, k3, k4, k5, k6⟩) ls (lv_sub hl [0, 1, 2, 3] rfl)

theorem hdX3_member : Hd yX3_member 2 := by decide +kernel
set_option maxHeartbeats 1000000 in
set_option maxRecDepth 100000 in
theorem metX3_member (l : Launch) (E : EV) (H : Heap) (ad : Nat → Nat) (f hst sl z pd : Nat → Int32) (kept len told : Int32) (hM : MPx E ad f hst sl z pd kept len told H) (hT : TW E ad) (n : Nat) (hn0 : f 0 = nI n) (hn24 : n ≤ 24) (hv : ∀ i, i < n → vp_in (ruA f i).1 5) (mm : Nat) (hm1 : f 1 = nI mm) (hm10 : mm ≤ 10) (j w : Int32) : Ct l yX3_member cX3_member 3 (some .int) 7 166 (0) (0) [.ref (ad 0), .int j, .int w] E H (TA ad) (pI (fun r H1 => r = memberM f n mm j w ∧ MPx E ad f hst sl z pd kept len told H1)) := by
  obtain ⟨g, k0, k1, k2, k3, k4, k5, k6⟩ := hM
  refine Ct.ofZ (by decide) (Nat.le_of_ble_eq_true rfl) ?_
  intro p e s m bl mt cd ls Q hF hW hH hl hend
  obtain ⟨F, hin⟩ := hF
  have hx := F.1
  have hb := F.2.1
  have hts := F.2.2.2.2
  have hl : lv_has ls 3 [(0, .ref (ad 0)), (1, .int j), (2, .int w)] := hl
  have hS : va_S (TA ad) H H [] := va_S.rf
  refine lv_aload_n hx hb dX3_member_0 rfl (lv_at hl 0 rfl) ?_
  refine lv_iload_n hx hb dX3_member_1 rfl (lv_at hl 1 rfl) ?_
  refine run_ro (w := .int (b2i (inR j 0 (nI mm - 1)))) (rest := []) (kV F hW (metX3_isMember l E H ad kept len told k0 f k1 mm hm1 j) (lw_V q1134 q1136 qs29 q52 q1137) hdX3_isMember ⟨Nat.le_of_ble_eq_true rfl, Nat.le_of_ble_eq_true rfl⟩ (recv hW k0 rfl) hl.1 rfl (Nat.le_of_ble_eq_true rfl) dX3_member_2 ⟨Nat.le_of_ble_eq_true rfl, Nat.le_of_ble_eq_true rfl⟩) ?_
  refine lv_if_ne (tgt := 10) hx hb dX3_member_5 (by decide) (fun c_1 => ?_) (fun c_1 => ?_)
  · skip
    have bc_1 := c_1
    have c_1 := b2i_t c_1
    obtain ⟨i, hi, ei0⟩ := idx_of c_1 (by omega)
    subst ei0
    have ei : ix (nI i) = i := ix_nI (by omega)
    refine lv_iload_n hx hb dX3_member_10 rfl (lv_at hl 2 rfl) ?_
    by_cases c_2 : w = 0
    · skip
      refine lv_tableIn (off := 33) (tgt := 44) hx hb dX3_member_11 (by rw [c_2]; decide) (by rw [c_2]; decide) (by rw [c_2]; rfl) (by decide) ?_
      have hwk : w = 0 := c_2
      subst hwk
      refine lv_aload_n hx hb dX3_member_44 rfl (lv_at hl 0 rfl) ?_
      refine xget (ref := "LayeredChartersModel") (ci := 3) (v := .ref (ad 1)) (C := RX3) (T := TX3) (N := 9) F in_X3 hW k0 rfl 0 (by decide) q1016 (fun _ h9 => h9) rfl dX3_member_45 ?_
      refine lv_iload_n hx hb dX3_member_48 rfl (lv_at hl 1 rfl) ?_
      refine lv_iload_n hx hb dX3_member_49 rfl (lv_at hl 2 rfl) ?_
      refine run_ro (w := .int (129 + 4 * (nI i) + 0)) (rest := [.ref (ad 1)]) (kS F hW (metX3_ofGuild l E H (nI i) 0) (lw_S q1127 q1128 q52 q1129) hdX3_ofGuild ⟨Nat.le_of_ble_eq_true rfl, Nat.le_of_ble_eq_true rfl⟩ hl.1 rfl (Nat.le_of_ble_eq_true rfl) dX3_member_50 ⟨Nat.le_of_ble_eq_true rfl, Nat.le_of_ble_eq_true rfl⟩) ?_
      refine xild F hW k1 (by rw [mb0 _]; exact vp_in_nI (by omega) (by omega)) dX3_member_53 ?_
      refine lv_val (y := f (129 + 4 * i)) (by rw [mb0 _, nI_clamp (by omega)]) ?_
      exact hend _ _ _ _ _ _ _ rfl dX3_member_54 (⟨_, rfl, by simp [memberM, c_1, ei], ⟨_, k0, k1, k2, k3, k4, k5, k6⟩⟩) hS (Nat.zero_le _) (Nat.zero_le _)
    by_cases c_3 : w = 1
    · skip
      refine lv_tableIn (off := 33) (tgt := 44) hx hb dX3_member_11 (by rw [c_3]; decide) (by rw [c_3]; decide) (by rw [c_3]; rfl) (by decide) ?_
      have hwk : w = 1 := c_3
      subst hwk
      refine lv_aload_n hx hb dX3_member_44 rfl (lv_at hl 0 rfl) ?_
      refine xget (ref := "LayeredChartersModel") (ci := 3) (v := .ref (ad 1)) (C := RX3) (T := TX3) (N := 9) F in_X3 hW k0 rfl 0 (by decide) q1016 (fun _ h9 => h9) rfl dX3_member_45 ?_
      refine lv_iload_n hx hb dX3_member_48 rfl (lv_at hl 1 rfl) ?_
      refine lv_iload_n hx hb dX3_member_49 rfl (lv_at hl 2 rfl) ?_
      refine run_ro (w := .int (129 + 4 * (nI i) + 1)) (rest := [.ref (ad 1)]) (kS F hW (metX3_ofGuild l E H (nI i) 1) (lw_S q1127 q1128 q52 q1129) hdX3_ofGuild ⟨Nat.le_of_ble_eq_true rfl, Nat.le_of_ble_eq_true rfl⟩ hl.1 rfl (Nat.le_of_ble_eq_true rfl) dX3_member_50 ⟨Nat.le_of_ble_eq_true rfl, Nat.le_of_ble_eq_true rfl⟩) ?_
      refine xild F hW k1 (by rw [mb1 _]; exact vp_in_nI (by omega) (by omega)) dX3_member_53 ?_
      refine lv_val (y := f (129 + 4 * i + 1)) (by rw [mb1 _, nI_clamp (by omega)]) ?_
      exact hend _ _ _ _ _ _ _ rfl dX3_member_54 (⟨_, rfl, by simp [memberM, c_1, ei, c_2], ⟨_, k0, k1, k2, k3, k4, k5, k6⟩⟩) hS (Nat.zero_le _) (Nat.zero_le _)
    by_cases c_4 : w = 2
    · skip
      refine lv_tableIn (off := 44) (tgt := 55) hx hb dX3_member_11 (by rw [c_4]; decide) (by rw [c_4]; decide) (by rw [c_4]; rfl) (by decide) ?_
      have hwk : w = 2 := c_4
      subst hwk
      refine lv_aload_n hx hb dX3_member_55 rfl (lv_at hl 0 rfl) ?_
      refine lv_iload_n hx hb dX3_member_56 rfl (lv_at hl 1 rfl) ?_
      refine run_chI (rest := []) (kV F hW (metX3_mayDo l E H ad f hst sl z pd kept len told ⟨_, k0, k1, k2, k3, k4, k5, k6⟩ hT n hn0 hn24 hv mm hm1 hm10 i (by omega)) (lw_V q1166 q1168 qs33 q52 q1169) hdX3_mayDo ⟨Nat.le_of_ble_eq_true rfl, Nat.le_of_ble_eq_true rfl⟩ (recv hW k0 rfl) hl.1 rfl (Nat.le_of_ble_eq_true rfl) dX3_member_57 ⟨Nat.le_of_ble_eq_true rfl, Nat.le_of_ble_eq_true rfl⟩) hS (fun _ h9 => h9) (fun r_5 H_5 locs hp_5 hc_5 hS_5 => ?_)
      have hW_5 := hW.kept hc_5 hT.old
      obtain ⟨hr_5, hp_5⟩ := hp_5
      obtain ⟨g_6, k0_6, k1_6, k2_6, k3_6, k4_6, k5_6, k6_6⟩ := hp_5
      have hr_5 : r_5 = mdM (ruA f) n (f (129 + 4 * i)) (f (129 + 4 * i + 1)) 6 := hr_5
      subst hr_5
      exact hend _ _ _ _ _ _ _ rfl dX3_member_60 (⟨_, rfl, by simp [memberM, c_1, ei, c_2, c_3], ⟨_, k0_6, k1_6, k2_6, k3_6, k4_6, k5_6, k6_6⟩⟩) hS_5 (Nat.zero_le _) (Nat.zero_le _)
    by_cases c_7 : w = 3
    · skip
      refine lv_tableIn (off := 50) (tgt := 61) hx hb dX3_member_11 (by rw [c_7]; decide) (by rw [c_7]; decide) (by rw [c_7]; rfl) (by decide) ?_
      have hwk : w = 3 := c_7
      subst hwk
      refine lv_aload_n hx hb dX3_member_61 rfl (lv_at hl 0 rfl) ?_
      refine xget (ref := "LayeredChartersModel") (ci := 3) (v := .ref (ad 1)) (C := RX3) (T := TX3) (N := 9) F in_X3 hW k0 rfl 0 (by decide) q1016 (fun _ h9 => h9) rfl dX3_member_62 ?_
      refine lv_iload_n hx hb dX3_member_65 rfl (lv_at hl 1 rfl) ?_
      refine lv_iload_n hx hb dX3_member_66 rfl (lv_at hl 2 rfl) ?_
      refine lv_iconst (v := 1) hx hb dX3_member_67 (by decide) ?_
      refine lv_isub hx hb dX3_member_68 ?_
      refine lv_val (y := 2) (by decide) ?_
      refine run_ro (w := .int (129 + 4 * (nI i) + 2)) (rest := [.ref (ad 1)]) (kS F hW (metX3_ofGuild l E H (nI i) 2) (lw_S q1127 q1128 q52 q1129) hdX3_ofGuild ⟨Nat.le_of_ble_eq_true rfl, Nat.le_of_ble_eq_true rfl⟩ hl.1 rfl (Nat.le_of_ble_eq_true rfl) dX3_member_69 ⟨Nat.le_of_ble_eq_true rfl, Nat.le_of_ble_eq_true rfl⟩) ?_
      refine xild F hW k1 (by rw [mb2 _]; exact vp_in_nI (by omega) (by omega)) dX3_member_72 ?_
      refine lv_val (y := f (129 + 4 * i + 2)) (by rw [mb2 _, nI_clamp (by omega)]) ?_
      exact hend _ _ _ _ _ _ _ rfl dX3_member_73 (⟨_, rfl, by simp [memberM, c_1, ei, c_2, c_3, c_4], ⟨_, k0, k1, k2, k3, k4, k5, k6⟩⟩) hS (Nat.zero_le _) (Nat.zero_le _)
    by_cases c_8 : w = 4
    · skip
      refine lv_tableIn (off := 50) (tgt := 61) hx hb dX3_member_11 (by rw [c_8]; decide) (by rw [c_8]; decide) (by rw [c_8]; rfl) (by decide) ?_
      have hwk : w = 4 := c_8
      subst hwk
      refine lv_aload_n hx hb dX3_member_61 rfl (lv_at hl 0 rfl) ?_
      refine xget (ref := "LayeredChartersModel") (ci := 3) (v := .ref (ad 1)) (C := RX3) (T := TX3) (N := 9) F in_X3 hW k0 rfl 0 (by decide) q1016 (fun _ h9 => h9) rfl dX3_member_62 ?_
      refine lv_iload_n hx hb dX3_member_65 rfl (lv_at hl 1 rfl) ?_
      refine lv_iload_n hx hb dX3_member_66 rfl (lv_at hl 2 rfl) ?_
      refine lv_iconst (v := 1) hx hb dX3_member_67 (by decide) ?_
      refine lv_isub hx hb dX3_member_68 ?_
      refine lv_val (y := 3) (by decide) ?_
      refine run_ro (w := .int (129 + 4 * (nI i) + 3)) (rest := [.ref (ad 1)]) (kS F hW (metX3_ofGuild l E H (nI i) 3) (lw_S q1127 q1128 q52 q1129) hdX3_ofGuild ⟨Nat.le_of_ble_eq_true rfl, Nat.le_of_ble_eq_true rfl⟩ hl.1 rfl (Nat.le_of_ble_eq_true rfl) dX3_member_69 ⟨Nat.le_of_ble_eq_true rfl, Nat.le_of_ble_eq_true rfl⟩) ?_
      refine xild F hW k1 (by rw [mb3 _]; exact vp_in_nI (by omega) (by omega)) dX3_member_72 ?_
      refine lv_val (y := f (129 + 4 * i + 3)) (by rw [mb3 _, nI_clamp (by omega)]) ?_
      exact hend _ _ _ _ _ _ _ rfl dX3_member_73 (⟨_, rfl, by simp [memberM, c_1, ei, c_2, c_3, c_4, c_7], ⟨_, k0, k1, k2, k3, k4, k5, k6⟩⟩) hS (Nat.zero_le _) (Nat.zero_le _)
    refine lv_tableOut (tgt := 74) hx hb dX3_member_11 (by have h0 := lv_neT (a := 0) c_2 rfl; have h1 := lv_neT (a := 1) c_3 rfl; have h2 := lv_neT (a := 2) c_4 rfl; have h3 := lv_neT (a := 3) c_7 rfl; have h4 := lv_neT (a := 4) c_8 rfl; omega) (by decide) ?_
    refine lv_bipush (v := (-2)) hx hb dX3_member_74 (by decide) ?_
    exact hend _ _ _ _ _ _ _ rfl dX3_member_76 (⟨_, rfl, by simp [memberM, c_1, ei, c_2, c_3, c_4, c_7, c_8], ⟨_, k0, k1, k2, k3, k4, k5, k6⟩⟩) hS (Nat.zero_le _) (Nat.zero_le _)
  · skip
    have bc_1 := c_1
    have c_1 := b2i_f c_1
    refine lv_iconst (v := (-1)) hx hb dX3_member_8 (by decide) ?_
    exact hend _ _ _ _ _ _ _ rfl dX3_member_9 (⟨_, rfl, by simp [memberM, c_1], ⟨_, k0, k1, k2, k3, k4, k5, k6⟩⟩) hS (Nat.zero_le _) (Nat.zero_le _)

theorem hdX3_rule : Hd yX3_rule 2 := by decide +kernel
set_option maxHeartbeats 1000000 in
set_option maxRecDepth 100000 in
theorem metX3_rule (l : Launch) (E : EV) (H : Heap) (ad : Nat → Nat) (f hst sl z pd : Nat → Int32) (kept len told : Int32) (hM : MPx E ad f hst sl z pd kept len told H) (hT : TW E ad) (n : Nat) (hn0 : f 0 = nI n) (hn24 : n ≤ 24) (hv : ∀ i, i < n → vp_in (ruA f i).1 5) (r w : Int32) : Ct l yX3_rule cX3_rule 3 (some .int) 7 166 (0) (0) [.ref (ad 0), .int r, .int w] E H (TA ad) (pI (fun r' H1 => r' = ruleM f n r w ∧ MPx E ad f hst sl z pd kept len told H1)) := by
  obtain ⟨g, k0, k1, k2, k3, k4, k5, k6⟩ := hM
  refine Ct.ofZ (by decide) (Nat.le_of_ble_eq_true rfl) ?_
  intro p e s m bl mt cd ls Q hF hW hH hl hend
  obtain ⟨F, hin⟩ := hF
  have hx := F.1
  have hb := F.2.1
  have hts := F.2.2.2.2
  have hl : lv_has ls 3 [(0, .ref (ad 0)), (1, .int r), (2, .int w)] := hl
  have hS : va_S (TA ad) H H [] := va_S.rf
  refine lv_aload_n hx hb dX3_rule_0 rfl (lv_at hl 0 rfl) ?_
  refine lv_iload_n hx hb dX3_rule_1 rfl (lv_at hl 1 rfl) ?_
  refine run_ro (w := .int (b2i (inR r 0 (nI n - 1)))) (rest := []) (kV F hW (metX3_isRule l E H ad kept len told k0 f k1 n hn0 hn24 r) (lw_V q1067 q1069 qs18 q52 q1070) hdX3_isRule ⟨Nat.le_of_ble_eq_true rfl, Nat.le_of_ble_eq_true rfl⟩ (recv hW k0 rfl) hl.1 rfl (Nat.le_of_ble_eq_true rfl) dX3_rule_2 ⟨Nat.le_of_ble_eq_true rfl, Nat.le_of_ble_eq_true rfl⟩) ?_
  refine lv_if_ne (tgt := 10) hx hb dX3_rule_5 (by decide) (fun c_1 => ?_) (fun c_1 => ?_)
  · skip
    have bc_1 := c_1
    have c_1 := b2i_t c_1
    obtain ⟨i, hi, ei0⟩ := idx_of c_1 (by omega)
    subst ei0
    have ei : ix (nI i) = i := ix_nI (by omega)
    refine lv_iload_n hx hb dX3_rule_10 rfl (lv_at hl 2 rfl) ?_
    by_cases c_2 : w = 5
    · skip
      refine lv_tableIn (off := 25) (tgt := 36) hx hb dX3_rule_11 (by rw [c_2]; decide) (by rw [c_2]; decide) (by rw [c_2]; rfl) (by decide) ?_
      refine lv_aload_n hx hb dX3_rule_36 rfl (lv_at hl 0 rfl) ?_
      refine lv_iload_n hx hb dX3_rule_37 rfl (lv_at hl 1 rfl) ?_
      refine run_chI (rest := []) (kV F hW (metX3_isIdle l E H ad f hst sl z pd kept len told ⟨_, k0, k1, k2, k3, k4, k5, k6⟩ hT n hn0 hn24 hv (nI i)) (lw_V q1099 q1101 qs23 q52 q1102) hdX3_isIdle ⟨Nat.le_of_ble_eq_true rfl, Nat.le_of_ble_eq_true rfl⟩ (recv hW k0 rfl) hl.1 rfl (Nat.le_of_ble_eq_true rfl) dX3_rule_38 ⟨Nat.le_of_ble_eq_true rfl, Nat.le_of_ble_eq_true rfl⟩) hS (fun _ h9 => h9) (fun r_3 H_3 locs hp_3 hc_3 hS_3 => ?_)
      have hW_3 := hW.kept hc_3 hT.old
      obtain ⟨hr_3, hp_3⟩ := hp_3
      obtain ⟨g_4, k0_4, k1_4, k2_4, k3_4, k4_4, k5_4, k6_4⟩ := hp_3
      have hr_3 : r_3 = b2i (idM (ruA f) n (nI i) 30) := hr_3
      subst hr_3
      refine lv_if_eq (tgt := 48) hx hb dX3_rule_41 (by decide) (fun c_5 => ?_) (fun c_5 => ?_)
      · skip
        have bc_5 := c_5
        have c_5 := b2i_f c_5
        refine lv_iconst (v := 0) hx hb dX3_rule_48 (by decide) ?_
        exact hend _ _ _ _ _ _ _ rfl dX3_rule_49 (⟨_, rfl, by simp [ruleM, b2i, pairsV, c_1, ei, c_2, c_5], ⟨_, k0_4, k1_4, k2_4, k3_4, k4_4, k5_4, k6_4⟩⟩) hS_3 (Nat.zero_le _) (Nat.zero_le _)
      · skip
        have bc_5 := c_5
        have c_5 := b2i_t c_5
        refine lv_iconst (v := 1) hx hb dX3_rule_44 (by decide) ?_
        refine lv_goto (tgt := 49) hx hb dX3_rule_45 (by decide) ?_
        exact hend _ _ _ _ _ _ _ rfl dX3_rule_49 (⟨_, rfl, by simp [ruleM, b2i, pairsV, c_1, ei, c_2, c_5], ⟨_, k0_4, k1_4, k2_4, k3_4, k4_4, k5_4, k6_4⟩⟩) hS_3 (Nat.zero_le _) (Nat.zero_le _)
    by_cases c_6 : w = 6
    · skip
      refine lv_tableIn (off := 39) (tgt := 50) hx hb dX3_rule_11 (by rw [c_6]; decide) (by rw [c_6]; decide) (by rw [c_6]; rfl) (by decide) ?_
      refine lv_aload_n hx hb dX3_rule_50 rfl (lv_at hl 0 rfl) ?_
      refine lv_iload_n hx hb dX3_rule_51 rfl (lv_at hl 1 rfl) ?_
      refine run_ro (w := .int (odM (ruA f) n i n)) (rest := []) (kV F hW (metX3_oddsOf l E H ad kept len told k0 f k1 n hn0 hn24 i (by omega)) (lw_V q1154 q1156 qs31 q52 q1157) hdX3_oddsOf ⟨Nat.le_of_ble_eq_true rfl, Nat.le_of_ble_eq_true rfl⟩ (recv hW k0 rfl) hl.1 rfl (Nat.le_of_ble_eq_true rfl) dX3_rule_52 ⟨Nat.le_of_ble_eq_true rfl, Nat.le_of_ble_eq_true rfl⟩) ?_
      exact hend _ _ _ _ _ _ _ rfl dX3_rule_55 (⟨_, rfl, by simp [ruleM, b2i, pairsV, c_1, ei, c_2, c_6], ⟨_, k0, k1, k2, k3, k4, k5, k6⟩⟩) hS (Nat.zero_le _) (Nat.zero_le _)
    by_cases c_7 : w = 7
    · skip
      refine lv_tableIn (off := 45) (tgt := 56) hx hb dX3_rule_11 (by rw [c_7]; decide) (by rw [c_7]; decide) (by rw [c_7]; rfl) (by decide) ?_
      refine lv_aload_n hx hb dX3_rule_56 rfl (lv_at hl 0 rfl) ?_
      refine lv_iload_n hx hb dX3_rule_57 rfl (lv_at hl 1 rfl) ?_
      refine lv_iconst (v := 2) hx hb dX3_rule_58 (by decide) ?_
      refine run_ro (w := .int ((ruA f i).2.2.1)) (rest := []) (kV F hW (metX3_of l E H ad kept len told k0 f k1 (nI i) 2 (9 + 5 * i + 2) (at2 _) (by omega)) (lw_V q1087 q1089 qs21 q52 q1090) hdX3_of ⟨Nat.le_of_ble_eq_true rfl, Nat.le_of_ble_eq_true rfl⟩ (recv hW k0 rfl) hl.1 rfl (Nat.le_of_ble_eq_true rfl) dX3_rule_59 ⟨Nat.le_of_ble_eq_true rfl, Nat.le_of_ble_eq_true rfl⟩) ?_
      refine lv_iconst (v := 5) hx hb dX3_rule_62 (by decide) ?_
      refine lv_icmp_ne (tgt := 70) hx hb dX3_rule_63 (by decide) (fun c_8 => ?_) (fun c_8 => ?_)
      · skip
        refine lv_iconst (v := 1) hx hb dX3_rule_70 (by decide) ?_
        refine lv_aload_n hx hb dX3_rule_71 rfl (lv_at hl 0 rfl) ?_
        refine lv_iload_n hx hb dX3_rule_72 rfl (lv_at hl 1 rfl) ?_
        refine lv_iconst (v := 3) hx hb dX3_rule_73 (by decide) ?_
        refine run_ro (w := .int ((ruA f i).2.2.2.1)) (rest := [.int 1]) (kV F hW (metX3_of l E H ad kept len told k0 f k1 (nI i) 3 (9 + 5 * i + 3) (at3 _) (by omega)) (lw_V q1087 q1089 qs21 q52 q1090) hdX3_of ⟨Nat.le_of_ble_eq_true rfl, Nat.le_of_ble_eq_true rfl⟩ (recv hW k0 rfl) hl.1 rfl (Nat.le_of_ble_eq_true rfl) dX3_rule_74 ⟨Nat.le_of_ble_eq_true rfl, Nat.le_of_ble_eq_true rfl⟩) ?_
        refine lv_bipush (v := 6) hx hb dX3_rule_77 (by decide) ?_
        refine lv_icmp_ne (tgt := 87) hx hb dX3_rule_79 (by decide) (fun c_9 => ?_) (fun c_9 => ?_)
        · skip
          refine lv_iconst (v := 1) hx hb dX3_rule_87 (by decide) ?_
          refine lv_imul hx hb dX3_rule_88 ?_
          refine lv_val (y := 1) (by decide) ?_
          exact hend _ _ _ _ _ _ _ rfl dX3_rule_89 (⟨_, rfl, by simp [ruleM, b2i, pairsV, c_1, ei, c_2, c_6, c_7, c_8, c_9], ⟨_, k0, k1, k2, k3, k4, k5, k6⟩⟩) hS (Nat.zero_le _) (Nat.zero_le _)
        · skip
          refine lv_bipush (v := 6) hx hb dX3_rule_82 (by decide) ?_
          refine lv_goto (tgt := 88) hx hb dX3_rule_84 (by decide) ?_
          refine lv_imul hx hb dX3_rule_88 ?_
          refine lv_val (y := 6) (by decide) ?_
          exact hend _ _ _ _ _ _ _ rfl dX3_rule_89 (⟨_, rfl, by simp [ruleM, b2i, pairsV, c_1, ei, c_2, c_6, c_7, c_8, c_9], ⟨_, k0, k1, k2, k3, k4, k5, k6⟩⟩) hS (Nat.zero_le _) (Nat.zero_le _)
      · skip
        refine lv_iconst (v := 5) hx hb dX3_rule_66 (by decide) ?_
        refine lv_goto (tgt := 71) hx hb dX3_rule_67 (by decide) ?_
        refine lv_aload_n hx hb dX3_rule_71 rfl (lv_at hl 0 rfl) ?_
        refine lv_iload_n hx hb dX3_rule_72 rfl (lv_at hl 1 rfl) ?_
        refine lv_iconst (v := 3) hx hb dX3_rule_73 (by decide) ?_
        refine run_ro (w := .int ((ruA f i).2.2.2.1)) (rest := [.int 5]) (kV F hW (metX3_of l E H ad kept len told k0 f k1 (nI i) 3 (9 + 5 * i + 3) (at3 _) (by omega)) (lw_V q1087 q1089 qs21 q52 q1090) hdX3_of ⟨Nat.le_of_ble_eq_true rfl, Nat.le_of_ble_eq_true rfl⟩ (recv hW k0 rfl) hl.1 rfl (Nat.le_of_ble_eq_true rfl) dX3_rule_74 ⟨Nat.le_of_ble_eq_true rfl, Nat.le_of_ble_eq_true rfl⟩) ?_
        refine lv_bipush (v := 6) hx hb dX3_rule_77 (by decide) ?_
        refine lv_icmp_ne (tgt := 87) hx hb dX3_rule_79 (by decide) (fun c_10 => ?_) (fun c_10 => ?_)
        · skip
          refine lv_iconst (v := 1) hx hb dX3_rule_87 (by decide) ?_
          refine lv_imul hx hb dX3_rule_88 ?_
          refine lv_val (y := 5) (by decide) ?_
          exact hend _ _ _ _ _ _ _ rfl dX3_rule_89 (⟨_, rfl, by simp [ruleM, b2i, pairsV, c_1, ei, c_2, c_6, c_7, c_8, c_10], ⟨_, k0, k1, k2, k3, k4, k5, k6⟩⟩) hS (Nat.zero_le _) (Nat.zero_le _)
        · skip
          refine lv_bipush (v := 6) hx hb dX3_rule_82 (by decide) ?_
          refine lv_goto (tgt := 88) hx hb dX3_rule_84 (by decide) ?_
          refine lv_imul hx hb dX3_rule_88 ?_
          refine lv_val (y := 30) (by decide) ?_
          exact hend _ _ _ _ _ _ _ rfl dX3_rule_89 (⟨_, rfl, by simp [ruleM, b2i, pairsV, c_1, ei, c_2, c_6, c_7, c_8, c_10], ⟨_, k0, k1, k2, k3, k4, k5, k6⟩⟩) hS (Nat.zero_le _) (Nat.zero_le _)
    refine lv_tableOut (tgt := 90) hx hb dX3_rule_11 (by have h0 := lv_neT (a := 5) c_2 rfl; have h1 := lv_neT (a := 6) c_6 rfl; have h2 := lv_neT (a := 7) c_7 rfl; omega) (by decide) ?_
    refine lv_iload_n hx hb dX3_rule_90 rfl (lv_at hl 2 rfl) ?_
    refine lv_iconst (v := 0) hx hb dX3_rule_91 (by decide) ?_
    refine lv_iconst (v := 4) hx hb dX3_rule_92 (by decide) ?_
    refine run_ro (w := .int (b2i (inR w 0 4))) (rest := []) (kS F hW (metX3_in l E H w 0 4) (lw_S q1049 q1050 q52 q1051) hdX3_in ⟨Nat.le_of_ble_eq_true rfl, Nat.le_of_ble_eq_true rfl⟩ hl.1 rfl (Nat.le_of_ble_eq_true rfl) dX3_rule_93 ⟨Nat.le_of_ble_eq_true rfl, Nat.le_of_ble_eq_true rfl⟩) ?_
    refine lv_if_eq (tgt := 108) hx hb dX3_rule_96 (by decide) (fun c_11 => ?_) (fun c_11 => ?_)
    · skip
      have bc_11 := c_11
      have c_11 := b2i_f c_11
      refine lv_bipush (v := (-2)) hx hb dX3_rule_108 (by decide) ?_
      exact hend _ _ _ _ _ _ _ rfl dX3_rule_110 (⟨_, rfl, by simp [ruleM, b2i, pairsV, c_1, ei, c_2, c_6, c_7, c_11], ⟨_, k0, k1, k2, k3, k4, k5, k6⟩⟩) hS (Nat.zero_le _) (Nat.zero_le _)
    · skip
      have bc_11 := c_11
      have c_11 := b2i_t c_11
      refine lv_aload_n hx hb dX3_rule_99 rfl (lv_at hl 0 rfl) ?_
      refine lv_iload_n hx hb dX3_rule_100 rfl (lv_at hl 1 rfl) ?_
      refine lv_iload_n hx hb dX3_rule_101 rfl (lv_at hl 2 rfl) ?_
      obtain ⟨k9, hk9, ek9⟩ := rng_of (b := 4) c_11 (by decide)
      have ex9 : ix w = k9 := by rw [ek9]; exact ix_nI (by omega)
      refine run_ro (w := .int (f (9 + 5 * i + k9))) (rest := []) (kV F hW (metX3_of l E H ad kept len told k0 f k1 (nI i) w (9 + 5 * i + k9) (by rw [ek9]; exact atk _ _) (by omega)) (lw_V q1087 q1089 qs21 q52 q1090) hdX3_of ⟨Nat.le_of_ble_eq_true rfl, Nat.le_of_ble_eq_true rfl⟩ (recv hW k0 rfl) hl.1 rfl (Nat.le_of_ble_eq_true rfl) dX3_rule_102 ⟨Nat.le_of_ble_eq_true rfl, Nat.le_of_ble_eq_true rfl⟩) ?_
      refine lv_goto (tgt := 110) hx hb dX3_rule_105 (by decide) ?_
      exact hend _ _ _ _ _ _ _ rfl dX3_rule_110 (⟨_, rfl, by simp [ruleM, b2i, pairsV, c_1, ei, c_2, c_6, c_7, c_11, ex9], ⟨_, k0, k1, k2, k3, k4, k5, k6⟩⟩) hS (Nat.zero_le _) (Nat.zero_le _)
  · skip
    have bc_1 := c_1
    have c_1 := b2i_f c_1
    refine lv_iconst (v := (-1)) hx hb dX3_rule_8 (by decide) ?_
    exact hend _ _ _ _ _ _ _ rfl dX3_rule_9 (⟨_, rfl, by simp [ruleM, b2i, pairsV, c_1], ⟨_, k0, k1, k2, k3, k4, k5, k6⟩⟩) hS (Nat.zero_le _) (Nat.zero_le _)

theorem hdX3_allowed : Hd yX3_allowed 4 := by decide +kernel
set_option maxHeartbeats 1000000 in
set_option maxRecDepth 100000 in
theorem metX3_allowed (l : Launch) (E : EV) (H : Heap) (ad : Nat → Nat) (f hst sl z pd : Nat → Int32) (kept len told : Int32) (hM : MPx E ad f hst sl z pd kept len told H) (hT : TW E ad) (n : Nat) (hn0 : f 0 = nI n) (hn24 : n ≤ 24) (hv : ∀ i, i < n → vp_in (ruA f i).1 5) (c d rank way : Int32) : Ct l yX3_allowed cX3_allowed 5 (some .int) 6 143 (0) (0) [.ref (ad 0), .int c, .int d, .int rank, .int way] E H (TA ad) (pI (fun r H1 => r = allowedM f n c d rank way ∧ MPx E ad f hst sl z pd kept len told H1)) := by
  obtain ⟨g, k0, k1, k2, k3, k4, k5, k6⟩ := hM
  refine Ct.ofZ (by decide) (Nat.le_of_ble_eq_true rfl) ?_
  intro p e s m bl mt cd ls Q hF hW hH hl hend
  obtain ⟨F, hin⟩ := hF
  have hx := F.1
  have hb := F.2.1
  have hts := F.2.2.2.2
  have hl : lv_has ls 5 [(0, .ref (ad 0)), (1, .int c), (2, .int d), (3, .int rank), (4, .int way)] := hl
  have hS : va_S (TA ad) H H [] := va_S.rf
  refine lv_iload_n hx hb dX3_allowed_0 rfl (lv_at hl 1 rfl) ?_
  refine lv_iload_n hx hb dX3_allowed_1 rfl (lv_at hl 2 rfl) ?_
  refine run_ro (w := .int (b2i (inR c 0 4 && inR d 0 5))) (rest := []) (kS F hW (metX3_isAsked l E H c d) (lw_S q1174 q1175 q52 q1176) hdX3_isAsked ⟨Nat.le_of_ble_eq_true rfl, Nat.le_of_ble_eq_true rfl⟩ hl.1 rfl (Nat.le_of_ble_eq_true rfl) dX3_allowed_2 ⟨Nat.le_of_ble_eq_true rfl, Nat.le_of_ble_eq_true rfl⟩) ?_
  refine lv_if_ne (tgt := 10) hx hb dX3_allowed_5 (by decide) (fun c_1 => ?_) (fun c_1 => ?_)
  · skip
    have bc_1 := c_1
    have c_1 := b2i_t c_1
    refine lv_iload_n hx hb dX3_allowed_10 rfl (lv_at hl 3 rfl) ?_
    refine lv_iconst (v := 0) hx hb dX3_allowed_11 (by decide) ?_
    refine lv_bipush (v := 9) hx hb dX3_allowed_12 (by decide) ?_
    refine run_ro (w := .int (b2i (inR rank 0 9))) (rest := []) (kS F hW (metX3_in l E H rank 0 9) (lw_S q1049 q1050 q52 q1051) hdX3_in ⟨Nat.le_of_ble_eq_true rfl, Nat.le_of_ble_eq_true rfl⟩ hl.1 rfl (Nat.le_of_ble_eq_true rfl) dX3_allowed_14 ⟨Nat.le_of_ble_eq_true rfl, Nat.le_of_ble_eq_true rfl⟩) ?_
    refine lv_if_eq (tgt := 30) hx hb dX3_allowed_17 (by decide) (fun c_2 => ?_) (fun c_2 => ?_)
    · skip
      have bc_2 := c_2
      have c_2 := b2i_f c_2
      refine lv_bipush (v := (-2)) hx hb dX3_allowed_30 (by decide) ?_
      exact hend _ _ _ _ _ _ _ rfl dX3_allowed_32 (⟨_, rfl, by simp [allowedM, c_1, c_2], ⟨_, k0, k1, k2, k3, k4, k5, k6⟩⟩) hS (Nat.zero_le _) (Nat.zero_le _)
    · skip
      have bc_2 := c_2
      have c_2 := b2i_t c_2
      refine lv_iload hx hb dX3_allowed_20 (lv_at hl 4 rfl) ?_
      refine lv_iconst (v := 0) hx hb dX3_allowed_22 (by decide) ?_
      refine lv_iconst (v := 1) hx hb dX3_allowed_23 (by decide) ?_
      refine run_ro (w := .int (b2i (inR way 0 1))) (rest := []) (kS F hW (metX3_in l E H way 0 1) (lw_S q1049 q1050 q52 q1051) hdX3_in ⟨Nat.le_of_ble_eq_true rfl, Nat.le_of_ble_eq_true rfl⟩ hl.1 rfl (Nat.le_of_ble_eq_true rfl) dX3_allowed_24 ⟨Nat.le_of_ble_eq_true rfl, Nat.le_of_ble_eq_true rfl⟩) ?_
      refine lv_if_ne (tgt := 33) hx hb dX3_allowed_27 (by decide) (fun c_3 => ?_) (fun c_3 => ?_)
      · skip
        have bc_3 := c_3
        have c_3 := b2i_t c_3
        refine lv_iload_n hx hb dX3_allowed_33 rfl (lv_at hl 3 rfl) ?_
        refine lv_aload_n hx hb dX3_allowed_34 rfl (lv_at hl 0 rfl) ?_
        refine lv_iload_n hx hb dX3_allowed_35 rfl (lv_at hl 1 rfl) ?_
        refine lv_iload_n hx hb dX3_allowed_36 rfl (lv_at hl 2 rfl) ?_
        refine run_chI (rest := [.int rank]) (kV F hW (metX3_leastNow l E H ad f hst sl z pd kept len told ⟨_, k0, k1, k2, k3, k4, k5, k6⟩ hT n hn0 hn24 hv c d) (lw_V q1103 q1105 qs24 q52 q1106) hdX3_leastNow ⟨Nat.le_of_ble_eq_true rfl, Nat.le_of_ble_eq_true rfl⟩ (recv hW k0 rfl) hl.1 rfl (Nat.le_of_ble_eq_true rfl) dX3_allowed_37 ⟨Nat.le_of_ble_eq_true rfl, Nat.le_of_ble_eq_true rfl⟩) hS (fun _ h9 => h9) (fun r_4 H_4 locs hp_4 hc_4 hS_4 => ?_)
        have hW_4 := hW.kept hc_4 hT.old
        obtain ⟨hr_4, hp_4⟩ := hp_4
        obtain ⟨g9, hp9, hq9⟩ := hp_4
        obtain ⟨g_5, k0_5, k1_5, k2_5, k3_5, k4_5, k5_5, k6_5⟩ := (⟨g9, hp9⟩ : MPx E ad f hst sl z pd kept len told H_4)
        have hr_4 : r_4 = leastM (ruA f) n c d (-6) (-6) 0 := hr_4
        subst hr_4
        refine lv_icmp_lt (tgt := 47) hx hb dX3_allowed_40 (by decide) (fun c_6 => ?_) (fun c_6 => ?_)
        · skip
          refine lv_iconst (v := 0) hx hb dX3_allowed_47 (by decide) ?_
          exact hend _ _ _ _ _ _ _ rfl dX3_allowed_48 (⟨_, rfl, by simp [allowedM, c_1, c_2, c_3, c_6], ⟨_, k0_5, k1_5, k2_5, k3_5, k4_5, k5_5, k6_5⟩⟩) hS_4 (Nat.zero_le _) (Nat.zero_le _)
        · skip
          refine lv_iconst (v := 1) hx hb dX3_allowed_43 (by decide) ?_
          refine lv_goto (tgt := 48) hx hb dX3_allowed_44 (by decide) ?_
          exact hend _ _ _ _ _ _ _ rfl dX3_allowed_48 (⟨_, rfl, by simp [allowedM, c_1, c_2, c_3, c_6], ⟨_, k0_5, k1_5, k2_5, k3_5, k4_5, k5_5, k6_5⟩⟩) hS_4 (Nat.zero_le _) (Nat.zero_le _)
      · skip
        have bc_3 := c_3
        have c_3 := b2i_f c_3
        refine lv_bipush (v := (-2)) hx hb dX3_allowed_30 (by decide) ?_
        exact hend _ _ _ _ _ _ _ rfl dX3_allowed_32 (⟨_, rfl, by simp [allowedM, c_1, c_2, c_3], ⟨_, k0, k1, k2, k3, k4, k5, k6⟩⟩) hS (Nat.zero_le _) (Nat.zero_le _)
  · skip
    have bc_1 := c_1
    have c_1 := b2i_f c_1
    refine lv_iconst (v := (-1)) hx hb dX3_allowed_8 (by decide) ?_
    exact hend _ _ _ _ _ _ _ rfl dX3_allowed_9 (⟨_, rfl, by simp [allowedM, c_1], ⟨_, k0, k1, k2, k3, k4, k5, k6⟩⟩) hS (Nat.zero_le _) (Nat.zero_le _)

theorem hdX3_why : Hd yX3_why 3 := by decide +kernel
set_option maxHeartbeats 1000000 in
set_option maxRecDepth 100000 in
theorem metX3_why (l : Launch) (E : EV) (H : Heap) (ad : Nat → Nat) (f hst sl z pd : Nat → Int32) (kept len told : Int32) (hM : MPx E ad f hst sl z pd kept len told H) (hT : TW E ad) (n : Nat) (hn0 : f 0 = nI n) (hn24 : n ≤ 24) (hv : ∀ i, i < n → vp_in (ruA f i).1 5) (c d rank : Int32) : Ct l yX3_why cX3_why 4 (some .int) 7 170 (0) (0) [.ref (ad 0), .int c, .int d, .int rank] E H (TA ad) (pI (fun r H1 => r = whyM f n c d rank ∧ MPx E ad f hst sl z pd kept len told H1)) := by
  obtain ⟨g, k0, k1, k2, k3, k4, k5, k6⟩ := hM
  refine Ct.ofZ (by decide) (Nat.le_of_ble_eq_true rfl) ?_
  intro p e s m bl mt cd ls Q hF hW hH hl hend
  obtain ⟨F, hin⟩ := hF
  have hx := F.1
  have hb := F.2.1
  have hts := F.2.2.2.2
  have hl : lv_has ls 4 [(0, .ref (ad 0)), (1, .int c), (2, .int d), (3, .int rank)] := hl
  have hS : va_S (TA ad) H H [] := va_S.rf
  refine lv_iload_n hx hb dX3_why_0 rfl (lv_at hl 1 rfl) ?_
  refine lv_iload_n hx hb dX3_why_1 rfl (lv_at hl 2 rfl) ?_
  refine run_ro (w := .int (b2i (inR c 0 4 && inR d 0 5))) (rest := []) (kS F hW (metX3_isAsked l E H c d) (lw_S q1174 q1175 q52 q1176) hdX3_isAsked ⟨Nat.le_of_ble_eq_true rfl, Nat.le_of_ble_eq_true rfl⟩ hl.1 rfl (Nat.le_of_ble_eq_true rfl) dX3_why_2 ⟨Nat.le_of_ble_eq_true rfl, Nat.le_of_ble_eq_true rfl⟩) ?_
  refine lv_if_ne (tgt := 10) hx hb dX3_why_5 (by decide) (fun c_1 => ?_) (fun c_1 => ?_)
  · skip
    have bc_1 := c_1
    have c_1 := b2i_t c_1
    refine lv_iload_n hx hb dX3_why_10 rfl (lv_at hl 3 rfl) ?_
    refine lv_iconst (v := 0) hx hb dX3_why_11 (by decide) ?_
    refine lv_bipush (v := 9) hx hb dX3_why_12 (by decide) ?_
    refine run_ro (w := .int (b2i (inR rank 0 9))) (rest := []) (kS F hW (metX3_in l E H rank 0 9) (lw_S q1049 q1050 q52 q1051) hdX3_in ⟨Nat.le_of_ble_eq_true rfl, Nat.le_of_ble_eq_true rfl⟩ hl.1 rfl (Nat.le_of_ble_eq_true rfl) dX3_why_14 ⟨Nat.le_of_ble_eq_true rfl, Nat.le_of_ble_eq_true rfl⟩) ?_
    refine lv_if_eq (tgt := 30) hx hb dX3_why_17 (by decide) (fun c_2 => ?_) (fun c_2 => ?_)
    · skip
      have bc_2 := c_2
      have c_2 := b2i_f c_2
      refine lv_bipush (v := (-2)) hx hb dX3_why_30 (by decide) ?_
      exact hend _ _ _ _ _ _ _ rfl dX3_why_32 (⟨_, rfl, by simp [whyM, c_1, c_2], ⟨_, k0, k1, k2, k3, k4, k5, k6⟩⟩) hS (Nat.zero_le _) (Nat.zero_le _)
    · skip
      have bc_2 := c_2
      have c_2 := b2i_t c_2
      refine lv_aload_n hx hb dX3_why_20 rfl (lv_at hl 0 rfl) ?_
      refine lv_iload_n hx hb dX3_why_21 rfl (lv_at hl 1 rfl) ?_
      refine lv_iload_n hx hb dX3_why_22 rfl (lv_at hl 2 rfl) ?_
      refine lv_iload_n hx hb dX3_why_23 rfl (lv_at hl 3 rfl) ?_
      refine run_chI (rest := []) (kV F hW (metX3_reason l E H ad f hst sl z pd kept len told ⟨_, k0, k1, k2, k3, k4, k5, k6⟩ hT n hn0 hn24 hv c d rank) (lw_V q1146 q1148 qs30 q52 q1149) hdX3_reason ⟨Nat.le_of_ble_eq_true rfl, Nat.le_of_ble_eq_true rfl⟩ (recv hW k0 rfl) hl.1 rfl (Nat.le_of_ble_eq_true rfl) dX3_why_24 ⟨Nat.le_of_ble_eq_true rfl, Nat.le_of_ble_eq_true rfl⟩) hS (fun _ h9 => h9) (fun r_3 H_3 locs hp_3 hc_3 hS_3 => ?_)
      have hW_3 := hW.kept hc_3 hT.old
      obtain ⟨hr_3, hp_3⟩ := hp_3
      obtain ⟨g_4, k0_4, k1_4, k2_4, k3_4, k4_4, k5_4, k6_4⟩ := hp_3
      have hr_3 : r_3 = reasonM (ruA f) n c d rank := hr_3
      subst hr_3
      refine lv_goto (tgt := 32) hx hb dX3_why_27 (by decide) ?_
      exact hend _ _ _ _ _ _ _ rfl dX3_why_32 (⟨_, rfl, by simp [whyM, c_1, c_2], ⟨_, k0_4, k1_4, k2_4, k3_4, k4_4, k5_4, k6_4⟩⟩) hS_3 (Nat.zero_le _) (Nat.zero_le _)
  · skip
    have bc_1 := c_1
    have c_1 := b2i_f c_1
    refine lv_iconst (v := (-1)) hx hb dX3_why_8 (by decide) ?_
    exact hend _ _ _ _ _ _ _ rfl dX3_why_9 (⟨_, rfl, by simp [whyM, c_1], ⟨_, k0, k1, k2, k3, k4, k5, k6⟩⟩) hS (Nat.zero_le _) (Nat.zero_le _)

theorem hdX3_leastRank : Hd yX3_leastRank 2 := by decide +kernel
set_option maxHeartbeats 1000000 in
set_option maxRecDepth 100000 in
theorem metX3_leastRank (l : Launch) (E : EV) (H : Heap) (ad : Nat → Nat) (f hst sl z pd : Nat → Int32) (kept len told : Int32) (hM : MPx E ad f hst sl z pd kept len told H) (hT : TW E ad) (n : Nat) (hn0 : f 0 = nI n) (hn24 : n ≤ 24) (hv : ∀ i, i < n → vp_in (ruA f i).1 5) (c d : Int32) : Ct l yX3_leastRank cX3_leastRank 4 (some .int) 6 143 (0) (0) [.ref (ad 0), .int c, .int d] E H (TA ad) (pI (fun r H1 => r = leastRankM f n c d ∧ MPx E ad f hst sl z pd kept len told H1)) := by
  obtain ⟨g, k0, k1, k2, k3, k4, k5, k6⟩ := hM
  refine Ct.ofZ (by decide) (Nat.le_of_ble_eq_true rfl) ?_
  intro p e s m bl mt cd ls Q hF hW hH hl hend
  obtain ⟨F, hin⟩ := hF
  have hx := F.1
  have hb := F.2.1
  have hts := F.2.2.2.2
  have hl : lv_has ls 4 [(0, .ref (ad 0)), (1, .int c), (2, .int d)] := hl
  have hS : va_S (TA ad) H H [] := va_S.rf
  refine lv_iload_n hx hb dX3_leastRank_0 rfl (lv_at hl 1 rfl) ?_
  refine lv_iload_n hx hb dX3_leastRank_1 rfl (lv_at hl 2 rfl) ?_
  refine run_ro (w := .int (b2i (inR c 0 4 && inR d 0 5))) (rest := []) (kS F hW (metX3_isAsked l E H c d) (lw_S q1174 q1175 q52 q1176) hdX3_isAsked ⟨Nat.le_of_ble_eq_true rfl, Nat.le_of_ble_eq_true rfl⟩ hl.1 rfl (Nat.le_of_ble_eq_true rfl) dX3_leastRank_2 ⟨Nat.le_of_ble_eq_true rfl, Nat.le_of_ble_eq_true rfl⟩) ?_
  refine lv_if_ne (tgt := 10) hx hb dX3_leastRank_5 (by decide) (fun c_1 => ?_) (fun c_1 => ?_)
  · skip
    have bc_1 := c_1
    have c_1 := b2i_t c_1
    refine lv_aload_n hx hb dX3_leastRank_10 rfl (lv_at hl 0 rfl) ?_
    refine lv_iload_n hx hb dX3_leastRank_11 rfl (lv_at hl 1 rfl) ?_
    refine lv_iload_n hx hb dX3_leastRank_12 rfl (lv_at hl 2 rfl) ?_
    refine run_chI (rest := []) (kV F hW (metX3_leastNow l E H ad f hst sl z pd kept len told ⟨_, k0, k1, k2, k3, k4, k5, k6⟩ hT n hn0 hn24 hv c d) (lw_V q1103 q1105 qs24 q52 q1106) hdX3_leastNow ⟨Nat.le_of_ble_eq_true rfl, Nat.le_of_ble_eq_true rfl⟩ (recv hW k0 rfl) hl.1 rfl (Nat.le_of_ble_eq_true rfl) dX3_leastRank_13 ⟨Nat.le_of_ble_eq_true rfl, Nat.le_of_ble_eq_true rfl⟩) hS (fun _ h9 => h9) (fun r_2 H_2 locs hp_2 hc_2 hS_2 => ?_)
    have hW_2 := hW.kept hc_2 hT.old
    obtain ⟨hr_2, hp_2⟩ := hp_2
    obtain ⟨g9, hp9, hq9⟩ := hp_2
    obtain ⟨g_3, k0_3, k1_3, k2_3, k3_3, k4_3, k5_3, k6_3⟩ := (⟨g9, hp9⟩ : MPx E ad f hst sl z pd kept len told H_2)
    have hr_2 : r_2 = leastM (ruA f) n c d (-6) (-6) 0 := hr_2
    subst hr_2
    refine lv_istore_n (lv' := [(3, .int (leastM (ruA f) n c d (-6) (-6) 0)), (0, .ref (ad 0)), (1, .int c), (2, .int d)]) hx hb dX3_leastRank_16 rfl hl (by decide) rfl (fun ls hl => ?_)
    refine lv_iload_n hx hb dX3_leastRank_17 rfl (lv_at hl 0 rfl) ?_
    refine lv_bipush (v := 10) hx hb dX3_leastRank_18 (by decide) ?_
    refine lv_icmp_ne (tgt := 28) hx hb dX3_leastRank_20 (by decide) (fun c_4 => ?_) (fun c_4 => ?_)
    · skip
      refine lv_iload_n hx hb dX3_leastRank_28 rfl (lv_at hl 0 rfl) ?_
      exact hend _ _ _ _ _ _ _ rfl dX3_leastRank_29 (⟨_, rfl, by simp [leastRankM, c_1, c_4], ⟨_, k0_3, k1_3, k2_3, k3_3, k4_3, k5_3, k6_3⟩⟩) hS_2 (Nat.zero_le _) (Nat.zero_le _)
    · skip
      refine lv_bipush (v := (-6)) hx hb dX3_leastRank_23 (by decide) ?_
      refine lv_goto (tgt := 29) hx hb dX3_leastRank_25 (by decide) ?_
      exact hend _ _ _ _ _ _ _ rfl dX3_leastRank_29 (⟨_, rfl, by simp [leastRankM, c_1, c_4], ⟨_, k0_3, k1_3, k2_3, k3_3, k4_3, k5_3, k6_3⟩⟩) hS_2 (Nat.zero_le _) (Nat.zero_le _)
  · skip
    have bc_1 := c_1
    have c_1 := b2i_f c_1
    refine lv_iconst (v := (-1)) hx hb dX3_leastRank_8 (by decide) ?_
    exact hend _ _ _ _ _ _ _ rfl dX3_leastRank_9 (⟨_, rfl, by simp [leastRankM, c_1], ⟨_, k0, k1, k2, k3, k4, k5, k6⟩⟩) hS (Nat.zero_le _) (Nat.zero_le _)

theorem hdX3_sumOf : Hd yX3_sumOf 1 := by decide +kernel
set_option maxHeartbeats 1000000 in
set_option maxRecDepth 100000 in
theorem metX3_sumOf (l : Launch) (E : EV) (H : Heap) (ad : Nat → Nat) (f hst sl z pd : Nat → Int32) (kept len told : Int32) (hM : MPx E ad f hst sl z pd kept len told H) (hT : TW E ad) (n : Nat) (hn0 : f 0 = nI n) (hn24 : n ≤ 24) (hv : ∀ i, i < n → vp_in (ruA f i).1 5) (w : Int32) : Ct l yX3_sumOf cX3_sumOf 4 (some .int) 7 166 (0) (0) [.ref (ad 0), .int w] E H (TA ad) (pI (fun r H1 => r = smM (ruA f) n w n ∧ MPx E ad f hst sl z pd kept len told H1)) := by
  obtain ⟨g, k0, k1, k2, k3, k4, k5, k6⟩ := hM
  refine Ct.ofZ (by decide) (Nat.le_of_ble_eq_true rfl) ?_
  intro p e s m bl mt cd ls Q hF hW hH hl hend
  obtain ⟨F, hin⟩ := hF
  have hx := F.1
  have hb := F.2.1
  have hts := F.2.2.2.2
  have hl : lv_has ls 4 [(0, .ref (ad 0)), (1, .int w)] := hl
  have hS : va_S (TA ad) H H [] := va_S.rf
  refine lv_iconst (v := 0) hx hb dX3_sumOf_0 (by decide) ?_
  refine lv_istore_n (lv' := [(2, .int 0), (0, .ref (ad 0)), (1, .int w)]) hx hb dX3_sumOf_1 rfl hl (by decide) rfl (fun ls hl => ?_)
  refine lv_iconst (v := 0) hx hb dX3_sumOf_2 (by decide) ?_
  refine lv_istore_n (lv' := [(3, .int 0), (2, .int 0), (0, .ref (ad 0)), (1, .int w)]) hx hb dX3_sumOf_3 rfl hl (by decide) rfl (fun ls hl => ?_)
  have loop4 : ∀ (nn i : Nat) (x3 x2 : Int32), i + nn = n → x2 = smM (ruA f) n w i → x3 = nI i → ∀ (Hl_4 : Heap) (locs : List Loc), va_S (TA ad) H Hl_4 locs → WK E s Hl_4 → MPx E ad f hst sl z pd kept len told Hl_4 → ∀ ls : Array Slot, lv_has ls 4 [(3, .int x3), (2, .int x2), (0, .ref (ad 0)), (1, .int w)] → W p l e ({ frames := 7, cells := 0, slots := 0, locals := 166 } : Room) s m ([.ref (ad 0), .int w] : List Value).toArray bl mt cd Hl_4 locs 0 0 Q (F0 m 4 ls []) := by
    intro nn
    induction nn with
    | zero =>
      intro i x3 x2 hn e2 e3 Hl_4 locs hS_4 hW_4 hl_4 ls hl
      have hiN : i = n := by omega
      rw [hiN] at e3
      try rw [hiN] at e2
      try rw [hiN] at hl_4
      rw [e3, e2] at hl
      clear e3 e2
      obtain ⟨g_1, k0_1, k1_1, k2_1, k3_1, k4_1, k5_1, k6_1⟩ := hl_4
      refine lv_iload_n hx hb dX3_sumOf_4 rfl (lv_at hl 0 rfl) ?_
      refine lv_aload_n hx hb dX3_sumOf_5 rfl (lv_at hl 2 rfl) ?_
      refine xget (ref := "LayeredChartersModel") (ci := 3) (v := .ref (ad 1)) (C := RX3) (T := TX3) (N := 9) F in_X3 hW_4 k0_1 rfl 0 (by decide) q1016 (fun _ h9 => h9) rfl dX3_sumOf_6 ?_
      refine lv_iconst (v := 0) hx hb dX3_sumOf_9 (by decide) ?_
      refine xild F hW_4 k1_1 (vp_in_nI (n := 0) (by omega) (by omega)) dX3_sumOf_10 ?_
      refine lv_val (y := nI n) (hn0) ?_
      refine lv_icmp_ge (tgt := 74) hx hb dX3_sumOf_11 (by decide) (fun _ => ?_) (fun c9 => absurd (nI_le (by omega) (by omega)) c9)
      refine lv_iload_n hx hb dX3_sumOf_74 rfl (lv_at hl 1 rfl) ?_
      exact hend _ _ _ _ _ _ _ rfl dX3_sumOf_75 (⟨_, rfl, rfl, ⟨_, k0_1, k1_1, k2_1, k3_1, k4_1, k5_1, k6_1⟩⟩) hS_4 (Nat.zero_le _) (Nat.zero_le _)
    | succ nn ih4 =>
      intro i x3 x2 hn e2 e3 Hl_4 locs hS_4 hW_4 hl_4 ls hl
      rw [e3, e2] at hl
      clear e3 e2
      obtain ⟨g_2, k0_2, k1_2, k2_2, k3_2, k4_2, k5_2, k6_2⟩ := hl_4
      refine lv_iload_n hx hb dX3_sumOf_4 rfl (lv_at hl 0 rfl) ?_
      refine lv_aload_n hx hb dX3_sumOf_5 rfl (lv_at hl 2 rfl) ?_
      refine xget (ref := "LayeredChartersModel") (ci := 3) (v := .ref (ad 1)) (C := RX3) (T := TX3) (N := 9) F in_X3 hW_4 k0_2 rfl 0 (by decide) q1016 (fun _ h9 => h9) rfl dX3_sumOf_6 ?_
      refine lv_iconst (v := 0) hx hb dX3_sumOf_9 (by decide) ?_
      refine xild F hW_4 k1_2 (vp_in_nI (n := 0) (by omega) (by omega)) dX3_sumOf_10 ?_
      refine lv_val (y := nI n) (hn0) ?_
      refine lv_icmp_ge (tgt := 74) hx hb dX3_sumOf_11 (by decide) (fun c9 => absurd c9 (nI_ge (by omega) (by omega))) (fun _ => ?_)
      refine lv_iload_n hx hb dX3_sumOf_14 rfl (lv_at hl 1 rfl) ?_
      refine lv_iload_n hx hb dX3_sumOf_15 rfl (lv_at hl 3 rfl) ?_
      refine lv_iconst (v := 5) hx hb dX3_sumOf_16 (by decide) ?_
      refine lv_icmp_ne (tgt := 28) hx hb dX3_sumOf_17 (by decide) (fun c_3 => ?_) (fun c_3 => ?_)
      · skip
        refine lv_iload_n hx hb dX3_sumOf_28 rfl (lv_at hl 3 rfl) ?_
        refine lv_iconst (v := 4) hx hb dX3_sumOf_29 (by decide) ?_
        refine lv_icmp_ne (tgt := 49) hx hb dX3_sumOf_30 (by decide) (fun c_4 => ?_) (fun c_4 => ?_)
        · skip
          refine lv_aload_n hx hb dX3_sumOf_49 rfl (lv_at hl 2 rfl) ?_
          refine lv_iload_n hx hb dX3_sumOf_50 rfl (lv_at hl 0 rfl) ?_
          refine lv_iconst (v := 1) hx hb dX3_sumOf_51 (by decide) ?_
          refine run_ro (w := .int ((ruA f i).2.1)) (rest := [.int (smM (ruA f) n w i)]) (kV F hW_4 (metX3_of l E Hl_4 ad kept len told k0_2 f k1_2 (nI i) 1 (9 + 5 * i + 1) (at1 _) (by omega)) (lw_V q1087 q1089 qs21 q52 q1090) hdX3_of ⟨Nat.le_of_ble_eq_true rfl, Nat.le_of_ble_eq_true rfl⟩ (recv hW_4 k0_2 rfl) hl.1 rfl (Nat.le_of_ble_eq_true rfl) dX3_sumOf_52 ⟨Nat.le_of_ble_eq_true rfl, Nat.le_of_ble_eq_true rfl⟩) ?_
          refine lv_iload_n hx hb dX3_sumOf_55 rfl (lv_at hl 3 rfl) ?_
          refine lv_iconst (v := 1) hx hb dX3_sumOf_56 (by decide) ?_
          refine lv_isub hx hb dX3_sumOf_57 ?_
          refine lv_icmp_ne (tgt := 65) hx hb dX3_sumOf_58 (by decide) (fun c_5 => ?_) (fun c_5 => ?_)
          · skip
            refine lv_iconst (v := 0) hx hb dX3_sumOf_65 (by decide) ?_
            refine lv_iadd hx hb dX3_sumOf_66 ?_
            refine lv_istore_n (lv' := [(2, .int ((smM (ruA f) n w i) + 0)), (3, .int (nI i)), (0, .ref (ad 0)), (1, .int w)]) hx hb dX3_sumOf_67 rfl hl (by decide) rfl (fun ls hl => ?_)
            refine lv_iinc (v := nI (i + 1)) (lv' := [(3, .int (nI (i + 1))), (2, .int ((smM (ruA f) n w i) + 0)), (0, .ref (ad 0)), (1, .int w)]) hx hb dX3_sumOf_68 hl (k := 1) rfl (nI_1 _) (by decide) rfl (fun ls hl => ?_)
            refine lv_goto (tgt := 4) hx hb dX3_sumOf_71 (by decide) ?_
            exact ih4 (i + 1) _ _ (by omega) (by simp [smM_s, b2i, c_3, c_4, c_5]) rfl _ _ hS_4 hW_4 (⟨_, k0_2, k1_2, k2_2, k3_2, k4_2, k5_2, k6_2⟩) ls (lv_sub hl [0, 1, 2, 3] rfl)
          · skip
            refine lv_iconst (v := 1) hx hb dX3_sumOf_61 (by decide) ?_
            refine lv_goto (tgt := 66) hx hb dX3_sumOf_62 (by decide) ?_
            refine lv_iadd hx hb dX3_sumOf_66 ?_
            refine lv_istore_n (lv' := [(2, .int ((smM (ruA f) n w i) + 1)), (3, .int (nI i)), (0, .ref (ad 0)), (1, .int w)]) hx hb dX3_sumOf_67 rfl hl (by decide) rfl (fun ls hl => ?_)
            refine lv_iinc (v := nI (i + 1)) (lv' := [(3, .int (nI (i + 1))), (2, .int ((smM (ruA f) n w i) + 1)), (0, .ref (ad 0)), (1, .int w)]) hx hb dX3_sumOf_68 hl (k := 1) rfl (nI_1 _) (by decide) rfl (fun ls hl => ?_)
            refine lv_goto (tgt := 4) hx hb dX3_sumOf_71 (by decide) ?_
            exact ih4 (i + 1) _ _ (by omega) (by simp [smM_s, b2i, c_3, c_4, c_5]) rfl _ _ hS_4 hW_4 (⟨_, k0_2, k1_2, k2_2, k3_2, k4_2, k5_2, k6_2⟩) ls (lv_sub hl [0, 1, 2, 3] rfl)
        · skip
          refine lv_aload_n hx hb dX3_sumOf_33 rfl (lv_at hl 2 rfl) ?_
          refine lv_iload_n hx hb dX3_sumOf_34 rfl (lv_at hl 0 rfl) ?_
          refine run_chI (rest := [.int (smM (ruA f) n w i)]) (kV F hW_4 (metX3_isIdle l E Hl_4 ad f hst sl z pd kept len told ⟨_, k0_2, k1_2, k2_2, k3_2, k4_2, k5_2, k6_2⟩ hT n hn0 hn24 hv (nI i)) (lw_V q1099 q1101 qs23 q52 q1102) hdX3_isIdle ⟨Nat.le_of_ble_eq_true rfl, Nat.le_of_ble_eq_true rfl⟩ (recv hW_4 k0_2 rfl) hl.1 rfl (Nat.le_of_ble_eq_true rfl) dX3_sumOf_35 ⟨Nat.le_of_ble_eq_true rfl, Nat.le_of_ble_eq_true rfl⟩) hS_4 (fun _ h9 => h9) (fun r_6 H_6 locs hp_6 hc_6 hS_6 => ?_)
          have hW_6 := hW_4.kept hc_6 hT.old
          obtain ⟨hr_6, hp_6⟩ := hp_6
          obtain ⟨g_7, k0_7, k1_7, k2_7, k3_7, k4_7, k5_7, k6_7⟩ := hp_6
          have hr_6 : r_6 = b2i (idM (ruA f) n (nI i) 30) := hr_6
          subst hr_6
          refine lv_if_eq (tgt := 45) hx hb dX3_sumOf_38 (by decide) (fun c_8 => ?_) (fun c_8 => ?_)
          · skip
            have bc_8 := c_8
            have c_8 := b2i_f c_8
            refine lv_iconst (v := 0) hx hb dX3_sumOf_45 (by decide) ?_
            refine lv_goto (tgt := 66) hx hb dX3_sumOf_46 (by decide) ?_
            refine lv_iadd hx hb dX3_sumOf_66 ?_
            refine lv_istore_n (lv' := [(2, .int ((smM (ruA f) n w i) + 0)), (3, .int (nI i)), (0, .ref (ad 0)), (1, .int w)]) hx hb dX3_sumOf_67 rfl hl (by decide) rfl (fun ls hl => ?_)
            refine lv_iinc (v := nI (i + 1)) (lv' := [(3, .int (nI (i + 1))), (2, .int ((smM (ruA f) n w i) + 0)), (0, .ref (ad 0)), (1, .int w)]) hx hb dX3_sumOf_68 hl (k := 1) rfl (nI_1 _) (by decide) rfl (fun ls hl => ?_)
            refine lv_goto (tgt := 4) hx hb dX3_sumOf_71 (by decide) ?_
            exact ih4 (i + 1) _ _ (by omega) (by simp [smM_s, b2i, c_3, c_4, c_8]) rfl _ _ hS_6 hW_6 (⟨_, k0_7, k1_7, k2_7, k3_7, k4_7, k5_7, k6_7⟩) ls (lv_sub hl [0, 1, 2, 3] rfl)
          · skip
            have bc_8 := c_8
            have c_8 := b2i_t c_8
            refine lv_iconst (v := 1) hx hb dX3_sumOf_41 (by decide) ?_
            refine lv_goto (tgt := 66) hx hb dX3_sumOf_42 (by decide) ?_
            refine lv_iadd hx hb dX3_sumOf_66 ?_
            refine lv_istore_n (lv' := [(2, .int ((smM (ruA f) n w i) + 1)), (3, .int (nI i)), (0, .ref (ad 0)), (1, .int w)]) hx hb dX3_sumOf_67 rfl hl (by decide) rfl (fun ls hl => ?_)
            refine lv_iinc (v := nI (i + 1)) (lv' := [(3, .int (nI (i + 1))), (2, .int ((smM (ruA f) n w i) + 1)), (0, .ref (ad 0)), (1, .int w)]) hx hb dX3_sumOf_68 hl (k := 1) rfl (nI_1 _) (by decide) rfl (fun ls hl => ?_)
            refine lv_goto (tgt := 4) hx hb dX3_sumOf_71 (by decide) ?_
            exact ih4 (i + 1) _ _ (by omega) (by simp [smM_s, b2i, c_3, c_4, c_8]) rfl _ _ hS_6 hW_6 (⟨_, k0_7, k1_7, k2_7, k3_7, k4_7, k5_7, k6_7⟩) ls (lv_sub hl [0, 1, 2, 3] rfl)
      · skip
        refine lv_aload_n hx hb dX3_sumOf_20 rfl (lv_at hl 2 rfl) ?_
        refine lv_iload_n hx hb dX3_sumOf_21 rfl (lv_at hl 0 rfl) ?_
        refine run_ro (w := .int (odM (ruA f) n i n)) (rest := [.int (smM (ruA f) n w i)]) (kV F hW_4 (metX3_oddsOf l E Hl_4 ad kept len told k0_2 f k1_2 n hn0 hn24 i (by omega)) (lw_V q1154 q1156 qs31 q52 q1157) hdX3_oddsOf ⟨Nat.le_of_ble_eq_true rfl, Nat.le_of_ble_eq_true rfl⟩ (recv hW_4 k0_2 rfl) hl.1 rfl (Nat.le_of_ble_eq_true rfl) dX3_sumOf_22 ⟨Nat.le_of_ble_eq_true rfl, Nat.le_of_ble_eq_true rfl⟩) ?_
        refine lv_goto (tgt := 66) hx hb dX3_sumOf_25 (by decide) ?_
        refine lv_iadd hx hb dX3_sumOf_66 ?_
        refine lv_istore_n (lv' := [(2, .int ((smM (ruA f) n w i) + (odM (ruA f) n i n))), (3, .int (nI i)), (0, .ref (ad 0)), (1, .int w)]) hx hb dX3_sumOf_67 rfl hl (by decide) rfl (fun ls hl => ?_)
        refine lv_iinc (v := nI (i + 1)) (lv' := [(3, .int (nI (i + 1))), (2, .int ((smM (ruA f) n w i) + (odM (ruA f) n i n))), (0, .ref (ad 0)), (1, .int w)]) hx hb dX3_sumOf_68 hl (k := 1) rfl (nI_1 _) (by decide) rfl (fun ls hl => ?_)
        refine lv_goto (tgt := 4) hx hb dX3_sumOf_71 (by decide) ?_
        exact ih4 (i + 1) _ _ (by omega) (by simp [smM_s, b2i, c_3]) rfl _ _ hS_4 hW_4 (⟨_, k0_2, k1_2, k2_2, k3_2, k4_2, k5_2, k6_2⟩) ls (lv_sub hl [0, 1, 2, 3] rfl)
  exact loop4 (n - 0) 0 _ _ (by omega) rfl rfl _ _ hS hW (⟨_, k0, k1, k2, k3, k4, k5, k6⟩) ls (lv_sub hl [0, 1, 2, 3] rfl)

theorem hdX3_count : Hd yX3_count 1 := by decide +kernel
set_option maxHeartbeats 1000000 in
set_option maxRecDepth 100000 in
theorem metX3_count (l : Launch) (E : EV) (H : Heap) (ad : Nat → Nat) (f hst sl z pd : Nat → Int32) (kept len told : Int32) (hM : MPx E ad f hst sl z pd kept len told H) (hT : TW E ad) (n : Nat) (hn0 : f 0 = nI n) (hn24 : n ≤ 24) (hv : ∀ i, i < n → vp_in (ruA f i).1 5) (mm : Nat) (hm1 : f 1 = nI mm) (hm10 : mm ≤ 10) (w : Int32) : Ct l yX3_count cX3_count 2 (some .int) 8 189 (0) (0) [.ref (ad 0), .int w] E H (TA ad) (pI (fun r H1 => r = countM f n mm kept len w ∧ MPx E ad f hst sl z pd kept len told H1)) := by
  obtain ⟨g, k0, k1, k2, k3, k4, k5, k6⟩ := hM
  refine Ct.ofZ (by decide) (Nat.le_of_ble_eq_true rfl) ?_
  intro p e s m bl mt cd ls Q hF hW hH hl hend
  obtain ⟨F, hin⟩ := hF
  have hx := F.1
  have hb := F.2.1
  have hts := F.2.2.2.2
  have hl : lv_has ls 2 [(0, .ref (ad 0)), (1, .int w)] := hl
  have hS : va_S (TA ad) H H [] := va_S.rf
  refine lv_iload_n hx hb dX3_count_0 rfl (lv_at hl 1 rfl) ?_
  by_cases c_1 : w = 0
  · skip
    refine lv_tableIn (off := 83) (tgt := 84) hx hb dX3_count_1 (by rw [c_1]; decide) (by rw [c_1]; decide) (by rw [c_1]; rfl) (by decide) ?_
    refine lv_aload_n hx hb dX3_count_84 rfl (lv_at hl 0 rfl) ?_
    refine xget (ref := "LayeredChartersModel") (ci := 3) (v := .ref (ad 1)) (C := RX3) (T := TX3) (N := 9) F in_X3 hW k0 rfl 0 (by decide) q1016 (fun _ h9 => h9) rfl dX3_count_85 ?_
    refine lv_iconst (v := 0) hx hb dX3_count_88 (by decide) ?_
    refine xild F hW k1 (vp_in_nI (n := 0) (by omega) (by omega)) dX3_count_89 ?_
    refine lv_val (y := nI n) (hn0) ?_
    exact hend _ _ _ _ _ _ _ rfl dX3_count_90 (⟨_, rfl, by first | (simp [countM, c_1]; done) | rfl, ⟨_, k0, k1, k2, k3, k4, k5, k6⟩⟩) hS (Nat.zero_le _) (Nat.zero_le _)
  by_cases c_2 : w = 1
  · skip
    refine lv_tableIn (off := 90) (tgt := 91) hx hb dX3_count_1 (by rw [c_2]; decide) (by rw [c_2]; decide) (by rw [c_2]; rfl) (by decide) ?_
    refine lv_aload_n hx hb dX3_count_91 rfl (lv_at hl 0 rfl) ?_
    refine lv_iload_n hx hb dX3_count_92 rfl (lv_at hl 1 rfl) ?_
    refine run_chI (rest := []) (kV F hW (metX3_sumOf l E H ad f hst sl z pd kept len told ⟨_, k0, k1, k2, k3, k4, k5, k6⟩ hT n hn0 hn24 hv w) (lw_V q1185 q1187 qs34 q52 q1188) hdX3_sumOf ⟨Nat.le_of_ble_eq_true rfl, Nat.le_of_ble_eq_true rfl⟩ (recv hW k0 rfl) hl.1 rfl (Nat.le_of_ble_eq_true rfl) dX3_count_93 ⟨Nat.le_of_ble_eq_true rfl, Nat.le_of_ble_eq_true rfl⟩) hS (fun _ h9 => h9) (fun r_3 H_3 locs hp_3 hc_3 hS_3 => ?_)
    have hW_3 := hW.kept hc_3 hT.old
    obtain ⟨hr_3, hp_3⟩ := hp_3
    obtain ⟨g_4, k0_4, k1_4, k2_4, k3_4, k4_4, k5_4, k6_4⟩ := hp_3
    have hr_3 : r_3 = smM (ruA f) n w n := hr_3
    subst hr_3
    exact hend _ _ _ _ _ _ _ rfl dX3_count_96 (⟨_, rfl, by first | (simp [countM, c_1, c_2]; done) | rfl, ⟨_, k0_4, k1_4, k2_4, k3_4, k4_4, k5_4, k6_4⟩⟩) hS_3 (Nat.zero_le _) (Nat.zero_le _)
  by_cases c_5 : w = 2
  · skip
    refine lv_tableIn (off := 90) (tgt := 91) hx hb dX3_count_1 (by rw [c_5]; decide) (by rw [c_5]; decide) (by rw [c_5]; rfl) (by decide) ?_
    refine lv_aload_n hx hb dX3_count_91 rfl (lv_at hl 0 rfl) ?_
    refine lv_iload_n hx hb dX3_count_92 rfl (lv_at hl 1 rfl) ?_
    refine run_chI (rest := []) (kV F hW (metX3_sumOf l E H ad f hst sl z pd kept len told ⟨_, k0, k1, k2, k3, k4, k5, k6⟩ hT n hn0 hn24 hv w) (lw_V q1185 q1187 qs34 q52 q1188) hdX3_sumOf ⟨Nat.le_of_ble_eq_true rfl, Nat.le_of_ble_eq_true rfl⟩ (recv hW k0 rfl) hl.1 rfl (Nat.le_of_ble_eq_true rfl) dX3_count_93 ⟨Nat.le_of_ble_eq_true rfl, Nat.le_of_ble_eq_true rfl⟩) hS (fun _ h9 => h9) (fun r_6 H_6 locs hp_6 hc_6 hS_6 => ?_)
    have hW_6 := hW.kept hc_6 hT.old
    obtain ⟨hr_6, hp_6⟩ := hp_6
    obtain ⟨g_7, k0_7, k1_7, k2_7, k3_7, k4_7, k5_7, k6_7⟩ := hp_6
    have hr_6 : r_6 = smM (ruA f) n w n := hr_6
    subst hr_6
    exact hend _ _ _ _ _ _ _ rfl dX3_count_96 (⟨_, rfl, by first | (simp [countM, c_1, c_2, c_5]; done) | rfl, ⟨_, k0_7, k1_7, k2_7, k3_7, k4_7, k5_7, k6_7⟩⟩) hS_6 (Nat.zero_le _) (Nat.zero_le _)
  by_cases c_8 : w = 3
  · skip
    refine lv_tableIn (off := 90) (tgt := 91) hx hb dX3_count_1 (by rw [c_8]; decide) (by rw [c_8]; decide) (by rw [c_8]; rfl) (by decide) ?_
    refine lv_aload_n hx hb dX3_count_91 rfl (lv_at hl 0 rfl) ?_
    refine lv_iload_n hx hb dX3_count_92 rfl (lv_at hl 1 rfl) ?_
    refine run_chI (rest := []) (kV F hW (metX3_sumOf l E H ad f hst sl z pd kept len told ⟨_, k0, k1, k2, k3, k4, k5, k6⟩ hT n hn0 hn24 hv w) (lw_V q1185 q1187 qs34 q52 q1188) hdX3_sumOf ⟨Nat.le_of_ble_eq_true rfl, Nat.le_of_ble_eq_true rfl⟩ (recv hW k0 rfl) hl.1 rfl (Nat.le_of_ble_eq_true rfl) dX3_count_93 ⟨Nat.le_of_ble_eq_true rfl, Nat.le_of_ble_eq_true rfl⟩) hS (fun _ h9 => h9) (fun r_9 H_9 locs hp_9 hc_9 hS_9 => ?_)
    have hW_9 := hW.kept hc_9 hT.old
    obtain ⟨hr_9, hp_9⟩ := hp_9
    obtain ⟨g_10, k0_10, k1_10, k2_10, k3_10, k4_10, k5_10, k6_10⟩ := hp_9
    have hr_9 : r_9 = smM (ruA f) n w n := hr_9
    subst hr_9
    exact hend _ _ _ _ _ _ _ rfl dX3_count_96 (⟨_, rfl, by first | (simp [countM, c_1, c_2, c_5, c_8]; done) | rfl, ⟨_, k0_10, k1_10, k2_10, k3_10, k4_10, k5_10, k6_10⟩⟩) hS_9 (Nat.zero_le _) (Nat.zero_le _)
  by_cases c_11 : w = 4
  · skip
    refine lv_tableIn (off := 90) (tgt := 91) hx hb dX3_count_1 (by rw [c_11]; decide) (by rw [c_11]; decide) (by rw [c_11]; rfl) (by decide) ?_
    refine lv_aload_n hx hb dX3_count_91 rfl (lv_at hl 0 rfl) ?_
    refine lv_iload_n hx hb dX3_count_92 rfl (lv_at hl 1 rfl) ?_
    refine run_chI (rest := []) (kV F hW (metX3_sumOf l E H ad f hst sl z pd kept len told ⟨_, k0, k1, k2, k3, k4, k5, k6⟩ hT n hn0 hn24 hv w) (lw_V q1185 q1187 qs34 q52 q1188) hdX3_sumOf ⟨Nat.le_of_ble_eq_true rfl, Nat.le_of_ble_eq_true rfl⟩ (recv hW k0 rfl) hl.1 rfl (Nat.le_of_ble_eq_true rfl) dX3_count_93 ⟨Nat.le_of_ble_eq_true rfl, Nat.le_of_ble_eq_true rfl⟩) hS (fun _ h9 => h9) (fun r_12 H_12 locs hp_12 hc_12 hS_12 => ?_)
    have hW_12 := hW.kept hc_12 hT.old
    obtain ⟨hr_12, hp_12⟩ := hp_12
    obtain ⟨g_13, k0_13, k1_13, k2_13, k3_13, k4_13, k5_13, k6_13⟩ := hp_12
    have hr_12 : r_12 = smM (ruA f) n w n := hr_12
    subst hr_12
    exact hend _ _ _ _ _ _ _ rfl dX3_count_96 (⟨_, rfl, by first | (simp [countM, c_1, c_2, c_5, c_8, c_11]; done) | rfl, ⟨_, k0_13, k1_13, k2_13, k3_13, k4_13, k5_13, k6_13⟩⟩) hS_12 (Nat.zero_le _) (Nat.zero_le _)
  by_cases c_14 : w = 5
  · skip
    refine lv_tableIn (off := 96) (tgt := 97) hx hb dX3_count_1 (by rw [c_14]; decide) (by rw [c_14]; decide) (by rw [c_14]; rfl) (by decide) ?_
    refine lv_aload_n hx hb dX3_count_97 rfl (lv_at hl 0 rfl) ?_
    refine lv_iconst (v := 5) hx hb dX3_count_98 (by decide) ?_
    refine run_chI (rest := []) (kV F hW (metX3_sumOf l E H ad f hst sl z pd kept len told ⟨_, k0, k1, k2, k3, k4, k5, k6⟩ hT n hn0 hn24 hv 5) (lw_V q1185 q1187 qs34 q52 q1188) hdX3_sumOf ⟨Nat.le_of_ble_eq_true rfl, Nat.le_of_ble_eq_true rfl⟩ (recv hW k0 rfl) hl.1 rfl (Nat.le_of_ble_eq_true rfl) dX3_count_99 ⟨Nat.le_of_ble_eq_true rfl, Nat.le_of_ble_eq_true rfl⟩) hS (fun _ h9 => h9) (fun r_15 H_15 locs hp_15 hc_15 hS_15 => ?_)
    have hW_15 := hW.kept hc_15 hT.old
    obtain ⟨hr_15, hp_15⟩ := hp_15
    obtain ⟨g_16, k0_16, k1_16, k2_16, k3_16, k4_16, k5_16, k6_16⟩ := hp_15
    have hr_15 : r_15 = smM (ruA f) n 5 n := hr_15
    subst hr_15
    refine lv_iconst (v := 2) hx hb dX3_count_102 (by decide) ?_
    refine lv_idiv hx hb dX3_count_103 (by decide) ?_
    exact hend _ _ _ _ _ _ _ rfl dX3_count_104 (⟨_, rfl, by first | (simp [countM, c_1, c_2, c_5, c_8, c_11, c_14]; done) | rfl, ⟨_, k0_16, k1_16, k2_16, k3_16, k4_16, k5_16, k6_16⟩⟩) hS_15 (Nat.zero_le _) (Nat.zero_le _)
  by_cases c_17 : w = 6
  · skip
    refine lv_tableIn (off := 104) (tgt := 105) hx hb dX3_count_1 (by rw [c_17]; decide) (by rw [c_17]; decide) (by rw [c_17]; rfl) (by decide) ?_
    refine lv_aload_n hx hb dX3_count_105 rfl (lv_at hl 0 rfl) ?_
    refine run_chI (rest := []) (kV F hW (metX3_triplesNow l E H ad f hst sl z pd kept len told ⟨_, k0, k1, k2, k3, k4, k5, k6⟩ hT n hn0 hn24 hv) (lw_V q1189 q1191 qs35 q52 q1192) hdX3_triplesNow ⟨Nat.le_of_ble_eq_true rfl, Nat.le_of_ble_eq_true rfl⟩ (recv hW k0 rfl) hl.1 rfl (Nat.le_of_ble_eq_true rfl) dX3_count_106 ⟨Nat.le_of_ble_eq_true rfl, Nat.le_of_ble_eq_true rfl⟩) hS (fun _ h9 => h9) (fun r_18 H_18 locs hp_18 hc_18 hS_18 => ?_)
    have hW_18 := hW.kept hc_18 hT.old
    obtain ⟨hr_18, hp_18⟩ := hp_18
    obtain ⟨g_19, k0_19, k1_19, k2_19, k3_19, k4_19, k5_19, k6_19⟩ := hp_18
    have hr_18 : r_18 = trM (ruA f) n (-6) (-6) 0 30 := hr_18
    subst hr_18
    exact hend _ _ _ _ _ _ _ rfl dX3_count_109 (⟨_, rfl, by first | (simp [countM, c_1, c_2, c_5, c_8, c_11, c_14, c_17]; done) | rfl, ⟨_, k0_19, k1_19, k2_19, k3_19, k4_19, k5_19, k6_19⟩⟩) hS_18 (Nat.zero_le _) (Nat.zero_le _)
  by_cases c_20 : w = 7
  · skip
    refine lv_tableIn (off := 109) (tgt := 110) hx hb dX3_count_1 (by rw [c_20]; decide) (by rw [c_20]; decide) (by rw [c_20]; rfl) (by decide) ?_
    refine lv_aload_n hx hb dX3_count_110 rfl (lv_at hl 0 rfl) ?_
    refine xget (ref := "LayeredChartersModel") (ci := 3) (v := .ref (ad 1)) (C := RX3) (T := TX3) (N := 9) F in_X3 hW k0 rfl 0 (by decide) q1016 (fun _ h9 => h9) rfl dX3_count_111 ?_
    refine lv_iconst (v := 1) hx hb dX3_count_114 (by decide) ?_
    refine xild F hW k1 (vp_in_nI (n := 1) (by omega) (by omega)) dX3_count_115 ?_
    refine lv_val (y := nI mm) (hm1) ?_
    exact hend _ _ _ _ _ _ _ rfl dX3_count_116 (⟨_, rfl, by first | (simp [countM, c_1, c_2, c_5, c_8, c_11, c_14, c_17, c_20]; done) | rfl, ⟨_, k0, k1, k2, k3, k4, k5, k6⟩⟩) hS (Nat.zero_le _) (Nat.zero_le _)
  by_cases c_21 : w = 8
  · skip
    refine lv_tableIn (off := 116) (tgt := 117) hx hb dX3_count_1 (by rw [c_21]; decide) (by rw [c_21]; decide) (by rw [c_21]; rfl) (by decide) ?_
    have hwk : w = 8 := c_21
    subst hwk
    refine lv_aload_n hx hb dX3_count_117 rfl (lv_at hl 0 rfl) ?_
    refine xget (ref := "LayeredChartersModel") (ci := 3) (v := .ref (ad 1)) (C := RX3) (T := TX3) (N := 9) F in_X3 hW k0 rfl 0 (by decide) q1016 (fun _ h9 => h9) rfl dX3_count_118 ?_
    refine lv_iconst (v := 2) hx hb dX3_count_121 (by decide) ?_
    refine lv_iload_n hx hb dX3_count_122 rfl (lv_at hl 1 rfl) ?_
    refine lv_iadd hx hb dX3_count_123 ?_
    refine lv_val (y := 10) (by decide) ?_
    refine lv_bipush (v := 8) hx hb dX3_count_124 (by decide) ?_
    refine lv_isub hx hb dX3_count_126 ?_
    refine lv_val (y := 2) (by decide) ?_
    refine xild F hW k1 (vp_in_nI (n := 2) (by omega) (by omega)) dX3_count_127 ?_
    refine lv_val (y := f 2) (rfl) ?_
    exact hend _ _ _ _ _ _ _ rfl dX3_count_128 (⟨_, rfl, by first | (simp [countM, c_1, c_2, c_5, c_8, c_11, c_14, c_17, c_20]; done) | rfl, ⟨_, k0, k1, k2, k3, k4, k5, k6⟩⟩) hS (Nat.zero_le _) (Nat.zero_le _)
  by_cases c_22 : w = 9
  · skip
    refine lv_tableIn (off := 116) (tgt := 117) hx hb dX3_count_1 (by rw [c_22]; decide) (by rw [c_22]; decide) (by rw [c_22]; rfl) (by decide) ?_
    have hwk : w = 9 := c_22
    subst hwk
    refine lv_aload_n hx hb dX3_count_117 rfl (lv_at hl 0 rfl) ?_
    refine xget (ref := "LayeredChartersModel") (ci := 3) (v := .ref (ad 1)) (C := RX3) (T := TX3) (N := 9) F in_X3 hW k0 rfl 0 (by decide) q1016 (fun _ h9 => h9) rfl dX3_count_118 ?_
    refine lv_iconst (v := 2) hx hb dX3_count_121 (by decide) ?_
    refine lv_iload_n hx hb dX3_count_122 rfl (lv_at hl 1 rfl) ?_
    refine lv_iadd hx hb dX3_count_123 ?_
    refine lv_val (y := 11) (by decide) ?_
    refine lv_bipush (v := 8) hx hb dX3_count_124 (by decide) ?_
    refine lv_isub hx hb dX3_count_126 ?_
    refine lv_val (y := 3) (by decide) ?_
    refine xild F hW k1 (vp_in_nI (n := 3) (by omega) (by omega)) dX3_count_127 ?_
    refine lv_val (y := f 3) (rfl) ?_
    exact hend _ _ _ _ _ _ _ rfl dX3_count_128 (⟨_, rfl, by first | (simp [countM, c_1, c_2, c_5, c_8, c_11, c_14, c_17, c_20, c_21]; done) | rfl, ⟨_, k0, k1, k2, k3, k4, k5, k6⟩⟩) hS (Nat.zero_le _) (Nat.zero_le _)
  by_cases c_23 : w = 10
  · skip
    refine lv_tableIn (off := 116) (tgt := 117) hx hb dX3_count_1 (by rw [c_23]; decide) (by rw [c_23]; decide) (by rw [c_23]; rfl) (by decide) ?_
    have hwk : w = 10 := c_23
    subst hwk
    refine lv_aload_n hx hb dX3_count_117 rfl (lv_at hl 0 rfl) ?_
    refine xget (ref := "LayeredChartersModel") (ci := 3) (v := .ref (ad 1)) (C := RX3) (T := TX3) (N := 9) F in_X3 hW k0 rfl 0 (by decide) q1016 (fun _ h9 => h9) rfl dX3_count_118 ?_
    refine lv_iconst (v := 2) hx hb dX3_count_121 (by decide) ?_
    refine lv_iload_n hx hb dX3_count_122 rfl (lv_at hl 1 rfl) ?_
    refine lv_iadd hx hb dX3_count_123 ?_
    refine lv_val (y := 12) (by decide) ?_
    refine lv_bipush (v := 8) hx hb dX3_count_124 (by decide) ?_
    refine lv_isub hx hb dX3_count_126 ?_
    refine lv_val (y := 4) (by decide) ?_
    refine xild F hW k1 (vp_in_nI (n := 4) (by omega) (by omega)) dX3_count_127 ?_
    refine lv_val (y := f 4) (rfl) ?_
    exact hend _ _ _ _ _ _ _ rfl dX3_count_128 (⟨_, rfl, by first | (simp [countM, c_1, c_2, c_5, c_8, c_11, c_14, c_17, c_20, c_21, c_22]; done) | rfl, ⟨_, k0, k1, k2, k3, k4, k5, k6⟩⟩) hS (Nat.zero_le _) (Nat.zero_le _)
  by_cases c_24 : w = 11
  · skip
    refine lv_tableIn (off := 116) (tgt := 117) hx hb dX3_count_1 (by rw [c_24]; decide) (by rw [c_24]; decide) (by rw [c_24]; rfl) (by decide) ?_
    have hwk : w = 11 := c_24
    subst hwk
    refine lv_aload_n hx hb dX3_count_117 rfl (lv_at hl 0 rfl) ?_
    refine xget (ref := "LayeredChartersModel") (ci := 3) (v := .ref (ad 1)) (C := RX3) (T := TX3) (N := 9) F in_X3 hW k0 rfl 0 (by decide) q1016 (fun _ h9 => h9) rfl dX3_count_118 ?_
    refine lv_iconst (v := 2) hx hb dX3_count_121 (by decide) ?_
    refine lv_iload_n hx hb dX3_count_122 rfl (lv_at hl 1 rfl) ?_
    refine lv_iadd hx hb dX3_count_123 ?_
    refine lv_val (y := 13) (by decide) ?_
    refine lv_bipush (v := 8) hx hb dX3_count_124 (by decide) ?_
    refine lv_isub hx hb dX3_count_126 ?_
    refine lv_val (y := 5) (by decide) ?_
    refine xild F hW k1 (vp_in_nI (n := 5) (by omega) (by omega)) dX3_count_127 ?_
    refine lv_val (y := f 5) (rfl) ?_
    exact hend _ _ _ _ _ _ _ rfl dX3_count_128 (⟨_, rfl, by first | (simp [countM, c_1, c_2, c_5, c_8, c_11, c_14, c_17, c_20, c_21, c_22, c_23]; done) | rfl, ⟨_, k0, k1, k2, k3, k4, k5, k6⟩⟩) hS (Nat.zero_le _) (Nat.zero_le _)
  by_cases c_25 : w = 12
  · skip
    refine lv_tableIn (off := 116) (tgt := 117) hx hb dX3_count_1 (by rw [c_25]; decide) (by rw [c_25]; decide) (by rw [c_25]; rfl) (by decide) ?_
    have hwk : w = 12 := c_25
    subst hwk
    refine lv_aload_n hx hb dX3_count_117 rfl (lv_at hl 0 rfl) ?_
    refine xget (ref := "LayeredChartersModel") (ci := 3) (v := .ref (ad 1)) (C := RX3) (T := TX3) (N := 9) F in_X3 hW k0 rfl 0 (by decide) q1016 (fun _ h9 => h9) rfl dX3_count_118 ?_
    refine lv_iconst (v := 2) hx hb dX3_count_121 (by decide) ?_
    refine lv_iload_n hx hb dX3_count_122 rfl (lv_at hl 1 rfl) ?_
    refine lv_iadd hx hb dX3_count_123 ?_
    refine lv_val (y := 14) (by decide) ?_
    refine lv_bipush (v := 8) hx hb dX3_count_124 (by decide) ?_
    refine lv_isub hx hb dX3_count_126 ?_
    refine lv_val (y := 6) (by decide) ?_
    refine xild F hW k1 (vp_in_nI (n := 6) (by omega) (by omega)) dX3_count_127 ?_
    refine lv_val (y := f 6) (rfl) ?_
    exact hend _ _ _ _ _ _ _ rfl dX3_count_128 (⟨_, rfl, by first | (simp [countM, c_1, c_2, c_5, c_8, c_11, c_14, c_17, c_20, c_21, c_22, c_23, c_24]; done) | rfl, ⟨_, k0, k1, k2, k3, k4, k5, k6⟩⟩) hS (Nat.zero_le _) (Nat.zero_le _)
  by_cases c_26 : w = 13
  · skip
    refine lv_tableIn (off := 116) (tgt := 117) hx hb dX3_count_1 (by rw [c_26]; decide) (by rw [c_26]; decide) (by rw [c_26]; rfl) (by decide) ?_
    have hwk : w = 13 := c_26
    subst hwk
    refine lv_aload_n hx hb dX3_count_117 rfl (lv_at hl 0 rfl) ?_
    refine xget (ref := "LayeredChartersModel") (ci := 3) (v := .ref (ad 1)) (C := RX3) (T := TX3) (N := 9) F in_X3 hW k0 rfl 0 (by decide) q1016 (fun _ h9 => h9) rfl dX3_count_118 ?_
    refine lv_iconst (v := 2) hx hb dX3_count_121 (by decide) ?_
    refine lv_iload_n hx hb dX3_count_122 rfl (lv_at hl 1 rfl) ?_
    refine lv_iadd hx hb dX3_count_123 ?_
    refine lv_val (y := 15) (by decide) ?_
    refine lv_bipush (v := 8) hx hb dX3_count_124 (by decide) ?_
    refine lv_isub hx hb dX3_count_126 ?_
    refine lv_val (y := 7) (by decide) ?_
    refine xild F hW k1 (vp_in_nI (n := 7) (by omega) (by omega)) dX3_count_127 ?_
    refine lv_val (y := f 7) (rfl) ?_
    exact hend _ _ _ _ _ _ _ rfl dX3_count_128 (⟨_, rfl, by first | (simp [countM, c_1, c_2, c_5, c_8, c_11, c_14, c_17, c_20, c_21, c_22, c_23, c_24, c_25]; done) | rfl, ⟨_, k0, k1, k2, k3, k4, k5, k6⟩⟩) hS (Nat.zero_le _) (Nat.zero_le _)
  by_cases c_27 : w = 14
  · skip
    refine lv_tableIn (off := 116) (tgt := 117) hx hb dX3_count_1 (by rw [c_27]; decide) (by rw [c_27]; decide) (by rw [c_27]; rfl) (by decide) ?_
    have hwk : w = 14 := c_27
    subst hwk
    refine lv_aload_n hx hb dX3_count_117 rfl (lv_at hl 0 rfl) ?_
    refine xget (ref := "LayeredChartersModel") (ci := 3) (v := .ref (ad 1)) (C := RX3) (T := TX3) (N := 9) F in_X3 hW k0 rfl 0 (by decide) q1016 (fun _ h9 => h9) rfl dX3_count_118 ?_
    refine lv_iconst (v := 2) hx hb dX3_count_121 (by decide) ?_
    refine lv_iload_n hx hb dX3_count_122 rfl (lv_at hl 1 rfl) ?_
    refine lv_iadd hx hb dX3_count_123 ?_
    refine lv_val (y := 16) (by decide) ?_
    refine lv_bipush (v := 8) hx hb dX3_count_124 (by decide) ?_
    refine lv_isub hx hb dX3_count_126 ?_
    refine lv_val (y := 8) (by decide) ?_
    refine xild F hW k1 (vp_in_nI (n := 8) (by omega) (by omega)) dX3_count_127 ?_
    refine lv_val (y := f 8) (rfl) ?_
    exact hend _ _ _ _ _ _ _ rfl dX3_count_128 (⟨_, rfl, by first | (simp [countM, c_1, c_2, c_5, c_8, c_11, c_14, c_17, c_20, c_21, c_22, c_23, c_24, c_25, c_26]; done) | rfl, ⟨_, k0, k1, k2, k3, k4, k5, k6⟩⟩) hS (Nat.zero_le _) (Nat.zero_le _)
  by_cases c_28 : w = 15
  · skip
    refine lv_tableIn (off := 128) (tgt := 129) hx hb dX3_count_1 (by rw [c_28]; decide) (by rw [c_28]; decide) (by rw [c_28]; rfl) (by decide) ?_
    refine lv_aload_n hx hb dX3_count_129 rfl (lv_at hl 0 rfl) ?_
    refine xget (ref := "LayeredChartersModel") (ci := 3) (v := .int len) (C := RX3) (T := TX3) (N := 9) F in_X3 hW k0 rfl 6 (by decide) q1022 (fun _ h9 => h9) rfl dX3_count_130 ?_
    exact hend _ _ _ _ _ _ _ rfl dX3_count_133 (⟨_, rfl, by first | (simp [countM, c_1, c_2, c_5, c_8, c_11, c_14, c_17, c_20, c_21, c_22, c_23, c_24, c_25, c_26, c_27, c_28]; done) | rfl, ⟨_, k0, k1, k2, k3, k4, k5, k6⟩⟩) hS (Nat.zero_le _) (Nat.zero_le _)
  by_cases c_29 : w = 16
  · skip
    refine lv_tableIn (off := 133) (tgt := 134) hx hb dX3_count_1 (by rw [c_29]; decide) (by rw [c_29]; decide) (by rw [c_29]; rfl) (by decide) ?_
    refine lv_aload_n hx hb dX3_count_134 rfl (lv_at hl 0 rfl) ?_
    refine xget (ref := "LayeredChartersModel") (ci := 3) (v := .int kept) (C := RX3) (T := TX3) (N := 9) F in_X3 hW k0 rfl 2 (by decide) q1018 (fun _ h9 => h9) rfl dX3_count_135 ?_
    exact hend _ _ _ _ _ _ _ rfl dX3_count_138 (⟨_, rfl, by first | (simp [countM, c_1, c_2, c_5, c_8, c_11, c_14, c_17, c_20, c_21, c_22, c_23, c_24, c_25, c_26, c_27, c_28, c_29]; done) | rfl, ⟨_, k0, k1, k2, k3, k4, k5, k6⟩⟩) hS (Nat.zero_le _) (Nat.zero_le _)
  refine lv_tableOut (tgt := 139) hx hb dX3_count_1 (by have h0 := lv_neT (a := 0) c_1 rfl; have h1 := lv_neT (a := 1) c_2 rfl; have h2 := lv_neT (a := 2) c_5 rfl; have h3 := lv_neT (a := 3) c_8 rfl; have h4 := lv_neT (a := 4) c_11 rfl; have h5 := lv_neT (a := 5) c_14 rfl; have h6 := lv_neT (a := 6) c_17 rfl; have h7 := lv_neT (a := 7) c_20 rfl; have h8 := lv_neT (a := 8) c_21 rfl; have h9 := lv_neT (a := 9) c_22 rfl; have h10 := lv_neT (a := 10) c_23 rfl; have h11 := lv_neT (a := 11) c_24 rfl; have h12 := lv_neT (a := 12) c_25 rfl; have h13 := lv_neT (a := 13) c_26 rfl; have h14 := lv_neT (a := 14) c_27 rfl; have h15 := lv_neT (a := 15) c_28 rfl; have h16 := lv_neT (a := 16) c_29 rfl; omega) (by decide) ?_
  refine lv_bipush (v := (-2)) hx hb dX3_count_139 (by decide) ?_
  exact hend _ _ _ _ _ _ _ rfl dX3_count_141 (⟨_, rfl, by first | (simp [countM, c_1, c_2, c_5, c_8, c_11, c_14, c_17, c_20, c_21, c_22, c_23, c_24, c_25, c_26, c_27, c_28, c_29]; done) | rfl, ⟨_, k0, k1, k2, k3, k4, k5, k6⟩⟩) hS (Nat.zero_le _) (Nat.zero_le _)

theorem hdX3_ifStruck : Hd yX3_ifStruck 1 := by decide +kernel
set_option maxHeartbeats 1000000 in
set_option maxRecDepth 100000 in
theorem metX3_ifStruck (l : Launch) (E : EV) (H : Heap) (ad : Nat → Nat) (f hst sl z pd : Nat → Int32) (kept len told : Int32) (hM : MPx E ad f hst sl z pd kept len told H) (hT : TW E ad) (n : Nat) (hn0 : f 0 = nI n) (hn24 : n ≤ 24) (hv : ∀ i, i < n → vp_in (ruA f i).1 5) (r : Int32) : Ct l yX3_ifStruck cX3_ifStruck 2 (some .int) 7 166 (0) (0) [.ref (ad 0), .int r] E H (TA ad) (pI (fun r' H1 => r' = ifStruckM f n r ∧ MPx E ad f hst sl z pd kept len told H1)) := by
  obtain ⟨g, k0, k1, k2, k3, k4, k5, k6⟩ := hM
  refine Ct.ofZ (by decide) (Nat.le_of_ble_eq_true rfl) ?_
  intro p e s m bl mt cd ls Q hF hW hH hl hend
  obtain ⟨F, hin⟩ := hF
  have hx := F.1
  have hb := F.2.1
  have hts := F.2.2.2.2
  have hl : lv_has ls 2 [(0, .ref (ad 0)), (1, .int r)] := hl
  have hS : va_S (TA ad) H H [] := va_S.rf
  refine lv_aload_n hx hb dX3_ifStruck_0 rfl (lv_at hl 0 rfl) ?_
  refine lv_iload_n hx hb dX3_ifStruck_1 rfl (lv_at hl 1 rfl) ?_
  refine run_ro (w := .int (b2i (inR r 0 (nI n - 1)))) (rest := []) (kV F hW (metX3_isRule l E H ad kept len told k0 f k1 n hn0 hn24 r) (lw_V q1067 q1069 qs18 q52 q1070) hdX3_isRule ⟨Nat.le_of_ble_eq_true rfl, Nat.le_of_ble_eq_true rfl⟩ (recv hW k0 rfl) hl.1 rfl (Nat.le_of_ble_eq_true rfl) dX3_ifStruck_2 ⟨Nat.le_of_ble_eq_true rfl, Nat.le_of_ble_eq_true rfl⟩) ?_
  refine lv_if_eq (tgt := 28) hx hb dX3_ifStruck_5 (by decide) (fun c_1 => ?_) (fun c_1 => ?_)
  · skip
    have bc_1 := c_1
    have c_1 := b2i_f c_1
    refine lv_iconst (v := (-1)) hx hb dX3_ifStruck_28 (by decide) ?_
    exact hend _ _ _ _ _ _ _ rfl dX3_ifStruck_29 (⟨_, rfl, by simp [ifStruckM, c_1], ⟨_, k0, k1, k2, k3, k4, k5, k6⟩⟩) hS (Nat.zero_le _) (Nat.zero_le _)
  · skip
    have bc_1 := c_1
    have c_1 := b2i_t c_1
    refine lv_sipush (v := 1000) hx hb dX3_ifStruck_8 (by decide) ?_
    refine lv_aload_n hx hb dX3_ifStruck_11 rfl (lv_at hl 0 rfl) ?_
    refine lv_iload_n hx hb dX3_ifStruck_12 rfl (lv_at hl 1 rfl) ?_
    refine lv_bipush (v := (-6)) hx hb dX3_ifStruck_13 (by decide) ?_
    refine lv_iconst (v := 0) hx hb dX3_ifStruck_15 (by decide) ?_
    refine run_chI (rest := [.int 1000]) (kV F hW (metX3_triples l E H ad f hst sl z pd kept len told ⟨_, k0, k1, k2, k3, k4, k5, k6⟩ hT n hn0 hn24 hv r (-6) 0) (lw_V q1193 q1195 qs36 q52 q1196) hdX3_triples ⟨Nat.le_of_ble_eq_true rfl, Nat.le_of_ble_eq_true rfl⟩ (recv hW k0 rfl) hl.1 rfl (Nat.le_of_ble_eq_true rfl) dX3_ifStruck_16 ⟨Nat.le_of_ble_eq_true rfl, Nat.le_of_ble_eq_true rfl⟩) hS (fun _ h9 => h9) (fun r_2 H_2 locs hp_2 hc_2 hS_2 => ?_)
    have hW_2 := hW.kept hc_2 hT.old
    obtain ⟨hr_2, hp_2⟩ := hp_2
    obtain ⟨g_3, k0_3, k1_3, k2_3, k3_3, k4_3, k5_3, k6_3⟩ := hp_2
    have hr_2 : r_2 = trM (ruA f) n r (-6) 0 30 := hr_2
    subst hr_2
    refine lv_iadd hx hb dX3_ifStruck_19 ?_
    refine lv_aload_n hx hb dX3_ifStruck_20 rfl (lv_at hl 0 rfl) ?_
    refine run_chI (rest := [.int (1000 + (trM (ruA f) n r (-6) 0 30))]) (kV F hW_2 (metX3_triplesNow l E H_2 ad f hst sl z pd kept len told ⟨_, k0_3, k1_3, k2_3, k3_3, k4_3, k5_3, k6_3⟩ hT n hn0 hn24 hv) (lw_V q1189 q1191 qs35 q52 q1192) hdX3_triplesNow ⟨Nat.le_of_ble_eq_true rfl, Nat.le_of_ble_eq_true rfl⟩ (recv hW_2 k0_3 rfl) hl.1 rfl (Nat.le_of_ble_eq_true rfl) dX3_ifStruck_21 ⟨Nat.le_of_ble_eq_true rfl, Nat.le_of_ble_eq_true rfl⟩) hS_2 (fun _ h9 => h9) (fun r_4 H_4 locs hp_4 hc_4 hS_4 => ?_)
    have hW_4 := hW_2.kept hc_4 hT.old
    obtain ⟨hr_4, hp_4⟩ := hp_4
    obtain ⟨g_5, k0_5, k1_5, k2_5, k3_5, k4_5, k5_5, k6_5⟩ := hp_4
    have hr_4 : r_4 = trM (ruA f) n (-6) (-6) 0 30 := hr_4
    subst hr_4
    refine lv_isub hx hb dX3_ifStruck_24 ?_
    refine lv_goto (tgt := 29) hx hb dX3_ifStruck_25 (by decide) ?_
    exact hend _ _ _ _ _ _ _ rfl dX3_ifStruck_29 (⟨_, rfl, by simp [ifStruckM, c_1], ⟨_, k0_5, k1_5, k2_5, k3_5, k4_5, k5_5, k6_5⟩⟩) hS_4 (Nat.zero_le _) (Nat.zero_le _)

theorem hdX3_worstBan : Hd yX3_worstBan 0 := by decide +kernel
set_option maxHeartbeats 1000000 in
set_option maxRecDepth 100000 in
theorem metX3_worstBan (l : Launch) (E : EV) (H : Heap) (ad : Nat → Nat) (f hst sl z pd : Nat → Int32) (kept len told : Int32) (hM : MPx E ad f hst sl z pd kept len told H) (hT : TW E ad) (n : Nat) (hn0 : f 0 = nI n) (hn24 : n ≤ 24) (hv : ∀ i, i < n → vp_in (ruA f i).1 5) : Ct l yX3_worstBan cX3_worstBan 6 (some .int) 6 146 (0) (0) [.ref (ad 0)] E H (TA ad) (pI (fun r H1 => r = (wbM (ruA f) n n).1 ∧ MPx E ad f hst sl z pd kept len told H1)) := by
  obtain ⟨g, k0, k1, k2, k3, k4, k5, k6⟩ := hM
  refine Ct.ofZ (by decide) (Nat.le_of_ble_eq_true rfl) ?_
  intro p e s m bl mt cd ls Q hF hW hH hl hend
  obtain ⟨F, hin⟩ := hF
  have hx := F.1
  have hb := F.2.1
  have hts := F.2.2.2.2
  have hl : lv_has ls 6 [(0, .ref (ad 0))] := hl
  have hS : va_S (TA ad) H H [] := va_S.rf
  refine lv_bipush (v := (-6)) hx hb dX3_worstBan_0 (by decide) ?_
  refine lv_istore_n (lv' := [(1, .int (-6)), (0, .ref (ad 0))]) hx hb dX3_worstBan_2 rfl hl (by decide) rfl (fun ls hl => ?_)
  refine lv_iconst (v := 0) hx hb dX3_worstBan_3 (by decide) ?_
  refine lv_istore_n (lv' := [(2, .int 0), (1, .int (-6)), (0, .ref (ad 0))]) hx hb dX3_worstBan_4 rfl hl (by decide) rfl (fun ls hl => ?_)
  refine lv_iconst (v := 0) hx hb dX3_worstBan_5 (by decide) ?_
  refine lv_istore_n (lv' := [(3, .int 0), (2, .int 0), (1, .int (-6)), (0, .ref (ad 0))]) hx hb dX3_worstBan_6 rfl hl (by decide) rfl (fun ls hl => ?_)
  have loop7 : ∀ (nn i : Nat) (x3 x1 x2 : Int32), i + nn = n → x1 = (wbM (ruA f) n i).1 → x2 = (wbM (ruA f) n i).2 → x3 = nI i → ∀ (Hl_7 : Heap) (locs : List Loc), va_S (TA ad) H Hl_7 locs → WK E s Hl_7 → MPx E ad f hst sl z pd kept len told Hl_7 → ∀ ls : Array Slot, lv_has ls 6 [(3, .int x3), (1, .int x1), (2, .int x2), (0, .ref (ad 0))] → W p l e ({ frames := 6, cells := 0, slots := 0, locals := 146 } : Room) s m ([.ref (ad 0)] : List Value).toArray bl mt cd Hl_7 locs 0 0 Q (F0 m 7 ls []) := by
    intro nn
    induction nn with
    | zero =>
      intro i x3 x1 x2 hn e1 e2 e3 Hl_7 locs hS_7 hW_7 hl_7 ls hl
      have hiN : i = n := by omega
      rw [hiN] at e3
      try rw [hiN] at e1
      try rw [hiN] at e2
      try rw [hiN] at hl_7
      rw [e3, e1, e2] at hl
      clear e3 e1 e2
      obtain ⟨g_1, k0_1, k1_1, k2_1, k3_1, k4_1, k5_1, k6_1⟩ := hl_7
      refine lv_iload_n hx hb dX3_worstBan_7 rfl (lv_at hl 0 rfl) ?_
      refine lv_aload_n hx hb dX3_worstBan_8 rfl (lv_at hl 3 rfl) ?_
      refine xget (ref := "LayeredChartersModel") (ci := 3) (v := .ref (ad 1)) (C := RX3) (T := TX3) (N := 9) F in_X3 hW_7 k0_1 rfl 0 (by decide) q1016 (fun _ h9 => h9) rfl dX3_worstBan_9 ?_
      refine lv_iconst (v := 0) hx hb dX3_worstBan_12 (by decide) ?_
      refine xild F hW_7 k1_1 (vp_in_nI (n := 0) (by omega) (by omega)) dX3_worstBan_13 ?_
      refine lv_val (y := nI n) (hn0) ?_
      refine lv_icmp_ge (tgt := 85) hx hb dX3_worstBan_14 (by decide) (fun _ => ?_) (fun c9 => absurd (nI_le (by omega) (by omega)) c9)
      refine lv_iload_n hx hb dX3_worstBan_85 rfl (lv_at hl 1 rfl) ?_
      exact hend _ _ _ _ _ _ _ rfl dX3_worstBan_86 (⟨_, rfl, rfl, ⟨_, k0_1, k1_1, k2_1, k3_1, k4_1, k5_1, k6_1⟩⟩) hS_7 (Nat.zero_le _) (Nat.zero_le _)
    | succ nn ih7 =>
      intro i x3 x1 x2 hn e1 e2 e3 Hl_7 locs hS_7 hW_7 hl_7 ls hl
      rw [e3, e1, e2] at hl
      clear e3 e1 e2
      obtain ⟨g_2, k0_2, k1_2, k2_2, k3_2, k4_2, k5_2, k6_2⟩ := hl_7
      refine lv_iload_n hx hb dX3_worstBan_7 rfl (lv_at hl 0 rfl) ?_
      refine lv_aload_n hx hb dX3_worstBan_8 rfl (lv_at hl 3 rfl) ?_
      refine xget (ref := "LayeredChartersModel") (ci := 3) (v := .ref (ad 1)) (C := RX3) (T := TX3) (N := 9) F in_X3 hW_7 k0_2 rfl 0 (by decide) q1016 (fun _ h9 => h9) rfl dX3_worstBan_9 ?_
      refine lv_iconst (v := 0) hx hb dX3_worstBan_12 (by decide) ?_
      refine xild F hW_7 k1_2 (vp_in_nI (n := 0) (by omega) (by omega)) dX3_worstBan_13 ?_
      refine lv_val (y := nI n) (hn0) ?_
      refine lv_icmp_ge (tgt := 85) hx hb dX3_worstBan_14 (by decide) (fun c9 => absurd c9 (nI_ge (by omega) (by omega))) (fun _ => ?_)
      refine lv_aload_n hx hb dX3_worstBan_17 rfl (lv_at hl 3 rfl) ?_
      refine lv_iload_n hx hb dX3_worstBan_18 rfl (lv_at hl 0 rfl) ?_
      refine lv_iconst (v := 1) hx hb dX3_worstBan_19 (by decide) ?_
      refine run_ro (w := .int ((ruA f i).2.1)) (rest := []) (kV F hW_7 (metX3_of l E Hl_7 ad kept len told k0_2 f k1_2 (nI i) 1 (9 + 5 * i + 1) (at1 _) (by omega)) (lw_V q1087 q1089 qs21 q52 q1090) hdX3_of ⟨Nat.le_of_ble_eq_true rfl, Nat.le_of_ble_eq_true rfl⟩ (recv hW_7 k0_2 rfl) hl.1 rfl (Nat.le_of_ble_eq_true rfl) dX3_worstBan_20 ⟨Nat.le_of_ble_eq_true rfl, Nat.le_of_ble_eq_true rfl⟩) ?_
      refine lv_iconst (v := 1) hx hb dX3_worstBan_23 (by decide) ?_
      refine lv_icmp_ne (tgt := 79) hx hb dX3_worstBan_24 (by decide) (fun c_3 => ?_) (fun c_3 => ?_)
      · skip
        refine lv_iinc (v := nI (i + 1)) (lv' := [(3, .int (nI (i + 1))), (1, .int ((wbM (ruA f) n i).1)), (2, .int ((wbM (ruA f) n i).2)), (0, .ref (ad 0))]) hx hb dX3_worstBan_79 hl (k := 0) rfl (nI_1 _) (by decide) rfl (fun ls hl => ?_)
        refine lv_goto (tgt := 7) hx hb dX3_worstBan_82 (by decide) ?_
        exact ih7 (i + 1) _ _ _ (by omega) (by simp [wbM_s, wbst, c_3]) (by simp [wbM_s, wbst, c_3]) rfl _ _ hS_7 hW_7 (⟨_, k0_2, k1_2, k2_2, k3_2, k4_2, k5_2, k6_2⟩) ls (lv_sub hl [0, 1, 2, 3] rfl)
      · skip
        refine lv_aload_n hx hb dX3_worstBan_27 rfl (lv_at hl 3 rfl) ?_
        refine lv_iload_n hx hb dX3_worstBan_28 rfl (lv_at hl 0 rfl) ?_
        refine lv_bipush (v := (-6)) hx hb dX3_worstBan_29 (by decide) ?_
        refine lv_iconst (v := 0) hx hb dX3_worstBan_31 (by decide) ?_
        refine run_chI (rest := []) (kV F hW_7 (metX3_triples l E Hl_7 ad f hst sl z pd kept len told ⟨_, k0_2, k1_2, k2_2, k3_2, k4_2, k5_2, k6_2⟩ hT n hn0 hn24 hv (nI i) (-6) 0) (lw_V q1193 q1195 qs36 q52 q1196) hdX3_triples ⟨Nat.le_of_ble_eq_true rfl, Nat.le_of_ble_eq_true rfl⟩ (recv hW_7 k0_2 rfl) hl.1 rfl (Nat.le_of_ble_eq_true rfl) dX3_worstBan_32 ⟨Nat.le_of_ble_eq_true rfl, Nat.le_of_ble_eq_true rfl⟩) hS_7 (fun _ h9 => h9) (fun r_4 H_4 locs hp_4 hc_4 hS_4 => ?_)
        have hW_4 := hW_7.kept hc_4 hT.old
        obtain ⟨hr_4, hp_4⟩ := hp_4
        obtain ⟨g_5, k0_5, k1_5, k2_5, k3_5, k4_5, k5_5, k6_5⟩ := hp_4
        have hr_4 : r_4 = trM (ruA f) n (nI i) (-6) 0 30 := hr_4
        subst hr_4
        refine lv_istore (lv' := [(4, .int (trM (ruA f) n (nI i) (-6) 0 30)), (3, .int (nI i)), (1, .int ((wbM (ruA f) n i).1)), (2, .int ((wbM (ruA f) n i).2)), (0, .ref (ad 0))]) hx hb dX3_worstBan_35 hl (by decide) rfl (fun ls hl => ?_)
        refine lv_iload_n hx hb dX3_worstBan_37 rfl (lv_at hl 2 rfl) ?_
        refine lv_bipush (v := (-6)) hx hb dX3_worstBan_38 (by decide) ?_
        refine lv_icmp_eq (tgt := 49) hx hb dX3_worstBan_40 (by decide) (fun c_6 => ?_) (fun c_6 => ?_)
        · skip
          refine lv_iconst (v := 1) hx hb dX3_worstBan_49 (by decide) ?_
          refine lv_goto (tgt := 54) hx hb dX3_worstBan_50 (by decide) ?_
          refine lv_istore (lv' := [(5, .int 1), (4, .int (trM (ruA f) n (nI i) (-6) 0 30)), (3, .int (nI i)), (1, .int ((wbM (ruA f) n i).1)), (2, .int ((wbM (ruA f) n i).2)), (0, .ref (ad 0))]) hx hb dX3_worstBan_54 hl (by decide) rfl (fun ls hl => ?_)
          refine lv_iload hx hb dX3_worstBan_56 (lv_at hl 0 rfl) ?_
          refine lv_if_eq (tgt := 65) hx hb dX3_worstBan_58 (by decide) (fun c9 => absurd c9 (by decide)) (fun _ => ?_)
          refine lv_iload_n hx hb dX3_worstBan_61 rfl (lv_at hl 2 rfl) ?_
          refine lv_goto (tgt := 66) hx hb dX3_worstBan_62 (by decide) ?_
          refine lv_istore_n (lv' := [(1, .int (nI i)), (5, .int 1), (4, .int (trM (ruA f) n (nI i) (-6) 0 30)), (3, .int (nI i)), (2, .int ((wbM (ruA f) n i).2)), (0, .ref (ad 0))]) hx hb dX3_worstBan_66 rfl hl (by decide) rfl (fun ls hl => ?_)
          refine lv_iload hx hb dX3_worstBan_67 (lv_at hl 1 rfl) ?_
          refine lv_if_eq (tgt := 77) hx hb dX3_worstBan_69 (by decide) (fun c9 => absurd c9 (by decide)) (fun _ => ?_)
          refine lv_iload hx hb dX3_worstBan_72 (lv_at hl 2 rfl) ?_
          refine lv_goto (tgt := 78) hx hb dX3_worstBan_74 (by decide) ?_
          refine lv_istore_n (lv' := [(2, .int (trM (ruA f) n (nI i) (-6) 0 30)), (1, .int (nI i)), (5, .int 1), (4, .int (trM (ruA f) n (nI i) (-6) 0 30)), (3, .int (nI i)), (0, .ref (ad 0))]) hx hb dX3_worstBan_78 rfl hl (by decide) rfl (fun ls hl => ?_)
          refine lv_iinc (v := nI (i + 1)) (lv' := [(3, .int (nI (i + 1))), (2, .int (trM (ruA f) n (nI i) (-6) 0 30)), (1, .int (nI i)), (5, .int 1), (4, .int (trM (ruA f) n (nI i) (-6) 0 30)), (0, .ref (ad 0))]) hx hb dX3_worstBan_79 hl (k := 4) rfl (nI_1 _) (by decide) rfl (fun ls hl => ?_)
          refine lv_goto (tgt := 7) hx hb dX3_worstBan_82 (by decide) ?_
          exact ih7 (i + 1) _ _ _ (by omega) (by simp [wbM_s, wbst, c_3, c_6]) (by simp [wbM_s, wbst, c_3, c_6]) rfl _ _ hS_4 hW_4 (⟨_, k0_5, k1_5, k2_5, k3_5, k4_5, k5_5, k6_5⟩) ls (lv_sub hl [0, 2, 1, 5] rfl)
        · skip
          refine lv_iload hx hb dX3_worstBan_43 (lv_at hl 0 rfl) ?_
          refine lv_iload_n hx hb dX3_worstBan_45 rfl (lv_at hl 3 rfl) ?_
          refine lv_icmp_le (tgt := 53) hx hb dX3_worstBan_46 (by decide) (fun c_7 => ?_) (fun c_7 => ?_)
          · skip
            refine lv_iconst (v := 0) hx hb dX3_worstBan_53 (by decide) ?_
            refine lv_istore (lv' := [(5, .int 0), (4, .int (trM (ruA f) n (nI i) (-6) 0 30)), (3, .int (nI i)), (1, .int ((wbM (ruA f) n i).1)), (2, .int ((wbM (ruA f) n i).2)), (0, .ref (ad 0))]) hx hb dX3_worstBan_54 hl (by decide) rfl (fun ls hl => ?_)
            refine lv_iload hx hb dX3_worstBan_56 (lv_at hl 0 rfl) ?_
            refine lv_if_eq (tgt := 65) hx hb dX3_worstBan_58 (by decide) (fun _ => ?_) (fun c9 => absurd (by decide) c9)
            refine lv_iload_n hx hb dX3_worstBan_65 rfl (lv_at hl 3 rfl) ?_
            refine lv_istore_n (lv' := [(1, .int ((wbM (ruA f) n i).1)), (5, .int 0), (4, .int (trM (ruA f) n (nI i) (-6) 0 30)), (3, .int (nI i)), (2, .int ((wbM (ruA f) n i).2)), (0, .ref (ad 0))]) hx hb dX3_worstBan_66 rfl hl (by decide) rfl (fun ls hl => ?_)
            refine lv_iload hx hb dX3_worstBan_67 (lv_at hl 1 rfl) ?_
            refine lv_if_eq (tgt := 77) hx hb dX3_worstBan_69 (by decide) (fun _ => ?_) (fun c9 => absurd (by decide) c9)
            refine lv_iload_n hx hb dX3_worstBan_77 rfl (lv_at hl 4 rfl) ?_
            refine lv_istore_n (lv' := [(2, .int ((wbM (ruA f) n i).2)), (1, .int ((wbM (ruA f) n i).1)), (5, .int 0), (4, .int (trM (ruA f) n (nI i) (-6) 0 30)), (3, .int (nI i)), (0, .ref (ad 0))]) hx hb dX3_worstBan_78 rfl hl (by decide) rfl (fun ls hl => ?_)
            refine lv_iinc (v := nI (i + 1)) (lv' := [(3, .int (nI (i + 1))), (2, .int ((wbM (ruA f) n i).2)), (1, .int ((wbM (ruA f) n i).1)), (5, .int 0), (4, .int (trM (ruA f) n (nI i) (-6) 0 30)), (0, .ref (ad 0))]) hx hb dX3_worstBan_79 hl (k := 4) rfl (nI_1 _) (by decide) rfl (fun ls hl => ?_)
            refine lv_goto (tgt := 7) hx hb dX3_worstBan_82 (by decide) ?_
            exact ih7 (i + 1) _ _ _ (by omega) (by simp [wbM_s, wbst, c_3, c_6, c_7]) (by simp [wbM_s, wbst, c_3, c_6, c_7]) rfl _ _ hS_4 hW_4 (⟨_, k0_5, k1_5, k2_5, k3_5, k4_5, k5_5, k6_5⟩) ls (lv_sub hl [0, 2, 1, 5] rfl)
          · skip
            refine lv_iconst (v := 1) hx hb dX3_worstBan_49 (by decide) ?_
            refine lv_goto (tgt := 54) hx hb dX3_worstBan_50 (by decide) ?_
            refine lv_istore (lv' := [(5, .int 1), (4, .int (trM (ruA f) n (nI i) (-6) 0 30)), (3, .int (nI i)), (1, .int ((wbM (ruA f) n i).1)), (2, .int ((wbM (ruA f) n i).2)), (0, .ref (ad 0))]) hx hb dX3_worstBan_54 hl (by decide) rfl (fun ls hl => ?_)
            refine lv_iload hx hb dX3_worstBan_56 (lv_at hl 0 rfl) ?_
            refine lv_if_eq (tgt := 65) hx hb dX3_worstBan_58 (by decide) (fun c9 => absurd c9 (by decide)) (fun _ => ?_)
            refine lv_iload_n hx hb dX3_worstBan_61 rfl (lv_at hl 2 rfl) ?_
            refine lv_goto (tgt := 66) hx hb dX3_worstBan_62 (by decide) ?_
            refine lv_istore_n (lv' := [(1, .int (nI i)), (5, .int 1), (4, .int (trM (ruA f) n (nI i) (-6) 0 30)), (3, .int (nI i)), (2, .int ((wbM (ruA f) n i).2)), (0, .ref (ad 0))]) hx hb dX3_worstBan_66 rfl hl (by decide) rfl (fun ls hl => ?_)
            refine lv_iload hx hb dX3_worstBan_67 (lv_at hl 1 rfl) ?_
            refine lv_if_eq (tgt := 77) hx hb dX3_worstBan_69 (by decide) (fun c9 => absurd c9 (by decide)) (fun _ => ?_)
            refine lv_iload hx hb dX3_worstBan_72 (lv_at hl 2 rfl) ?_
            refine lv_goto (tgt := 78) hx hb dX3_worstBan_74 (by decide) ?_
            refine lv_istore_n (lv' := [(2, .int (trM (ruA f) n (nI i) (-6) 0 30)), (1, .int (nI i)), (5, .int 1), (4, .int (trM (ruA f) n (nI i) (-6) 0 30)), (3, .int (nI i)), (0, .ref (ad 0))]) hx hb dX3_worstBan_78 rfl hl (by decide) rfl (fun ls hl => ?_)
            refine lv_iinc (v := nI (i + 1)) (lv' := [(3, .int (nI (i + 1))), (2, .int (trM (ruA f) n (nI i) (-6) 0 30)), (1, .int (nI i)), (5, .int 1), (4, .int (trM (ruA f) n (nI i) (-6) 0 30)), (0, .ref (ad 0))]) hx hb dX3_worstBan_79 hl (k := 4) rfl (nI_1 _) (by decide) rfl (fun ls hl => ?_)
            refine lv_goto (tgt := 7) hx hb dX3_worstBan_82 (by decide) ?_
            exact ih7 (i + 1) _ _ _ (by omega) (by simp [wbM_s, wbst, c_3, c_6, c_7]) (by simp [wbM_s, wbst, c_3, c_6, c_7]) rfl _ _ hS_4 hW_4 (⟨_, k0_5, k1_5, k2_5, k3_5, k4_5, k5_5, k6_5⟩) ls (lv_sub hl [0, 2, 1, 5] rfl)
  exact loop7 (n - 0) 0 _ _ _ (by omega) rfl rfl rfl _ _ hS hW (⟨_, k0, k1, k2, k3, k4, k5, k6⟩) ls (lv_sub hl [0, 2, 1, 3] rfl)

theorem hdX3_bestWaiver : Hd yX3_bestWaiver 1 := by decide +kernel
set_option maxHeartbeats 1000000 in
set_option maxRecDepth 100000 in
theorem metX3_bestWaiver (l : Launch) (E : EV) (H : Heap) (ad : Nat → Nat) (f hst sl z pd : Nat → Int32) (kept len told : Int32) (hM : MPx E ad f hst sl z pd kept len told H) (hT : TW E ad) (n : Nat) (hn0 : f 0 = nI n) (hn24 : n ≤ 24) (hv : ∀ i, i < n → vp_in (ruA f i).1 5) (sv : Int32) : Ct l yX3_bestWaiver cX3_bestWaiver 6 (some .int) 6 146 (0) (0) [.ref (ad 0), .int sv] E H (TA ad) (pI (fun r H1 => r = bestWaiverM f n sv ∧ MPx E ad f hst sl z pd kept len told H1)) := by
  obtain ⟨g, k0, k1, k2, k3, k4, k5, k6⟩ := hM
  refine Ct.ofZ (by decide) (Nat.le_of_ble_eq_true rfl) ?_
  intro p e s m bl mt cd ls Q hF hW hH hl hend
  obtain ⟨F, hin⟩ := hF
  have hx := F.1
  have hb := F.2.1
  have hts := F.2.2.2.2
  have hl : lv_has ls 6 [(0, .ref (ad 0)), (1, .int sv)] := hl
  have hS : va_S (TA ad) H H [] := va_S.rf
  refine lv_iload_n hx hb dX3_bestWaiver_0 rfl (lv_at hl 1 rfl) ?_
  refine lv_iconst (v := 1) hx hb dX3_bestWaiver_1 (by decide) ?_
  refine lv_bipush (v := 9) hx hb dX3_bestWaiver_2 (by decide) ?_
  refine run_ro (w := .int (b2i (inR sv 1 9))) (rest := []) (kS F hW (metX3_in l E H sv 1 9) (lw_S q1049 q1050 q52 q1051) hdX3_in ⟨Nat.le_of_ble_eq_true rfl, Nat.le_of_ble_eq_true rfl⟩ hl.1 rfl (Nat.le_of_ble_eq_true rfl) dX3_bestWaiver_4 ⟨Nat.le_of_ble_eq_true rfl, Nat.le_of_ble_eq_true rfl⟩) ?_
  refine lv_if_ne (tgt := 13) hx hb dX3_bestWaiver_7 (by decide) (fun c_1 => ?_) (fun c_1 => ?_)
  · skip
    have bc_1 := c_1
    have c_1 := b2i_t c_1
    have hsv := c_1
    refine lv_iconst (v := 0) hx hb dX3_bestWaiver_13 (by decide) ?_
    refine lv_istore_n (lv' := [(2, .int 0), (0, .ref (ad 0)), (1, .int sv)]) hx hb dX3_bestWaiver_14 rfl hl (by decide) rfl (fun ls hl => ?_)
    refine lv_iconst (v := 0) hx hb dX3_bestWaiver_15 (by decide) ?_
    refine lv_istore_n (lv' := [(3, .int 0), (2, .int 0), (0, .ref (ad 0)), (1, .int sv)]) hx hb dX3_bestWaiver_16 rfl hl (by decide) rfl (fun ls hl => ?_)
    refine lv_iconst (v := 0) hx hb dX3_bestWaiver_17 (by decide) ?_
    refine lv_istore (lv' := [(4, .int 0), (3, .int 0), (2, .int 0), (0, .ref (ad 0)), (1, .int sv)]) hx hb dX3_bestWaiver_18 hl (by decide) rfl (fun ls hl => ?_)
    have loop20 : ∀ (nn i : Nat) (x4 x2 x3 : Int32), i + nn = 5 → x2 = (bwM (ruA f) n sv i).1 → x3 = (bwM (ruA f) n sv i).2 → x4 = nI i → ∀ (Hl_20 : Heap) (locs : List Loc), va_S (TA ad) H Hl_20 locs → WK E s Hl_20 → MPx E ad f hst sl z pd kept len told Hl_20 → ∀ ls : Array Slot, lv_has ls 6 [(4, .int x4), (2, .int x2), (3, .int x3), (0, .ref (ad 0)), (1, .int sv)] → W p l e ({ frames := 6, cells := 0, slots := 0, locals := 146 } : Room) s m ([.ref (ad 0), .int sv] : List Value).toArray bl mt cd Hl_20 locs 0 0 Q (F0 m 20 ls []) := by
      intro nn
      induction nn with
      | zero =>
        intro i x4 x2 x3 hn e2 e3 e4 Hl_20 locs hS_20 hW_20 hl_20 ls hl
        have hiN : i = 5 := by omega
        rw [hiN] at e4
        try rw [hiN] at e2
        try rw [hiN] at e3
        try rw [hiN] at hl_20
        rw [e4, e2, e3] at hl
        clear e4 e2 e3
        obtain ⟨g_2, k0_2, k1_2, k2_2, k3_2, k4_2, k5_2, k6_2⟩ := hl_20
        refine lv_iload hx hb dX3_bestWaiver_20 (lv_at hl 0 rfl) ?_
        refine lv_iconst (v := 5) hx hb dX3_bestWaiver_22 (by decide) ?_
        refine lv_icmp_ge (tgt := 69) hx hb dX3_bestWaiver_23 (by decide) (fun _ => ?_) (fun c9 => absurd (nI_le (a := 5) (b := 5) (by decide) (by decide)) c9)
        refine lv_iload_n hx hb dX3_bestWaiver_69 rfl (lv_at hl 1 rfl) ?_
        exact hend _ _ _ _ _ _ _ rfl dX3_bestWaiver_70 (⟨_, rfl, by simp [bestWaiverM, hsv], ⟨_, k0_2, k1_2, k2_2, k3_2, k4_2, k5_2, k6_2⟩⟩) hS_20 (Nat.zero_le _) (Nat.zero_le _)
      | succ nn ih20 =>
        intro i x4 x2 x3 hn e2 e3 e4 Hl_20 locs hS_20 hW_20 hl_20 ls hl
        rw [e4, e2, e3] at hl
        clear e4 e2 e3
        obtain ⟨g_3, k0_3, k1_3, k2_3, k3_3, k4_3, k5_3, k6_3⟩ := hl_20
        refine lv_iload hx hb dX3_bestWaiver_20 (lv_at hl 0 rfl) ?_
        refine lv_iconst (v := 5) hx hb dX3_bestWaiver_22 (by decide) ?_
        refine lv_icmp_ge (tgt := 69) hx hb dX3_bestWaiver_23 (by decide) (fun c9 => absurd c9 (nI_ge (a := i) (b := 5) (by omega) (by decide))) (fun _ => ?_)
        refine lv_aload_n hx hb dX3_bestWaiver_26 rfl (lv_at hl 3 rfl) ?_
        refine lv_bipush (v := (-6)) hx hb dX3_bestWaiver_27 (by decide) ?_
        refine lv_iload hx hb dX3_bestWaiver_29 (lv_at hl 0 rfl) ?_
        refine lv_iload_n hx hb dX3_bestWaiver_31 rfl (lv_at hl 4 rfl) ?_
        refine run_chI (rest := []) (kV F hW_20 (metX3_triples l E Hl_20 ad f hst sl z pd kept len told ⟨_, k0_3, k1_3, k2_3, k3_3, k4_3, k5_3, k6_3⟩ hT n hn0 hn24 hv (-6) (nI i) sv) (lw_V q1193 q1195 qs36 q52 q1196) hdX3_triples ⟨Nat.le_of_ble_eq_true rfl, Nat.le_of_ble_eq_true rfl⟩ (recv hW_20 k0_3 rfl) hl.1 rfl (Nat.le_of_ble_eq_true rfl) dX3_bestWaiver_32 ⟨Nat.le_of_ble_eq_true rfl, Nat.le_of_ble_eq_true rfl⟩) hS_20 (fun _ h9 => h9) (fun r_4 H_4 locs hp_4 hc_4 hS_4 => ?_)
        have hW_4 := hW_20.kept hc_4 hT.old
        obtain ⟨hr_4, hp_4⟩ := hp_4
        obtain ⟨g_5, k0_5, k1_5, k2_5, k3_5, k4_5, k5_5, k6_5⟩ := hp_4
        have hr_4 : r_4 = trM (ruA f) n (-6) (nI i) sv 30 := hr_4
        subst hr_4
        refine lv_istore (lv' := [(5, .int (trM (ruA f) n (-6) (nI i) sv 30)), (4, .int (nI i)), (2, .int ((bwM (ruA f) n sv i).1)), (3, .int ((bwM (ruA f) n sv i).2)), (0, .ref (ad 0)), (1, .int sv)]) hx hb dX3_bestWaiver_35 hl (by decide) rfl (fun ls hl => ?_)
        refine lv_iload hx hb dX3_bestWaiver_37 (lv_at hl 0 rfl) ?_
        refine lv_iload_n hx hb dX3_bestWaiver_39 rfl (lv_at hl 3 rfl) ?_
        refine lv_icmp_lt (tgt := 48) hx hb dX3_bestWaiver_40 (by decide) (fun c_6 => ?_) (fun c_6 => ?_)
        · skip
          refine lv_iload_n hx hb dX3_bestWaiver_48 rfl (lv_at hl 2 rfl) ?_
          refine lv_istore_n (lv' := [(2, .int ((bwM (ruA f) n sv i).1)), (5, .int (trM (ruA f) n (-6) (nI i) sv 30)), (4, .int (nI i)), (3, .int ((bwM (ruA f) n sv i).2)), (0, .ref (ad 0)), (1, .int sv)]) hx hb dX3_bestWaiver_49 rfl hl (by decide) rfl (fun ls hl => ?_)
          refine lv_iload hx hb dX3_bestWaiver_50 (lv_at hl 1 rfl) ?_
          refine lv_iload_n hx hb dX3_bestWaiver_52 rfl (lv_at hl 3 rfl) ?_
          refine lv_icmp_lt (tgt := 61) hx hb dX3_bestWaiver_53 (by decide) (fun _ => ?_) (fun c9 => absurd c_6 c9)
          refine lv_iload_n hx hb dX3_bestWaiver_61 rfl (lv_at hl 3 rfl) ?_
          refine lv_istore_n (lv' := [(3, .int ((bwM (ruA f) n sv i).2)), (2, .int ((bwM (ruA f) n sv i).1)), (5, .int (trM (ruA f) n (-6) (nI i) sv 30)), (4, .int (nI i)), (0, .ref (ad 0)), (1, .int sv)]) hx hb dX3_bestWaiver_62 rfl hl (by decide) rfl (fun ls hl => ?_)
          refine lv_iinc (v := nI (i + 1)) (lv' := [(4, .int (nI (i + 1))), (3, .int ((bwM (ruA f) n sv i).2)), (2, .int ((bwM (ruA f) n sv i).1)), (5, .int (trM (ruA f) n (-6) (nI i) sv 30)), (0, .ref (ad 0)), (1, .int sv)]) hx hb dX3_bestWaiver_63 hl (k := 3) rfl (nI_1 _) (by decide) rfl (fun ls hl => ?_)
          refine lv_goto (tgt := 20) hx hb dX3_bestWaiver_66 (by decide) ?_
          exact ih20 (i + 1) _ _ _ (by omega) (by simp [bwM_s, bwst, c_6]) (by simp [bwM_s, bwst, c_6]) rfl _ _ hS_4 hW_4 (⟨_, k0_5, k1_5, k2_5, k3_5, k4_5, k5_5, k6_5⟩) ls (lv_sub hl [0, 2, 1, 4, 5] rfl)
        · skip
          refine lv_iload hx hb dX3_bestWaiver_43 (lv_at hl 1 rfl) ?_
          refine lv_goto (tgt := 49) hx hb dX3_bestWaiver_45 (by decide) ?_
          refine lv_istore_n (lv' := [(2, .int (nI i)), (5, .int (trM (ruA f) n (-6) (nI i) sv 30)), (4, .int (nI i)), (3, .int ((bwM (ruA f) n sv i).2)), (0, .ref (ad 0)), (1, .int sv)]) hx hb dX3_bestWaiver_49 rfl hl (by decide) rfl (fun ls hl => ?_)
          refine lv_iload hx hb dX3_bestWaiver_50 (lv_at hl 1 rfl) ?_
          refine lv_iload_n hx hb dX3_bestWaiver_52 rfl (lv_at hl 3 rfl) ?_
          refine lv_icmp_lt (tgt := 61) hx hb dX3_bestWaiver_53 (by decide) (fun c9 => absurd c9 c_6) (fun _ => ?_)
          refine lv_iload hx hb dX3_bestWaiver_56 (lv_at hl 1 rfl) ?_
          refine lv_goto (tgt := 62) hx hb dX3_bestWaiver_58 (by decide) ?_
          refine lv_istore_n (lv' := [(3, .int (trM (ruA f) n (-6) (nI i) sv 30)), (2, .int (nI i)), (5, .int (trM (ruA f) n (-6) (nI i) sv 30)), (4, .int (nI i)), (0, .ref (ad 0)), (1, .int sv)]) hx hb dX3_bestWaiver_62 rfl hl (by decide) rfl (fun ls hl => ?_)
          refine lv_iinc (v := nI (i + 1)) (lv' := [(4, .int (nI (i + 1))), (3, .int (trM (ruA f) n (-6) (nI i) sv 30)), (2, .int (nI i)), (5, .int (trM (ruA f) n (-6) (nI i) sv 30)), (0, .ref (ad 0)), (1, .int sv)]) hx hb dX3_bestWaiver_63 hl (k := 3) rfl (nI_1 _) (by decide) rfl (fun ls hl => ?_)
          refine lv_goto (tgt := 20) hx hb dX3_bestWaiver_66 (by decide) ?_
          exact ih20 (i + 1) _ _ _ (by omega) (by simp [bwM_s, bwst, c_6]) (by simp [bwM_s, bwst, c_6]) rfl _ _ hS_4 hW_4 (⟨_, k0_5, k1_5, k2_5, k3_5, k4_5, k5_5, k6_5⟩) ls (lv_sub hl [0, 2, 1, 4, 5] rfl)
    exact loop20 (5 - 0) 0 _ _ _ (by omega) rfl rfl rfl _ _ hS hW (⟨_, k0, k1, k2, k3, k4, k5, k6⟩) ls (lv_sub hl [0, 2, 1, 3, 4] rfl)
  · skip
    have bc_1 := c_1
    have c_1 := b2i_f c_1
    refine lv_bipush (v := (-2)) hx hb dX3_bestWaiver_10 (by decide) ?_
    exact hend _ _ _ _ _ _ _ rfl dX3_bestWaiver_12 (⟨_, rfl, by simp [bestWaiverM, c_1], ⟨_, k0, k1, k2, k3, k4, k5, k6⟩⟩) hS (Nat.zero_le _) (Nat.zero_le _)

