/-! STRINGBUILDER: what grows; strings -/
set_option maxRecDepth 100000
theorem shl_0 (x : Int32) : x <<< ((0 : Int32) &&& 31) = x := by rw [show ((0 : Int32) &&& 31) = 0 from rfl]; exact Int32.shiftLeft_zero
section KO
variable {p : Program} {l : Launch} {e : Env} {R : Room} {s : State} {m : MethodId} {args : Array Value} {below : List Frame} {meth : Method} {c : Code} {H : Heap} {locs : List Loc} {cells slots : Nat} {Q : State → Prop}
variable {cc : ByteArray} {pc nL index : Nat} {ls : Array Slot} {rest st0 : List Value} {E : EV} {A1 : Nat → Prop} {own C : String} {y : MethodName} {bytes : ByteArray} {maxL fr lo mc ms b : Nat} {ret : Option FieldType} {As : List Value} {post : Option Value → Heap → Prop}
/-- a call of an overriding method, by the name of what it overrides -/
theorem kO (F : CallFix p m c cc nL s args lw_all own) (hW : WK E s H) {x : MethodName} (hM : Ct l y bytes maxL ret fr lo mc ms (.ref b :: As) E H A1 post) (hlink : Cond.methodLink own index x ∈ lw_all) (hsame : Cond.sameMethod x.cls x.cls x.name x.desc ∈ lw_all) (hinst0 : Cond.instanceMethod ⟨x.cls, x.name, x.desc⟩ ∈ lw_all) {b0 : ByteArray} {m0 : Nat} {r0 : Option FieldType} (h0 : Cond.code ⟨x.cls, x.name, x.desc⟩ b0 m0 r0 ∈ lw_all) (hsel : Cond.selects C x y ∈ lw_all) (hinst : Cond.instanceMethod y ∈ lw_all) (hini : Cond.initialized y.cls ∈ lw_all) (hcode : Cond.code y bytes maxL ret ∈ lw_all) (hd : Hd x As.length) (hR : Rm R fr lo maxL) (hb : Recv s H C b)
    (hsz : ls.size = nL) (hst : st0 = As.reverse ++ .ref b :: rest) (hcat : (rest.map fun v => v.category).sum ≤ 8) (hdg : decode cc pc = .ok (.invokevirtual index, 3)) (hf : cells + mc ≤ R.cells ∧ slots + ms ≤ R.slots) :
    va_Run p l e R s m args below meth c H locs cells slots mc ms (F0 m pc ls st0) rest (Qg post A1 (Value.ref b :: As).toArray) A1 := by
  refine va_runU F hM (va_cwO (x := x) (owner := x.cls) As.length F.2.2.2.2 ?_ rfl rfl rfl h0 ⟨hd.1, hd.2.1, hd.2.2⟩ hR) ⟨blind, hb, preU hW⟩ rfl rfl hsz hst (lv_room hcat) hdg hf
  refine lw_app ?_ (lw_meth hcode)
  intro w hw
  simp only [List.mem_cons, List.not_mem_nil, or_false] at hw
  rcases hw with e | e | e | e | e | e
  · rw [e]; exact hlink
  · rw [e]; exact hsame
  · rw [e]; exact hinst0
  · rw [e]; exact hsel
  · rw [e]; exact hinst
  · rw [e]; exact hini
end KO
/-- bytes that are characters -/
def Cb (f : Nat → Int32) (n : Nat) : Prop := ∀ i, i < n → ∃ ch : Nat, f i = nI ch ∧ ch < 128
theorem Cb.fit {f : Nat → Int32} {n : Nat} (h : Cb f n) : ∀ i, i < n → fits .byte (.int (f i)) = true := fun i hi => by
  obtain ⟨ch, h1, h2⟩ := h i hi
  rw [h1]; exact chr_fit h2
theorem Cb.cpy {f g : Nat → Int32} {n m d k : Nat} (h : Cb f k) (hg : Cb g m) (hn : n ≤ m) : Cb (va_cpy f g 0 d k) n := fun i hi => by
  unfold va_cpy
  split
  · exact h _ (by omega)
  · exact hg i (by omega)
theorem Cb.put {f : Nat → Int32} {n k ch : Nat} (h : Cb f n) (hc : ch < 128) : Cb (upd f k (nI ch)) n := fun i hi => by
  by_cases e : i = k
  · subst e; exact ⟨ch, pk_us, hc⟩
  · rw [pk_un e]; exact h i hi
theorem Cb.zero {n : Nat} : Cb (fun _ => 0) n := fun _ _ => ⟨0, rfl, by decide⟩
theorem str_cb {E : EV} {q v n : Nat} {f : Nat → Int32} {H : Heap} (h : Str E q v n f H) : Cb f n := fun i hi => by
  rcases h with ⟨_, _, h⟩ | ⟨_, _, _, h⟩
  · omega
  · exact h i hi
theorem hdJ7_copyOf_3 : Hd yJ7_copyOf_3 2 := by decide +kernel
set_option maxHeartbeats 1000000 in
set_option maxRecDepth 100000 in
theorem metJ7_copyOf_3 (l : Launch) (E : EV) (H : Heap) (v cap n : Nat) (f : Nat → Int32) (hv : iat E v 1 cap f H) (hcn : cap < n) (hn : n ≤ 400) (hfb : Cb f cap) : Ct l yJ7_copyOf_3 cJ7_copyOf_3 3 (some (.array .byte)) 1 64 (1) (400) [.ref v, .int (nI n)] E H (fun q => H.size ≤ q) (pA (fun r H1 => r = H.size ∧ iat E H.size 1 n (va_cpy f (fun _ => 0) 0 0 cap) H1)) := by
  refine Ct.ofA (Or.inr ⟨_, rfl⟩) (by decide) (Nat.le_of_ble_eq_true rfl) ?_
  intro p e s m bl mt cd ls Q hF hW hH hl hend
  obtain ⟨F, hin⟩ := hF
  have hx := F.1
  have hb := F.2.1
  have hts := F.2.2.2.2
  have hl : lv_has ls 3 [(0, .ref v), (1, .int (nI n))] := hl
  have hS : va_S (fun q => H.size ≤ q) H H [] := va_S.rf
  refine lv_iload_n hx hb dJ7_copyOf_3_0 rfl (lv_at hl 1 rfl) ?_
  refine lv_aload_n hx hb dJ7_copyOf_3_1 rfl (lv_at hl 0 rfl) ?_
  refine xilen F hW 1 hv rfl dJ7_copyOf_3_2 ?_
  refine lv_icmp_ne (tgt := 14) hx hb dJ7_copyOf_3_3 (by decide) (fun _ => ?_) (fun c9 => absurd c9 (fun h9 : nI n = nI cap => by have h8 := (nI_eq (by omega) (by omega)).mp h9; omega))
  refine lv_iload_n hx hb dJ7_copyOf_3_14 rfl (lv_at hl 1 rfl) ?_
  refine xnewa (atype := .byte) F q176 rfl hW hS 1 rfl (fun _ h => h) rfl (N' := n) (by rw [show (nI n : Int32) = nI (n) from (rfl : nI n = nI n)]; exact nI_pos (by omega)) (cl_eq (n := n) (rfl : nI n = nI n) (by omega)) (by show n * 1 ≤ 536870912; omega) (by show 0 + 1 ≤ 1; omega) (by show 0 + n ≤ 400; omega) dJ7_copyOf_3_15 (fun H_1 ho_1 hp_1 hS_1 => ?_)
  have hz_H_1 : H_1.size = H.size + 1 := hp_1.1
  have hW_H_1 := hW.kept (hp_1.chg (A := fun _ => False)) (fun _ _ h9 => h9.elim)
  have hv_H_1 := hv.kept (hp_1.chg (A := fun _ => False)) (fun h9 => h9)
  refine lv_astore_n (lv' := [(2, .ref H.size), (0, .ref v), (1, .int (nI n))]) hx hb dJ7_copyOf_3_17 rfl hl (by decide) rfl (fun ls hl => ?_)
  refine lv_aload_n hx hb dJ7_copyOf_3_18 rfl (lv_at hl 1 rfl) ?_
  refine lv_iconst (v := 0) hx hb dJ7_copyOf_3_19 (by decide) ?_
  refine lv_aload_n hx hb dJ7_copyOf_3_20 rfl (lv_at hl 0 rfl) ?_
  refine lv_iconst (v := 0) hx hb dJ7_copyOf_3_21 (by decide) ?_
  refine lv_aload_n hx hb dJ7_copyOf_3_22 rfl (lv_at hl 1 rfl) ?_
  refine xilen F hW_H_1 1 hv_H_1 rfl dJ7_copyOf_3_23 ?_
  refine lv_iload_n hx hb dJ7_copyOf_3_24 rfl (lv_at hl 2 rfl) ?_
  refine xmin (hl.1 ▸ F) q278 (Nat.le_of_ble_eq_true rfl) (Nat.le_of_ble_eq_true rfl) (by show 1 ≤ 1; omega) (by show 0 + n ≤ 400; omega) dJ7_copyOf_3_25 ?_
  refine lv_val (y := nI (min cap n)) (mnI_n (by omega) (by omega)) ?_
  have k1 : (0 : Int32).toNatClampNeg = 0 := rfl
  have k2 : (0 : Int32).toNatClampNeg = 0 := rfl
  have k3 : (nI (min cap n) : Int32).toNatClampNeg = (min cap n) := (cl_eq (n := (min cap n)) (rfl : nI (min cap n) = nI (min cap n)) (by omega))
  refine xbcopy (hl.1 ▸ F) q281 q283 q282 q56 hW_H_1 hv_H_1 ho_1 hS_1 (Nat.le_refl _) (by decide) (by decide) (by rw [show (nI (min cap n) : Int32) = nI ((min cap n)) from (rfl : nI (min cap n) = nI (min cap n))]; exact nI_pos (by omega)) (by rw [k1, k3]; omega) (by rw [k2, k3]; omega) (by rw [k1, k3]; exact (fun i hi => by rw [Nat.zero_add]; exact hfb.fit i (by omega))) (Nat.le_of_ble_eq_true rfl) (Nat.le_of_ble_eq_true rfl) dJ7_copyOf_3_28 (fun H_2 locs ho_2 hu_2 hS_2 => ?_)
  have ho_2 : iat E H.size 1 n (va_cpy f (fun _ => 0) 0 0 (min cap n)) H_2 := by have h9 := ho_2; simp only [k1, k2, k3] at h9; exact h9
  have hz_H_2 : H_2.size = H_1.size := hu_2.1
  have hW_H_2 := hW_H_1.kept hu_2.chg (fun q _ hq => hq ▸ hW.2.2)
  have hv_H_2 := hv_H_1.kept hu_2.chg (Nat.ne_of_lt hv.lt)
  refine lv_aload_n hx hb dJ7_copyOf_3_31 rfl (lv_at hl 0 rfl) ?_
  exact hend _ _ _ _ _ _ _ (Or.inr ⟨_, rfl⟩) dJ7_copyOf_3_32 (⟨_, rfl, rfl, (by rw [show min cap n = cap by omega] at ho_2; exact ho_2)⟩) hS_2 (by first | exact Nat.le_refl _ | (show (1 : Nat) ≤ 1; omega)) (by first | exact Nat.le_refl _ | (show (0 + n : Nat) ≤ 400; omega))

theorem hdJ3_newCapacity : Hd yJ3_newCapacity 1 := by decide +kernel
set_option maxHeartbeats 1000000 in
set_option maxRecDepth 100000 in
theorem metJ3_newCapacity (l : Launch) (E : EV) (H : Heap) (q v cap n : Nat) (mb : Int32) (f : Nat → Int32) (hsb : SB E q v cap n mb f H) (mn : Nat) (hcm : cap < mn) (hmn : mn ≤ 100) : Ro l yJ3_newCapacity cJ3_newCapacity 6 (some .int) 2 63 [.ref q, .int (nI mn)] E H (some (.int (nI (cap + max (mn - cap) (cap + 2))))) := by
  have hsb0 := hsb
  obtain ⟨hq, hv, hnc, hcap⟩ := hsb
  refine Ct.ofZ (by decide) (Nat.le_of_ble_eq_true rfl) ?_
  intro p e s m bl mt cd ls Q hF hW hH hl hend
  obtain ⟨F, hin⟩ := hF
  have hx := F.1
  have hb := F.2.1
  have hts := F.2.2.2.2
  have hl : lv_has ls 6 [(0, .ref q), (1, .int (nI mn))] := hl
  have hS : va_S (fun _ => False) H H [] := va_S.rf
  refine lv_aload_n hx hb dJ3_newCapacity_0 rfl (lv_at hl 0 rfl) ?_
  refine xget (ref := "java/lang/AbstractStringBuilder") (ci := 7) (v := .ref v) (C := RJ4) (T := TJ4) (N := 4) F in_J4 hW hq rfl 0 (by decide) q162 (fun _ h9 => h9) rfl dJ3_newCapacity_1 ?_
  refine xilen F hW 1 hv rfl dJ3_newCapacity_4 ?_
  refine lv_istore_n (lv' := [(2, .int (nI cap)), (0, .ref q), (1, .int (nI mn))]) hx hb dJ3_newCapacity_5 rfl hl (by decide) rfl (fun ls hl => ?_)
  refine lv_iload_n hx hb dJ3_newCapacity_6 rfl (lv_at hl 2 rfl) ?_
  refine lv_aload_n hx hb dJ3_newCapacity_7 rfl (lv_at hl 1 rfl) ?_
  refine xget (ref := "java/lang/AbstractStringBuilder") (ci := 7) (v := .int 0) (C := RJ4) (T := TJ4) (N := 4) F in_J4 hW hq rfl 1 (by decide) q163 (fun _ h9 => h9) rfl dJ3_newCapacity_8 ?_
  refine lv_ishl hx hb dJ3_newCapacity_11 ?_
  refine lv_val (y := nI mn) (shl_0 _) ?_
  refine lv_istore_n (lv' := [(3, .int (nI mn)), (2, .int (nI cap)), (0, .ref q), (1, .int (nI mn))]) hx hb dJ3_newCapacity_12 rfl hl (by decide) rfl (fun ls hl => ?_)
  refine lv_iload_n hx hb dJ3_newCapacity_13 rfl (lv_at hl 0 rfl) ?_
  refine lv_iload_n hx hb dJ3_newCapacity_14 rfl (lv_at hl 1 rfl) ?_
  refine lv_isub hx hb dJ3_newCapacity_15 ?_
  refine lv_val (y := nI (mn - cap)) (pk_sub (a := mn) (b := cap) (by omega)) ?_
  refine lv_istore (lv' := [(4, .int (nI (mn - cap))), (3, .int (nI mn)), (2, .int (nI cap)), (0, .ref q), (1, .int (nI mn))]) hx hb dJ3_newCapacity_16 hl (by decide) rfl (fun ls hl => ?_)
  refine lv_iload_n hx hb dJ3_newCapacity_18 rfl (lv_at hl 2 rfl) ?_
  refine lv_iload hx hb dJ3_newCapacity_19 (lv_at hl 0 rfl) ?_
  refine lv_iload_n hx hb dJ3_newCapacity_21 rfl (lv_at hl 2 rfl) ?_
  refine lv_iconst (v := 2) hx hb dJ3_newCapacity_22 (by decide) ?_
  refine lv_aload_n hx hb dJ3_newCapacity_23 rfl (lv_at hl 3 rfl) ?_
  refine xget (ref := "java/lang/AbstractStringBuilder") (ci := 7) (v := .int 0) (C := RJ4) (T := TJ4) (N := 4) F in_J4 hW hq rfl 1 (by decide) q163 (fun _ h9 => h9) rfl dJ3_newCapacity_24 ?_
  refine lv_ishl hx hb dJ3_newCapacity_27 ?_
  refine lv_val (y := 2) (shl_0 _) ?_
  refine lv_iadd hx hb dJ3_newCapacity_28 ?_
  refine lv_val (y := nI (cap + 2)) ((nI_add (cap) (2))) ?_
  refine run_ro (w := .int (nI (cap + max (mn - cap) (cap + 2)))) (rest := []) (kS F hW (metJ9_newLength l E H cap (mn - cap) (cap + 2) (by omega) (by omega) (by omega) (by omega)) (lw_S q625 q289 q57 q290) hdJ9_newLength ⟨Nat.le_of_ble_eq_true rfl, Nat.le_of_ble_eq_true rfl⟩ hl.1 rfl (Nat.le_of_ble_eq_true rfl) dJ3_newCapacity_29 ⟨Nat.le_of_ble_eq_true rfl, Nat.le_of_ble_eq_true rfl⟩) ?_
  refine lv_istore (lv' := [(5, .int (nI (cap + max (mn - cap) (cap + 2)))), (4, .int (nI (mn - cap))), (3, .int (nI mn)), (2, .int (nI cap)), (0, .ref q), (1, .int (nI mn))]) hx hb dJ3_newCapacity_32 hl (by decide) rfl (fun ls hl => ?_)
  refine lv_iload hx hb dJ3_newCapacity_34 (lv_at hl 0 rfl) ?_
  refine lv_ldc (v := 2147483647) hx hb F.2.2.2.1 (hts _ q626) dJ3_newCapacity_36 ?_
  refine lv_icmp_ne (tgt := 51) hx hb dJ3_newCapacity_38 (by decide) (fun _ => ?_) (fun c9 => absurd c9 (fun h9 : nI (cap + max (mn - cap) (cap + 2)) = 2147483647 => by have h8 := (nI_eq (a := cap + max (mn - cap) (cap + 2)) (b := 2147483647) (by omega) (by omega)).mp h9; omega))
  refine lv_iload hx hb dJ3_newCapacity_51 (lv_at hl 0 rfl) ?_
  refine lv_aload_n hx hb dJ3_newCapacity_53 rfl (lv_at hl 4 rfl) ?_
  refine xget (ref := "java/lang/AbstractStringBuilder") (ci := 7) (v := .int 0) (C := RJ4) (T := TJ4) (N := 4) F in_J4 hW hq rfl 1 (by decide) q163 (fun _ h9 => h9) rfl dJ3_newCapacity_54 ?_
  refine lv_ishr hx hb dJ3_newCapacity_57 ?_
  refine lv_val (y := nI (cap + max (mn - cap) (cap + 2))) (sc_shr0 (n := (cap + max (mn - cap) (cap + 2))) (by omega)) ?_
  exact hend _ _ _ _ _ _ _ rfl dJ3_newCapacity_58 (⟨congrArg (fun z : Int32 => some (Value.int z)) (rfl), rfl⟩) hS (Nat.zero_le _) (Nat.zero_le _)

set_option maxHeartbeats 1000000 in
set_option maxRecDepth 100000 in
theorem metJ3_ensure1 (l : Launch) (E : EV) (H : Heap) (q v cap n : Nat) (mb : Int32) (f : Nat → Int32) (hsb : SB E q v cap n mb f H) (mn : Nat) (hmn : mn ≤ 100) (hqo : Old E q) (hqv : q ≠ v) (hfb : Cb f cap) (hmc : mn ≤ cap) : Ct l yJ3_ensureCapacityInternal cJ3_ensureCapacityInternal 3 none 3 88 (1) (400) [.ref q, .int (nI mn)] E H (fun x => x = q ∨ H.size ≤ x) (pN (fun H1 => ∃ (v' cap' : Nat) (f' : Nat → Int32), mn ≤ cap' ∧ cap ≤ cap' ∧ SB E q v' cap' n mb f' H1 ∧ (v' = v ∨ H.size ≤ v') ∧ (∀ j, j < n → f' j = f j) ∧ Cb f' cap')) := by
  have hsb0 := hsb
  obtain ⟨hq, hv, hnc, hcap⟩ := hsb
  refine Ct.ofV (by decide) (Nat.le_of_ble_eq_true rfl) ?_
  intro p e s m bl mt cd ls Q hF hW hH hl hend
  obtain ⟨F, hin⟩ := hF
  have hx := F.1
  have hb := F.2.1
  have hts := F.2.2.2.2
  have hl : lv_has ls 3 [(0, .ref q), (1, .int (nI mn))] := hl
  have hS : va_S (fun x => x = q ∨ H.size ≤ x) H H [] := va_S.rf
  refine lv_aload_n hx hb dJ3_ensureCapacityInternal_0 rfl (lv_at hl 0 rfl) ?_
  refine xget (ref := "java/lang/AbstractStringBuilder") (ci := 7) (v := .ref v) (C := RJ4) (T := TJ4) (N := 4) F in_J4 hW hq rfl 0 (by decide) q162 (fun _ h9 => h9) rfl dJ3_ensureCapacityInternal_1 ?_
  refine xilen F hW 1 hv rfl dJ3_ensureCapacityInternal_4 ?_
  refine lv_aload_n hx hb dJ3_ensureCapacityInternal_5 rfl (lv_at hl 0 rfl) ?_
  refine xget (ref := "java/lang/AbstractStringBuilder") (ci := 7) (v := .int 0) (C := RJ4) (T := TJ4) (N := 4) F in_J4 hW hq rfl 1 (by decide) q163 (fun _ h9 => h9) rfl dJ3_ensureCapacityInternal_6 ?_
  refine lv_ishr hx hb dJ3_ensureCapacityInternal_9 ?_
  refine lv_val (y := nI cap) (sc_shr0 (n := cap) (by omega)) ?_
  refine lv_istore_n (lv' := [(2, .int (nI cap)), (0, .ref q), (1, .int (nI mn))]) hx hb dJ3_ensureCapacityInternal_10 rfl hl (by decide) rfl (fun ls hl => ?_)
  refine lv_iload_n hx hb dJ3_ensureCapacityInternal_11 rfl (lv_at hl 2 rfl) ?_
  refine lv_iload_n hx hb dJ3_ensureCapacityInternal_12 rfl (lv_at hl 0 rfl) ?_
  refine lv_isub hx hb dJ3_ensureCapacityInternal_13 ?_
  refine lv_if_le (tgt := 38) hx hb dJ3_ensureCapacityInternal_14 (by decide) (fun _ => ?_) (fun c9 => absurd (sub_le0 hmc (by omega)) c9)
  exact hend _ _ _ _ _ _ dJ3_ensureCapacityInternal_38 (⟨rfl, v, cap, f, hmc, Nat.le_refl _, hsb0, Or.inl rfl, fun _ _ => rfl, hfb⟩) hS (Nat.zero_le _) (Nat.zero_le _)

set_option maxHeartbeats 1000000 in
set_option maxRecDepth 100000 in
theorem metJ3_ensure2 (l : Launch) (E : EV) (H : Heap) (q v cap n : Nat) (mb : Int32) (f : Nat → Int32) (hsb : SB E q v cap n mb f H) (mn : Nat) (hmn : mn ≤ 100) (hqo : Old E q) (hqv : q ≠ v) (hfb : Cb f cap) (hcm : cap < mn) : Ct l yJ3_ensureCapacityInternal cJ3_ensureCapacityInternal 3 none 3 88 (1) (400) [.ref q, .int (nI mn)] E H (fun x => x = q ∨ H.size ≤ x) (pN (fun H1 => ∃ (v' cap' : Nat) (f' : Nat → Int32), mn ≤ cap' ∧ cap ≤ cap' ∧ SB E q v' cap' n mb f' H1 ∧ (v' = v ∨ H.size ≤ v') ∧ (∀ j, j < n → f' j = f j) ∧ Cb f' cap')) := by
  have hsb0 := hsb
  obtain ⟨hq, hv, hnc, hcap⟩ := hsb
  refine Ct.ofV (by decide) (Nat.le_of_ble_eq_true rfl) ?_
  intro p e s m bl mt cd ls Q hF hW hH hl hend
  obtain ⟨F, hin⟩ := hF
  have hx := F.1
  have hb := F.2.1
  have hts := F.2.2.2.2
  have hl : lv_has ls 3 [(0, .ref q), (1, .int (nI mn))] := hl
  have hS : va_S (fun x => x = q ∨ H.size ≤ x) H H [] := va_S.rf
  refine lv_aload_n hx hb dJ3_ensureCapacityInternal_0 rfl (lv_at hl 0 rfl) ?_
  refine xget (ref := "java/lang/AbstractStringBuilder") (ci := 7) (v := .ref v) (C := RJ4) (T := TJ4) (N := 4) F in_J4 hW hq rfl 0 (by decide) q162 (fun _ h9 => h9) rfl dJ3_ensureCapacityInternal_1 ?_
  refine xilen F hW 1 hv rfl dJ3_ensureCapacityInternal_4 ?_
  refine lv_aload_n hx hb dJ3_ensureCapacityInternal_5 rfl (lv_at hl 0 rfl) ?_
  refine xget (ref := "java/lang/AbstractStringBuilder") (ci := 7) (v := .int 0) (C := RJ4) (T := TJ4) (N := 4) F in_J4 hW hq rfl 1 (by decide) q163 (fun _ h9 => h9) rfl dJ3_ensureCapacityInternal_6 ?_
  refine lv_ishr hx hb dJ3_ensureCapacityInternal_9 ?_
  refine lv_val (y := nI cap) (sc_shr0 (n := cap) (by omega)) ?_
  refine lv_istore_n (lv' := [(2, .int (nI cap)), (0, .ref q), (1, .int (nI mn))]) hx hb dJ3_ensureCapacityInternal_10 rfl hl (by decide) rfl (fun ls hl => ?_)
  refine lv_iload_n hx hb dJ3_ensureCapacityInternal_11 rfl (lv_at hl 2 rfl) ?_
  refine lv_iload_n hx hb dJ3_ensureCapacityInternal_12 rfl (lv_at hl 0 rfl) ?_
  refine lv_isub hx hb dJ3_ensureCapacityInternal_13 ?_
  refine lv_val (y := nI (mn - cap)) (pk_sub (a := mn) (b := cap) (by omega)) ?_
  refine lv_if_le (tgt := 38) hx hb dJ3_ensureCapacityInternal_14 (by decide) (fun c9 => absurd c9 (nI_nle (n := mn - cap) (by omega) (by omega))) (fun _ => ?_)
  refine lv_aload_n hx hb dJ3_ensureCapacityInternal_17 rfl (lv_at hl 1 rfl) ?_
  refine lv_aload_n hx hb dJ3_ensureCapacityInternal_18 rfl (lv_at hl 1 rfl) ?_
  refine xget (ref := "java/lang/AbstractStringBuilder") (ci := 7) (v := .ref v) (C := RJ4) (T := TJ4) (N := 4) F in_J4 hW hq rfl 0 (by decide) q162 (fun _ h9 => h9) rfl dJ3_ensureCapacityInternal_19 ?_
  refine lv_aload_n hx hb dJ3_ensureCapacityInternal_22 rfl (lv_at hl 1 rfl) ?_
  refine lv_iload_n hx hb dJ3_ensureCapacityInternal_23 rfl (lv_at hl 2 rfl) ?_
  refine run_ro (w := .int (nI (cap + max (mn - cap) (cap + 2)))) (rest := [.ref v, .ref q]) (kU (x := ⟨"java/lang/AbstractStringBuilder", "newCapacity", "(I)I"⟩) (C := "java/lang/StringBuilder") F hW (metJ3_newCapacity l E H q v cap n mb f hsb0 mn hcm hmn) q621 q1266 qx1 q623 q48 q624 rfl hdJ3_newCapacity ⟨Nat.le_of_ble_eq_true rfl, Nat.le_of_ble_eq_true rfl⟩ (recv hW hq rfl) hl.1 rfl (Nat.le_of_ble_eq_true rfl) dJ3_ensureCapacityInternal_24 ⟨Nat.le_of_ble_eq_true rfl, Nat.le_of_ble_eq_true rfl⟩) ?_
  refine lv_aload_n hx hb dJ3_ensureCapacityInternal_27 rfl (lv_at hl 1 rfl) ?_
  refine xget (ref := "java/lang/AbstractStringBuilder") (ci := 7) (v := .int 0) (C := RJ4) (T := TJ4) (N := 4) F in_J4 hW hq rfl 1 (by decide) q163 (fun _ h9 => h9) rfl dJ3_ensureCapacityInternal_28 ?_
  refine lv_ishl hx hb dJ3_ensureCapacityInternal_31 ?_
  refine lv_val (y := nI (cap + max (mn - cap) (cap + 2))) (shl_0 _) ?_
  refine run_chA (rest := [.ref q]) (kS F hW (metJ7_copyOf_3 l E H v cap (cap + max (mn - cap) (cap + 2)) f hv (by omega) (by omega) hfb) (lw_S q627 q628 q54 q629) hdJ7_copyOf_3 ⟨Nat.le_of_ble_eq_true rfl, Nat.le_of_ble_eq_true rfl⟩ hl.1 rfl (Nat.le_of_ble_eq_true rfl) dJ3_ensureCapacityInternal_32 ⟨by show 0 + 1 ≤ 1; omega, by show 0 + 400 ≤ 400; omega⟩) hS (fun _ h => Or.inr h) (fun r_1 H_1 locs hp_1 hc_1 hS_1 => ?_)
  obtain ⟨e9, hvn⟩ := hp_1
  subst e9
  have hW_H_1 := hW.kept hc_1 (fun q h1 h2 => absurd h1 (Nat.not_lt.mpr h2))
  have hq_H_1 := hq.kept hc_1 (Nat.not_le.mpr hq.lt)
  have hv_H_1 := hv.kept hc_1 (Nat.not_le.mpr hv.lt)
  refine xput (ref := "java/lang/AbstractStringBuilder") (ci := 7) (v := .ref H.size) (C := RJ4) (T := TJ4) (N := 4) F in_J4 tyJ4 tyJ4_ok nmJ4 hW_H_1 hq_H_1 hS_1 (Or.inl rfl) rfl 0 (by decide) q162 (fun _ h9 => h9) rfl rfl rfl (Nat.le_of_ble_eq_true rfl) dJ3_ensureCapacityInternal_35 (fun H_2 locs ho_2 hu_2 hS_2 => ?_)
  have ho_2 : oat E q 7 [.ref H.size, .int 0, .int mb, .int (nI n)] H_2 := ho_2
  have hz_H_2 : H_2.size = H_1.size := hu_2.1
  have hW_H_2 := hW_H_1.kept hu_2.chg (fun q _ hq => hq ▸ hqo)
  have hv_H_2 := hv_H_1.kept hu_2.chg (fun h9 => hqv (show v = q from h9).symm)
  have hvn_H_2 := hvn.kept hu_2.chg (fun h9 => by have h8 : H.size = q := h9; have h7 := hq.lt; omega)
  exact hend _ _ _ _ _ _ dJ3_ensureCapacityInternal_38 (⟨rfl, H.size, _, _, by omega, by omega, ⟨ho_2, hvn_H_2, by omega, by omega⟩, Or.inr (Nat.le_refl _), fun j hj => (show va_cpy _ _ 0 0 cap j = f j by unfold va_cpy; rw [if_pos ⟨by omega, by omega⟩, Nat.zero_add, Nat.sub_zero]), (show Cb f cap from hfb).cpy Cb.zero (Nat.le_refl _)⟩) hS_2 (by first | exact Nat.le_refl _ | (show (1 : Nat) ≤ 1; omega)) (by first | exact Nat.le_refl _ | (show (400 : Nat) ≤ 400; omega))

theorem metJ3_ensure (l : Launch) (E : EV) (H : Heap) (q v cap n : Nat) (mb : Int32) (f : Nat → Int32) (hsb : SB E q v cap n mb f H) (mn : Nat) (hmn : mn ≤ 100) (hqo : Old E q) (hqv : q ≠ v) (hfb : Cb f cap) : Ct l yJ3_ensureCapacityInternal cJ3_ensureCapacityInternal 3 none 3 88 (1) (400) [.ref q, .int (nI mn)] E H (fun x => x = q ∨ H.size ≤ x) (pN (fun H1 => ∃ (v' cap' : Nat) (f' : Nat → Int32), mn ≤ cap' ∧ cap ≤ cap' ∧ SB E q v' cap' n mb f' H1 ∧ (v' = v ∨ H.size ≤ v') ∧ (∀ j, j < n → f' j = f j) ∧ Cb f' cap')) := by
  by_cases h : mn ≤ cap
  · exact metJ3_ensure1 l E H q v cap n mb f hsb mn hmn hqo hqv hfb h
  · exact metJ3_ensure2 l E H q v cap n mb f hsb mn hmn hqo hqv hfb (by omega)
theorem hdJ12_canEncode_2 : Hd yJ12_canEncode_2 1 := by decide +kernel
set_option maxHeartbeats 1000000 in
set_option maxRecDepth 100000 in
theorem metJ12_canEncode_2 (l : Launch) (E : EV) (H : Heap) (ch : Nat) (hc : ch < 128) : Ro l yJ12_canEncode_2 cJ12_canEncode_2 1 (some .boolean) 0 0 [.int (nI ch)] E H (some (.int (b2i true))) := by
  refine Ct.ofZ (by decide) (Nat.le_of_ble_eq_true rfl) ?_
  intro p e s m bl mt cd ls Q hF hW hH hl hend
  obtain ⟨F, hin⟩ := hF
  have hx := F.1
  have hb := F.2.1
  have hts := F.2.2.2.2
  have hl : lv_has ls 1 [(0, .int (nI ch))] := hl
  have hS : va_S (fun _ => False) H H [] := va_S.rf
  refine lv_iload_n hx hb dJ12_canEncode_2_0 rfl (lv_at hl 0 rfl) ?_
  refine lv_sipush (v := 255) hx hb dJ12_canEncode_2_1 (by decide) ?_
  refine lv_icmp_gt (tgt := 11) hx hb dJ12_canEncode_2_4 (by decide) (fun c9 => absurd c9 (fun h9 : 255 < nI ch => by have h8 := (nI_ltI (a := 255) (b := ch) (by omega) (by omega)).mp h9; omega)) (fun _ => ?_)
  refine lv_iconst (v := 1) hx hb dJ12_canEncode_2_7 (by decide) ?_
  refine lv_goto (tgt := 12) hx hb dJ12_canEncode_2_8 (by decide) ?_
  exact hend _ _ _ _ _ _ _ rfl dJ12_canEncode_2_12 (⟨congrArg (fun z : Int32 => some (Value.int z)) (rfl), rfl⟩) hS (Nat.zero_le _) (Nat.zero_le _)

theorem hdJ3_append : Hd yJ3_append 1 := by decide +kernel
set_option maxHeartbeats 1000000 in
set_option maxRecDepth 100000 in
theorem metJ3_append (l : Launch) (E : EV) (H : Heap) (q v cap n : Nat) (mb : Int32) (f : Nat → Int32) (hsb : SB E q v cap n mb f H) (hqo : Old E q) (hvo : Old E v) (hqv : q ≠ v) (hroom : n + 1 ≤ cap) (ch : Nat) (hc : ch < 128) : Ct l yJ3_append cJ3_append 2 (some (.object "java/lang/AbstractStringBuilder")) 4 110 (0) (0) [.ref q, .int (nI ch)] E H (fun x => x = q ∨ x = v) (pA (fun r H1 => r = q ∧ SB E q v cap (n + 1) mb (upd f n (nI ch)) H1)) := by
  have hsb0 := hsb
  obtain ⟨hq, hv, hnc, hcap⟩ := hsb
  refine Ct.ofA (Or.inl ⟨_, rfl⟩) (by decide) (Nat.le_of_ble_eq_true rfl) ?_
  intro p e s m bl mt cd ls Q hF hW hH hl hend
  obtain ⟨F, hin⟩ := hF
  have hx := F.1
  have hb := F.2.1
  have hts := F.2.2.2.2
  have hl : lv_has ls 2 [(0, .ref q), (1, .int (nI ch))] := hl
  have hS : va_S (fun x => x = q ∨ x = v) H H [] := va_S.rf
  refine lv_aload_n hx hb dJ3_append_0 rfl (lv_at hl 0 rfl) ?_
  refine lv_aload_n hx hb dJ3_append_1 rfl (lv_at hl 0 rfl) ?_
  refine xget (ref := "java/lang/AbstractStringBuilder") (ci := 7) (v := .int (nI n)) (C := RJ4) (T := TJ4) (N := 4) F in_J4 hW hq rfl 3 (by decide) q166 (fun _ h9 => h9) rfl dJ3_append_2 ?_
  refine lv_iconst (v := 1) hx hb dJ3_append_5 (by decide) ?_
  refine lv_iadd hx hb dJ3_append_6 ?_
  refine lv_val (y := nI (n + 1)) ((nI_add (n) (1))) ?_
  refine run_roN (kU (x := ⟨"java/lang/AbstractStringBuilder", "ensureCapacityInternal", "(I)V"⟩) (C := "java/lang/StringBuilder") F hW (metJ3_ensureR l E H q v cap n mb f hsb0 (n + 1) hroom) q617 q1265 qx0 q619 q48 q620 rfl hdJ3_ensureCapacityInternal ⟨Nat.le_of_ble_eq_true rfl, Nat.le_of_ble_eq_true rfl⟩ (recv hW hq rfl) hl.1 rfl (Nat.le_of_ble_eq_true rfl) dJ3_append_7 ⟨Nat.le_of_ble_eq_true rfl, Nat.le_of_ble_eq_true rfl⟩) ?_
  refine lv_aload_n hx hb dJ3_append_10 rfl (lv_at hl 0 rfl) ?_
  refine run_ro (w := .int (b2i true)) (rest := []) (kU (x := ⟨"java/lang/AbstractStringBuilder", "isLatin1", "()Z"⟩) (C := "java/lang/StringBuilder") F hW (metJ3_isLatin1 l E H q v cap n mb f hsb0) q637 q639 q640 q638 q48 q641 rfl hdJ3_isLatin1 ⟨Nat.le_of_ble_eq_true rfl, Nat.le_of_ble_eq_true rfl⟩ (recv hW hq rfl) hl.1 rfl (Nat.le_of_ble_eq_true rfl) dJ3_append_11 ⟨Nat.le_of_ble_eq_true rfl, Nat.le_of_ble_eq_true rfl⟩) ?_
  refine lv_if_eq (tgt := 45) hx hb dJ3_append_14 (by decide) (fun c9 => absurd c9 (show ¬ b2i true = 0 by decide)) (fun _ => ?_)
  refine lv_iload_n hx hb dJ3_append_17 rfl (lv_at hl 1 rfl) ?_
  refine run_ro (w := .int (b2i true)) (rest := []) (kS F hW (metJ12_canEncode_2 l E H ch hc) (lw_S q864 q865 q62 q866) hdJ12_canEncode_2 ⟨Nat.le_of_ble_eq_true rfl, Nat.le_of_ble_eq_true rfl⟩ hl.1 rfl (Nat.le_of_ble_eq_true rfl) dJ3_append_18 ⟨Nat.le_of_ble_eq_true rfl, Nat.le_of_ble_eq_true rfl⟩) ?_
  refine lv_if_eq (tgt := 45) hx hb dJ3_append_21 (by decide) (fun c9 => absurd c9 (show ¬ b2i true = 0 by decide)) (fun _ => ?_)
  refine lv_aload_n hx hb dJ3_append_24 rfl (lv_at hl 0 rfl) ?_
  refine xget (ref := "java/lang/AbstractStringBuilder") (ci := 7) (v := .ref v) (C := RJ4) (T := TJ4) (N := 4) F in_J4 hW hq rfl 0 (by decide) q162 (fun _ h9 => h9) rfl dJ3_append_25 ?_
  refine lv_aload_n hx hb dJ3_append_28 rfl (lv_at hl 0 rfl) ?_
  refine lv_dup hx hb dJ3_append_29 rfl ?_
  refine xget (ref := "java/lang/AbstractStringBuilder") (ci := 7) (v := .int (nI n)) (C := RJ4) (T := TJ4) (N := 4) F in_J4 hW hq rfl 3 (by decide) q166 (fun _ h9 => h9) rfl dJ3_append_30 ?_
  refine lv_dup_x1 hx hb dJ3_append_33 rfl rfl ?_
  refine lv_iconst (v := 1) hx hb dJ3_append_34 (by decide) ?_
  refine lv_iadd hx hb dJ3_append_35 ?_
  refine lv_val (y := nI (n + 1)) ((nI_add (n) (1))) ?_
  refine xput (ref := "java/lang/AbstractStringBuilder") (ci := 7) (v := .int (nI (n + 1))) (C := RJ4) (T := TJ4) (N := 4) F in_J4 tyJ4 tyJ4_ok nmJ4 hW hq hS (Or.inl rfl) rfl 3 (by decide) q166 (fun _ h9 => h9) rfl rfl rfl (Nat.le_of_ble_eq_true rfl) dJ3_append_36 (fun H_1 locs ho_1 hu_1 hS_1 => ?_)
  have ho_1 : oat E q 7 [.ref v, .int 0, .int mb, .int (nI (n + 1))] H_1 := ho_1
  have hz_H_1 : H_1.size = H.size := hu_1.1
  have hW_H_1 := hW.kept hu_1.chg (fun q _ hq => hq ▸ hqo)
  have hv_H_1 := hv.kept hu_1.chg (fun h9 => hqv (show v = q from h9).symm)
  refine lv_iload_n hx hb dJ3_append_39 rfl (lv_at hl 1 rfl) ?_
  refine lv_i2b (v := nI ch) hx hb dJ3_append_40 (chr_i2b hc) ?_
  refine xbst F hW_H_1 hv_H_1 hS_1 (Or.inr rfl) (vp_in_nI (by omega) (by omega)) (chr_byte hc) dJ3_append_41 (fun H_2 locs ho_2 hu_2 hS_2 => ?_)
  have ho_2 : iat E v 1 cap (upd f n (nI ch)) H_2 := by have h9 := ho_2; rw [show (nI n : Int32).toNatClampNeg = n from by rw [nI_clamp (by omega)]] at h9; exact h9
  have hz_H_2 : H_2.size = H_1.size := hu_2.1
  have hW_H_2 := hW_H_1.kept hu_2.chg (fun q _ hq => hq ▸ hvo)
  have hx1_H_2 := ho_1.kept hu_2.chg hqv
  refine lv_goto (tgt := 75) hx hb dJ3_append_42 (by decide) ?_
  refine lv_aload_n hx hb dJ3_append_75 rfl (lv_at hl 0 rfl) ?_
  exact hend _ _ _ _ _ _ _ (Or.inr ⟨_, rfl⟩) dJ3_append_76 (⟨_, rfl, rfl, hx1_H_2, ho_2, hroom, hcap⟩) hS_2 (Nat.zero_le _) (Nat.zero_le _)

theorem hdJ4_append : Hd yJ4_append 1 := by decide +kernel
set_option maxHeartbeats 1000000 in
set_option maxRecDepth 100000 in
theorem metJ4_append (l : Launch) (E : EV) (H : Heap) (q v cap n : Nat) (mb : Int32) (f : Nat → Int32) (hsb : SB E q v cap n mb f H) (hqo : Old E q) (hvo : Old E v) (hqv : q ≠ v) (hroom : n + 1 ≤ cap) (ch : Nat) (hc : ch < 128) : Ct l yJ4_append cJ4_append 2 (some (.object "java/lang/StringBuilder")) 5 131 (0) (0) [.ref q, .int (nI ch)] E H (fun x => x = q ∨ x = v) (pA (fun r H1 => r = q ∧ SB E q v cap (n + 1) mb (upd f n (nI ch)) H1)) := by
  have hsb0 := hsb
  obtain ⟨hq, hv, hnc, hcap⟩ := hsb
  refine Ct.ofA (Or.inl ⟨_, rfl⟩) (by decide) (Nat.le_of_ble_eq_true rfl) ?_
  intro p e s m bl mt cd ls Q hF hW hH hl hend
  obtain ⟨F, hin⟩ := hF
  have hx := F.1
  have hb := F.2.1
  have hts := F.2.2.2.2
  have hl : lv_has ls 2 [(0, .ref q), (1, .int (nI ch))] := hl
  have hS : va_S (fun x => x = q ∨ x = v) H H [] := va_S.rf
  obtain ⟨cC, hat⟩ := cat (ci := 7) hW rfl
  refine lv_aload_n hx hb dJ4_append_0 rfl (lv_at hl 0 rfl) ?_
  refine lv_iload_n hx hb dJ4_append_1 rfl (lv_at hl 1 rfl) ?_
  refine run_chA (rest := []) (kSU hat F hW (metJ3_append l E H q v cap n mb f hsb0 hqo hvo hqv hroom ch hc) q861 q1267 q175 q862 q48 q863 (by decide +kernel) hdJ3_append ⟨Nat.le_of_ble_eq_true rfl, Nat.le_of_ble_eq_true rfl⟩ (recv hW hq rfl) hl.1 rfl (Nat.le_of_ble_eq_true rfl) dJ4_append_2 ⟨by show 0 + 0 ≤ 0; omega, by show 0 + 0 ≤ 0; omega⟩) hS (fun _ h => h) (fun r_1 H_1 locs hp_1 hc_1 hS_1 => ?_)
  obtain ⟨e9, hsb2⟩ := hp_1
  refine lv_pop hx hb dJ4_append_5 rfl ?_
  refine lv_aload_n hx hb dJ4_append_6 rfl (lv_at hl 0 rfl) ?_
  exact hend _ _ _ _ _ _ _ (Or.inr ⟨_, rfl⟩) dJ4_append_7 (⟨_, rfl, rfl, hsb2⟩) hS_1 (Nat.zero_le _) (Nat.zero_le _)

theorem hdJ5_coder : Hd yJ5_coder 0 := by decide +kernel
set_option maxHeartbeats 1000000 in
set_option maxRecDepth 100000 in
theorem metJ5_coder (l : Launch) (E : EV) (H : Heap) (t2 v2 n2 : Nat) (f2 : Nat → Int32) (hs : Str E t2 v2 n2 f2 H) : Ro l yJ5_coder cJ5_coder 1 (some .byte) 0 0 [.ref t2] E H (some (.int (0))) := by
  refine Ct.ofZ (by decide) (Nat.le_of_ble_eq_true rfl) ?_
  intro p e s m bl mt cd ls Q hF hW hH hl hend
  obtain ⟨F, hin⟩ := hF
  have hx := F.1
  have hb := F.2.1
  have hts := F.2.2.2.2
  have hl : lv_has ls 1 [(0, .ref t2)] := hl
  have hS : va_S (fun _ => False) H H [] := va_S.rf
  refine xgets F hW.2.1.2.2.2.1 q517 dJ5_coder_0 ?_
  refine lv_if_eq (tgt := 13) hx hb dJ5_coder_3 (by decide) (fun c9 => absurd c9 (by decide)) (fun _ => ?_)
  refine lv_aload_n hx hb dJ5_coder_6 rfl (lv_at hl 0 rfl) ?_
  refine xscod F hW hs q966 dJ5_coder_7 ?_
  refine lv_goto (tgt := 14) hx hb dJ5_coder_10 (by decide) ?_
  exact hend _ _ _ _ _ _ _ rfl dJ5_coder_14 (⟨congrArg (fun z : Int32 => some (Value.int z)) (rfl), rfl⟩) hS (Nat.zero_le _) (Nat.zero_le _)

theorem hdJ5_length : Hd yJ5_length 0 := by decide +kernel
set_option maxHeartbeats 1000000 in
set_option maxRecDepth 100000 in
theorem metJ5_length (l : Launch) (E : EV) (H : Heap) (t2 v2 n2 : Nat) (f2 : Nat → Int32) (hs : Str E t2 v2 n2 f2 H) : Ro l yJ5_length cJ5_length 1 (some .int) 1 20 [.ref t2] E H (some (.int (nI n2))) := by
  have hn2 := hs.n100
  refine Ct.ofZ (by decide) (Nat.le_of_ble_eq_true rfl) ?_
  intro p e s m bl mt cd ls Q hF hW hH hl hend
  obtain ⟨F, hin⟩ := hF
  have hx := F.1
  have hb := F.2.1
  have hts := F.2.2.2.2
  have hl : lv_has ls 1 [(0, .ref t2)] := hl
  have hS : va_S (fun _ => False) H H [] := va_S.rf
  refine lv_aload_n hx hb dJ5_length_0 rfl (lv_at hl 0 rfl) ?_
  refine xsval F hW hs q965 dJ5_length_1 ?_
  refine xslen F hW hs dJ5_length_4 ?_
  refine lv_aload_n hx hb dJ5_length_5 rfl (lv_at hl 0 rfl) ?_
  refine run_ro (w := .int 0) (rest := [.int (nI n2)]) (kV F hW (metJ5_coder l E H t2 v2 n2 f2 hs) (lw_V q522 q523 q524 q50 q525) hdJ5_coder ⟨Nat.le_of_ble_eq_true rfl, Nat.le_of_ble_eq_true rfl⟩ (Str.rcv hW hs) hl.1 rfl (Nat.le_of_ble_eq_true rfl) dJ5_length_6 ⟨Nat.le_of_ble_eq_true rfl, Nat.le_of_ble_eq_true rfl⟩) ?_
  refine lv_ishr hx hb dJ5_length_9 ?_
  refine lv_val (y := nI n2) (sc_shr0 (n := n2) (by omega)) ?_
  exact hend _ _ _ _ _ _ _ rfl dJ5_length_10 (⟨congrArg (fun z : Int32 => some (Value.int z)) (rfl), rfl⟩) hS (Nat.zero_le _) (Nat.zero_le _)

theorem hdJ5_isEmpty : Hd yJ5_isEmpty 0 := by decide +kernel
set_option maxHeartbeats 1000000 in
set_option maxRecDepth 100000 in
theorem metJ5_isEmpty (l : Launch) (E : EV) (H : Heap) (t2 v2 n2 : Nat) (f2 : Nat → Int32) (hs : Str E t2 v2 n2 f2 H) : Ro l yJ5_isEmpty cJ5_isEmpty 1 (some .boolean) 0 0 [.ref t2] E H (some (.int (b2i (decide (n2 = 0))))) := by
  have hn2 := hs.n100
  have h00 : (nI n2 = 0) ↔ n2 = 0 := nI_eq (a := n2) (b := 0) (by omega) (by omega)
  refine Ct.ofZ (by decide) (Nat.le_of_ble_eq_true rfl) ?_
  intro p e s m bl mt cd ls Q hF hW hH hl hend
  obtain ⟨F, hin⟩ := hF
  have hx := F.1
  have hb := F.2.1
  have hts := F.2.2.2.2
  have hl : lv_has ls 1 [(0, .ref t2)] := hl
  have hS : va_S (fun _ => False) H H [] := va_S.rf
  refine lv_aload_n hx hb dJ5_isEmpty_0 rfl (lv_at hl 0 rfl) ?_
  refine xsval F hW hs q965 dJ5_isEmpty_1 ?_
  refine xslen F hW hs dJ5_isEmpty_4 ?_
  refine lv_if_ne (tgt := 12) hx hb dJ5_isEmpty_5 (by decide) (fun c_1 => ?_) (fun c_1 => ?_)
  · skip
    refine lv_iconst (v := 0) hx hb dJ5_isEmpty_12 (by decide) ?_
    exact hend _ _ _ _ _ _ _ rfl dJ5_isEmpty_13 (⟨congrArg (fun z : Int32 => some (Value.int z)) (by have h8 := c_1; rw [h00] at h8; simp [b2i, h8]), rfl⟩) hS (Nat.zero_le _) (Nat.zero_le _)
  · skip
    refine lv_iconst (v := 1) hx hb dJ5_isEmpty_8 (by decide) ?_
    refine lv_goto (tgt := 13) hx hb dJ5_isEmpty_9 (by decide) ?_
    exact hend _ _ _ _ _ _ _ rfl dJ5_isEmpty_13 (⟨congrArg (fun z : Int32 => some (Value.int z)) (by have h8 := c_1; rw [h00] at h8; simp [b2i, h8]), rfl⟩) hS (Nat.zero_le _) (Nat.zero_le _)

theorem hdJ5_getBytes : Hd yJ5_getBytes 3 := by decide +kernel
set_option maxHeartbeats 1000000 in
set_option maxRecDepth 100000 in
theorem metJ5_getBytes (l : Launch) (E : EV) (H : Heap) (t2 v2 n2 : Nat) (f2 : Nat → Int32) (hs : Str E t2 v2 n2 f2 H) (a n1 d : Nat) (g : Nat → Int32) (ha : iat E a 1 n1 g H) (hao : Old E a) (hd : d + n2 ≤ n1) (hd4 : d ≤ 400) : Ct l yJ5_getBytes cJ5_getBytes 4 none 1 64 (0) (0) [.ref t2, .ref a, .int (nI d), .int 0] E H (fun x => x = a) (pN (fun H1 => iat E a 1 n1 (va_cpy f2 g 0 d n2) H1)) := by
  have hn2 := hs.n100
  refine Ct.ofV (by decide) (Nat.le_of_ble_eq_true rfl) ?_
  intro p e s m bl mt cd ls Q hF hW hH hl hend
  obtain ⟨F, hin⟩ := hF
  have hx := F.1
  have hb := F.2.1
  have hts := F.2.2.2.2
  have hl : lv_has ls 4 [(0, .ref t2), (1, .ref a), (2, .int (nI d)), (3, .int 0)] := hl
  have hS : va_S (fun x => x = a) H H [] := va_S.rf
  refine lv_aload_n hx hb dJ5_getBytes_0 rfl (lv_at hl 0 rfl) ?_
  refine run_ro (w := .int 0) (rest := []) (kV F hW (metJ5_coder l E H t2 v2 n2 f2 hs) (lw_V q522 q523 q524 q50 q525) hdJ5_coder ⟨Nat.le_of_ble_eq_true rfl, Nat.le_of_ble_eq_true rfl⟩ (Str.rcv hW hs) hl.1 rfl (Nat.le_of_ble_eq_true rfl) dJ5_getBytes_1 ⟨Nat.le_of_ble_eq_true rfl, Nat.le_of_ble_eq_true rfl⟩) ?_
  refine lv_iload_n hx hb dJ5_getBytes_4 rfl (lv_at hl 3 rfl) ?_
  refine lv_icmp_ne (tgt := 28) hx hb dJ5_getBytes_5 (by decide) (fun c9 => absurd (by decide) c9) (fun _ => ?_)
  refine lv_aload_n hx hb dJ5_getBytes_8 rfl (lv_at hl 0 rfl) ?_
  refine xsval F hW hs q965 dJ5_getBytes_9 ?_
  refine lv_iconst (v := 0) hx hb dJ5_getBytes_12 (by decide) ?_
  refine lv_aload_n hx hb dJ5_getBytes_13 rfl (lv_at hl 1 rfl) ?_
  refine lv_iload_n hx hb dJ5_getBytes_14 rfl (lv_at hl 2 rfl) ?_
  refine lv_iload_n hx hb dJ5_getBytes_15 rfl (lv_at hl 3 rfl) ?_
  refine lv_ishl hx hb dJ5_getBytes_16 ?_
  refine lv_val (y := nI d) (shl_0 _) ?_
  refine lv_aload_n hx hb dJ5_getBytes_17 rfl (lv_at hl 0 rfl) ?_
  refine xsval F hW hs q965 dJ5_getBytes_18 ?_
  refine xslen F hW hs dJ5_getBytes_21 ?_
  refine xscopy (d := d) (hl.1 ▸ F) q924 q283 q282 q56 hW hs ha hS rfl (by omega) (by omega) (Nat.le_of_ble_eq_true rfl) (Nat.le_of_ble_eq_true rfl) dJ5_getBytes_22 (fun H_1 locs ho_1 hu_1 hS_1 => ?_)
  have hz_H_1 : H_1.size = H.size := hu_1.1
  have hW_H_1 := hW.kept hu_1.chg (fun q _ hq => hq ▸ hao)
  refine lv_goto (tgt := 43) hx hb dJ5_getBytes_25 (by decide) ?_
  exact hend _ _ _ _ _ _ dJ5_getBytes_43 (⟨rfl, ho_1⟩) hS_1 (Nat.zero_le _) (Nat.zero_le _)

theorem hdJ3_inflateIfNeededFor : Hd yJ3_inflateIfNeededFor 1 := by decide +kernel
set_option maxHeartbeats 1000000 in
set_option maxRecDepth 100000 in
theorem metJ3_inflateIfNeededFor (l : Launch) (E : EV) (H : Heap) (q v cap n : Nat) (mb : Int32) (f : Nat → Int32) (hsb : SB E q v cap n mb f H) (t2 v2 n2 : Nat) (f2 : Nat → Int32) (hs : Str E t2 v2 n2 f2 H) : Ro l yJ3_inflateIfNeededFor cJ3_inflateIfNeededFor 2 none 1 20 [.ref q, .ref t2] E H none := by
  have hsb0 := hsb
  obtain ⟨hq, hv, hnc, hcap⟩ := hsb
  refine Ct.ofV (by decide) (Nat.le_of_ble_eq_true rfl) ?_
  intro p e s m bl mt cd ls Q hF hW hH hl hend
  obtain ⟨F, hin⟩ := hF
  have hx := F.1
  have hb := F.2.1
  have hts := F.2.2.2.2
  have hl : lv_has ls 2 [(0, .ref q), (1, .ref t2)] := hl
  have hS : va_S (fun _ => False) H H [] := va_S.rf
  refine xgets F hW.2.1.2.2.2.1 q153 dJ3_inflateIfNeededFor_0 ?_
  refine lv_if_eq (tgt := 21) hx hb dJ3_inflateIfNeededFor_3 (by decide) (fun c9 => absurd c9 (by decide)) (fun _ => ?_)
  refine lv_aload_n hx hb dJ3_inflateIfNeededFor_6 rfl (lv_at hl 0 rfl) ?_
  refine xget (ref := "java/lang/AbstractStringBuilder") (ci := 7) (v := .int 0) (C := RJ4) (T := TJ4) (N := 4) F in_J4 hW hq rfl 1 (by decide) q163 (fun _ h9 => h9) rfl dJ3_inflateIfNeededFor_7 ?_
  refine lv_aload_n hx hb dJ3_inflateIfNeededFor_10 rfl (lv_at hl 1 rfl) ?_
  refine run_ro (w := .int 0) (rest := [.int 0]) (kV F hW (metJ5_coder l E H t2 v2 n2 f2 hs) (lw_V q919 q523 q524 q50 q525) hdJ5_coder ⟨Nat.le_of_ble_eq_true rfl, Nat.le_of_ble_eq_true rfl⟩ (Str.rcv hW hs) hl.1 rfl (Nat.le_of_ble_eq_true rfl) dJ3_inflateIfNeededFor_11 ⟨Nat.le_of_ble_eq_true rfl, Nat.le_of_ble_eq_true rfl⟩) ?_
  refine lv_icmp_eq (tgt := 21) hx hb dJ3_inflateIfNeededFor_14 (by decide) (fun _ => ?_) (fun c9 => absurd (by decide) c9)
  exact hend _ _ _ _ _ _ dJ3_inflateIfNeededFor_21 (⟨rfl, rfl⟩) hS (Nat.zero_le _) (Nat.zero_le _)

theorem hdJ3_putStringAt : Hd yJ3_putStringAt 2 := by decide +kernel
set_option maxHeartbeats 1000000 in
set_option maxRecDepth 100000 in
theorem metJ3_putStringAt (l : Launch) (E : EV) (H : Heap) (q v cap n : Nat) (mb : Int32) (f : Nat → Int32) (hsb : SB E q v cap n mb f H) (t2 v2 n2 : Nat) (f2 : Nat → Int32) (hs : Str E t2 v2 n2 f2 H) (hvo : Old E v) (hqv : q ≠ v) (d : Nat) (hd : d + n2 ≤ cap) : Ct l yJ3_putStringAt cJ3_putStringAt 3 none 2 87 (0) (0) [.ref q, .int (nI d), .ref t2] E H (fun x => x = v) (pN (fun H1 => SB E q v cap n mb (va_cpy f2 f 0 d n2) H1)) := by
  have hsb0 := hsb
  obtain ⟨hq, hv, hnc, hcap⟩ := hsb
  refine Ct.ofV (by decide) (Nat.le_of_ble_eq_true rfl) ?_
  intro p e s m bl mt cd ls Q hF hW hH hl hend
  obtain ⟨F, hin⟩ := hF
  have hx := F.1
  have hb := F.2.1
  have hts := F.2.2.2.2
  have hl : lv_has ls 3 [(0, .ref q), (1, .int (nI d)), (2, .ref t2)] := hl
  have hS : va_S (fun x => x = v) H H [] := va_S.rf
  refine lv_aload_n hx hb dJ3_putStringAt_0 rfl (lv_at hl 0 rfl) ?_
  refine lv_aload_n hx hb dJ3_putStringAt_1 rfl (lv_at hl 2 rfl) ?_
  refine run_roN (kU (x := ⟨"java/lang/AbstractStringBuilder", "inflateIfNeededFor", "(Ljava/lang/String;)V"⟩) (C := "java/lang/StringBuilder") F hW (metJ3_inflateIfNeededFor l E H q v cap n mb f hsb0 t2 v2 n2 f2 hs) q915 q1272 qx3 q917 q48 q918 rfl hdJ3_inflateIfNeededFor ⟨Nat.le_of_ble_eq_true rfl, Nat.le_of_ble_eq_true rfl⟩ (recv hW hq rfl) hl.1 rfl (Nat.le_of_ble_eq_true rfl) dJ3_putStringAt_2 ⟨Nat.le_of_ble_eq_true rfl, Nat.le_of_ble_eq_true rfl⟩) ?_
  refine lv_aload_n hx hb dJ3_putStringAt_5 rfl (lv_at hl 2 rfl) ?_
  refine lv_aload_n hx hb dJ3_putStringAt_6 rfl (lv_at hl 0 rfl) ?_
  refine xget (ref := "java/lang/AbstractStringBuilder") (ci := 7) (v := .ref v) (C := RJ4) (T := TJ4) (N := 4) F in_J4 hW hq rfl 0 (by decide) q162 (fun _ h9 => h9) rfl dJ3_putStringAt_7 ?_
  refine lv_iload_n hx hb dJ3_putStringAt_10 rfl (lv_at hl 1 rfl) ?_
  refine lv_aload_n hx hb dJ3_putStringAt_11 rfl (lv_at hl 0 rfl) ?_
  refine xget (ref := "java/lang/AbstractStringBuilder") (ci := 7) (v := .int 0) (C := RJ4) (T := TJ4) (N := 4) F in_J4 hW hq rfl 1 (by decide) q163 (fun _ h9 => h9) rfl dJ3_putStringAt_12 ?_
  refine run_chN (rest := []) (kV F hW (metJ5_getBytes l E H t2 v2 n2 f2 hs v cap d f hv hvo hd (by omega)) (lw_V q920 q921 q922 q50 q923) hdJ5_getBytes ⟨Nat.le_of_ble_eq_true rfl, Nat.le_of_ble_eq_true rfl⟩ (Str.rcv hW hs) hl.1 rfl (Nat.le_of_ble_eq_true rfl) dJ3_putStringAt_15 ⟨by show 0 + 0 ≤ 0; omega, by show 0 + 0 ≤ 0; omega⟩) hS (fun _ h => h) (fun H_1 locs hp_1 hc_1 hS_1 => ?_)
  have hq2 := hq.kept hc_1 (fun h9 => hqv (show q = v from h9))
  have hv2 := hp_1
  exact hend _ _ _ _ _ _ dJ3_putStringAt_18 (⟨rfl, hq2, hv2, hnc, hcap⟩) hS_1 (Nat.zero_le _) (Nat.zero_le _)

theorem hdJ3_append_2 : Hd yJ3_append_2 1 := by decide +kernel
set_option maxHeartbeats 1000000 in
set_option maxRecDepth 100000 in
theorem metJ3_append_2 (l : Launch) (E : EV) (H : Heap) (q v cap n : Nat) (mb : Int32) (f : Nat → Int32) (hsb : SB E q v cap n mb f H) (t2 v2 n2 : Nat) (f2 : Nat → Int32) (hs : Str E t2 v2 n2 f2 H) (hn100 : n + n2 ≤ 100) (hqo : Old E q) (hvo : Old E v) (hqv : q ≠ v) (hfb : Cb f cap) (htq : t2 ≠ q) (hvq : v2 ≠ q) : Ct l yJ3_append_2 cJ3_append_2 3 (some (.object "java/lang/AbstractStringBuilder")) 4 110 (1) (400) [.ref q, .ref t2] E H (fun x => x = q ∨ x = v ∨ H.size ≤ x) (pA (fun r H1 => r = q ∧ ∃ (v' cap' : Nat) (f' : Nat → Int32), SB E q v' cap' (n + n2) mb f' H1 ∧ cap ≤ cap' ∧ (v' = v ∨ H.size ≤ v') ∧ (∀ j, j < n → f' j = f j) ∧ (∀ j, j < n2 → f' (n + j) = f2 j) ∧ Cb f' cap')) := by
  have hsb0 := hsb
  obtain ⟨hq, hv, hnc, hcap⟩ := hsb
  have hn2 := hs.n100
  refine Ct.ofA (Or.inl ⟨_, rfl⟩) (by decide) (Nat.le_of_ble_eq_true rfl) ?_
  intro p e s m bl mt cd ls Q hF hW hH hl hend
  obtain ⟨F, hin⟩ := hF
  have hx := F.1
  have hb := F.2.1
  have hts := F.2.2.2.2
  have hl : lv_has ls 3 [(0, .ref q), (1, .ref t2)] := hl
  have hS : va_S (fun x => x = q ∨ x = v ∨ H.size ≤ x) H H [] := va_S.rf
  refine lv_aload_n hx hb dJ3_append_2_0 rfl (lv_at hl 1 rfl) ?_
  refine lv_ifnonnull (tgt := 9) hx hb dJ3_append_2_1 (by decide) ?_
  refine lv_aload_n hx hb dJ3_append_2_9 rfl (lv_at hl 1 rfl) ?_
  refine run_ro (w := .int (nI n2)) (rest := []) (kV F hW (metJ5_length l E H t2 v2 n2 f2 hs) (lw_V q910 q519 q520 q50 q521) hdJ5_length ⟨Nat.le_of_ble_eq_true rfl, Nat.le_of_ble_eq_true rfl⟩ (Str.rcv hW hs) hl.1 rfl (Nat.le_of_ble_eq_true rfl) dJ3_append_2_10 ⟨Nat.le_of_ble_eq_true rfl, Nat.le_of_ble_eq_true rfl⟩) ?_
  refine lv_istore_n (lv' := [(2, .int (nI n2)), (0, .ref q), (1, .ref t2)]) hx hb dJ3_append_2_13 rfl hl (by decide) rfl (fun ls hl => ?_)
  refine lv_aload_n hx hb dJ3_append_2_14 rfl (lv_at hl 1 rfl) ?_
  refine lv_aload_n hx hb dJ3_append_2_15 rfl (lv_at hl 1 rfl) ?_
  refine xget (ref := "java/lang/AbstractStringBuilder") (ci := 7) (v := .int (nI n)) (C := RJ4) (T := TJ4) (N := 4) F in_J4 hW hq rfl 3 (by decide) q166 (fun _ h9 => h9) rfl dJ3_append_2_16 ?_
  refine lv_iload_n hx hb dJ3_append_2_19 rfl (lv_at hl 0 rfl) ?_
  refine lv_iadd hx hb dJ3_append_2_20 ?_
  refine lv_val (y := nI (n + n2)) ((nI_add (n) (n2))) ?_
  refine run_chN (rest := []) (kU (x := ⟨"java/lang/AbstractStringBuilder", "ensureCapacityInternal", "(I)V"⟩) (C := "java/lang/StringBuilder") F hW (metJ3_ensure l E H q v cap n mb f hsb0 (n + n2) hn100 hqo hqv hfb) q617 q1265 qx0 q619 q48 q620 rfl hdJ3_ensureCapacityInternal ⟨Nat.le_of_ble_eq_true rfl, Nat.le_of_ble_eq_true rfl⟩ (recv hW hq rfl) hl.1 rfl (Nat.le_of_ble_eq_true rfl) dJ3_append_2_21 ⟨by show 0 + 1 ≤ 1; omega, by show 0 + 400 ≤ 400; omega⟩) hS (fun q9 h => h.elim Or.inl (fun h => Or.inr (Or.inr h))) (fun H_1 locs hp_1 hc_1 hS_1 => ?_)
  obtain ⟨v', cap', f', hmc, hcc9, hsbE, hvE, hfE, hfbE⟩ := hp_1
  have hsbE0 := hsbE
  obtain ⟨hqE, hvE2, hncE, hcapE⟩ := hsbE
  have hWE := hW.kept hc_1 (fun q9 h1 h2 => h2.elim (fun h => h ▸ hqo) (fun h => absurd h1 (Nat.not_lt.mpr h)))
  have hsE := hs.kept hc_1 ⟨fun ci fs ho h9 => h9.elim htq (fun h => absurd ho.lt (Nat.not_lt.mpr h)), fun t n f ho h9 => h9.elim hvq (fun h => absurd ho.lt (Nat.not_lt.mpr h))⟩
  have hvo' : Old E v' := hvE.elim (fun h => h ▸ hvo) (fun h => Nat.le_trans hW.2.2 h)
  have hqv' : q ≠ v' := hvE.elim (fun h => h ▸ hqv) (fun h e => absurd hq.lt (Nat.not_lt.mpr (e ▸ h)))
  refine lv_aload_n hx hb dJ3_append_2_24 rfl (lv_at hl 1 rfl) ?_
  refine lv_aload_n hx hb dJ3_append_2_25 rfl (lv_at hl 1 rfl) ?_
  refine xget (ref := "java/lang/AbstractStringBuilder") (ci := 7) (v := .int (nI n)) (C := RJ4) (T := TJ4) (N := 4) F in_J4 hWE hqE rfl 3 (by decide) q166 (fun _ h9 => h9) rfl dJ3_append_2_26 ?_
  refine lv_aload_n hx hb dJ3_append_2_29 rfl (lv_at hl 2 rfl) ?_
  refine run_chN (rest := []) (kU (x := ⟨"java/lang/AbstractStringBuilder", "putStringAt", "(ILjava/lang/String;)V"⟩) (C := "java/lang/StringBuilder") F hWE (metJ3_putStringAt l E H_1 q v' cap' n mb f' hsbE0 t2 v2 n2 f2 hsE hvo' hqv' n hmc) q911 q1271 qx2 q913 q48 q914 rfl hdJ3_putStringAt ⟨Nat.le_of_ble_eq_true rfl, Nat.le_of_ble_eq_true rfl⟩ (recv hWE hqE rfl) hl.1 rfl (Nat.le_of_ble_eq_true rfl) dJ3_append_2_30 ⟨by show 1 + 0 ≤ 1; omega, by show 400 + 0 ≤ 400; omega⟩) hS_1 (fun q9 h => hvE.elim (fun h8 => Or.inr (Or.inl ((show q9 = v' from h).trans h8))) (fun h8 => Or.inr (Or.inr ((show q9 = v' from h) ▸ h8)))) (fun H_2 locs hp_2 hc_2 hS_2 => ?_)
  have hsbP := hp_2
  obtain ⟨hqP, hvP, hncP, hcapP⟩ := hsbP
  have hWP := hWE.kept hc_2 (fun q9 h1 h2 => (show q9 = v' from h2) ▸ hvo')
  refine lv_aload_n hx hb dJ3_append_2_33 rfl (lv_at hl 1 rfl) ?_
  refine lv_dup hx hb dJ3_append_2_34 rfl ?_
  refine xget (ref := "java/lang/AbstractStringBuilder") (ci := 7) (v := .int (nI n)) (C := RJ4) (T := TJ4) (N := 4) F in_J4 hWP hqP rfl 3 (by decide) q166 (fun _ h9 => h9) rfl dJ3_append_2_35 ?_
  refine lv_iload_n hx hb dJ3_append_2_38 rfl (lv_at hl 0 rfl) ?_
  refine lv_iadd hx hb dJ3_append_2_39 ?_
  refine lv_val (y := nI (n + n2)) ((nI_add (n) (n2))) ?_
  refine xput (ref := "java/lang/AbstractStringBuilder") (ci := 7) (v := .int (nI (n + n2))) (C := RJ4) (T := TJ4) (N := 4) F in_J4 tyJ4 tyJ4_ok nmJ4 hWP hqP hS_2 (Or.inl rfl) rfl 3 (by decide) q166 (fun _ h9 => h9) rfl rfl rfl (Nat.le_of_ble_eq_true rfl) dJ3_append_2_40 (fun H_3 locs ho_3 hu_3 hS_3 => ?_)
  have ho_3 : oat E q 7 [.ref v', .int 0, .int mb, .int (nI (n + n2))] H_3 := ho_3
  have hz_H_3 : H_3.size = H_2.size := hu_3.1
  have hW_H_3 := hWP.kept hu_3.chg (fun q _ hq => hq ▸ hqo)
  have hvP_H_3 := hvP.kept hu_3.chg (fun h9 => hqv' (show v' = q from h9).symm)
  refine lv_aload_n hx hb dJ3_append_2_43 rfl (lv_at hl 1 rfl) ?_
  exact hend _ _ _ _ _ _ _ (Or.inr ⟨_, rfl⟩) dJ3_append_2_44 (⟨_, rfl, rfl, v', cap', _, ⟨ho_3, hvP_H_3, hmc, hcapE⟩, hcc9, hvE, fun j hj => (show va_cpy f2 f' 0 n n2 j = f j by unfold va_cpy; rw [if_neg (by omega)]; exact hfE j hj), fun j hj => (show va_cpy f2 f' 0 n n2 (n + j) = f2 j by unfold va_cpy; rw [if_pos ⟨by omega, by omega⟩, Nat.zero_add, show n + j - n = j by omega]), (fun i hi => by unfold va_cpy; split; exact (show Cb f2 n2 from str_cb hs) _ (by omega); exact hfbE i hi)⟩) hS_3 (by first | exact Nat.le_refl _ | (show (1 : Nat) ≤ 1; omega)) (by first | exact Nat.le_refl _ | (show (400 : Nat) ≤ 400; omega))

theorem hdJ4_append_2 : Hd yJ4_append_2 1 := by decide +kernel
set_option maxHeartbeats 1000000 in
set_option maxRecDepth 100000 in
theorem metJ4_append_2 (l : Launch) (E : EV) (H : Heap) (q v cap n : Nat) (mb : Int32) (f : Nat → Int32) (hsb : SB E q v cap n mb f H) (t2 v2 n2 : Nat) (f2 : Nat → Int32) (hs : Str E t2 v2 n2 f2 H) (hn100 : n + n2 ≤ 100) (hqo : Old E q) (hvo : Old E v) (hqv : q ≠ v) (hfb : Cb f cap) (htq : t2 ≠ q) (hvq : v2 ≠ q) : Ct l yJ4_append_2 cJ4_append_2 2 (some (.object "java/lang/StringBuilder")) 5 132 (1) (400) [.ref q, .ref t2] E H (fun x => x = q ∨ x = v ∨ H.size ≤ x) (pA (fun r H1 => r = q ∧ ∃ (v' cap' : Nat) (f' : Nat → Int32), SB E q v' cap' (n + n2) mb f' H1 ∧ cap ≤ cap' ∧ (v' = v ∨ H.size ≤ v') ∧ (∀ j, j < n → f' j = f j) ∧ (∀ j, j < n2 → f' (n + j) = f2 j) ∧ Cb f' cap')) := by
  have hsb0 := hsb
  obtain ⟨hq, hv, hnc, hcap⟩ := hsb
  refine Ct.ofA (Or.inl ⟨_, rfl⟩) (by decide) (Nat.le_of_ble_eq_true rfl) ?_
  intro p e s m bl mt cd ls Q hF hW hH hl hend
  obtain ⟨F, hin⟩ := hF
  have hx := F.1
  have hb := F.2.1
  have hts := F.2.2.2.2
  have hl : lv_has ls 2 [(0, .ref q), (1, .ref t2)] := hl
  have hS : va_S (fun x => x = q ∨ x = v ∨ H.size ≤ x) H H [] := va_S.rf
  obtain ⟨cC, hat⟩ := cat (ci := 7) hW rfl
  refine lv_aload_n hx hb dJ4_append_2_0 rfl (lv_at hl 0 rfl) ?_
  refine lv_aload_n hx hb dJ4_append_2_1 rfl (lv_at hl 1 rfl) ?_
  refine run_chA (rest := []) (kSU hat F hW (metJ3_append_2 l E H q v cap n mb f hsb0 t2 v2 n2 f2 hs hn100 hqo hvo hqv hfb htq hvq) q900 q1269 q175 q901 q48 q902 (by decide +kernel) hdJ3_append_2 ⟨Nat.le_of_ble_eq_true rfl, Nat.le_of_ble_eq_true rfl⟩ (recv hW hq rfl) hl.1 rfl (Nat.le_of_ble_eq_true rfl) dJ4_append_2_2 ⟨by show 0 + 1 ≤ 1; omega, by show 0 + 400 ≤ 400; omega⟩) hS (fun _ h => h) (fun r_1 H_1 locs hp_1 hc_1 hS_1 => ?_)
  obtain ⟨e9, v', cap', f', hr9⟩ := hp_1
  refine lv_pop hx hb dJ4_append_2_5 rfl ?_
  refine lv_aload_n hx hb dJ4_append_2_6 rfl (lv_at hl 0 rfl) ?_
  exact hend _ _ _ _ _ _ _ (Or.inr ⟨_, rfl⟩) dJ4_append_2_7 (⟨_, rfl, rfl, v', cap', f', hr9⟩) hS_1 (by first | exact Nat.le_refl _ | (show (1 : Nat) ≤ 1; omega)) (by first | exact Nat.le_refl _ | (show (400 : Nat) ≤ 400; omega))

theorem hdJ7_checkLength : Hd yJ7_checkLength 2 := by decide +kernel
set_option maxHeartbeats 1000000 in
set_option maxRecDepth 100000 in
theorem metJ7_checkLength (l : Launch) (E : EV) (H : Heap) (n : Nat) (hn : n ≤ 400) : Ro l yJ7_checkLength cJ7_checkLength 2 none 0 0 [.int 0, .int (nI n)] E H none := by
  refine Ct.ofV (by decide) (Nat.le_of_ble_eq_true rfl) ?_
  intro p e s m bl mt cd ls Q hF hW hH hl hend
  obtain ⟨F, hin⟩ := hF
  have hx := F.1
  have hb := F.2.1
  have hts := F.2.2.2.2
  have hl : lv_has ls 2 [(0, .int 0), (1, .int (nI n))] := hl
  have hS : va_S (fun _ => False) H H [] := va_S.rf
  refine lv_iload_n hx hb dJ7_checkLength_0 rfl (lv_at hl 1 rfl) ?_
  refine lv_iload_n hx hb dJ7_checkLength_1 rfl (lv_at hl 0 rfl) ?_
  refine lv_icmp_ge (tgt := 37) hx hb dJ7_checkLength_2 (by decide) (fun _ => ?_) (fun c9 => absurd (nI_pos' (n := n) (by omega)) c9)
  exact hend _ _ _ _ _ _ dJ7_checkLength_37 (⟨rfl, rfl⟩) hS (Nat.zero_le _) (Nat.zero_le _)

theorem hdJ7_copyOfRangeByte : Hd yJ7_copyOfRangeByte 3 := by decide +kernel
set_option maxHeartbeats 1000000 in
set_option maxRecDepth 100000 in
theorem metJ7_copyOfRangeByte (l : Launch) (E : EV) (H : Heap) (v cap n : Nat) (f : Nat → Int32) (hv : iat E v 1 cap f H) (hcn : n < cap) (hcap : cap ≤ 400) (hfb : Cb f cap) : Ct l yJ7_copyOfRangeByte cJ7_copyOfRangeByte 5 (some (.array .byte)) 1 64 (1) (400) [.ref v, .int 0, .int (nI n)] E H (fun q => H.size ≤ q) (pA (fun r H1 => r = H.size ∧ iat E H.size 1 n (va_cpy f (fun _ => 0) 0 0 n) H1)) := by
  refine Ct.ofA (Or.inr ⟨_, rfl⟩) (by decide) (Nat.le_of_ble_eq_true rfl) ?_
  intro p e s m bl mt cd ls Q hF hW hH hl hend
  obtain ⟨F, hin⟩ := hF
  have hx := F.1
  have hb := F.2.1
  have hts := F.2.2.2.2
  have hl : lv_has ls 5 [(0, .ref v), (1, .int 0), (2, .int (nI n))] := hl
  have hS : va_S (fun q => H.size ≤ q) H H [] := va_S.rf
  refine lv_iload_n hx hb dJ7_copyOfRangeByte_0 rfl (lv_at hl 1 rfl) ?_
  refine lv_iload_n hx hb dJ7_copyOfRangeByte_1 rfl (lv_at hl 2 rfl) ?_
  refine run_roN (kS F hW (metJ7_checkLength l E H n (by omega)) (lw_S q952 q953 q54 q954) hdJ7_checkLength ⟨Nat.le_of_ble_eq_true rfl, Nat.le_of_ble_eq_true rfl⟩ hl.1 rfl (Nat.le_of_ble_eq_true rfl) dJ7_copyOfRangeByte_2 ⟨Nat.le_of_ble_eq_true rfl, Nat.le_of_ble_eq_true rfl⟩) ?_
  refine lv_iload_n hx hb dJ7_copyOfRangeByte_5 rfl (lv_at hl 2 rfl) ?_
  refine lv_iload_n hx hb dJ7_copyOfRangeByte_6 rfl (lv_at hl 1 rfl) ?_
  refine lv_isub hx hb dJ7_copyOfRangeByte_7 ?_
  refine lv_val (y := nI n) (by simp) ?_
  refine lv_istore_n (lv' := [(3, .int (nI n)), (0, .ref v), (1, .int 0), (2, .int (nI n))]) hx hb dJ7_copyOfRangeByte_8 rfl hl (by decide) rfl (fun ls hl => ?_)
  refine lv_iload_n hx hb dJ7_copyOfRangeByte_9 rfl (lv_at hl 0 rfl) ?_
  refine xnewa (atype := .byte) F q176 rfl hW hS 1 rfl (fun _ h => h) rfl (N' := n) (by rw [show (nI n : Int32) = nI (n) from (rfl : nI n = nI n)]; exact nI_pos (by omega)) (cl_eq (n := n) (rfl : nI n = nI n) (by omega)) (by show n * 1 ≤ 536870912; omega) (by show 0 + 1 ≤ 1; omega) (by show 0 + n ≤ 400; omega) dJ7_copyOfRangeByte_10 (fun H_1 ho_1 hp_1 hS_1 => ?_)
  have hz_H_1 : H_1.size = H.size + 1 := hp_1.1
  have hW_H_1 := hW.kept (hp_1.chg (A := fun _ => False)) (fun _ _ h9 => h9.elim)
  have hv_H_1 := hv.kept (hp_1.chg (A := fun _ => False)) (fun h9 => h9)
  refine lv_astore (lv' := [(4, .ref H.size), (3, .int (nI n)), (0, .ref v), (1, .int 0), (2, .int (nI n))]) hx hb dJ7_copyOfRangeByte_12 hl (by decide) rfl (fun ls hl => ?_)
  refine lv_aload_n hx hb dJ7_copyOfRangeByte_14 rfl (lv_at hl 2 rfl) ?_
  refine lv_iload_n hx hb dJ7_copyOfRangeByte_15 rfl (lv_at hl 3 rfl) ?_
  refine lv_aload hx hb dJ7_copyOfRangeByte_16 (lv_at hl 0 rfl) ?_
  refine lv_iconst (v := 0) hx hb dJ7_copyOfRangeByte_18 (by decide) ?_
  refine lv_aload_n hx hb dJ7_copyOfRangeByte_19 rfl (lv_at hl 2 rfl) ?_
  refine xilen F hW_H_1 1 hv_H_1 rfl dJ7_copyOfRangeByte_20 ?_
  refine lv_iload_n hx hb dJ7_copyOfRangeByte_21 rfl (lv_at hl 3 rfl) ?_
  refine lv_isub hx hb dJ7_copyOfRangeByte_22 ?_
  refine lv_val (y := nI cap) (by simp) ?_
  refine lv_iload_n hx hb dJ7_copyOfRangeByte_23 rfl (lv_at hl 1 rfl) ?_
  refine xmin (hl.1 ▸ F) q278 (Nat.le_of_ble_eq_true rfl) (Nat.le_of_ble_eq_true rfl) (by show 1 ≤ 1; omega) (by show 0 + n ≤ 400; omega) dJ7_copyOfRangeByte_24 ?_
  refine lv_val (y := nI (min cap n)) (mnI_n (by omega) (by omega)) ?_
  have k1 : (0 : Int32).toNatClampNeg = 0 := rfl
  have k2 : (0 : Int32).toNatClampNeg = 0 := rfl
  have k3 : (nI (min cap n) : Int32).toNatClampNeg = (min cap n) := (cl_eq (n := (min cap n)) (rfl : nI (min cap n) = nI (min cap n)) (by omega))
  refine xbcopy (hl.1 ▸ F) q281 q283 q282 q56 hW_H_1 hv_H_1 ho_1 hS_1 (Nat.le_refl _) (by decide) (by decide) (by rw [show (nI (min cap n) : Int32) = nI ((min cap n)) from (rfl : nI (min cap n) = nI (min cap n))]; exact nI_pos (by omega)) (by rw [k1, k3]; omega) (by rw [k2, k3]; omega) (by rw [k1, k3]; exact (fun i hi => by rw [Nat.zero_add]; exact hfb.fit i (by omega))) (Nat.le_of_ble_eq_true rfl) (Nat.le_of_ble_eq_true rfl) dJ7_copyOfRangeByte_27 (fun H_2 locs ho_2 hu_2 hS_2 => ?_)
  have ho_2 : iat E H.size 1 n (va_cpy f (fun _ => 0) 0 0 (min cap n)) H_2 := by have h9 := ho_2; simp only [k1, k2, k3] at h9; exact h9
  have hz_H_2 : H_2.size = H_1.size := hu_2.1
  have hW_H_2 := hW_H_1.kept hu_2.chg (fun q _ hq => hq ▸ hW.2.2)
  have hv_H_2 := hv_H_1.kept hu_2.chg (Nat.ne_of_lt hv.lt)
  refine lv_aload hx hb dJ7_copyOfRangeByte_30 (lv_at hl 0 rfl) ?_
  exact hend _ _ _ _ _ _ _ (Or.inr ⟨_, rfl⟩) dJ7_copyOfRangeByte_32 (⟨_, rfl, rfl, (by rw [show min cap n = n by omega] at ho_2; exact ho_2)⟩) hS_2 (by first | exact Nat.le_refl _ | (show (1 : Nat) ≤ 1; omega)) (by first | exact Nat.le_refl _ | (show (0 + n : Nat) ≤ 400; omega))

theorem hdJ7_copyOfRange : Hd yJ7_copyOfRange 3 := by decide +kernel
set_option maxHeartbeats 1000000 in
set_option maxRecDepth 100000 in
theorem metJ7_copyOfRange (l : Launch) (E : EV) (H : Heap) (v cap n : Nat) (f : Nat → Int32) (hv : iat E v 1 cap f H) (hcn : n < cap) (hcap : cap ≤ 400) (hfb : Cb f cap) : Ct l yJ7_copyOfRange cJ7_copyOfRange 3 (some (.array .byte)) 2 88 (1) (400) [.ref v, .int 0, .int (nI n)] E H (fun q => H.size ≤ q) (pA (fun r H1 => r = H.size ∧ iat E H.size 1 n (va_cpy f (fun _ => 0) 0 0 n) H1)) := by
  refine Ct.ofA (Or.inr ⟨_, rfl⟩) (by decide) (Nat.le_of_ble_eq_true rfl) ?_
  intro p e s m bl mt cd ls Q hF hW hH hl hend
  obtain ⟨F, hin⟩ := hF
  have hx := F.1
  have hb := F.2.1
  have hts := F.2.2.2.2
  have hl : lv_has ls 3 [(0, .ref v), (1, .int 0), (2, .int (nI n))] := hl
  have hS : va_S (fun q => H.size ≤ q) H H [] := va_S.rf
  refine lv_iload_n hx hb dJ7_copyOfRange_0 rfl (lv_at hl 1 rfl) ?_
  refine lv_if_ne (tgt := 10) hx hb dJ7_copyOfRange_1 (by decide) (fun c9 => absurd (by decide) c9) (fun _ => ?_)
  refine lv_iload_n hx hb dJ7_copyOfRange_4 rfl (lv_at hl 2 rfl) ?_
  refine lv_aload_n hx hb dJ7_copyOfRange_5 rfl (lv_at hl 0 rfl) ?_
  refine xilen F hW 1 hv rfl dJ7_copyOfRange_6 ?_
  refine lv_icmp_eq (tgt := 17) hx hb dJ7_copyOfRange_7 (by decide) (fun c9 => absurd c9 (fun h9 : nI n = nI cap => by have h8 := (nI_eq (by omega) (by omega)).mp h9; omega)) (fun _ => ?_)
  refine lv_aload_n hx hb dJ7_copyOfRange_10 rfl (lv_at hl 0 rfl) ?_
  refine lv_iload_n hx hb dJ7_copyOfRange_11 rfl (lv_at hl 1 rfl) ?_
  refine lv_iload_n hx hb dJ7_copyOfRange_12 rfl (lv_at hl 2 rfl) ?_
  refine run_chA (rest := []) (kS F hW (metJ7_copyOfRangeByte l E H v cap n f hv hcn hcap hfb) (lw_S q949 q950 q54 q951) hdJ7_copyOfRangeByte ⟨Nat.le_of_ble_eq_true rfl, Nat.le_of_ble_eq_true rfl⟩ hl.1 rfl (Nat.le_of_ble_eq_true rfl) dJ7_copyOfRange_13 ⟨by show 0 + 1 ≤ 1; omega, by show 0 + 400 ≤ 400; omega⟩) hS (fun _ h => h) (fun r_1 H_1 locs hp_1 hc_1 hS_1 => ?_)
  obtain ⟨e9, hvn⟩ := hp_1
  exact hend _ _ _ _ _ _ _ (Or.inr ⟨_, rfl⟩) dJ7_copyOfRange_16 (⟨_, rfl, e9, hvn⟩) hS_1 (by first | exact Nat.le_refl _ | (show (1 : Nat) ≤ 1; omega)) (by first | exact Nat.le_refl _ | (show (400 : Nat) ≤ 400; omega))

theorem hdJ3_getValue : Hd yJ3_getValue 0 := by decide +kernel
set_option maxHeartbeats 1000000 in
set_option maxRecDepth 100000 in
theorem metJ3_getValue (l : Launch) (E : EV) (H : Heap) (q v cap n : Nat) (mb : Int32) (f : Nat → Int32) (hsb : SB E q v cap n mb f H) : Ro l yJ3_getValue cJ3_getValue 1 (some (.array .byte)) 0 0 [.ref q] E H (some ((Value.ref v))) := by
  have hsb0 := hsb
  obtain ⟨hq, hv, hnc, hcap⟩ := hsb
  refine Ct.ofA (Or.inr ⟨_, rfl⟩) (by decide) (Nat.le_of_ble_eq_true rfl) ?_
  intro p e s m bl mt cd ls Q hF hW hH hl hend
  obtain ⟨F, hin⟩ := hF
  have hx := F.1
  have hb := F.2.1
  have hts := F.2.2.2.2
  have hl : lv_has ls 1 [(0, .ref q)] := hl
  have hS : va_S (fun _ => False) H H [] := va_S.rf
  refine lv_aload_n hx hb dJ3_getValue_0 rfl (lv_at hl 0 rfl) ?_
  refine xget (ref := "java/lang/AbstractStringBuilder") (ci := 7) (v := .ref v) (C := RJ4) (T := TJ4) (N := 4) F in_J4 hW hq rfl 0 (by decide) q162 (fun _ h9 => h9) rfl dJ3_getValue_1 ?_
  exact hend _ _ _ _ _ _ _ (Or.inr ⟨_, rfl⟩) dJ3_getValue_4 (⟨rfl, rfl⟩) hS (Nat.zero_le _) (Nat.zero_le _)

theorem hdJ5_init_2 : Hd yJ5_init_2 2 := by decide +kernel
set_option maxHeartbeats 1000000 in
set_option maxRecDepth 100000 in
theorem metJ5_init_2 (l : Launch) (E : EV) (H : Heap) (r : Nat) (hr : oat E r 8 [.null, .int 0, .int 0, .int 0] H) (hro : Old E r) (q v cap n : Nat) (mb : Int32) (f : Nat → Int32) (hsb : SB E q v cap n mb f H) (hcn : n < cap) (hfb : Cb f cap) (hrq : r ≠ q) (hrv : r ≠ v) : Ct l yJ5_init_2 cJ5_init_2 5 none 3 110 (1) (400) [.ref r, .ref q, .null] E H (fun x => x = r ∨ H.size ≤ x) (pN (fun H1 => ∃ v' : Nat, H.size ≤ v' ∧ oat E r 8 [.ref v', .int 0, .int 0, .int 0] H1 ∧ iat E v' 1 n (va_cpy f (fun _ => 0) 0 0 n) H1)) := by
  have hsb0 := hsb
  obtain ⟨hq, hv, hnc, hcap⟩ := hsb
  refine Ct.ofV (by decide) (Nat.le_of_ble_eq_true rfl) ?_
  intro p e s m bl mt cd ls Q hF hW hH hl hend
  obtain ⟨F, hin⟩ := hF
  have hx := F.1
  have hb := F.2.1
  have hts := F.2.2.2.2
  have hl : lv_has ls 5 [(0, .ref r), (1, .ref q), (2, .null)] := hl
  have hS : va_S (fun x => x = r ∨ H.size ≤ x) H H [] := va_S.rf
  refine lv_aload_n hx hb dJ5_init_2_0 rfl (lv_at hl 0 rfl) ?_
  refine W.objInit hx hb F.2.2.2.1 (hts _ q938) (hts _ q71) (hts _ q72) rfl (by rw [F.2.2.1]; exact hl.1) rfl dJ5_init_2_1 (Nat.le_of_ble_eq_true rfl) (Nat.le_of_ble_eq_true rfl) ?_
  refine W.eq (g2 := F0 m 4 ls []) rfl ?_
  refine lv_aload_n hx hb dJ5_init_2_4 rfl (lv_at hl 1 rfl) ?_
  refine run_ro (w := .ref v) (rest := []) (kU (x := ⟨"java/lang/AbstractStringBuilder", "getValue", "()[B"⟩) (C := "java/lang/StringBuilder") F hW (metJ3_getValue l E H q v cap n mb f hsb0) q939 q941 q942 q940 q48 q943 rfl hdJ3_getValue ⟨Nat.le_of_ble_eq_true rfl, Nat.le_of_ble_eq_true rfl⟩ (recv hW hq rfl) hl.1 rfl (Nat.le_of_ble_eq_true rfl) dJ5_init_2_5 ⟨Nat.le_of_ble_eq_true rfl, Nat.le_of_ble_eq_true rfl⟩) ?_
  refine lv_astore_n (lv' := [(3, .ref v), (0, .ref r), (1, .ref q), (2, .null)]) hx hb dJ5_init_2_8 rfl hl (by decide) rfl (fun ls hl => ?_)
  refine lv_aload_n hx hb dJ5_init_2_9 rfl (lv_at hl 2 rfl) ?_
  refine run_ro (w := .int (nI n)) (rest := []) (kO (x := ⟨"java/lang/AbstractStringBuilder", "length", "()I"⟩) (C := "java/lang/StringBuilder") F hW (metJ4_length l E H q v cap n mb f hsb0) q944 q1262 q472 q473 q1273 q468 q49 q470 (by decide +kernel) ⟨Nat.le_of_ble_eq_true rfl, Nat.le_of_ble_eq_true rfl⟩ (recv hW hq rfl) hl.1 rfl (Nat.le_of_ble_eq_true rfl) dJ5_init_2_10 ⟨Nat.le_of_ble_eq_true rfl, Nat.le_of_ble_eq_true rfl⟩) ?_
  refine lv_istore (lv' := [(4, .int (nI n)), (3, .ref v), (0, .ref r), (1, .ref q), (2, .null)]) hx hb dJ5_init_2_13 hl (by decide) rfl (fun ls hl => ?_)
  refine lv_aload_n hx hb dJ5_init_2_15 rfl (lv_at hl 3 rfl) ?_
  refine run_ro (w := .int (b2i true)) (rest := []) (kU (x := ⟨"java/lang/AbstractStringBuilder", "isLatin1", "()Z"⟩) (C := "java/lang/StringBuilder") F hW (metJ3_isLatin1 l E H q v cap n mb f hsb0) q945 q639 q640 q638 q48 q641 rfl hdJ3_isLatin1 ⟨Nat.le_of_ble_eq_true rfl, Nat.le_of_ble_eq_true rfl⟩ (recv hW hq rfl) hl.1 rfl (Nat.le_of_ble_eq_true rfl) dJ5_init_2_16 ⟨Nat.le_of_ble_eq_true rfl, Nat.le_of_ble_eq_true rfl⟩) ?_
  refine lv_if_eq (tgt := 41) hx hb dJ5_init_2_19 (by decide) (fun c9 => absurd c9 (show ¬ b2i true = 0 by decide)) (fun _ => ?_)
  refine lv_aload_n hx hb dJ5_init_2_22 rfl (lv_at hl 2 rfl) ?_
  refine lv_iconst (v := 0) hx hb dJ5_init_2_23 (by decide) ?_
  refine xputF (ref := "java/lang/String") (ci := 8) (v := .int 0) (C := RJ5) (T := TJ5) (N := 4) F in_J5 tyJ5 tyJ5_ok nmJ5 hW hr hS (Or.inl rfl) rfl 1 (by decide) q966 (fun _ h9 => h9) rfl hin rfl rfl rfl (Nat.le_of_ble_eq_true rfl) dJ5_init_2_24 (fun H_1 locs ho_1 hu_1 hS_1 => ?_)
  have ho_1 : oat E r 8 [.null, .int 0, .int 0, .int 0] H_1 := ho_1
  have hz_H_1 : H_1.size = H.size := hu_1.1
  have hW_H_1 := hW.kept hu_1.chg (fun q _ hq => hq ▸ hro)
  have hq_H_1 := hq.kept hu_1.chg (fun h9 => hrq (show q = r from h9).symm)
  have hv_H_1 := hv.kept hu_1.chg (fun h9 => hrv (show v = r from h9).symm)
  refine lv_aload_n hx hb dJ5_init_2_27 rfl (lv_at hl 2 rfl) ?_
  refine lv_aload_n hx hb dJ5_init_2_28 rfl (lv_at hl 1 rfl) ?_
  refine lv_iconst (v := 0) hx hb dJ5_init_2_29 (by decide) ?_
  refine lv_iload hx hb dJ5_init_2_30 (lv_at hl 0 rfl) ?_
  refine run_chA (rest := [.ref r]) (kS F hW_H_1 (metJ7_copyOfRange l E H_1 v cap n f hv_H_1 hcn hcap hfb) (lw_S q946 q947 q54 q948) hdJ7_copyOfRange ⟨Nat.le_of_ble_eq_true rfl, Nat.le_of_ble_eq_true rfl⟩ hl.1 rfl (Nat.le_of_ble_eq_true rfl) dJ5_init_2_32 ⟨by show 0 + 1 ≤ 1; omega, by show 0 + 400 ≤ 400; omega⟩) hS_1 (fun q9 h => Or.inr (by have h8 : H_1.size ≤ q9 := h; have h7 := hz_H_1; omega)) (fun r_2 H_2 locs hp_2 hc_2 hS_2 => ?_)
  obtain ⟨e9, hvn⟩ := hp_2
  subst e9
  have hsz9 : H.size = H_1.size := (hz_H_1).symm
  have hW_H_2 := hW_H_1.kept hc_2 (fun q h1 h2 => absurd h1 (Nat.not_lt.mpr h2))
  have hx1_H_2 := ho_1.kept hc_2 (Nat.not_le.mpr ho_1.lt)
  refine xputF (ref := "java/lang/String") (ci := 8) (v := .ref H_1.size) (C := RJ5) (T := TJ5) (N := 4) F in_J5 tyJ5 tyJ5_ok nmJ5 hW_H_2 hx1_H_2 hS_2 (Or.inl rfl) rfl 0 (by decide) q965 (fun _ h9 => h9) rfl hin rfl rfl rfl (Nat.le_of_ble_eq_true rfl) dJ5_init_2_35 (fun H_3 locs ho_3 hu_3 hS_3 => ?_)
  have ho_3 : oat E r 8 [.ref H_1.size, .int 0, .int 0, .int 0] H_3 := ho_3
  have hz_H_3 : H_3.size = H_2.size := hu_3.1
  have hW_H_3 := hW_H_2.kept hu_3.chg (fun q _ hq => hq ▸ hro)
  have hvn_H_3 := hvn.kept hu_3.chg (fun h9 => by have h8 : H_1.size = r := h9; have h7 := hr.lt; omega)
  refine lv_goto (tgt := 97) hx hb dJ5_init_2_38 (by decide) ?_
  exact hend _ _ _ _ _ _ dJ5_init_2_97 (⟨rfl, _, by omega, ho_3, hvn_H_3⟩) hS_3 (by first | exact Nat.le_refl _ | (show (1 : Nat) ≤ 1; omega)) (by first | exact Nat.le_refl _ | (show (400 : Nat) ≤ 400; omega))

theorem hdJ5_init : Hd yJ5_init 1 := by decide +kernel
set_option maxHeartbeats 1000000 in
set_option maxRecDepth 100000 in
theorem metJ5_init (l : Launch) (E : EV) (H : Heap) (r : Nat) (hr : oat E r 8 [.null, .int 0, .int 0, .int 0] H) (hro : Old E r) (q v cap n : Nat) (mb : Int32) (f : Nat → Int32) (hsb : SB E q v cap n mb f H) (hcn : n < cap) (hfb : Cb f cap) (hrq : r ≠ q) (hrv : r ≠ v) : Ct l yJ5_init cJ5_init 2 none 4 134 (1) (400) [.ref r, .ref q] E H (fun x => x = r ∨ H.size ≤ x) (pN (fun H1 => ∃ v' : Nat, H.size ≤ v' ∧ oat E r 8 [.ref v', .int 0, .int 0, .int 0] H1 ∧ iat E v' 1 n (va_cpy f (fun _ => 0) 0 0 n) H1)) := by
  have hsb0 := hsb
  obtain ⟨hq, hv, hnc, hcap⟩ := hsb
  refine Ct.ofV (by decide) (Nat.le_of_ble_eq_true rfl) ?_
  intro p e s m bl mt cd ls Q hF hW hH hl hend
  obtain ⟨F, hin⟩ := hF
  have hx := F.1
  have hb := F.2.1
  have hts := F.2.2.2.2
  have hl : lv_has ls 2 [(0, .ref r), (1, .ref q)] := hl
  have hS : va_S (fun x => x = r ∨ H.size ≤ x) H H [] := va_S.rf
  refine lv_aload_n hx hb dJ5_init_0 rfl (lv_at hl 0 rfl) ?_
  refine lv_aload_n hx hb dJ5_init_1 rfl (lv_at hl 1 rfl) ?_
  refine lv_null hx hb dJ5_init_2 ?_
  refine run_chN (rest := []) (kI F hW (metJ5_init_2 l E H r hr hro q v cap n mb f hsb0 hcn hfb hrq hrv) q937 q50 q935 q936 rfl hdJ5_init_2 ⟨Nat.le_of_ble_eq_true rfl, Nat.le_of_ble_eq_true rfl⟩ hl.1 rfl (Nat.le_of_ble_eq_true rfl) dJ5_init_3 ⟨by show 0 + 1 ≤ 1; omega, by show 0 + 400 ≤ 400; omega⟩) hS (fun _ h => h) (fun H_1 locs hp_1 hc_1 hS_1 => ?_)
  have hr9 := hp_1
  exact hend _ _ _ _ _ _ dJ5_init_6 (⟨rfl, hr9⟩) hS_1 (by first | exact Nat.le_refl _ | (show (1 : Nat) ≤ 1; omega)) (by first | exact Nat.le_refl _ | (show (400 : Nat) ≤ 400; omega))

theorem hdJ4_toString : Hd yJ4_toString 0 := by decide +kernel
set_option maxHeartbeats 1000000 in
set_option maxRecDepth 100000 in
theorem metJ4_toString (l : Launch) (E : EV) (H : Heap) (q v cap n : Nat) (mb : Int32) (f : Nat → Int32) (hsb : SB E q v cap n mb f H) (hcn : n < cap) (hn : n ≤ 100) (hfb : Cb f cap) : Ct l yJ4_toString cJ4_toString 1 (some (.object "java/lang/String")) 5 155 (2) (404) [.ref q] E H (fun q => H.size ≤ q) (pA (fun r H1 => H.size ≤ r ∧ ∃ (v' : Nat) (f' : Nat → Int32), H.size ≤ v' ∧ Str E r v' n f' H1 ∧ ∀ j, j < n → f' j = f j)) := by
  have hsb0 := hsb
  obtain ⟨hq, hv, hnc, hcap⟩ := hsb
  refine Ct.ofA (Or.inl ⟨_, rfl⟩) (by decide) (Nat.le_of_ble_eq_true rfl) ?_
  intro p e s m bl mt cd ls Q hF hW hH hl hend
  obtain ⟨F, hin⟩ := hF
  have hx := F.1
  have hb := F.2.1
  have hts := F.2.2.2.2
  have hl : lv_has ls 1 [(0, .ref q)] := hl
  have hS : va_S (fun q => H.size ≤ q) H H [] := va_S.rf
  refine xnew (ci := 8) (fs := [.null, .int 0, .int 0, .int 0]) (C := RJ5) (T := TJ5) (N := 4) F in_J5 tyJ5 tyJ5_ok q930 q931 q50 hW hS rfl (fun j hj => by rcases (show j = 0 ∨ j = 1 ∨ j = 2 ∨ j = 3 by omega) with rfl | rfl | rfl | rfl <;> rfl) (by show 0 + 1 ≤ 2; omega) (by show 0 + 4 ≤ 404; omega) dJ4_toString_0 (fun H_1 ho_1 hp_1 hS_1 => ?_)
  have hz_H_1 : H_1.size = H.size + 1 := hp_1.1
  have hW_H_1 := hW.kept (hp_1.chg (A := fun _ => False)) (fun _ _ h9 => h9.elim)
  have hq_H_1 := hq.kept (hp_1.chg (A := fun _ => False)) (fun h9 => h9)
  have hv_H_1 := hv.kept (hp_1.chg (A := fun _ => False)) (fun h9 => h9)
  refine lv_dup hx hb dJ4_toString_3 rfl ?_
  refine lv_aload_n hx hb dJ4_toString_4 rfl (lv_at hl 0 rfl) ?_
  have hsbN : SB E q v cap n mb f H_1 := ⟨hq_H_1, hv_H_1, hnc, hcap⟩
  refine run_chN (rest := [.ref H.size]) (kI F hW_H_1 (metJ5_init l E H_1 H.size ho_1 hW.2.2 q v cap n mb f hsbN hcn hfb (Nat.ne_of_gt hq.lt) (Nat.ne_of_gt hv.lt)) q934 q50 q932 q933 rfl hdJ5_init ⟨Nat.le_of_ble_eq_true rfl, Nat.le_of_ble_eq_true rfl⟩ hl.1 rfl (Nat.le_of_ble_eq_true rfl) dJ4_toString_5 ⟨by show 1 + 1 ≤ 2; omega, by show 4 + 400 ≤ 404; omega⟩) hS_1 (fun q9 h => h.elim (fun h => h ▸ Nat.le_refl _) (fun h => by have h8 : H_1.size ≤ q9 := h; have h7 := hz_H_1; show H.size ≤ q9; omega)) (fun H_2 locs hp_2 hc_2 hS_2 => ?_)
  obtain ⟨v', hv9, hr9, ha9⟩ := hp_2
  exact hend _ _ _ _ _ _ _ (Or.inr ⟨_, rfl⟩) dJ4_toString_8 (⟨_, rfl, Nat.le_refl _, v', _, by have h7 := hz_H_1; omega, Or.inr ⟨⟨_, _, hr9⟩, ha9, hn, fun i hi => by unfold va_cpy; rw [if_pos ⟨by omega, by omega⟩]; exact hfb _ (by omega)⟩, fun j hj => by unfold va_cpy; rw [if_pos ⟨by omega, by omega⟩, Nat.zero_add, Nat.sub_zero]⟩) hS_2 (by first | exact Nat.le_refl _ | (show (2 : Nat) ≤ 2; omega)) (by first | exact Nat.le_refl _ | (show (404 : Nat) ≤ 404; omega))

