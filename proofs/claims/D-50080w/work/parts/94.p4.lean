set_option maxRecDepth 100000
set_option maxHeartbeats 4000000 in
theorem ct_X4_toldWord {G : GT} {h : AH} (hG : GOK G) {p x a nl : Nat} {t : Int → Int} {n nx sa dp hs hw : Int} (hP : PB G h p x a nl t n nx sa dp hs hw) : CX G (MX4_toldWord 9 600 (wC (we t (sk t nx) - sk t nx).toNat + 1) (wS (we t (sk t nx) - sk t nx).toNat + 8)) h [.ref p] (pR (fun q h' => ∃ w b e, ptw t nx = .ok (w, b, e) ∧ w = pw t nx ∧ b = sk t nx ∧ e = we t (sk t nx) ∧ nx < e ∧ e ≤ n ∧ w.length ≤ 8 ∧ StO G h' q q w ∧ Nw h q ∧ PB G h' p x a nl t n e b dp hs hw ∧ PF p h h')) (XS p a h (ptw t nx)) := by
  refine CX.of rfl hG (Nat.le_of_ble_eq_true rfl) rfl (fun E hQ hT => ?_)
  have ht := hP.txt
  have h8 := ht.2.1
  have h0 := ht.1
  have hnx := hP.2.2.1
  have hk := ht.k1 hnx.2
  have hrg := ht.rg (q := sk t nx) (by omega)
  have hp0 := hP.1.1
  have hF : PF p h h := KT.rf
  have hwC : wC (we t (sk t nx) - sk t nx).toNat = 4 + (we t (sk t nx) - sk t nx).toNat := rfl
  have hwS : wS (we t (sk t nx) - sk t nx).toNat = 32 + 5 * (we t (sk t nx) - sk t nx).toNat := rfl
  have hw1 := ht.w1 hk.2.1
  have hpl : ((pw t nx).length : Int) = we t (sk t nx) - sk t nx := by unfold pw; rw [wd_len]; omega
  refine ww_aload_n 0 dX4_toldWord_0 rfl ?_
  refine cr_r (cr_V (ct_X4_word hG hP) sv_X4_124 rfl dX4_toldWord_1 hP.obj rfl rfl rfl rfl ⟨Nat.le_of_ble_eq_true rfl, Nat.le_of_ble_eq_true rfl⟩ (Nat.le_of_ble_eq_true rfl) (by dsimp only [mmc, MX4_toldWord, MX4_word] <;> omega) (by dsimp only [mms, MX4_toldWord, MX4_word] <;> omega)) (fun r_1 h_1 hp_1 => ?_)
  obtain ⟨hW_1, n_1, hP, f_1⟩ := hp_1
  have hF := hF.tr f_1
  obtain ⟨fs9, hso⟩ := hW_1.obj
  refine ww_astore_n [(1, _), (0, _)] dX4_toldWord_4 (Nat.le_of_ble_eq_true rfl) rfl ?_
  refine ww_aload_n 1 dX4_toldWord_5 rfl ?_
  refine ww_aload_n 1 dX4_toldWord_6 rfl ?_
  refine ww_getf gf_X4_35 rfl dX4_toldWord_7 hP.obj rfl ?_
  have hp := hP.obj
  refine wx_putf pf_X4_86 rfl dX4_toldWord_10 hp hp0 (Nat.le_of_ble_eq_true rfl) rfl rfl (fun h_10 hp f_10 => ?_)
  have hF := hF.tr f_10
  have hP : PB G h_10 p x a nl t n (sk t nx) (sk t nx) dp hs hw := ⟨⟨hp0, hp⟩, hP.2.1.kt f_10 (by omega), hP.2.2.1, ⟨by omega, by omega⟩, hP.2.2.2.2⟩
  have hW_1 := hW_1.kt f_10 (by omega)
  have hso := f_10.at hso (by omega)
  refine ww_aload_n 1 dX4_toldWord_13 rfl ?_
  refine ww_aload_n 0 dX4_toldWord_14 rfl ?_
  refine cr_pi (cr_V (ct_J6_length hG hW_1) sv_X4_131 rfl dX4_toldWord_15 hso rfl rfl rfl rfl ⟨Nat.le_of_ble_eq_true rfl, Nat.le_of_ble_eq_true rfl⟩ (Nat.le_of_ble_eq_true rfl) (by dsimp only [mmc, MX4_toldWord, MX4_word, MJ6_length] <;> omega) (by dsimp only [mms, MX4_toldWord, MX4_word, MJ6_length] <;> omega)) ?_
  rw [hpl]
  refine ww_i2l dX4_toldWord_18 (inI.mk (by omega) (by omega)) ?_
  refine ww_lconst 1 dX4_toldWord_19 rfl ?_
  refine ww_ldc2 q1391 dX4_toldWord_20 (z := 8) rfl ?_
  refine cr_pi (cr_SN (ct_X1_isBetween hG (we t (sk t nx) - sk t nx) 1 8 (inL.mk (by omega) (by omega)) (inL.mk (by omega) (by omega)) (inL.mk (by omega) (by omega))) ss_X4_46 rfl dX4_toldWord_23 rfl rfl ⟨Nat.le_of_ble_eq_true rfl, Nat.le_of_ble_eq_true rfl⟩ (Nat.le_of_ble_eq_true rfl) (by dsimp only [mmc, MX4_toldWord, MX4_word, MJ6_length, MX1_isBetween] <;> omega) (by dsimp only [mms, MX4_toldWord, MX4_word, MJ6_length, MX1_isBetween] <;> omega)) ?_
  rcases Classical.em (1 ≤ we t (sk t nx) - sk t nx ∧ we t (sk t nx) - sk t nx ≤ 8) with hd | hd
  · rw [bI_t hd]
    refine ww_bipush dX4_toldWord_26 (by decide) ?_
    refine ww_aload_n 1 dX4_toldWord_28 rfl ?_
    refine ww_getf gf_X4_86 rfl dX4_toldWord_29 hP.obj rfl ?_
    refine cr_pv (cr_V (ct_X4_reqT hG 1 _ _ (by decide) (inI.mk (by decide) (by decide))) sv_X4_59 rfl dX4_toldWord_32 hP.obj rfl rfl rfl rfl ⟨Nat.le_of_ble_eq_true rfl, Nat.le_of_ble_eq_true rfl⟩ (Nat.le_of_ble_eq_true rfl) (by dsimp only [mmc, MX4_toldWord, MX4_word, MJ6_length, MX1_isBetween, MX4_require] <;> omega) (by dsimp only [mms, MX4_toldWord, MX4_word, MJ6_length, MX1_isBetween, MX4_require] <;> omega)) ?_
    refine ww_aload_n 1 dX4_toldWord_35 rfl ?_
    refine ww_dup dX4_toldWord_36 rfl ?_
    refine ww_getf gf_X4_35 rfl dX4_toldWord_37 hP.obj rfl ?_
    refine ww_aload_n 0 dX4_toldWord_40 rfl ?_
    refine cr_pi (cr_V (ct_J6_length hG hW_1) sv_X4_131 rfl dX4_toldWord_41 hso rfl rfl rfl rfl ⟨Nat.le_of_ble_eq_true rfl, Nat.le_of_ble_eq_true rfl⟩ (Nat.le_of_ble_eq_true rfl) (by dsimp only [mmc, MX4_toldWord, MX4_word, MJ6_length, MX1_isBetween, MX4_require] <;> omega) (by dsimp only [mms, MX4_toldWord, MX4_word, MJ6_length, MX1_isBetween, MX4_require] <;> omega)) ?_
    rw [hpl]
    refine ww_iadd dX4_toldWord_44 ?_
    rw [show sk t nx + (we t (sk t nx) - sk t nx) = we t (sk t nx) by omega]
    have hp := hP.obj
    refine wx_putf pf_X4_35 rfl dX4_toldWord_45 hp hp0 (Nat.le_of_ble_eq_true rfl) rfl rfl (fun h_45 hp f_45 => ?_)
    have hF := hF.tr f_45
    have hP : PB G h_45 p x a nl t n (we t (sk t nx)) (sk t nx) dp hs hw := ⟨⟨hp0, hp⟩, hP.2.1.kt f_45 (by omega), ⟨by omega, by omega⟩, hP.2.2.2⟩
    have hW_1 := hW_1.kt f_45 (by omega)
    have hso := f_45.at hso (by omega)
    refine ww_aload_n 0 dX4_toldWord_48 rfl ?_
    exact ww_x hQ (ww_aret rfl dX4_toldWord_49 rfl rfl (by dsimp only [mmc, MX4_toldWord, MX4_word, MJ6_length, MX1_isBetween, MX4_require] <;> omega) (by dsimp only [mms, MX4_toldWord, MX4_word, MJ6_length, MX1_isBetween, MX4_require] <;> omega) ⟨_, rfl, _, _, _, by unfold ptw; rw [if_pos hd]; rfl, rfl, rfl, rfl, by omega, hw1.2.1, by omega, hW_1, n_1, hP, hF⟩)
  · rw [bI_f hd]
    refine ww_bipush dX4_toldWord_26 (by decide) ?_
    refine ww_aload_n 1 dX4_toldWord_28 rfl ?_
    refine ww_getf gf_X4_86 rfl dX4_toldWord_29 hP.obj rfl ?_
    refine cx_v (cx_V (ct_X4_reqF hG p a (-2) (sk t nx) (by omega)) sv_X4_59 rfl dX4_toldWord_32 hP.obj rfl rfl rfl rfl ⟨Nat.le_of_ble_eq_true rfl, Nat.le_of_ble_eq_true rfl⟩ (Nat.le_of_ble_eq_true rfl) (by dsimp only [mmc, MX4_toldWord, MX4_word, MJ6_length, MX1_isBetween, MX4_require] <;> omega) (by dsimp only [mms, MX4_toldWord, MX4_word, MJ6_length, MX1_isBetween, MX4_require] <;> omega)) (fun X_32 q_32 g_32 hx_32 => wq_out hQ hT (by dsimp only [mmc, MX4_toldWord, MX4_word, MJ6_length, MX1_isBetween, MX4_require] <;> omega) (by dsimp only [mms, MX4_toldWord, MX4_word, MJ6_length, MX1_isBetween, MX4_require] <;> omega) (hx_32.go hF.fp (fun c o e => by cases e; unfold ptw; rw [if_neg hd]))) (fun h_32 hp_32 => ?_)
    exact hp_32.elim

set_option maxHeartbeats 4000000 in
theorem ct_X4_knT {G : GT} {h : AH} (hG : GOK G) {p x a nl : Nat} {t : Int → Int} {n nx sa dp hs hw : Int} (hP : PB G h p x a nl t n nx sa dp hs hw) (i : Int) (hi : inI i) (hi1 : i ≠ -1) : CPi G (MX4_known 1 23 0 0) h [.ref p, .int (iI i)] (i) := by
  refine CT.of rfl hG (Nat.le_of_ble_eq_true rfl) rfl (fun E hQ => ?_)
  refine ww_aload_n 0 dX4_known_0 rfl ?_
  refine ww_iload_n 1 dX4_known_1 rfl ?_
  refine ww_iconst dX4_known_2 ?_
  refine ww_icmp_eq 10 dX4_known_3 (by decide) hi (inI.mk (by decide) (by decide)) (fun c_3 => ?_) (fun c_3 => ?_)
  · exact absurd c_3 hi1
  · refine ww_iconst dX4_known_6 ?_
    refine ww_goto 11 dX4_known_7 (by decide) ?_
    refine ww_bipush dX4_known_11 (by decide) ?_
    refine ww_aload_n 0 dX4_known_13 rfl ?_
    refine ww_getf gf_X4_86 rfl dX4_known_14 hP.obj rfl ?_
    refine cr_pv (cr_V (ct_X4_reqT hG 1 _ _ (by decide) (inI.mk (by decide) (by decide))) sv_X4_59 rfl dX4_known_17 hP.obj rfl rfl rfl rfl ⟨by decide, by decide⟩ (Nat.le_of_ble_eq_true rfl) (Nat.le_of_ble_eq_true rfl) (Nat.le_of_ble_eq_true rfl)) ?_
    refine ww_iload_n 1 dX4_known_20 rfl ?_
    exact ww_iret hQ dX4_known_21 rfl (Nat.le_of_ble_eq_true rfl) (Nat.le_of_ble_eq_true rfl) ⟨_, rfl, rfl, rfl⟩

set_option maxHeartbeats 4000000 in
theorem ct_X4_knF {G : GT} {h : AH} (hG : GOK G) {p x a nl : Nat} {t : Int → Int} {n nx sa dp hs hw : Int} (hP : PB G h p x a nl t n nx sa dp hs hw) : CX G (MX4_known 5 113 1 8) h [.ref p, .int (iI (-1))] (pI (fun _ _ => False)) (XS p a h (.error (-4, sa) : PE Unit)) := by
  refine CX.of rfl hG (Nat.le_of_ble_eq_true rfl) rfl (fun E hQ hT => ?_)
  have hsa := hP.2.2.2.1
  refine ww_aload_n 0 dX4_known_0 rfl ?_
  refine ww_iload_n 1 dX4_known_1 rfl ?_
  refine ww_iconst dX4_known_2 ?_
  refine ww_icmp_eq 10 dX4_known_3 (by decide) (inI.mk (by decide) (by decide)) (inI.mk (by decide) (by decide)) (fun c_3 => ?_) (fun c_3 => ?_)
  · refine ww_iconst dX4_known_10 ?_
    refine ww_bipush dX4_known_11 (by decide) ?_
    refine ww_aload_n 0 dX4_known_13 rfl ?_
    refine ww_getf gf_X4_86 rfl dX4_known_14 hP.obj rfl ?_
    refine cx_v (cx_V (ct_X4_reqF hG p a (-4) (sa) (by omega)) sv_X4_59 rfl dX4_known_17 hP.obj rfl rfl rfl rfl ⟨by decide, by decide⟩ (Nat.le_of_ble_eq_true rfl) (Nat.le_of_ble_eq_true rfl) (Nat.le_of_ble_eq_true rfl)) (fun X_17 q_17 g_17 hx_17 => wq_out hQ hT (Nat.le_of_ble_eq_true rfl) (Nat.le_of_ble_eq_true rfl) (hx_17.go FP.rf (fun c o e => e))) (fun h_17 hp_17 => ?_)
    exact hp_17.elim
  · exact absurd rfl c_3

set_option maxHeartbeats 4000000 in
theorem ct_X4_accept {G : GT} {h : AH} (hG : GOK G) {p x a nl : Nat} {t : Int → Int} {n nx sa dp hs hw : Int} (hP : PB G h p x a nl t n nx sa dp hs hw) {o9 s9 : Nat} {l : List Int} (hS9 : StO G h o9 s9 l) (hne9 : o9 = 0) : CT G (MX4_accept 9 600 (wC (we t (sk t nx) - sk t nx).toNat) (wS (we t (sk t nx) - sk t nx).toNat)) h [.ref p, .ref s9] (pI (fun z h' => z = bI (pw t nx = l) ∧ PB G h' p x a nl t n (if pw t nx = l then we t (sk t nx) else sk t nx) sa dp hs hw ∧ PF p h h')) := by
  refine CT.of rfl hG (Nat.le_of_ble_eq_true rfl) rfl (fun E hQ => ?_)
  have ht := hP.txt
  have h8 := ht.2.1
  have h0 := ht.1
  have hnx := hP.2.2.1
  have hk := ht.k1 hnx.2
  have hrg := ht.rg (q := sk t nx) (by omega)
  have hp0 := hP.1.1
  have hF : PF p h h := KT.rf
  have hwC : wC (we t (sk t nx) - sk t nx).toNat = 4 + (we t (sk t nx) - sk t nx).toNat := rfl
  have hwS : wS (we t (sk t nx) - sk t nx).toNat = 32 + 5 * (we t (sk t nx) - sk t nx).toNat := rfl
  have hw1 := ht.w1 hk.2.1
  have hpl : ((pw t nx).length : Int) = we t (sk t nx) - sk t nx := by unfold pw; rw [wd_len]; omega
  refine ww_aload_n 0 dX4_accept_0 rfl ?_
  refine cr_r (cr_V (ct_X4_word hG hP) sv_X4_124 rfl dX4_accept_1 hP.obj rfl rfl rfl rfl ⟨Nat.le_of_ble_eq_true rfl, Nat.le_of_ble_eq_true rfl⟩ (Nat.le_of_ble_eq_true rfl) (by dsimp only [mmc, MX4_accept, MX4_word] <;> omega) (by dsimp only [mms, MX4_accept, MX4_word] <;> omega)) (fun r_1 h_1 hp_1 => ?_)
  obtain ⟨hW_1, n_1, hP, f_1⟩ := hp_1
  have hF := hF.tr f_1
  obtain ⟨fs9, hso⟩ := hW_1.obj
  have hS9 := hS9.kt f_1 (by omega)
  obtain ⟨fs8, hs8⟩ := hS9.obj
  refine ww_aload_n 1 dX4_accept_4 rfl ?_
  refine cr_pi (cr_V (ct_J6_equals hG hW_1 hS9) sv_X4_146 rfl dX4_accept_5 hso rfl rfl rfl rfl ⟨Nat.le_of_ble_eq_true rfl, Nat.le_of_ble_eq_true rfl⟩ (Nat.le_of_ble_eq_true rfl) (by dsimp only [mmc, MX4_accept, MX4_word, MJ6_equals] <;> omega) (by dsimp only [mms, MX4_accept, MX4_word, MJ6_equals] <;> omega)) ?_
  refine ww_istore_n [(2, _), (0, _), (1, _)] dX4_accept_8 (Nat.le_of_ble_eq_true rfl) rfl ?_
  refine ww_iload_n 0 dX4_accept_9 rfl ?_
  refine ww_ifb_eq 26 dX4_accept_10 (by decide) (fun c_10 => ?_) (fun c_10 => ?_)
  · refine ww_iload_n 0 dX4_accept_26 rfl ?_
    exact ww_zret hQ dX4_accept_27 rfl (by dsimp only [mmc, MX4_accept, MX4_word, MJ6_equals] <;> omega) (by dsimp only [mms, MX4_accept, MX4_word, MJ6_equals] <;> omega) (by first | exact Or.inl rfl | exact Or.inr rfl | (unfold bI; split <;> simp)) ⟨_, rfl, rfl, by rw [if_neg c_10]; exact hP, hF⟩
  · refine ww_aload_n 1 dX4_accept_13 rfl ?_
    refine ww_dup dX4_accept_14 rfl ?_
    refine ww_getf gf_X4_35 rfl dX4_accept_15 hP.obj rfl ?_
    refine ww_aload_n 2 dX4_accept_18 rfl ?_
    refine cr_pi (cr_V (ct_J6_length hG hS9) sv_X4_131 rfl dX4_accept_19 hs8 rfl rfl rfl rfl ⟨Nat.le_of_ble_eq_true rfl, Nat.le_of_ble_eq_true rfl⟩ (Nat.le_of_ble_eq_true rfl) (by dsimp only [mmc, MX4_accept, MX4_word, MJ6_equals, MJ6_length] <;> omega) (by dsimp only [mms, MX4_accept, MX4_word, MJ6_equals, MJ6_length] <;> omega)) ?_
    rw [show (l.length : Int) = we t (sk t nx) - sk t nx by rw [← c_10]; exact hpl]
    refine ww_iadd dX4_accept_22 ?_
    rw [show sk t nx + (we t (sk t nx) - sk t nx) = we t (sk t nx) by omega]
    have hp := hP.obj
    refine wx_putf pf_X4_35 rfl dX4_accept_23 hp hp0 (Nat.le_of_ble_eq_true rfl) rfl rfl (fun h_23 hp f_23 => ?_)
    have hF := hF.tr f_23
    have hP : PB G h_23 p x a nl t n (we t (sk t nx)) sa dp hs hw := ⟨⟨hp0, hp⟩, hP.2.1.kt f_23 (by omega), ⟨by omega, by omega⟩, hP.2.2.2⟩
    have hW_1 := hW_1.kt f_23 (by omega)
    have hso := f_23.at hso (by omega)
    refine ww_iload_n 0 dX4_accept_26 rfl ?_
    exact ww_zret hQ dX4_accept_27 rfl (by dsimp only [mmc, MX4_accept, MX4_word, MJ6_equals, MJ6_length] <;> omega) (by dsimp only [mms, MX4_accept, MX4_word, MJ6_equals, MJ6_length] <;> omega) (by first | exact Or.inl rfl | exact Or.inr rfl | (unfold bI; split <;> simp)) ⟨_, rfl, rfl, by rw [if_pos c_10]; exact hP, hF⟩

set_option maxHeartbeats 4000000 in
theorem ct_X4_nameOf {G : GT} {h : AH} (hG : GOK G) {p x a nl : Nat} {t : Int → Int} {n nx sa dp hs hw : Int} (hP : PB G h p x a nl t n nx sa dp hs hw) {nxs : List Nat} {nm : List (List Int)} (hA : AL G h p 10010 nl nxs) (hZ : Z2 (fun x w => StO G h x x w) nxs nm) {o9 s9 : Nat} {l : List Int} (hS9 : StO G h o9 s9 l) : CT G (MX4_nameOf 3 64 0 0) h [.ref p, .ref s9] (pI (fun z h' => z = fi nm l ∧ h' = h)) := by
  refine CT.of rfl hG (Nat.le_of_ble_eq_true rfl) rfl (fun E hQ => ?_)
  have hln := hZ.len
  have hl100 := hA.len
  obtain ⟨fs9, hnl⟩ := hA.obj
  refine ww_iconst dX4_nameOf_0 ?_
  refine ww_istore_n [(2, _), (0, _), (1, _)] dX4_nameOf_1 (by decide) rfl ?_
  have loop_2 : ∀ (f : Nat) (j : Nat), (j ≤ nm.length) → (∀ i : Nat, i < j → nm[i]? ≠ some l) → (nm.length - j < f) → WW G E (MX4_nameOf 3 64 0 0) h 0 0 2 [(0, .ref p), (1, .ref s9), (2, .int (iI (j : Int)))] [] := by
    intro f
    induction f with
    | zero => intro j hj hno hf; exact absurd hf (by omega)
    | succ f ih =>
      intro j hj hno hf
      refine ww_iload_n 2 dX4_nameOf_2 rfl ?_
      refine ww_aload_n 0 dX4_nameOf_3 rfl ?_
      refine ww_getf gf_X4_18 rfl dX4_nameOf_4 hP.obj rfl ?_
      refine cr5_pi (cr_F (ct_J3_size hG hA) sf_X4_137 rfl dX4_nameOf_7 hnl rfl rfl rfl rfl ⟨by decide, by decide⟩ (Nat.le_of_ble_eq_true rfl) (Nat.le_of_ble_eq_true rfl) (Nat.le_of_ble_eq_true rfl)) ?_
      refine ww_icmp_ge 43 dX4_nameOf_12 (by decide) (inI.mk (by omega) (by omega)) (inI.mk (by omega) (by omega)) (fun c_12 => ?_) (fun c_12 => ?_)
      · refine ww_iconst dX4_nameOf_43 ?_
        exact ww_iret hQ dX4_nameOf_44 rfl (Nat.le_of_ble_eq_true rfl) (Nat.le_of_ble_eq_true rfl) ⟨_, rfl, (fi_noneW (fun i hi => hno i (by omega))).symm, rfl⟩
      · refine ww_aload_n 0 dX4_nameOf_15 rfl ?_
        refine ww_getf gf_X4_18 rfl dX4_nameOf_16 hP.obj rfl ?_
        refine ww_iload_n 2 dX4_nameOf_19 rfl ?_
        obtain ⟨x9, hx9⟩ := gx_get (xs := nxs) (i := (j : Int)) (by omega) (by omega)
        obtain ⟨v9, hv9, hS8⟩ := hZ.get hx9
        rw [Int.toNat_natCast] at hv9
        obtain ⟨fs8, ho8⟩ := hS8.obj
        refine cr5_pr (cr_F (ct_J3_get hG hA _ x9 (by omega) hx9) sf_X4_142 rfl dX4_nameOf_20 hnl rfl rfl rfl rfl ⟨by decide, by decide⟩ (Nat.le_of_ble_eq_true rfl) (Nat.le_of_ble_eq_true rfl) (Nat.le_of_ble_eq_true rfl)) ?_
        refine ww_cast dX4_nameOf_25 ho8 rfl q1398 rfl ?_
        refine ww_aload_n 1 dX4_nameOf_28 rfl ?_
        refine cr_pi (cr_V (ct_J6_equals hG hS8 hS9) sv_X4_146 rfl dX4_nameOf_29 ho8 rfl rfl rfl rfl ⟨by decide, by decide⟩ (Nat.le_of_ble_eq_true rfl) (Nat.le_of_ble_eq_true rfl) (Nat.le_of_ble_eq_true rfl)) ?_
        refine ww_ifb_eq 37 dX4_nameOf_32 (by decide) (fun c_32 => ?_) (fun c_32 => ?_)
        · refine ww_iinc (j := 2) [(2, _), (0, _), (1, _)] dX4_nameOf_37 rfl (by decide) rfl ?_
          refine ww_goto 2 dX4_nameOf_40 (by decide) ?_
          refine ww_sub [1, 2, 0] rfl ?_
          exact ih (j + 1) (by omega) (fun i hi => if e9 : i = j then (by rw [e9, hv9]; exact fun z => c_32 (Option.some.inj z)) else hno i (by omega)) (by omega)
        · refine ww_iload_n 2 dX4_nameOf_35 rfl ?_
          exact ww_iret hQ dX4_nameOf_36 rfl (Nat.le_of_ble_eq_true rfl) (Nat.le_of_ble_eq_true rfl) ⟨_, rfl, (fi_atW hno (by rw [hv9, c_32])).symm, rfl⟩
  refine ww_sub [1, 2, 0] rfl ?_
  exact loop_2 (nm.length + 1) 0 (by omega) (fun i hi => absurd hi (Nat.not_lt_zero i)) (by omega)

set_option maxHeartbeats 4000000 in
theorem ct_X4_libraryOf {G : GT} {h : AH} (hG : GOK G) {p x a nl : Nat} {t : Int → Int} {n nx sa dp hs hw : Int} (hP : PB G h p x a nl t n nx sa dp hs hw) {al : Nat} {fsH : List Value} (hH : h a = some ((a, 10500), ob 1 (.ref nl :: .ref al :: fsH))) {lx : List Nat} {lb : List LV} (hA : AL G h a 10020 al lx) (hB : LBs G h a p lx lb) {o9 s9 : Nat} {l : List Int} (hS9 : StO G h o9 s9 l) : CT G (MX4_libraryOf 3 64 0 0) h [.ref p, .ref s9] (pI (fun z h' => z = fi (lb.map (·.1)) l ∧ h' = h)) := by
  refine CT.of rfl hG (Nat.le_of_ble_eq_true rfl) rfl (fun E hQ => ?_)
  have hln := hB.1
  have hl100 := hA.len
  obtain ⟨fs9, hnl⟩ := hA.obj
  refine ww_iconst dX4_libraryOf_0 ?_
  refine ww_istore_n [(2, _), (0, _), (1, _)] dX4_libraryOf_1 (by decide) rfl ?_
  have loop_2 : ∀ (f : Nat) (j : Nat), (j ≤ lb.length) → (∀ i : Nat, i < j → (lb.map (·.1))[i]? ≠ some l) → (lb.length - j < f) → WW G E (MX4_libraryOf 3 64 0 0) h 0 0 2 [(0, .ref p), (1, .ref s9), (2, .int (iI (j : Int)))] [] := by
    intro f
    induction f with
    | zero => intro j hj hno hf; exact absurd hf (by omega)
    | succ f ih =>
      intro j hj hno hf
      refine ww_iload_n 2 dX4_libraryOf_2 rfl ?_
      refine ww_aload_n 0 dX4_libraryOf_3 rfl ?_
      refine ww_getf gf_X4_27 rfl dX4_libraryOf_4 hP.obj rfl ?_
      refine ww_getf gf_X4_150 rfl dX4_libraryOf_7 hH rfl ?_
      refine cr5_pi (cr_F (ct_J3_size hG hA) sf_X4_137 rfl dX4_libraryOf_10 hnl rfl rfl rfl rfl ⟨by decide, by decide⟩ (Nat.le_of_ble_eq_true rfl) (Nat.le_of_ble_eq_true rfl) (Nat.le_of_ble_eq_true rfl)) ?_
      refine ww_icmp_ge 52 dX4_libraryOf_15 (by decide) (inI.mk (by omega) (by omega)) (inI.mk (by omega) (by omega)) (fun c_15 => ?_) (fun c_15 => ?_)
      · refine ww_iconst dX4_libraryOf_52 ?_
        exact ww_iret hQ dX4_libraryOf_53 rfl (Nat.le_of_ble_eq_true rfl) (Nat.le_of_ble_eq_true rfl) ⟨_, rfl, (fi_noneW (fun i hi => hno i (by rw [List.length_map] at hi; omega))).symm, rfl⟩
      · refine ww_aload_n 0 dX4_libraryOf_18 rfl ?_
        refine ww_getf gf_X4_27 rfl dX4_libraryOf_19 hP.obj rfl ?_
        refine ww_getf gf_X4_150 rfl dX4_libraryOf_22 hH rfl ?_
        refine ww_iload_n 2 dX4_libraryOf_25 rfl ?_
        obtain ⟨x9, hx9⟩ := gx_get (xs := lx) (i := (j : Int)) (by omega) (by omega)
        have hv8 : lb[j]? = some (lb[j]'(by omega)) := List.getElem?_eq_getElem (by omega)
        obtain ⟨ws, pl, px, hb9, hS8, -⟩ := hB.2 _ _ _ hx9 (by rw [Int.toNat_natCast]; exact hv8)
        have hv9 : (lb.map (·.1))[j]? = some (lb[j]'(by omega)).1 := by rw [List.getElem?_map, hv8]; rfl
        obtain ⟨fs8, ho8⟩ := hS8.obj
        refine cr5_pr (cr_F (ct_J3_get hG hA _ x9 (by omega) hx9) sf_X4_142 rfl dX4_libraryOf_26 hnl rfl rfl rfl rfl ⟨by decide, by decide⟩ (Nat.le_of_ble_eq_true rfl) (Nat.le_of_ble_eq_true rfl) (Nat.le_of_ble_eq_true rfl)) ?_
        refine ww_cast dX4_libraryOf_31 hb9 rfl q1440 rfl ?_
        refine ww_getf gf_X4_155 rfl dX4_libraryOf_34 hb9 rfl ?_
        refine ww_aload_n 1 dX4_libraryOf_37 rfl ?_
        refine cr_pi (cr_V (ct_J6_equals hG hS8 hS9) sv_X4_146 rfl dX4_libraryOf_38 ho8 rfl rfl rfl rfl ⟨by decide, by decide⟩ (Nat.le_of_ble_eq_true rfl) (Nat.le_of_ble_eq_true rfl) (Nat.le_of_ble_eq_true rfl)) ?_
        refine ww_ifb_eq 46 dX4_libraryOf_41 (by decide) (fun c_41 => ?_) (fun c_41 => ?_)
        · refine ww_iinc (j := 2) [(2, _), (0, _), (1, _)] dX4_libraryOf_46 rfl (by decide) rfl ?_
          refine ww_goto 2 dX4_libraryOf_49 (by decide) ?_
          refine ww_sub [1, 2, 0] rfl ?_
          exact ih (j + 1) (by omega) (fun i hi => if e9 : i = j then (by rw [e9, hv9]; exact fun z => c_41 (Option.some.inj z)) else hno i (by omega)) (by omega)
        · refine ww_iload_n 2 dX4_libraryOf_44 rfl ?_
          exact ww_iret hQ dX4_libraryOf_45 rfl (Nat.le_of_ble_eq_true rfl) (Nat.le_of_ble_eq_true rfl) ⟨_, rfl, (fi_atW hno (by rw [hv9, c_41])).symm, rfl⟩
  refine ww_sub [1, 2, 0] rfl ?_
  exact loop_2 (lb.length + 1) 0 (by omega) (fun i hi => absurd hi (Nat.not_lt_zero i)) (by omega)
