set_option maxRecDepth 100000
set_option maxHeartbeats 4000000 in
theorem ct_X4_peek {G : GT} {h : AH} (hG : GOK G) {p x a nl : Nat} {t : Int → Int} {n nx sa dp hs hw : Int} (hP : PB G h p x a nl t n nx sa dp hs hw) : CT G (MX4_peek 0 0 0 0) h [.ref p] (pI (fun z h' => z = t (sk t nx) ∧ PB G h' p x a nl t n (sk t nx) sa dp hs hw ∧ PF p h h')) := by
  refine CT.of rfl hG (Nat.le_of_ble_eq_true rfl) rfl (fun E hQ => ?_)
  obtain ⟨⟨hp0, hp⟩, ⟨bf, fs, B, hx0, hx, hb, ht, hB⟩, hnx, hsa, hdp, hhs, hhw⟩ := id hP
  have h8 := ht.2.1
  have h0 := ht.1
  have loop_0 : ∀ (f : Nat) (j : Int) (h1 : AH), (PF p h h1) → (h1 p = some ((p, 10580), ob 3 [.int (iI n), .ref nl, .ref a, .int (iI j), .int (iI sa), .int (iI dp), .int (iI hs), .int (iI hw), .ref x])) → (h1 x = some ((x, 10570), ob 0 (.ref bf :: fs))) → (h1 bf = some ((x, 10571), aA G 1 800 B)) → (0 ≤ j) → (j ≤ n) → (sk t j = sk t nx) → (n - j < f) → WW G E (MX4_peek 0 0 0 0) h1 0 0 0 [(0, .ref p)] [] := by
    intro f
    induction f with
    | zero => intro j h1 hF hp hx hb hj0 hj1 hk hf; exact absurd hf (by omega)
    | succ f ih =>
      intro j h1 hF hp hx hb hj0 hj1 hk hf
      refine ww_aload_n 0 dX4_peek_0 rfl ?_
      refine ww_getf gf_X4_35 rfl dX4_peek_1 hp rfl ?_
      refine ww_aload_n 0 dX4_peek_4 rfl ?_
      refine ww_getf gf_X4_31 rfl dX4_peek_5 hp rfl ?_
      refine ww_icmp_ge 41 dX4_peek_8 (by decide) (inI.mk (by omega) (by omega)) (inI.mk (by omega) (by omega)) (fun c_8 => ?_) (fun c_8 => ?_)
      · have hk2 : sk t j = j := sk_f (by rw [ht.2.2.1 j (by omega)]; decide)
        refine ww_aload_n 0 dX4_peek_41 rfl ?_
        refine ww_getf gf_X4_35 rfl dX4_peek_42 hp rfl ?_
        refine ww_aload_n 0 dX4_peek_45 rfl ?_
        refine ww_getf gf_X4_31 rfl dX4_peek_46 hp rfl ?_
        refine ww_icmp_ge 71 dX4_peek_49 (by decide) (inI.mk (by omega) (by omega)) (inI.mk (by omega) (by omega)) (fun c_49 => ?_) (fun c_49 => ?_)
        · refine ww_iconst dX4_peek_71 ?_
          exact ww_iret hQ dX4_peek_72 rfl (Nat.le_of_ble_eq_true rfl) (Nat.le_of_ble_eq_true rfl) ⟨_, rfl, by rw [← hk, hk2, ht.2.2.1 j (by omega)], ⟨⟨hp0, by rw [← hk, hk2]; exact hp⟩, ⟨bf, fs, B, hx0, hx, hb, ht, hB⟩, ⟨by rw [← hk, hk2]; omega, by rw [← hk, hk2]; omega⟩, hsa, hdp, hhs, hhw⟩, hF⟩
        · exact absurd c_49 (by omega)
      · have hBj := hB j (by omega) (by omega)
        refine ww_aload_n 0 dX4_peek_11 rfl ?_
        refine ww_getf gf_X4_3 rfl dX4_peek_12 hp rfl ?_
        refine ww_getf gf_X4_38 rfl dX4_peek_15 hx rfl ?_
        refine ww_aload_n 0 dX4_peek_18 rfl ?_
        refine ww_getf gf_X4_35 rfl dX4_peek_19 hp rfl ?_
        refine ww_bald dX4_peek_22 hb (by omega) (by omega) (by omega) ?_
        refine ww_bipush dX4_peek_23 (by decide) ?_
        refine ww_icmp_ne 41 dX4_peek_25 (by decide) (inI.mk (by omega) (by omega)) (inI.mk (by omega) (by omega)) (fun c_25 => ?_) (fun c_25 => ?_)
        · have hk2 : sk t j = j := sk_f (by rw [hBj.2.2]; omega)
          refine ww_aload_n 0 dX4_peek_41 rfl ?_
          refine ww_getf gf_X4_35 rfl dX4_peek_42 hp rfl ?_
          refine ww_aload_n 0 dX4_peek_45 rfl ?_
          refine ww_getf gf_X4_31 rfl dX4_peek_46 hp rfl ?_
          refine ww_icmp_ge 71 dX4_peek_49 (by decide) (inI.mk (by omega) (by omega)) (inI.mk (by omega) (by omega)) (fun c_49 => ?_) (fun c_49 => ?_)
          · exact absurd c_49 (by omega)
          · refine ww_aload_n 0 dX4_peek_52 rfl ?_
            refine ww_getf gf_X4_3 rfl dX4_peek_53 hp rfl ?_
            refine ww_getf gf_X4_38 rfl dX4_peek_56 hx rfl ?_
            refine ww_aload_n 0 dX4_peek_59 rfl ?_
            refine ww_getf gf_X4_35 rfl dX4_peek_60 hp rfl ?_
            refine ww_bald dX4_peek_63 hb (by omega) (by omega) (by omega) ?_
            refine ww_sipush dX4_peek_64 (by decide) ?_
            refine ww_iandI dX4_peek_67 rfl ?_
            refine ww_goto 72 dX4_peek_68 (by decide) ?_
            exact ww_iret hQ dX4_peek_72 rfl (Nat.le_of_ble_eq_true rfl) (Nat.le_of_ble_eq_true rfl) ⟨_, rfl, by rw [← hk, hk2, hBj.2.2], ⟨⟨hp0, by rw [← hk, hk2]; exact hp⟩, ⟨bf, fs, B, hx0, hx, hb, ht, hB⟩, ⟨by rw [← hk, hk2]; omega, by rw [← hk, hk2]; omega⟩, hsa, hdp, hhs, hhw⟩, hF⟩
        · have hc32 : t j = 32 := by rw [hBj.2.2]; omega
          refine ww_aload_n 0 dX4_peek_28 rfl ?_
          refine ww_dup dX4_peek_29 rfl ?_
          refine ww_getf gf_X4_35 rfl dX4_peek_30 hp rfl ?_
          refine ww_iconst dX4_peek_33 ?_
          refine ww_iadd dX4_peek_34 ?_
          refine wx_putf pf_X4_35 rfl dX4_peek_35 hp hp0 (Nat.le_of_ble_eq_true rfl) rfl rfl (fun h_35 hp f_35 => ?_)
          have hx := f_35.at hx (by omega)
          have hb := f_35.at hb (by omega)
          have hF := hF.tr f_35
          refine ww_goto 0 dX4_peek_38 (by decide) ?_
          refine ww_sub [0] rfl ?_
          exact ih (j + 1) _ hF hp hx hb (by omega) (by omega) (by rw [← hk]; exact (sk_t hc32 (by omega)).symm) (by omega)
  refine ww_sub [0] rfl ?_
  exact loop_0 801 nx h KT.rf hp hx hb (by omega) (by omega) rfl (by omega)

set_option maxHeartbeats 4000000 in
theorem ct_X4_isLetterAt {G : GT} {h : AH} (hG : GOK G) {p x a nl : Nat} {t : Int → Int} {n nx sa dp hs hw : Int} (hP : PB G h p x a nl t n nx sa dp hs hw) (k : Int) (k0 : 0 ≤ k) (k1 : k ≤ n) : CPi G (MX4_isLetterAt 1 25 0 0) h [.ref p, .int (iI k)] (bI (97 ≤ t k ∧ t k ≤ 122)) := by
  refine CT.of rfl hG (Nat.le_of_ble_eq_true rfl) rfl (fun E hQ => ?_)
  obtain ⟨⟨hp0, hp⟩, ⟨bf, fs, B, hx0, hx, hb, ht, hB⟩, hnx, hsa, hdp, hhs, hhw⟩ := id hP
  have h8 := ht.2.1
  have h0 := ht.1
  refine ww_iload_n 1 dX4_isLetterAt_0 rfl ?_
  refine ww_aload_n 0 dX4_isLetterAt_1 rfl ?_
  refine ww_getf gf_X4_31 rfl dX4_isLetterAt_2 hp rfl ?_
  refine ww_icmp_ge 34 dX4_isLetterAt_5 (by decide) (inI.mk (by omega) (by omega)) (inI.mk (by omega) (by omega)) (fun c_5 => ?_) (fun c_5 => ?_)
  · refine ww_iconst dX4_isLetterAt_34 ?_
    exact ww_zret hQ dX4_isLetterAt_35 rfl (Nat.le_of_ble_eq_true rfl) (Nat.le_of_ble_eq_true rfl) (by first | exact Or.inl rfl | exact Or.inr rfl | (unfold bI; split <;> simp)) ⟨_, rfl, (bI_f (fun z => by rw [ht.2.2.1 k (by omega)] at z; omega)).symm, rfl⟩
  · have hBk := hB k (by omega) (by omega)
    refine ww_aload_n 0 dX4_isLetterAt_8 rfl ?_
    refine ww_getf gf_X4_3 rfl dX4_isLetterAt_9 hp rfl ?_
    refine ww_getf gf_X4_38 rfl dX4_isLetterAt_12 hx rfl ?_
    refine ww_iload_n 1 dX4_isLetterAt_15 rfl ?_
    refine ww_bald dX4_isLetterAt_16 hb (by omega) (by omega) (by omega) ?_
    refine ww_i2l dX4_isLetterAt_17 (inI.mk (by omega) (by omega)) ?_
    refine ww_ldc2 q1307 dX4_isLetterAt_18 (z := 97) rfl ?_
    refine ww_ldc2 q1308 dX4_isLetterAt_21 (z := 122) rfl ?_
    refine cr_pi (cr_SN (ct_X1_isBetween hG (B k) 97 122 (inL.mk (by omega) (by omega)) (inL.mk (by omega) (by omega)) (inL.mk (by omega) (by omega))) ss_X4_46 rfl dX4_isLetterAt_24 rfl rfl ⟨by decide, by decide⟩ (Nat.le_of_ble_eq_true rfl) (Nat.le_of_ble_eq_true rfl) (Nat.le_of_ble_eq_true rfl)) ?_
    refine ww_ifb_eq 34 dX4_isLetterAt_27 (by decide) (fun c_27 => ?_) (fun c_27 => ?_)
    · refine ww_iconst dX4_isLetterAt_34 ?_
      exact ww_zret hQ dX4_isLetterAt_35 rfl (Nat.le_of_ble_eq_true rfl) (Nat.le_of_ble_eq_true rfl) (by first | exact Or.inl rfl | exact Or.inr rfl | (unfold bI; split <;> simp)) ⟨_, rfl, (bI_f (fun z => c_27 (by rw [hBk.2.2] at z; omega))).symm, rfl⟩
    · refine ww_iconst dX4_isLetterAt_30 ?_
      refine ww_goto 35 dX4_isLetterAt_31 (by decide) ?_
      exact ww_zret hQ dX4_isLetterAt_35 rfl (Nat.le_of_ble_eq_true rfl) (Nat.le_of_ble_eq_true rfl) (by first | exact Or.inl rfl | exact Or.inr rfl | (unfold bI; split <;> simp)) ⟨_, rfl, (bI_t (by rw [hBk.2.2]; omega)).symm, rfl⟩

set_option maxHeartbeats 4000000 in
theorem ct_X4_expect {G : GT} {h : AH} (hG : GOK G) {p x a nl : Nat} {t : Int → Int} {n nx sa dp hs hw : Int} (hP : PB G h p x a nl t n nx sa dp hs hw) (c : Int) (hc0 : 0 ≤ c) (hc1 : c ≤ 127) : CX G (MX4_expect 5 113 1 8) h [.ref p, .int (iI c)] (pV (fun h' => t (sk t nx) = c ∧ PB G h' p x a nl t n (sk t nx + 1) sa dp hs hw ∧ PF p h h')) (XS p a h (pexp t nx c)) := by
  refine CX.of rfl hG (Nat.le_of_ble_eq_true rfl) rfl (fun E hQ hT => ?_)
  have ht := hP.txt
  have h8 := ht.2.1
  have h0 := ht.1
  have hnx := hP.2.2.1
  have hk := ht.k1 hnx.2
  have hrg := ht.rg (q := sk t nx) (by omega)
  have hp0 := hP.1.1
  have hF : PF p h h := KT.rf
  refine ww_aload_n 0 dX4_expect_0 rfl ?_
  refine cr_i (cr_V (ct_X4_peek hG hP) sv_X4_55 rfl dX4_expect_1 hP.obj rfl rfl rfl rfl ⟨by decide, by decide⟩ (Nat.le_of_ble_eq_true rfl) (Nat.le_of_ble_eq_true rfl) (Nat.le_of_ble_eq_true rfl)) (fun r_1 h_1 hp_1 => ?_)
  obtain ⟨er_1, hP, f_1⟩ := hp_1
  subst er_1
  have hF := hF.tr f_1
  refine ww_iload_n 1 dX4_expect_4 rfl ?_
  refine ww_icmp_ne 12 dX4_expect_5 (by decide) (inI.mk (by omega) (by omega)) (inI.mk (by omega) (by omega)) (fun c_5 => ?_) (fun c_5 => ?_)
  · refine ww_iconst dX4_expect_12 ?_
    refine ww_istore_n [(2, _), (0, _), (1, _)] dX4_expect_13 (by decide) rfl ?_
    refine ww_aload_n 1 dX4_expect_14 rfl ?_
    refine ww_iload_n 0 dX4_expect_15 rfl ?_
    refine ww_bipush dX4_expect_16 (by decide) ?_
    refine ww_aload_n 1 dX4_expect_18 rfl ?_
    refine ww_getf gf_X4_35 rfl dX4_expect_19 hP.obj rfl ?_
    refine cx_v (cx_V (ct_X4_reqF hG p a (-2) (sk t nx) (by omega)) sv_X4_59 rfl dX4_expect_22 hP.obj rfl rfl rfl rfl ⟨by decide, by decide⟩ (Nat.le_of_ble_eq_true rfl) (Nat.le_of_ble_eq_true rfl) (Nat.le_of_ble_eq_true rfl)) (fun X_22 q_22 g_22 hx_22 => wq_out hQ hT (Nat.le_of_ble_eq_true rfl) (Nat.le_of_ble_eq_true rfl) (hx_22.go hF.fp (fun c o e => by cases e; exact (by unfold pexp; rw [if_neg c_5])))) (fun h_22 hp_22 => ?_)
    exact hp_22.elim
  · refine ww_iconst dX4_expect_8 ?_
    refine ww_goto 13 dX4_expect_9 (by decide) ?_
    refine ww_istore_n [(2, _), (0, _), (1, _)] dX4_expect_13 (by decide) rfl ?_
    refine ww_aload_n 1 dX4_expect_14 rfl ?_
    refine ww_iload_n 0 dX4_expect_15 rfl ?_
    refine ww_bipush dX4_expect_16 (by decide) ?_
    refine ww_aload_n 1 dX4_expect_18 rfl ?_
    refine ww_getf gf_X4_35 rfl dX4_expect_19 hP.obj rfl ?_
    refine cr_pv (cr_V (ct_X4_reqT hG 1 _ _ (by decide) (inI.mk (by decide) (by decide))) sv_X4_59 rfl dX4_expect_22 hP.obj rfl rfl rfl rfl ⟨by decide, by decide⟩ (Nat.le_of_ble_eq_true rfl) (Nat.le_of_ble_eq_true rfl) (Nat.le_of_ble_eq_true rfl)) ?_
    refine ww_aload_n 1 dX4_expect_25 rfl ?_
    refine ww_dup dX4_expect_26 rfl ?_
    refine ww_getf gf_X4_35 rfl dX4_expect_27 hP.obj rfl ?_
    refine ww_iconst dX4_expect_30 ?_
    refine ww_iadd dX4_expect_31 ?_
    have hp := hP.obj
    have hsn : sk t nx ≠ n := fun e => by rw [e, ht.2.2.1 n (Int.le_refl _)] at c_5; omega
    refine wx_putf pf_X4_35 rfl dX4_expect_32 hp hp0 (Nat.le_of_ble_eq_true rfl) rfl rfl (fun h_32 hp f_32 => ?_)
    have hF := hF.tr f_32
    have hP : PB G h_32 p x a nl t n (sk t nx + 1) sa dp hs hw := ⟨⟨hp0, hp⟩, hP.2.1.kt f_32 (by omega), ⟨by omega, by omega⟩, hP.2.2.2⟩
    exact ww_x hQ (ww_vret rfl dX4_expect_35 rfl (Nat.le_of_ble_eq_true rfl) (Nat.le_of_ble_eq_true rfl) ⟨rfl, c_5, hP, hF⟩)

set_option maxHeartbeats 4000000 in
theorem ct_X4_isDigit {G : GT} {h : AH} (hG : GOK G) {p x a nl : Nat} {t : Int → Int} {n nx sa dp hs hw : Int} (hP : PB G h p x a nl t n nx sa dp hs hw) : CT G (MX4_isDigit 1 25 0 0) h [.ref p] (pI (fun z h' => z = bI (48 ≤ t (sk t nx) ∧ t (sk t nx) ≤ 57) ∧ PB G h' p x a nl t n (sk t nx) sa dp hs hw ∧ PF p h h')) := by
  refine CT.of rfl hG (Nat.le_of_ble_eq_true rfl) rfl (fun E hQ => ?_)
  have ht := hP.txt
  have h8 := ht.2.1
  have h0 := ht.1
  have hnx := hP.2.2.1
  have hk := ht.k1 hnx.2
  have hrg := ht.rg (q := sk t nx) (by omega)
  have hp0 := hP.1.1
  have hF : PF p h h := KT.rf
  refine ww_aload_n 0 dX4_isDigit_0 rfl ?_
  refine cr_i (cr_V (ct_X4_peek hG hP) sv_X4_55 rfl dX4_isDigit_1 hP.obj rfl rfl rfl rfl ⟨by decide, by decide⟩ (Nat.le_of_ble_eq_true rfl) (Nat.le_of_ble_eq_true rfl) (Nat.le_of_ble_eq_true rfl)) (fun r_1 h_1 hp_1 => ?_)
  obtain ⟨er_1, hP, f_1⟩ := hp_1
  subst er_1
  have hF := hF.tr f_1
  refine ww_i2l dX4_isDigit_4 (inI.mk (by omega) (by omega)) ?_
  refine ww_ldc2 q1449 dX4_isDigit_5 (z := 48) rfl ?_
  refine ww_ldc2 q1450 dX4_isDigit_8 (z := 57) rfl ?_
  refine cr_pi (cr_SN (ct_X1_isBetween hG (t (sk t nx)) 48 57 (inL.mk (by omega) (by omega)) (inL.mk (by omega) (by omega)) (inL.mk (by omega) (by omega))) ss_X4_46 rfl dX4_isDigit_11 rfl rfl ⟨by decide, by decide⟩ (Nat.le_of_ble_eq_true rfl) (Nat.le_of_ble_eq_true rfl) (Nat.le_of_ble_eq_true rfl)) ?_
  exact ww_zret hQ dX4_isDigit_14 rfl (Nat.le_of_ble_eq_true rfl) (Nat.le_of_ble_eq_true rfl) (by first | exact Or.inl rfl | exact Or.inr rfl | (unfold bI; split <;> simp)) ⟨_, rfl, rfl, hP, hF⟩

set_option maxHeartbeats 4000000 in
theorem ct_X4_number {G : GT} {h : AH} (hG : GOK G) {p x a nl : Nat} {t : Int → Int} {n nx sa dp hs hw : Int} (hP : PB G h p x a nl t n nx sa dp hs hw) (lo hi : Int) (hlo : inI lo) (hhi : inI hi) : CX G (MX4_number 5 113 1 8) h [.ref p, .int (iI lo), .int (iI hi)] (pI (fun z h' => ∃ e, pnum t nx lo hi = .ok (z, e) ∧ lo ≤ z ∧ z ≤ hi ∧ 0 ≤ z ∧ nx < e ∧ e ≤ n ∧ PB G h' p x a nl t n e (sk t nx) dp hs hw ∧ PF p h h')) (XS p a h (pnum t nx lo hi)) := by
  refine CX.of rfl hG (Nat.le_of_ble_eq_true rfl) rfl (fun E hQ hT => ?_)
  have ht := hP.txt
  have h8 := ht.2.1
  have h0 := ht.1
  have hnx := hP.2.2.1
  have hk := ht.k1 hnx.2
  have hrg := ht.rg (q := sk t nx) (by omega)
  have hp0 := hP.1.1
  have hF : PF p h h := KT.rf
  have hlo2 := hlo.1
  have hlo3 := hlo.2
  have hhi2 := hhi.1
  have hhi3 := hhi.2
  refine ww_aload_n 0 dX4_number_0 rfl ?_
  refine cr_i (cr_V (ct_X4_isDigit hG hP) sv_X4_82 rfl dX4_number_1 hP.obj rfl rfl rfl rfl ⟨by decide, by decide⟩ (Nat.le_of_ble_eq_true rfl) (Nat.le_of_ble_eq_true rfl) (Nat.le_of_ble_eq_true rfl)) (fun r_1 h_1 hp_1 => ?_)
  obtain ⟨er_1, hP, f_1⟩ := hp_1
  subst er_1
  have hF := hF.tr f_1
  rcases Classical.em (48 ≤ t (sk t nx) ∧ t (sk t nx) ≤ 57) with hd | hd
  · rw [bI_t hd]
    refine ww_istore_n [(3, _), (0, _), (1, _), (2, _)] dX4_number_4 (by decide) rfl ?_
    refine ww_aload_n 1 dX4_number_5 rfl ?_
    refine ww_iload_n 0 dX4_number_6 rfl ?_
    refine ww_bipush dX4_number_7 (by decide) ?_
    refine ww_aload_n 1 dX4_number_9 rfl ?_
    refine ww_getf gf_X4_35 rfl dX4_number_10 hP.obj rfl ?_
    refine cr_pv (cr_V (ct_X4_reqT hG 1 _ _ (by decide) (inI.mk (by decide) (by decide))) sv_X4_59 rfl dX4_number_13 hP.obj rfl rfl rfl rfl ⟨by decide, by decide⟩ (Nat.le_of_ble_eq_true rfl) (Nat.le_of_ble_eq_true rfl) (Nat.le_of_ble_eq_true rfl)) ?_
    refine ww_aload_n 1 dX4_number_16 rfl ?_
    refine ww_aload_n 1 dX4_number_17 rfl ?_
    refine ww_getf gf_X4_35 rfl dX4_number_18 hP.obj rfl ?_
    have hp := hP.obj
    refine wx_putf pf_X4_86 rfl dX4_number_21 hp hp0 (Nat.le_of_ble_eq_true rfl) rfl rfl (fun h_21 hp f_21 => ?_)
    have hF := hF.tr f_21
    have hP : PB G h_21 p x a nl t n (sk t nx) (sk t nx) dp hs hw := ⟨⟨hp0, hp⟩, hP.2.1.kt f_21 (by omega), hP.2.2.1, ⟨by omega, by omega⟩, hP.2.2.2.2⟩
    refine ww_iconst dX4_number_24 ?_
    refine ww_istore [(4, _), (3, _), (0, _), (1, _), (2, _)] dX4_number_25 (by decide) rfl ?_
    have loop_27 : ∀ (f : Nat) (j v : Int) (h1 : AH), (PF p h h1) → (PB G h1 p x a nl t n j (sk t nx) dp hs hw) → (sk t nx ≤ j) → (j ≤ n) → (0 ≤ v) → (v ≤ 1000000) → (nu t j v = nu t (sk t nx) 0) → (sk t nx < j ∨ (j = sk t nx ∧ v = 0)) → (n - j < f) → WW G E (MX4_number 5 113 1 8) h1 0 0 27 [(0, .ref p), (1, .int (iI lo)), (2, .int (iI hi)), (4, .int (iI v))] [] := by
      intro f
      induction f with
      | zero => intro j v h1 hF hP hj0 hj1 hv0 hv1 hnu hgt hf; exact absurd hf (by omega)
      | succ f ih =>
        intro j v h1 hF hP hj0 hj1 hv0 hv1 hnu hgt hf
        obtain ⟨-, ⟨bf, fs, B, hx0, hx, hb, -, hB⟩, -⟩ := id hP
        have hp := hP.obj
        refine ww_aload_n 0 dX4_number_27 rfl ?_
        refine ww_getf gf_X4_35 rfl dX4_number_28 hp rfl ?_
        refine ww_aload_n 0 dX4_number_31 rfl ?_
        refine ww_getf gf_X4_31 rfl dX4_number_32 hp rfl ?_
        refine ww_icmp_ge 104 dX4_number_35 (by decide) (inI.mk (by omega) (by omega)) (inI.mk (by omega) (by omega)) (fun c_35 => ?_) (fun c_35 => ?_)
        · have hnd : ¬ (48 ≤ t j ∧ t j ≤ 57) := by rw [ht.2.2.1 j (by omega)]; omega
          have hpn : pnum t nx lo hi = if lo ≤ v ∧ v ≤ hi then .ok (v, j) else .error (-3, sk t nx) := by unfold pnum; rw [if_pos hd, ← hnu, nu_f hnd]
          refine ww_aload_n 0 dX4_number_104 rfl ?_
          refine ww_iload 3 dX4_number_105 rfl ?_
          refine ww_i2l dX4_number_107 (inI.mk (by omega) (by omega)) ?_
          refine ww_iload_n 1 dX4_number_108 rfl ?_
          refine ww_i2l dX4_number_109 hlo ?_
          refine ww_iload_n 2 dX4_number_110 rfl ?_
          refine ww_i2l dX4_number_111 hhi ?_
          refine cr_pi (cr_SN (ct_X1_isBetween hG v lo hi (inL.mk (by omega) (by omega)) (inL.mk (by omega) (by omega)) (inL.mk (by omega) (by omega))) ss_X4_46 rfl dX4_number_112 rfl rfl ⟨by decide, by decide⟩ (Nat.le_of_ble_eq_true rfl) (Nat.le_of_ble_eq_true rfl) (Nat.le_of_ble_eq_true rfl)) ?_
          rcases Classical.em (lo ≤ v ∧ v ≤ hi) with hw1 | hw1
          · rw [bI_t hw1]
            rw [if_pos hw1] at hpn
            refine ww_bipush dX4_number_115 (by decide) ?_
            refine ww_aload_n 0 dX4_number_117 rfl ?_
            refine ww_getf gf_X4_86 rfl dX4_number_118 hP.obj rfl ?_
            refine cr_pv (cr_V (ct_X4_reqT hG 1 _ _ (by decide) (inI.mk (by decide) (by decide))) sv_X4_59 rfl dX4_number_121 hP.obj rfl rfl rfl rfl ⟨by decide, by decide⟩ (Nat.le_of_ble_eq_true rfl) (Nat.le_of_ble_eq_true rfl) (Nat.le_of_ble_eq_true rfl)) ?_
            refine ww_iload 3 dX4_number_124 rfl ?_
            exact ww_x hQ (ww_iret rfl dX4_number_126 rfl (Nat.le_of_ble_eq_true rfl) (Nat.le_of_ble_eq_true rfl) ⟨_, rfl, j, hpn, hw1.1, hw1.2, hv0, by have hx9 : j ≠ sk t nx := fun e => hnd (by rw [e]; exact hd); omega, hj1, hP, hF⟩)
          · rw [bI_f hw1]
            rw [if_neg hw1] at hpn
            refine ww_bipush dX4_number_115 (by decide) ?_
            refine ww_aload_n 0 dX4_number_117 rfl ?_
            refine ww_getf gf_X4_86 rfl dX4_number_118 hP.obj rfl ?_
            refine cx_v (cx_V (ct_X4_reqF hG p a (-3) (sk t nx) (by omega)) sv_X4_59 rfl dX4_number_121 hP.obj rfl rfl rfl rfl ⟨by decide, by decide⟩ (Nat.le_of_ble_eq_true rfl) (Nat.le_of_ble_eq_true rfl) (Nat.le_of_ble_eq_true rfl)) (fun X_121 q_121 g_121 hx_121 => wq_out hQ hT (Nat.le_of_ble_eq_true rfl) (Nat.le_of_ble_eq_true rfl) (hx_121.go hF.fp (fun c o e => by cases e; exact hpn))) (fun h_121 hp_121 => ?_)
            exact hp_121.elim
        · have hBj := hB j (by omega) (by omega)
          refine ww_aload_n 0 dX4_number_38 rfl ?_
          refine ww_getf gf_X4_3 rfl dX4_number_39 hp rfl ?_
          refine ww_getf gf_X4_38 rfl dX4_number_42 hx rfl ?_
          refine ww_aload_n 0 dX4_number_45 rfl ?_
          refine ww_getf gf_X4_35 rfl dX4_number_46 hp rfl ?_
          refine ww_bald dX4_number_49 hb (by omega) (by omega) (by omega) ?_
          refine ww_i2l dX4_number_50 (inI.mk (by omega) (by omega)) ?_
          refine ww_ldc2 q1449 dX4_number_51 (z := 48) rfl ?_
          refine ww_ldc2 q1450 dX4_number_54 (z := 57) rfl ?_
          refine cr_pi (cr_SN (ct_X1_isBetween hG (B j) 48 57 (inL.mk (by omega) (by omega)) (inL.mk (by omega) (by omega)) (inL.mk (by omega) (by omega))) ss_X4_46 rfl dX4_number_57 rfl rfl ⟨by decide, by decide⟩ (Nat.le_of_ble_eq_true rfl) (Nat.le_of_ble_eq_true rfl) (Nat.le_of_ble_eq_true rfl)) ?_
          refine ww_ifb_eq 104 dX4_number_60 (by decide) (fun c_60 => ?_) (fun c_60 => ?_)
          · have hnd : ¬ (48 ≤ t j ∧ t j ≤ 57) := by rw [hBj.2.2]; omega
            have hpn : pnum t nx lo hi = if lo ≤ v ∧ v ≤ hi then .ok (v, j) else .error (-3, sk t nx) := by unfold pnum; rw [if_pos hd, ← hnu, nu_f hnd]
            refine ww_aload_n 0 dX4_number_104 rfl ?_
            refine ww_iload 3 dX4_number_105 rfl ?_
            refine ww_i2l dX4_number_107 (inI.mk (by omega) (by omega)) ?_
            refine ww_iload_n 1 dX4_number_108 rfl ?_
            refine ww_i2l dX4_number_109 hlo ?_
            refine ww_iload_n 2 dX4_number_110 rfl ?_
            refine ww_i2l dX4_number_111 hhi ?_
            refine cr_pi (cr_SN (ct_X1_isBetween hG v lo hi (inL.mk (by omega) (by omega)) (inL.mk (by omega) (by omega)) (inL.mk (by omega) (by omega))) ss_X4_46 rfl dX4_number_112 rfl rfl ⟨by decide, by decide⟩ (Nat.le_of_ble_eq_true rfl) (Nat.le_of_ble_eq_true rfl) (Nat.le_of_ble_eq_true rfl)) ?_
            rcases Classical.em (lo ≤ v ∧ v ≤ hi) with hw1 | hw1
            · rw [bI_t hw1]
              rw [if_pos hw1] at hpn
              refine ww_bipush dX4_number_115 (by decide) ?_
              refine ww_aload_n 0 dX4_number_117 rfl ?_
              refine ww_getf gf_X4_86 rfl dX4_number_118 hP.obj rfl ?_
              refine cr_pv (cr_V (ct_X4_reqT hG 1 _ _ (by decide) (inI.mk (by decide) (by decide))) sv_X4_59 rfl dX4_number_121 hP.obj rfl rfl rfl rfl ⟨by decide, by decide⟩ (Nat.le_of_ble_eq_true rfl) (Nat.le_of_ble_eq_true rfl) (Nat.le_of_ble_eq_true rfl)) ?_
              refine ww_iload 3 dX4_number_124 rfl ?_
              exact ww_x hQ (ww_iret rfl dX4_number_126 rfl (Nat.le_of_ble_eq_true rfl) (Nat.le_of_ble_eq_true rfl) ⟨_, rfl, j, hpn, hw1.1, hw1.2, hv0, by have hx9 : j ≠ sk t nx := fun e => hnd (by rw [e]; exact hd); omega, hj1, hP, hF⟩)
            · rw [bI_f hw1]
              rw [if_neg hw1] at hpn
              refine ww_bipush dX4_number_115 (by decide) ?_
              refine ww_aload_n 0 dX4_number_117 rfl ?_
              refine ww_getf gf_X4_86 rfl dX4_number_118 hP.obj rfl ?_
              refine cx_v (cx_V (ct_X4_reqF hG p a (-3) (sk t nx) (by omega)) sv_X4_59 rfl dX4_number_121 hP.obj rfl rfl rfl rfl ⟨by decide, by decide⟩ (Nat.le_of_ble_eq_true rfl) (Nat.le_of_ble_eq_true rfl) (Nat.le_of_ble_eq_true rfl)) (fun X_121 q_121 g_121 hx_121 => wq_out hQ hT (Nat.le_of_ble_eq_true rfl) (Nat.le_of_ble_eq_true rfl) (hx_121.go hF.fp (fun c o e => by cases e; exact hpn))) (fun h_121 hp_121 => ?_)
              exact hp_121.elim
          · have hdj : 48 ≤ t j ∧ t j ≤ 57 := by rw [hBj.2.2]; omega
            have htj : t j = B j := by rw [hBj.2.2]; omega
            refine ww_ldc q1451 dX4_number_63 (z := 1000000) rfl ?_
            refine ww_bipush dX4_number_65 (by decide) ?_
            refine ww_iload 3 dX4_number_67 rfl ?_
            refine ww_imul dX4_number_69 ?_
            refine ww_aload_n 0 dX4_number_70 rfl ?_
            refine ww_getf gf_X4_3 rfl dX4_number_71 hp rfl ?_
            refine ww_getf gf_X4_38 rfl dX4_number_74 hx rfl ?_
            refine ww_aload_n 0 dX4_number_77 rfl ?_
            refine ww_getf gf_X4_35 rfl dX4_number_78 hp rfl ?_
            refine ww_bald dX4_number_81 hb (by omega) (by omega) (by omega) ?_
            refine ww_iadd dX4_number_82 ?_
            refine ww_bipush dX4_number_83 (by decide) ?_
            refine ww_isub dX4_number_85 ?_
            refine ww_mmin q1452 rfl dX4_number_86 (by first | assumption | exact inI.mk (by omega) (by omega)) (by first | assumption | exact inI.mk (by omega) (by omega)) (Nat.le_of_ble_eq_true rfl) (Nat.le_of_ble_eq_true rfl) (Nat.le_of_ble_eq_true rfl) (Nat.le_of_ble_eq_true rfl) ?_
            refine ww_istore [(4, _), (0, _), (1, _), (2, _)] dX4_number_89 (by decide) rfl ?_
            refine ww_aload_n 1 dX4_number_91 rfl ?_
            refine ww_dup dX4_number_92 rfl ?_
            refine ww_getf gf_X4_35 rfl dX4_number_93 hp rfl ?_
            refine ww_iconst dX4_number_96 ?_
            refine ww_iadd dX4_number_97 ?_
            refine wx_putf pf_X4_35 rfl dX4_number_98 hp hp0 (Nat.le_of_ble_eq_true rfl) rfl rfl (fun h_98 hp f_98 => ?_)
            have hF := hF.tr f_98
            have hP : PB G h_98 p x a nl t n (j + 1) (sk t nx) dp hs hw := ⟨⟨hp0, hp⟩, hP.2.1.kt f_98 (by omega), ⟨by omega, by omega⟩, hP.2.2.2⟩
            refine ww_goto 27 dX4_number_101 (by decide) ?_
            refine ww_sub [1, 2, 3, 0] rfl ?_
            exact ih (j + 1) _ _ hF hP (by omega) (by omega) (by omega) (by omega) (by rw [← hnu, nu_t (t := t) (p := j) (v := v) hdj (by omega), show min 1000000 (10 * v + t j - 48) = min 1000000 (10 * v + B j - 48) by rw [htj]]) (by omega) (by omega)
    refine ww_sub [2, 3, 4, 0] rfl ?_
    exact loop_27 801 (sk t nx) 0 _ hF hP (by omega) (by omega) (by omega) (by omega) rfl (Or.inr ⟨rfl, rfl⟩) (by omega)
  · rw [bI_f hd]
    refine ww_istore_n [(3, _), (0, _), (1, _), (2, _)] dX4_number_4 (by decide) rfl ?_
    refine ww_aload_n 1 dX4_number_5 rfl ?_
    refine ww_iload_n 0 dX4_number_6 rfl ?_
    refine ww_bipush dX4_number_7 (by decide) ?_
    refine ww_aload_n 1 dX4_number_9 rfl ?_
    refine ww_getf gf_X4_35 rfl dX4_number_10 hP.obj rfl ?_
    refine cx_v (cx_V (ct_X4_reqF hG p a (-2) (sk t nx) (by omega)) sv_X4_59 rfl dX4_number_13 hP.obj rfl rfl rfl rfl ⟨by decide, by decide⟩ (Nat.le_of_ble_eq_true rfl) (Nat.le_of_ble_eq_true rfl) (Nat.le_of_ble_eq_true rfl)) (fun X_13 q_13 g_13 hx_13 => wq_out hQ hT (Nat.le_of_ble_eq_true rfl) (Nat.le_of_ble_eq_true rfl) (hx_13.go hF.fp (fun c o e => by cases e; exact (by unfold pnum; rw [if_neg hd])))) (fun h_13 hp_13 => ?_)
    exact hp_13.elim
