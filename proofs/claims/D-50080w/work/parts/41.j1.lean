set_option maxRecDepth 100000
theorem z_cs {G : GT} (hG : GOK G) : va_Z "java/lang/String" "COMPACT_STRINGS" "Z" (.int (iI 1)) (gA G) (g0 G) (g0 G).heap := st_int hG q228 (lw_all_tbl q88) (by decide +kernel)

set_option maxHeartbeats 4000000 in
theorem ct_J6_coder {G : GT} {h : AH} {o a : Nat} {l : List Int} (hG : GOK G) (hS : StO G h o a l) : CPi G (MJ6_coder 0 0 0 0) h [.ref a] (0) := by
  refine CT.of rfl hG (Nat.le_of_ble_eq_true rfl) rfl (fun E hQ => ?_)
  obtain ⟨v, hs, hz, h1, h2, hw, hl, hsi, hh⟩ := hS
  refine ww_gets (z_cs hG) q227 rfl dJ6_coder_0 ?_
  refine ww_if_eq 13 dJ6_coder_3 (by decide) (inI.mk (by decide) (by decide)) (fun c_3 => ?_) (fun c_3 => ?_)
  · exact absurd c_3 (by decide)
  · refine ww_aload_n 0 dJ6_coder_6 rfl ?_
    refine ww_getf gf_J6_15 rfl dJ6_coder_7 h1 rfl ?_
    refine ww_goto 14 dJ6_coder_10 (by decide) ?_
    exact ww_nret hQ dJ6_coder_14 rfl rfl (Nat.le_of_ble_eq_true rfl) (Nat.le_of_ble_eq_true rfl) ⟨_, rfl, rfl, rfl⟩

set_option maxHeartbeats 4000000 in
theorem ct_J6_isLatin1 {G : GT} {h : AH} {o a : Nat} {l : List Int} (hG : GOK G) (hS : StO G h o a l) : CPi G (MJ6_isLatin1 0 0 0 0) h [.ref a] (1) := by
  refine CT.of rfl hG (Nat.le_of_ble_eq_true rfl) rfl (fun E hQ => ?_)
  obtain ⟨v, hs, hz, h1, h2, hw, hl, hsi, hh⟩ := hS
  refine ww_gets (z_cs hG) q227 rfl dJ6_isLatin1_0 ?_
  refine ww_if_eq 17 dJ6_isLatin1_3 (by decide) (inI.mk (by decide) (by decide)) (fun c_3 => ?_) (fun c_3 => ?_)
  · exact absurd c_3 (by decide)
  · refine ww_aload_n 0 dJ6_isLatin1_6 rfl ?_
    refine ww_getf gf_J6_15 rfl dJ6_isLatin1_7 h1 rfl ?_
    refine ww_if_ne 17 dJ6_isLatin1_10 (by decide) (inI.mk (by decide) (by decide)) (fun c_10 => ?_) (fun c_10 => ?_)
    · exact absurd c_10 (by decide)
    · refine ww_iconst dJ6_isLatin1_13 ?_
      refine ww_goto 18 dJ6_isLatin1_14 (by decide) ?_
      exact ww_zret hQ dJ6_isLatin1_18 rfl (Nat.le_of_ble_eq_true rfl) (Nat.le_of_ble_eq_true rfl) (by first | exact Or.inl rfl | exact Or.inr rfl | (unfold bI; split <;> simp)) ⟨_, rfl, rfl, rfl⟩

set_option maxHeartbeats 4000000 in
theorem ct_J6_length {G : GT} {h : AH} {o a : Nat} {l : List Int} (hG : GOK G) (hS : StO G h o a l) : CPi G (MJ6_length 1 20 0 0) h [.ref a] (l.length) := by
  refine CT.of rfl hG (Nat.le_of_ble_eq_true rfl) rfl (fun E hQ => ?_)
  have hS0 := hS
  obtain ⟨v, hs, hz, h1, h2, hw, hl, hsi, hh⟩ := hS
  refine ww_aload_n 0 dJ6_length_0 rfl ?_
  refine ww_getf gf_J6_9 rfl dJ6_length_1 h1 rfl ?_
  refine ww_alenA dJ6_length_4 h2 (by decide) ?_
  refine ww_aload_n 0 dJ6_length_5 rfl ?_
  refine cr_pi (cr_V (ct_J6_coder hG hS0) sv_J6_335 rfl dJ6_length_6 h1 rfl rfl rfl rfl ⟨by decide, by decide⟩ (Nat.le_of_ble_eq_true rfl) (Nat.le_of_ble_eq_true rfl) (Nat.le_of_ble_eq_true rfl)) ?_
  refine ww_ishrI (b := 0) rfl dJ6_length_9 (inI.mk (by omega) (by omega)) (by decide) ?_
  exact ww_iret hQ dJ6_length_10 rfl (Nat.le_of_ble_eq_true rfl) (Nat.le_of_ble_eq_true rfl) ⟨_, rfl, by simp, rfl⟩

set_option maxHeartbeats 4000000 in
theorem ct_J18_checkIndex {G : GT} {h : AH} (hG : GOK G) (i n : Int) (r : Option Nat) (h0 : 0 ≤ i) (h1 : i < n) (h2 : n ≤ 2147483647) : CPi G (MJ18_checkIndex 0 0 0 0) h [.int (iI i), .int (iI n), va_rf r] (i) := by
  refine CT.of (L := [(0, .int (iI i)), (1, .int (iI n)), (2, va_rf r)]) rfl hG (by cases r <;> exact Nat.le_of_ble_eq_true rfl) (by cases r <;> rfl) (fun E hQ => ?_)
  refine ww_iload_n 0 dJ18_checkIndex_0 rfl ?_
  refine ww_if_lt 9 dJ18_checkIndex_1 (by decide) (inI.mk (by omega) (by omega)) (fun c_1 => ?_) (fun c_1 => ?_)
  · exact absurd c_1 (by omega)
  · refine ww_iload_n 0 dJ18_checkIndex_4 rfl ?_
    refine ww_iload_n 1 dJ18_checkIndex_5 rfl ?_
    refine ww_icmp_lt 16 dJ18_checkIndex_6 (by decide) (inI.mk (by omega) (by omega)) (inI.mk (by omega) (by omega)) (fun c_6 => ?_) (fun c_6 => ?_)
    · refine ww_iload_n 0 dJ18_checkIndex_16 rfl ?_
      exact ww_iret hQ dJ18_checkIndex_17 rfl (Nat.le_of_ble_eq_true rfl) (Nat.le_of_ble_eq_true rfl) ⟨_, rfl, rfl, rfl⟩
    · exact absurd c_6 (by omega)

theorem z_fm {G : GT} (hG : GOK G) : va_Zq "jdk/internal/util/Preconditions" "SIOOBE_FORMATTER" "Ljava/util/function/BiFunction;" (gA G) (g0 G) (g0 G).heap := st_ref hG q416 (lw_all_tbl q101) (by decide +kernel)

set_option maxHeartbeats 4000000 in
theorem ct_J6_checkIndex {G : GT} {h : AH} (hG : GOK G) (i n : Int) (h0 : 0 ≤ i) (h1 : i < n) (h2 : n ≤ 2147483647) : CPv G (MJ6_checkIndex 1 22 0 0) h [.int (iI i), .int (iI n)]  := by
  refine CT.of rfl hG (Nat.le_of_ble_eq_true rfl) rfl (fun E hQ => ?_)
  refine ww_iload_n 0 dJ6_checkIndex_0 rfl ?_
  refine ww_iload_n 1 dJ6_checkIndex_1 rfl ?_
  refine ww_getsq (z_fm hG) q415 rfl dJ6_checkIndex_2 (fun r => ?_)
  refine cr_pi (cr_S (ct_J18_checkIndex hG _ _ _ (by omega) (by omega) (by omega)) ss_J6_1059 rfl dJ6_checkIndex_5 rfl rfl ⟨by decide, by decide⟩ (Nat.le_of_ble_eq_true rfl) (Nat.le_of_ble_eq_true rfl) (Nat.le_of_ble_eq_true rfl)) ?_
  refine ww_pop dJ6_checkIndex_8 rfl ?_
  exact ww_vret hQ dJ6_checkIndex_9 rfl (Nat.le_of_ble_eq_true rfl) (Nat.le_of_ble_eq_true rfl) ⟨rfl, rfl⟩

set_option maxHeartbeats 4000000 in
theorem ct_J7_charAt {G : GT} {h : AH} {v : Nat} {t : Tg} {l : List Int} (hG : GOK G) (hv : h v = some (t, aA G 1 l.length (lf l))) (hw : Wd l) (hl : l.length < 1000) (i : Int) (h0 : 0 ≤ i) (h1 : i < l.length) : CPi G (MJ7_charAt 2 43 0 0) h [.ref v, .int (iI i)] (lf l i) := by
  refine CT.of rfl hG (Nat.le_of_ble_eq_true rfl) rfl (fun E hQ => ?_)
  have hb := lf_wd hw h0 h1
  refine ww_iload_n 1 dJ7_charAt_0 rfl ?_
  refine ww_aload_n 0 dJ7_charAt_1 rfl ?_
  refine ww_alenA dJ7_charAt_2 hv (by decide) ?_
  refine cr_pv (cr_S (ct_J6_checkIndex hG _ _ (by omega) (by omega) (by omega)) ss_J7_9 rfl dJ7_charAt_3 rfl rfl ⟨by decide, by decide⟩ (Nat.le_of_ble_eq_true rfl) (Nat.le_of_ble_eq_true rfl) (Nat.le_of_ble_eq_true rfl)) ?_
  refine ww_aload_n 0 dJ7_charAt_6 rfl ?_
  refine ww_iload_n 1 dJ7_charAt_7 rfl ?_
  refine ww_bald dJ7_charAt_8 hv (by omega) (by omega) (by omega) ?_
  refine ww_sipush dJ7_charAt_9 (by decide) ?_
  refine ww_iandI dJ7_charAt_12 rfl ?_
  rw [show lf l i % 256 = lf l i by omega]
  refine ww_i2c dJ7_charAt_13 (by omega) (by omega) ?_
  exact ww_nret hQ dJ7_charAt_14 rfl (nar_char (by omega) (by omega)) (Nat.le_of_ble_eq_true rfl) (Nat.le_of_ble_eq_true rfl) ⟨_, rfl, rfl, rfl⟩

set_option maxHeartbeats 4000000 in
theorem ct_J6_charAt {G : GT} {h : AH} {o a : Nat} {l : List Int} (hG : GOK G) (hS : StO G h o a l) (i : Int) (h0 : 0 ≤ i) (h9 : i < l.length) : CPi G (MJ6_charAt 3 64 0 0) h [.ref a, .int (iI i)] (lf l i) := by
  refine CT.of rfl hG (Nat.le_of_ble_eq_true rfl) rfl (fun E hQ => ?_)
  have hS0 := hS
  obtain ⟨v, hs, hz, h1, h2, hw, hl, hsi, hh⟩ := hS
  have hb := lf_wd hw h0 h9
  refine ww_aload_n 0 dJ6_charAt_0 rfl ?_
  refine cr_pi (cr_V (ct_J6_isLatin1 hG hS0) sv_J6_492 rfl dJ6_charAt_1 h1 rfl rfl rfl rfl ⟨by decide, by decide⟩ (Nat.le_of_ble_eq_true rfl) (Nat.le_of_ble_eq_true rfl) (Nat.le_of_ble_eq_true rfl)) ?_
  refine ww_if_eq 16 dJ6_charAt_4 (by decide) (inI.mk (by decide) (by decide)) (fun c_4 => ?_) (fun c_4 => ?_)
  · exact absurd c_4 (by decide)
  · refine ww_aload_n 0 dJ6_charAt_7 rfl ?_
    refine ww_getf gf_J6_9 rfl dJ6_charAt_8 h1 rfl ?_
    refine ww_iload_n 1 dJ6_charAt_11 rfl ?_
    refine cr_pi (cr_S (ct_J7_charAt hG h2 hw hl _ h0 h9) ss_J6_495 rfl dJ6_charAt_12 rfl rfl ⟨by decide, by decide⟩ (Nat.le_of_ble_eq_true rfl) (Nat.le_of_ble_eq_true rfl) (Nat.le_of_ble_eq_true rfl)) ?_
    exact ww_nret hQ dJ6_charAt_15 rfl (nar_char (by omega) (by omega)) (Nat.le_of_ble_eq_true rfl) (Nat.le_of_ble_eq_true rfl) ⟨_, rfl, rfl, rfl⟩

set_option maxHeartbeats 4000000 in
theorem ct_J7_equals {G : GT} {h : AH} {v : Nat} {t : Tg} {l : List Int} (hG : GOK G) (hv : h v = some (t, aA G 1 l.length (lf l))) (hw : Wd l) (hl : l.length < 1000) {v2 : Nat} {t2 : Tg} {l2 : List Int} (hv2 : h v2 = some (t2, aA G 1 l2.length (lf l2))) (hw2 : Wd l2) (hl2 : l2.length < 1000) : CPi G (MJ7_equals 0 0 0 0) h [.ref v, .ref v2] (bI (l = l2)) := by
  refine CT.of rfl hG (Nat.le_of_ble_eq_true rfl) rfl (fun E hQ => ?_)
  refine ww_aload_n 0 dJ7_equals_0 rfl ?_
  refine ww_alenA dJ7_equals_1 hv (by decide) ?_
  refine ww_aload_n 1 dJ7_equals_2 rfl ?_
  refine ww_alenA dJ7_equals_3 hv2 (by decide) ?_
  refine ww_icmp_ne 34 dJ7_equals_4 (by decide) (inI.mk (by omega) (by omega)) (inI.mk (by omega) (by omega)) (fun c_4 => ?_) (fun c_4 => ?_)
  · refine ww_iconst dJ7_equals_34 ?_
    exact ww_zret hQ dJ7_equals_35 rfl (Nat.le_of_ble_eq_true rfl) (Nat.le_of_ble_eq_true rfl) (by first | exact Or.inl rfl | exact Or.inr rfl | (unfold bI; split <;> simp)) ⟨_, rfl, (bI_f (fun e => by rw [e] at c_4; exact c_4 rfl)).symm, rfl⟩
  · refine ww_iconst dJ7_equals_7 ?_
    refine ww_istore_n [(2, _), (0, _), (1, _)] dJ7_equals_8 (by decide) rfl ?_
    have loop_9 : ∀ (f : Nat) (i : Int), (0 ≤ i) → (i ≤ l.length) → (∀ j : Int, 0 ≤ j → j < i → lf l j = lf l2 j) → (l.length - i < f) → WW G E (MJ7_equals 0 0 0 0) h 0 0 9 [(2, .int (iI i)), (0, .ref v), (1, .ref v2)] [] := by
      intro f
      induction f with
      | zero => intro i hi0 hi1 he hf; exact absurd hf (by omega)
      | succ f ih =>
        intro i hi0 hi1 he hf
        refine ww_iload_n 0 dJ7_equals_9 rfl ?_
        refine ww_aload_n 1 dJ7_equals_10 rfl ?_
        refine ww_alenA dJ7_equals_11 hv (by decide) ?_
        refine ww_icmp_ge 32 dJ7_equals_12 (by decide) (inI.mk (by omega) (by omega)) (inI.mk (by omega) (by omega)) (fun c_12 => ?_) (fun c_12 => ?_)
        · refine ww_iconst dJ7_equals_32 ?_
          exact ww_zret hQ dJ7_equals_33 rfl (Nat.le_of_ble_eq_true rfl) (Nat.le_of_ble_eq_true rfl) (by first | exact Or.inl rfl | exact Or.inr rfl | (unfold bI; split <;> simp)) ⟨_, rfl, (bI_t (lf_ext (by omega) (fun j x y => he j x (by omega)))).symm, rfl⟩
        · refine ww_aload_n 1 dJ7_equals_15 rfl ?_
          refine ww_iload_n 0 dJ7_equals_16 rfl ?_
          refine ww_bald dJ7_equals_17 hv (by omega) (by omega) (by omega) ?_
          refine ww_aload_n 2 dJ7_equals_18 rfl ?_
          refine ww_iload_n 0 dJ7_equals_19 rfl ?_
          refine ww_bald dJ7_equals_20 hv2 (by omega) (by omega) (by omega) ?_
          refine ww_icmp_eq 26 dJ7_equals_21 (by decide) (by have := lf_wd hw hi0 (by omega); exact inI.mk (by omega) (by omega)) (by have := lf_wd hw2 hi0 (by omega); exact inI.mk (by omega) (by omega)) (fun c_21 => ?_) (fun c_21 => ?_)
          · refine ww_iinc (j := 0) [(2, _), (0, _), (1, _)] dJ7_equals_26 rfl (by decide) rfl ?_
            refine ww_goto 9 dJ7_equals_29 (by decide) ?_
            refine ww_sub [0, 1, 2] rfl ?_
            exact ih (i + 1) (by omega) (by omega) (fun j x y => if e : j = i then by (rw [e]; exact c_21) else he j x (by omega)) (by omega)
          · refine ww_iconst dJ7_equals_24 ?_
            exact ww_zret hQ dJ7_equals_25 rfl (Nat.le_of_ble_eq_true rfl) (Nat.le_of_ble_eq_true rfl) (by first | exact Or.inl rfl | exact Or.inr rfl | (unfold bI; split <;> simp)) ⟨_, rfl, (bI_f (fun e => by rw [e] at c_21; exact c_21 rfl)).symm, rfl⟩
    refine ww_sub [0, 1, 2] rfl ?_
    exact loop_9 (l.length + 1) 0 (by omega) (by omega) (fun j x y => by omega) (by omega)

theorem al_inj {G : GT} {l l2 : List Int} (e : some (aA G 1 l.length (lf l)) = some (aA G 1 l2.length (lf l2))) (h1 : l.length < 1000) (h2 : l2.length < 1000) (hw : Wd l) (hw2 : Wd l2) : l = l2 := by
  have e2 : (gC G 1, l.length, vI (lf l)) = (gC G 1, l2.length, vI (lf l2)) ∧ True := by
    unfold aA ai at e
    simp only [Option.some.injEq, Sum.inl.injEq, Prod.mk.injEq] at e
    exact ⟨by rw [e.2.1, e.2.2], trivial⟩
  have e3 := e2.1
  simp only [Prod.mk.injEq, true_and] at e3
  refine lf_ext e3.1 (fun i a b => ?_)
  have q := congrFun e3.2 i.toNat
  unfold vI at q
  rw [Int.toNat_of_nonneg a] at q
  have b1 := lf_wd hw a b
  have b2 := lf_wd hw2 a (by omega)
  exact (iI_eq (inI.mk (by omega) (by omega)) (inI.mk (by omega) (by omega))).mp q

theorem StO_uniq {G : GT} {h : AH} {o o2 a : Nat} {l l2 : List Int} (h1 : StO G h o a l) (h2 : StO G h o2 a l2) : l = l2 := by
  obtain ⟨v, hs, hz, a1, a2, a3, a4, -⟩ := h1
  obtain ⟨v2, hs2, hz2, b1, b2, b3, b4, -⟩ := h2
  rw [a1] at b1
  simp only [Option.some.injEq, Prod.mk.injEq, Sum.inl.injEq, Sum.inr.injEq, List.cons.injEq, Value.ref.injEq] at b1
  obtain ⟨-, -, rfl, -⟩ := b1
  rw [a2] at b2
  simp only [Option.some.injEq, Prod.mk.injEq] at b2
  exact al_inj (by rw [b2.2]) a4 b4 a3 b3

set_option maxHeartbeats 4000000 in
theorem ct_J6_equals {G : GT} {h : AH} {o a : Nat} {l : List Int} (hG : GOK G) (hS : StO G h o a l) {o2 a2 : Nat} {l2 : List Int} (hS2 : StO G h o2 a2 l2) : CPi G (MJ6_equals 1 22 0 0) h [.ref a, .ref a2] (bI (l = l2)) := by
  refine CT.of rfl hG (Nat.le_of_ble_eq_true rfl) rfl (fun E hQ => ?_)
  have hS0 := hS
  have hS20 := hS2
  obtain ⟨v, hs, hz, h1, h2, hw, hl, hsi, hh⟩ := hS
  obtain ⟨v2, hs2, hz2, g1, g2, gw, gl, gi, gh⟩ := hS2
  refine ww_aload_n 0 dJ6_equals_0 rfl ?_
  refine ww_aload_n 1 dJ6_equals_1 rfl ?_
  refine ww_acmp_neR 7 dJ6_equals_2 (by decide) (fun c_2 => ?_) (fun c_2 => ?_)
  · refine ww_aload_n 1 dJ6_equals_7 rfl ?_
    refine ww_inst dJ6_equals_8 g1 rfl q592 rfl ?_
    refine ww_if_eq 54 dJ6_equals_11 (by decide) (inI.mk (by decide) (by decide)) (fun c_11 => ?_) (fun c_11 => ?_)
    · exact absurd c_11 (by decide)
    · refine ww_aload_n 1 dJ6_equals_14 rfl ?_
      refine ww_cast dJ6_equals_15 g1 rfl q592 rfl ?_
      refine ww_astore_n [(2, _), (0, _), (1, _)] dJ6_equals_18 (by decide) rfl ?_
      refine ww_gets (z_cs hG) q227 rfl dJ6_equals_19 ?_
      refine ww_if_eq 36 dJ6_equals_22 (by decide) (inI.mk (by decide) (by decide)) (fun c_22 => ?_) (fun c_22 => ?_)
      · exact absurd c_22 (by decide)
      · refine ww_aload_n 1 dJ6_equals_25 rfl ?_
        refine ww_getf gf_J6_15 rfl dJ6_equals_26 h1 rfl ?_
        refine ww_aload_n 0 dJ6_equals_29 rfl ?_
        refine ww_getf gf_J6_15 rfl dJ6_equals_30 g1 rfl ?_
        refine ww_icmp_ne 54 dJ6_equals_33 (by decide) (inI.mk (by decide) (by decide)) (inI.mk (by decide) (by decide)) (fun c_33 => ?_) (fun c_33 => ?_)
        · exact absurd rfl c_33
        · refine ww_aload_n 1 dJ6_equals_36 rfl ?_
          refine ww_getf gf_J6_9 rfl dJ6_equals_37 h1 rfl ?_
          refine ww_aload_n 0 dJ6_equals_40 rfl ?_
          refine ww_getf gf_J6_9 rfl dJ6_equals_41 g1 rfl ?_
          refine cr_pi (cr_S (ct_J7_equals hG h2 hw hl g2 gw gl) ss_J6_541 rfl dJ6_equals_44 rfl rfl ⟨by decide, by decide⟩ (Nat.le_of_ble_eq_true rfl) (Nat.le_of_ble_eq_true rfl) (Nat.le_of_ble_eq_true rfl)) ?_
          refine ww_ifb_eq 54 dJ6_equals_47 (by decide) (fun c_47 => ?_) (fun c_47 => ?_)
          · refine ww_iconst dJ6_equals_54 ?_
            exact ww_zret hQ dJ6_equals_55 rfl (Nat.le_of_ble_eq_true rfl) (Nat.le_of_ble_eq_true rfl) (by first | exact Or.inl rfl | exact Or.inr rfl | (unfold bI; split <;> simp)) ⟨_, rfl, by first | exact (bI_t (by assumption)).symm | exact (bI_f (by assumption)).symm, rfl⟩
          · refine ww_iconst dJ6_equals_50 ?_
            refine ww_goto 55 dJ6_equals_51 (by decide) ?_
            exact ww_zret hQ dJ6_equals_55 rfl (Nat.le_of_ble_eq_true rfl) (Nat.le_of_ble_eq_true rfl) (by first | exact Or.inl rfl | exact Or.inr rfl | (unfold bI; split <;> simp)) ⟨_, rfl, by first | exact (bI_t (by assumption)).symm | exact (bI_f (by assumption)).symm, rfl⟩
  · refine ww_iconst dJ6_equals_5 ?_
    exact ww_zret hQ dJ6_equals_6 rfl (Nat.le_of_ble_eq_true rfl) (Nat.le_of_ble_eq_true rfl) (by first | exact Or.inl rfl | exact Or.inr rfl | (unfold bI; split <;> simp)) ⟨_, rfl, (bI_t (by subst c_2; exact StO_uniq hS0 hS20)).symm, rfl⟩
