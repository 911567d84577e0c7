set_option maxRecDepth 100000
set_option maxHeartbeats 4000000 in
theorem ct_J14_isLatin1 {G : GT} {h : AH} (hG : GOK G) {b C : Nat} {l : List Int} (hS : SB G h b l C) : CPi G (MJ14_isLatin1 0 0 0 0) h [.ref b] (1) := by
  refine CT.of rfl hG (Nat.le_of_ble_eq_true rfl) rfl (fun E hQ => ?_)
  obtain ⟨v, hb0, hb, hv, hlC, hC, hw⟩ := id hS
  refine ww_gets (z_cs hG) q333 rfl dJ14_isLatin1_0 ?_
  refine ww_if_eq 17 dJ14_isLatin1_3 (by decide) (inI.mk (by decide) (by decide)) (fun c_3 => ?_) (fun c_3 => ?_)
  · exact absurd c_3 (by decide)
  · refine ww_aload_n 0 dJ14_isLatin1_6 rfl ?_
    refine ww_getf gf_J14_22 rfl dJ14_isLatin1_7 hb rfl ?_
    refine ww_if_ne 17 dJ14_isLatin1_10 (by decide) (inI.mk (by decide) (by decide)) (fun c_10 => ?_) (fun c_10 => ?_)
    · exact absurd c_10 (by decide)
    · refine ww_iconst dJ14_isLatin1_13 ?_
      refine ww_goto 18 dJ14_isLatin1_14 (by decide) ?_
      exact ww_zret hQ dJ14_isLatin1_18 rfl (Nat.le_of_ble_eq_true rfl) (Nat.le_of_ble_eq_true rfl) (by first | exact Or.inl rfl | exact Or.inr rfl | (unfold bI; split <;> simp)) ⟨_, rfl, rfl, rfl⟩

set_option maxHeartbeats 4000000 in
theorem ct_J14_length {G : GT} {h : AH} (hG : GOK G) {b C : Nat} {l : List Int} (hS : SB G h b l C) : CPi G (MJ14_length 0 0 0 0) h [.ref b] (l.length) := by
  refine CT.of rfl hG (Nat.le_of_ble_eq_true rfl) rfl (fun E hQ => ?_)
  obtain ⟨v, hb0, hb, hv, hlC, hC, hw⟩ := id hS
  refine ww_aload_n 0 dJ14_length_0 rfl ?_
  refine ww_getf gf_J14_79 rfl dJ14_length_1 hb rfl ?_
  exact ww_iret hQ dJ14_length_4 rfl (Nat.le_of_ble_eq_true rfl) (Nat.le_of_ble_eq_true rfl) ⟨_, rfl, rfl, rfl⟩

set_option maxHeartbeats 4000000 in
theorem ct_J14_newCapacity {G : GT} {h : AH} (hG : GOK G) {b C : Nat} {l : List Int} (hS : SB G h b l C) (hc : l.length = C) : CPi G (MJ14_newCapacity 2 48 0 0) h [.ref b, .int (iI ((C + 1 : Nat) : Int))] (((2 * C + 2 : Nat) : Int)) := by
  refine CT.of rfl hG (Nat.le_of_ble_eq_true rfl) rfl (fun E hQ => ?_)
  obtain ⟨v, hb0, hb, hv, hlC, hC, hw⟩ := id hS
  refine ww_aload_n 0 dJ14_newCapacity_0 rfl ?_
  refine ww_getf gf_J14_15 rfl dJ14_newCapacity_1 hb rfl ?_
  refine ww_alenA dJ14_newCapacity_4 hv (by omega) ?_
  refine ww_istore_n [(2, _), (0, _), (1, _)] dJ14_newCapacity_5 (by decide) rfl ?_
  refine ww_iload_n 2 dJ14_newCapacity_6 rfl ?_
  refine ww_aload_n 1 dJ14_newCapacity_7 rfl ?_
  refine ww_getf gf_J14_22 rfl dJ14_newCapacity_8 hb rfl ?_
  refine ww_ishl0 dJ14_newCapacity_11 (by omega) ?_
  refine ww_istore_n [(3, _), (2, _), (0, _), (1, _)] dJ14_newCapacity_12 (by decide) rfl ?_
  refine ww_iload_n 0 dJ14_newCapacity_13 rfl ?_
  refine ww_iload_n 1 dJ14_newCapacity_14 rfl ?_
  refine ww_isub dJ14_newCapacity_15 ?_
  refine ww_istore [(4, _), (3, _), (2, _), (0, _), (1, _)] dJ14_newCapacity_16 (by decide) rfl ?_
  refine ww_iload_n 2 dJ14_newCapacity_18 rfl ?_
  refine ww_iload 0 dJ14_newCapacity_19 rfl ?_
  refine ww_iload_n 2 dJ14_newCapacity_21 rfl ?_
  refine ww_iconst dJ14_newCapacity_22 ?_
  refine ww_aload_n 3 dJ14_newCapacity_23 rfl ?_
  refine ww_getf gf_J14_22 rfl dJ14_newCapacity_24 hb rfl ?_
  refine ww_ishl0 (a := 2) dJ14_newCapacity_27 (by decide) ?_
  refine ww_iadd dJ14_newCapacity_28 ?_
  refine cr_pi (cr_S (ct_J8_newLength hG _ _ _ (by omega) (by omega) (by omega) (by omega) (by omega) (by omega)) ss_J14_114 rfl dJ14_newCapacity_29 rfl rfl ⟨by decide, by decide⟩ (Nat.le_of_ble_eq_true rfl) (Nat.le_of_ble_eq_true rfl) (Nat.le_of_ble_eq_true rfl)) ?_
  rw [show (C : Int) + max (((C + 1 : Nat) : Int) - (C : Int)) ((C : Int) + ((2 : Nat) : Int)) = ((2 * C + 2 : Nat) : Int) by omega]
  refine ww_istore [(5, _), (4, _), (3, _), (2, _), (0, _), (1, _)] dJ14_newCapacity_32 (by decide) rfl ?_
  refine ww_iload 0 dJ14_newCapacity_34 rfl ?_
  refine ww_ldc q384 dJ14_newCapacity_36 (z := 2147483647) rfl ?_
  refine ww_icmp_ne 51 dJ14_newCapacity_38 (by decide) (inI.mk (by omega) (by omega)) (inI.mk (by omega) (by omega)) (fun c_38 => ?_) (fun c_38 => ?_)
  · refine ww_iload 0 dJ14_newCapacity_51 rfl ?_
    refine ww_aload_n 4 dJ14_newCapacity_53 rfl ?_
    refine ww_getf gf_J14_22 rfl dJ14_newCapacity_54 hb rfl ?_
    refine ww_ishrI (b := 0) rfl dJ14_newCapacity_57 (inI.mk (by omega) (by omega)) (by decide) ?_
    rw [show ((2 * C + 2 : Nat) : Int) / 2 ^ 0 = ((2 * C + 2 : Nat) : Int) by omega]
    exact ww_iret hQ dJ14_newCapacity_58 rfl (Nat.le_of_ble_eq_true rfl) (Nat.le_of_ble_eq_true rfl) ⟨_, rfl, rfl, rfl⟩
  · exact absurd c_38 (by omega)

set_option maxHeartbeats 4000000 in
theorem ct_J17_copyOf {G : GT} {h : AH} (hG : GOK G) {v C N2 u1 u2 : Nat} {t : Tg} {l : List Int} (hv : h v = some (t, aA G 1 C (lf l))) (hlC : l.length ≤ C) (hw : Wd l) (hu : u1 ≠ 0) (hu2 : ∀ q, Nw h q → u1 ≤ q) (h1 : C < N2) (h2 : N2 < 100000) : CT G (MJ17_copyOf 1 60 1 N2) h [.ref v, .int (iI (N2 : Int))] (pR (fun q h' => h' q = some ((u1, u2), aA G 1 N2 (lf l)) ∧ Ex h h' ∧ Nw h q)) := by
  refine CT.of rfl hG (Nat.le_of_ble_eq_true rfl) rfl (fun E hQ => ?_)
  refine ww_iload_n 1 dJ17_copyOf_0 rfl ?_
  refine ww_aload_n 0 dJ17_copyOf_1 rfl ?_
  refine ww_alenA dJ17_copyOf_2 hv (by omega) ?_
  refine ww_icmp_ne 14 dJ17_copyOf_3 (by decide) (inI.mk (by omega) (by omega)) (inI.mk (by omega) (by omega)) (fun c_3 => ?_) (fun c_3 => ?_)
  · refine ww_iload_n 1 dJ17_copyOf_14 rfl ?_
    refine wx_newA (N := N2) (j := 1) (atype := .byte) (fun _ => (u1, u2)) rfl (by omega) q151 rfl (fun _ x => x) rfl (by decide) dJ17_copyOf_15 (fun q hq => ⟨hu, hu2 q hq⟩) (Nat.le_of_ble_eq_true rfl) (by show 0 + N2 ≤ N2; omega) (fun q_15 h_15 n_15 e_15 hq => ?_)
    have hv := e_15 _ _ hv
    refine ww_astore_n [(2, _), (0, _), (1, _)] dJ17_copyOf_17 (Nat.le_of_ble_eq_true rfl) rfl ?_
    refine ww_aload_n 1 dJ17_copyOf_18 rfl ?_
    refine ww_iconst dJ17_copyOf_19 ?_
    refine ww_aload_n 0 dJ17_copyOf_20 rfl ?_
    refine ww_iconst dJ17_copyOf_21 ?_
    refine ww_aload_n 1 dJ17_copyOf_22 rfl ?_
    refine ww_alenA dJ17_copyOf_23 hv (by omega) ?_
    refine ww_iload_n 2 dJ17_copyOf_24 rfl ?_
    refine ww_mmin q395 rfl dJ17_copyOf_25 (inI.mk (by omega) (by omega)) (inI.mk (by omega) (by omega)) (Nat.le_of_ble_eq_true rfl) (Nat.le_of_ble_eq_true rfl) (Nat.le_of_ble_eq_true rfl) (by show 0 + N2 ≤ N2; omega) ?_
    refine ww_copyB q_ac q_acn q_acs q_aci rfl dJ17_copyOf_28 hv hq hu (by omega) (by omega) (by omega) (by omega) (by omega) (by omega) (by omega) (fun i a b => lf_by hw i a) (Nat.le_of_ble_eq_true rfl) (Nat.le_of_ble_eq_true rfl) ?_
    refine ww_aload_n 0 dJ17_copyOf_31 rfl ?_
    exact ww_aret hQ dJ17_copyOf_32 rfl rfl (Nat.le_of_ble_eq_true rfl) (by show 0 + N2 ≤ N2; omega) ⟨_, rfl, by rw [hset_s, aA_fn (lf_icp (by omega))], (KT.of hq).nw e_15 n_15, n_15⟩
  · exact absurd c_3 (by omega)

set_option maxHeartbeats 4000000 in
theorem ct_J14_ensA {G : GT} {h : AH} (hG : GOK G) {b C : Nat} {l : List Int} (hS : SB G h b l C) (mn : Int) (hm0 : 0 ≤ mn) (hm : mn ≤ C) : CPv G (MJ14_ensureCapacityInternal 0 0 0 0) h [.ref b, .int (iI mn)]  := by
  refine CT.of rfl hG (Nat.le_of_ble_eq_true rfl) rfl (fun E hQ => ?_)
  obtain ⟨v, hb0, hb, hv, hlC, hC, hw⟩ := id hS
  refine ww_aload_n 0 dJ14_ensureCapacityInternal_0 rfl ?_
  refine ww_getf gf_J14_15 rfl dJ14_ensureCapacityInternal_1 hb rfl ?_
  refine ww_alenA dJ14_ensureCapacityInternal_4 hv (by omega) ?_
  refine ww_aload_n 0 dJ14_ensureCapacityInternal_5 rfl ?_
  refine ww_getf gf_J14_22 rfl dJ14_ensureCapacityInternal_6 hb rfl ?_
  refine ww_ishrI (b := 0) rfl dJ14_ensureCapacityInternal_9 (inI.mk (by omega) (by omega)) (by decide) ?_
  rw [show (C : Int) / 2 ^ 0 = (C : Int) by omega]
  refine ww_istore_n [(2, _), (0, _), (1, _)] dJ14_ensureCapacityInternal_10 (by decide) rfl ?_
  refine ww_iload_n 2 dJ14_ensureCapacityInternal_11 rfl ?_
  refine ww_iload_n 0 dJ14_ensureCapacityInternal_12 rfl ?_
  refine ww_isub dJ14_ensureCapacityInternal_13 ?_
  refine ww_if_le 38 dJ14_ensureCapacityInternal_14 (by decide) (inI.mk (by omega) (by omega)) (fun c_14 => ?_) (fun c_14 => ?_)
  · exact ww_vret hQ dJ14_ensureCapacityInternal_38 rfl (Nat.le_of_ble_eq_true rfl) (Nat.le_of_ble_eq_true rfl) ⟨rfl, rfl⟩
  · exact absurd (show mn - (C : Int) ≤ 0 by omega) c_14

set_option maxHeartbeats 4000000 in
theorem ct_J14_ensB {G : GT} {h : AH} (hG : GOK G) {b C : Nat} {l : List Int} (hS : SB G h b l C) (hc : l.length = C) (hC2 : C < 2000) : CT G (MJ14_ensureCapacityInternal 3 200 1 (2 * C + 2)) h [.ref b, .int (iI ((C + 1 : Nat) : Int))] (pV (fun h' => SB G h' b l (2 * C + 2) ∧ FO b 10005 10006 h h')) := by
  refine CT.of rfl hG (Nat.le_of_ble_eq_true rfl) rfl (fun E hQ => ?_)
  obtain ⟨v, hb0, hb, hv, hlC, hC, hw⟩ := id hS
  refine ww_aload_n 0 dJ14_ensureCapacityInternal_0 rfl ?_
  refine ww_getf gf_J14_15 rfl dJ14_ensureCapacityInternal_1 hb rfl ?_
  refine ww_alenA dJ14_ensureCapacityInternal_4 hv (by omega) ?_
  refine ww_aload_n 0 dJ14_ensureCapacityInternal_5 rfl ?_
  refine ww_getf gf_J14_22 rfl dJ14_ensureCapacityInternal_6 hb rfl ?_
  refine ww_ishrI (b := 0) rfl dJ14_ensureCapacityInternal_9 (inI.mk (by omega) (by omega)) (by decide) ?_
  rw [show (C : Int) / 2 ^ 0 = (C : Int) by omega]
  refine ww_istore_n [(2, _), (0, _), (1, _)] dJ14_ensureCapacityInternal_10 (Nat.le_of_ble_eq_true rfl) rfl ?_
  refine ww_iload_n 2 dJ14_ensureCapacityInternal_11 rfl ?_
  refine ww_iload_n 0 dJ14_ensureCapacityInternal_12 rfl ?_
  refine ww_isub dJ14_ensureCapacityInternal_13 ?_
  refine ww_if_le 38 dJ14_ensureCapacityInternal_14 (by decide) (inI.mk (by omega) (by omega)) (fun c_14 => ?_) (fun c_14 => ?_)
  · exact absurd c_14 (by omega)
  · refine ww_aload_n 1 dJ14_ensureCapacityInternal_17 rfl ?_
    refine ww_aload_n 1 dJ14_ensureCapacityInternal_18 rfl ?_
    refine ww_getf gf_J14_15 rfl dJ14_ensureCapacityInternal_19 hb rfl ?_
    refine ww_aload_n 1 dJ14_ensureCapacityInternal_22 rfl ?_
    refine ww_iload_n 2 dJ14_ensureCapacityInternal_23 rfl ?_
    refine cr_pi (cr_Q (ct_J14_newCapacity hG hS hc) sq_J14_104 rfl dJ14_ensureCapacityInternal_24 hb rfl rfl rfl ⟨Nat.le_of_ble_eq_true rfl, Nat.le_of_ble_eq_true rfl⟩ (Nat.le_of_ble_eq_true rfl) (Nat.le_of_ble_eq_true rfl) (by show 0 + 0 ≤ 2 * C + 2; omega)) ?_
    refine ww_aload_n 1 dJ14_ensureCapacityInternal_27 rfl ?_
    refine ww_getf gf_J14_22 rfl dJ14_ensureCapacityInternal_28 hb rfl ?_
    refine ww_ishl0 dJ14_ensureCapacityInternal_31 (by omega) ?_
    refine cr_r (cr_S (ct_J17_copyOf (u1 := b) (u2 := 10006) hG hv hlC hw hb0 (fun q hq => Nat.le_of_lt (hq.2 _ _ _ hb).1) (by omega) (by omega)) ss_J14_108 rfl dJ14_ensureCapacityInternal_32 rfl rfl ⟨Nat.le_of_ble_eq_true rfl, Nat.le_of_ble_eq_true rfl⟩ (Nat.le_of_ble_eq_true rfl) (Nat.le_of_ble_eq_true rfl) (by show 0 + 0 + (2 * C + 2) ≤ 2 * C + 2; omega)) (fun r_32 h_32 hp_32 => ?_)
    obtain ⟨hq_32, e_32, n_32⟩ := hp_32
    have hb := e_32 _ _ hb
    refine wx_putf pf_J14_15 rfl dJ14_ensureCapacityInternal_35 hb hb0 (Nat.le_of_ble_eq_true rfl) rfl rfl (fun h_35 hb f_35 => ?_)
    have hq := f_35.at hq_32 (by omega)
    exact ww_vret hQ dJ14_ensureCapacityInternal_38 rfl (Nat.le_of_ble_eq_true rfl) (by show 0 + 0 + (2 * C + 2) ≤ 2 * C + 2; omega) ⟨rfl, ⟨_, hb0, hb, hq, by omega, by omega, hw⟩, (e_32.fo).kt f_35 ⟨rfl, by omega, by omega⟩⟩

set_option maxHeartbeats 4000000 in
theorem ct_J7_canEncode {G : GT} {h : AH} (hG : GOK G) (c : Int) (h0 : 0 ≤ c) (h1 : c ≤ 255) : CPi G (MJ7_canEncode 0 0 0 0) h [.int (iI c)] (1) := by
  refine CT.of rfl hG (Nat.le_of_ble_eq_true rfl) rfl (fun E hQ => ?_)
  refine ww_iload_n 0 dJ7_canEncode_0 rfl ?_
  refine ww_sipush dJ7_canEncode_1 (by decide) ?_
  refine ww_icmp_gt 11 dJ7_canEncode_4 (by decide) (inI.mk (by omega) (by omega)) (inI.mk (by omega) (by omega)) (fun c_4 => ?_) (fun c_4 => ?_)
  · exact absurd c_4 (by omega)
  · refine ww_iconst dJ7_canEncode_7 ?_
    refine ww_goto 12 dJ7_canEncode_8 (by decide) ?_
    exact ww_zret hQ dJ7_canEncode_12 rfl (Nat.le_of_ble_eq_true rfl) (Nat.le_of_ble_eq_true rfl) (by first | exact Or.inl rfl | exact Or.inr rfl | (unfold bI; split <;> simp)) ⟨_, rfl, rfl, rfl⟩

set_option maxHeartbeats 4000000 in
theorem ct_J14_appA {G : GT} {h : AH} (hG : GOK G) {b C : Nat} {l : List Int} (hS : SB G h b l C) (hlt : l.length < C) (c : Int) (hc0 : 97 ≤ c) (hc1 : c ≤ 122) : CT G (MJ14_append_3 4 300 0 0) h [.ref b, .int (iI c)] (pR (fun q h' => q = b ∧ SB G h' b (l ++ [c]) (C) ∧ FO b 10005 10006 h h')) := by
  refine CT.of rfl hG (Nat.le_of_ble_eq_true rfl) rfl (fun E hQ => ?_)
  obtain ⟨v, hb0, hb, hv, hlC, hC, hw⟩ := id hS
  refine ww_aload_n 0 dJ14_append_3_0 rfl ?_
  refine ww_aload_n 0 dJ14_append_3_1 rfl ?_
  refine ww_getf gf_J14_79 rfl dJ14_append_3_2 hb rfl ?_
  refine ww_iconst dJ14_append_3_5 ?_
  refine ww_iadd dJ14_append_3_6 ?_
  refine cr_pv (cr_Q (ct_J14_ensA hG hS ((l.length : Int) + 1) (by omega) (by omega)) sq_J14_100 rfl dJ14_append_3_7 hb rfl rfl rfl ⟨Nat.le_of_ble_eq_true rfl, Nat.le_of_ble_eq_true rfl⟩ (Nat.le_of_ble_eq_true rfl) (Nat.le_of_ble_eq_true rfl) (Nat.le_of_ble_eq_true rfl)) ?_
  have hF : FO b 10005 10006 h h := FO.rf
  refine ww_aload_n 0 dJ14_append_3_10 rfl ?_
  refine cr_pi (cr_U (ct_J14_isLatin1 hG hS) su_J14_83_J15 rfl dJ14_append_3_11 hb rfl rfl rfl rfl ⟨Nat.le_of_ble_eq_true rfl, Nat.le_of_ble_eq_true rfl⟩ (Nat.le_of_ble_eq_true rfl) (Nat.le_of_ble_eq_true rfl) (by show 0 + 0 + 0 + 0 ≤ 0; omega)) ?_
  refine ww_if_eq 45 dJ14_append_3_14 (by decide) (inI.mk (by decide) (by decide)) (fun c_14 => ?_) (fun c_14 => ?_)
  · exact absurd c_14 (by decide)
  · refine ww_iload_n 1 dJ14_append_3_17 rfl ?_
    refine cr_pi (cr_S (ct_J7_canEncode hG c (by omega) (by omega)) ss_J14_191 rfl dJ14_append_3_18 rfl rfl ⟨Nat.le_of_ble_eq_true rfl, Nat.le_of_ble_eq_true rfl⟩ (Nat.le_of_ble_eq_true rfl) (Nat.le_of_ble_eq_true rfl) (by show 0 + 0 + 0 + 0 ≤ 0; omega)) ?_
    refine ww_if_eq 45 dJ14_append_3_21 (by decide) (inI.mk (by decide) (by decide)) (fun c_21 => ?_) (fun c_21 => ?_)
    · exact absurd c_21 (by decide)
    · refine ww_aload_n 0 dJ14_append_3_24 rfl ?_
      refine ww_getf gf_J14_15 rfl dJ14_append_3_25 hb rfl ?_
      refine ww_aload_n 0 dJ14_append_3_28 rfl ?_
      refine ww_dup dJ14_append_3_29 rfl ?_
      refine ww_getf gf_J14_79 rfl dJ14_append_3_30 hb rfl ?_
      refine ww_dup_x1 dJ14_append_3_33 rfl rfl ?_
      refine ww_iconst dJ14_append_3_34 ?_
      refine ww_iadd dJ14_append_3_35 ?_
      refine wx_putf pf_J14_79 rfl dJ14_append_3_36 hb hb0 (Nat.le_of_ble_eq_true rfl) rfl rfl (fun h_36 hb f_36 => ?_)
      have hv := f_36.at hv (by omega)
      refine ww_iload_n 1 dJ14_append_3_39 rfl ?_
      refine ww_i2b dJ14_append_3_40 (i2b_s (by omega) (by omega)) ?_
      refine wx_bast dJ14_append_3_41 hv hb0 (by omega) (by omega) (by omega) (nar_byte (by omega) (by omega)) (fun h_41 hv f_41 => ?_)
      have hb := f_41.at hb (by omega)
      have hS2 : SB G h_41 b (l ++ [c]) (C) := ⟨v, hb0, by rw [show ((l ++ [c]).length : Int) = (l.length : Int) + 1 by simp]; exact hb, by rw [hv, aA_fn lf_snoc], by simp; omega, by omega, fun x hx => by rcases List.mem_append.mp hx with hx | hx; exact hw x hx; rw [List.mem_singleton.mp hx]; omega⟩
      have hF := (hF.kt f_36 ⟨rfl, by omega, by omega⟩).kt f_41 ⟨rfl, by omega, by omega⟩
      refine ww_goto 75 dJ14_append_3_42 (by decide) ?_
      refine ww_aload_n 0 dJ14_append_3_75 rfl ?_
      exact ww_aret hQ dJ14_append_3_76 rfl rfl (Nat.le_of_ble_eq_true rfl) (by show 0 + 0 + 0 + 0 ≤ 0; omega) ⟨b, rfl, rfl, hS2, hF⟩

set_option maxHeartbeats 4000000 in
theorem ct_J14_appB {G : GT} {h : AH} (hG : GOK G) {b C : Nat} {l : List Int} (hS : SB G h b l C) (hc : l.length = C) (hC2 : C < 2000) (c : Int) (hc0 : 97 ≤ c) (hc1 : c ≤ 122) : CT G (MJ14_append_3 4 300 1 (2 * C + 2)) h [.ref b, .int (iI c)] (pR (fun q h' => q = b ∧ SB G h' b (l ++ [c]) (2 * C + 2) ∧ FO b 10005 10006 h h')) := by
  refine CT.of rfl hG (Nat.le_of_ble_eq_true rfl) rfl (fun E hQ => ?_)
  obtain ⟨v, hb0, hb, hv, hlC, hC, hw⟩ := id hS
  refine ww_aload_n 0 dJ14_append_3_0 rfl ?_
  refine ww_aload_n 0 dJ14_append_3_1 rfl ?_
  refine ww_getf gf_J14_79 rfl dJ14_append_3_2 hb rfl ?_
  refine ww_iconst dJ14_append_3_5 ?_
  refine ww_iadd dJ14_append_3_6 ?_
  rw [show (l.length : Int) + 1 = ((C + 1 : Nat) : Int) by omega]
  refine cr_v (cr_Q (ct_J14_ensB hG hS hc hC2) sq_J14_100 rfl dJ14_append_3_7 hb rfl rfl rfl ⟨Nat.le_of_ble_eq_true rfl, Nat.le_of_ble_eq_true rfl⟩ (Nat.le_of_ble_eq_true rfl) (Nat.le_of_ble_eq_true rfl) (by show 0 + (2 * C + 2) ≤ 2 * C + 2; omega)) (fun h_7 hp_7 => ?_)
  obtain ⟨hS, hF⟩ := hp_7
  obtain ⟨v, hb0, hb, hv, hlC, hC, hw⟩ := id hS
  refine ww_aload_n 0 dJ14_append_3_10 rfl ?_
  refine cr_pi (cr_U (ct_J14_isLatin1 hG hS) su_J14_83_J15 rfl dJ14_append_3_11 hb rfl rfl rfl rfl ⟨Nat.le_of_ble_eq_true rfl, Nat.le_of_ble_eq_true rfl⟩ (Nat.le_of_ble_eq_true rfl) (Nat.le_of_ble_eq_true rfl) (by show 0 + (2 * C + 2) + 0 + 0 ≤ 2 * C + 2; omega)) ?_
  refine ww_if_eq 45 dJ14_append_3_14 (by decide) (inI.mk (by decide) (by decide)) (fun c_14 => ?_) (fun c_14 => ?_)
  · exact absurd c_14 (by decide)
  · refine ww_iload_n 1 dJ14_append_3_17 rfl ?_
    refine cr_pi (cr_S (ct_J7_canEncode hG c (by omega) (by omega)) ss_J14_191 rfl dJ14_append_3_18 rfl rfl ⟨Nat.le_of_ble_eq_true rfl, Nat.le_of_ble_eq_true rfl⟩ (Nat.le_of_ble_eq_true rfl) (Nat.le_of_ble_eq_true rfl) (by show 0 + (2 * C + 2) + 0 + 0 ≤ 2 * C + 2; omega)) ?_
    refine ww_if_eq 45 dJ14_append_3_21 (by decide) (inI.mk (by decide) (by decide)) (fun c_21 => ?_) (fun c_21 => ?_)
    · exact absurd c_21 (by decide)
    · refine ww_aload_n 0 dJ14_append_3_24 rfl ?_
      refine ww_getf gf_J14_15 rfl dJ14_append_3_25 hb rfl ?_
      refine ww_aload_n 0 dJ14_append_3_28 rfl ?_
      refine ww_dup dJ14_append_3_29 rfl ?_
      refine ww_getf gf_J14_79 rfl dJ14_append_3_30 hb rfl ?_
      refine ww_dup_x1 dJ14_append_3_33 rfl rfl ?_
      refine ww_iconst dJ14_append_3_34 ?_
      refine ww_iadd dJ14_append_3_35 ?_
      refine wx_putf pf_J14_79 rfl dJ14_append_3_36 hb hb0 (Nat.le_of_ble_eq_true rfl) rfl rfl (fun h_36 hb f_36 => ?_)
      have hv := f_36.at hv (by omega)
      refine ww_iload_n 1 dJ14_append_3_39 rfl ?_
      refine ww_i2b dJ14_append_3_40 (i2b_s (by omega) (by omega)) ?_
      refine wx_bast dJ14_append_3_41 hv hb0 (by omega) (by omega) (by omega) (nar_byte (by omega) (by omega)) (fun h_41 hv f_41 => ?_)
      have hb := f_41.at hb (by omega)
      have hS2 : SB G h_41 b (l ++ [c]) (2 * C + 2) := ⟨v, hb0, by rw [show ((l ++ [c]).length : Int) = (l.length : Int) + 1 by simp]; exact hb, by rw [hv, aA_fn lf_snoc], by simp; omega, by omega, fun x hx => by rcases List.mem_append.mp hx with hx | hx; exact hw x hx; rw [List.mem_singleton.mp hx]; omega⟩
      have hF := (hF.kt f_36 ⟨rfl, by omega, by omega⟩).kt f_41 ⟨rfl, by omega, by omega⟩
      refine ww_goto 75 dJ14_append_3_42 (by decide) ?_
      refine ww_aload_n 0 dJ14_append_3_75 rfl ?_
      exact ww_aret hQ dJ14_append_3_76 rfl rfl (Nat.le_of_ble_eq_true rfl) (by show 0 + (2 * C + 2) + 0 + 0 ≤ 2 * C + 2; omega) ⟨b, rfl, rfl, hS2, hF⟩

set_option maxHeartbeats 4000000 in
theorem ct_J14_init {G : GT} {h : AH} (hG : GOK G) {b : Nat} (hb0 : b ≠ 0) (hb : h b = some ((b, 10005), ob 14 [.null, .int 0, .int 0, .int 0])) : CT G (MJ14_init 1 20 1 16) h [.ref b, .int (iI 16)] (pV (fun h' => SB G h' b [] 16 ∧ KT b (b, 10005) h h')) := by
  refine CT.of rfl hG (Nat.le_of_ble_eq_true rfl) rfl (fun E hQ => ?_)
  refine ww_aload_n 0 dJ14_init_0 rfl ?_
  refine ww_objInit q332 q128 q129 rfl dJ14_init_1 (Nat.le_of_ble_eq_true rfl) (Nat.le_of_ble_eq_true rfl) ?_
  refine ww_gets (z_cs hG) q333 rfl dJ14_init_4 ?_
  refine ww_if_eq 25 dJ14_init_7 (by decide) (inI.mk (by decide) (by decide)) (fun c_7 => ?_) (fun c_7 => ?_)
  · exact absurd c_7 (by decide)
  · refine ww_aload_n 0 dJ14_init_10 rfl ?_
    refine ww_iload_n 1 dJ14_init_11 rfl ?_
    refine wx_newA (N := 16) (j := 1) (atype := .byte) (fun _ => (b, 10006)) rfl (by decide) q151 rfl (fun _ x => x) rfl (by decide) dJ14_init_12 (fun q hq => ⟨hb0, Nat.le_of_lt (hq.2 _ _ _ hb).1⟩) (Nat.le_of_ble_eq_true rfl) (Nat.le_of_ble_eq_true rfl) (fun q_12 h_12 n_12 e_12 hv => ?_)
    have hb := e_12 _ _ hb
    refine wx_putf pf_J14_15 rfl dJ14_init_14 hb hb0 (Nat.le_of_ble_eq_true rfl) rfl rfl (fun h_14 hb f_14 => ?_)
    have hv := f_14.at hv (by omega)
    refine ww_aload_n 0 dJ14_init_17 rfl ?_
    refine ww_iconst dJ14_init_18 ?_
    refine wx_putf pf_J14_22 rfl dJ14_init_19 hb hb0 (Nat.le_of_ble_eq_true rfl) (nar_byte (by decide) (by decide)) (byte_fits (by decide) (by decide)) (fun h_19 hb f_19 => ?_)
    have hv := f_19.at hv (by omega)
    refine ww_goto 38 dJ14_init_22 (by decide) ?_
    exact ww_vret hQ dJ14_init_38 rfl (Nat.le_of_ble_eq_true rfl) (Nat.le_of_ble_eq_true rfl) ⟨rfl, ⟨q_12, hb0, hb, by rw [hv, aA_fn (fun i => (lf_end (l := []) (Nat.zero_le i)).symm)], by decide, by decide, fun x hx => by cases hx⟩, fun y u x hy hu => f_19 y u x (f_14 y u x (e_12 _ _ hy) hu) hu⟩

set_option maxHeartbeats 4000000 in
theorem ct_J15_init {G : GT} {h : AH} (hG : GOK G) {b : Nat} (hb0 : b ≠ 0) (hb : h b = some ((b, 10005), ob 14 [.null, .int 0, .int 0, .int 0])) : CT G (MJ15_init 2 41 1 16) h [.ref b] (pV (fun h' => SB G h' b [] 16 ∧ KT b (b, 10005) h h')) := by
  refine CT.of rfl hG (Nat.le_of_ble_eq_true rfl) rfl (fun E hQ => ?_)
  refine ww_aload_n 0 dJ15_init_0 rfl ?_
  refine ww_bipush dJ15_init_1 (by decide) ?_
  refine cr_v (cr_I (ct_J14_init hG hb0 hb) si_J15_1 rfl rfl dJ15_init_3 rfl rfl ⟨by decide, by decide⟩ (Nat.le_of_ble_eq_true rfl) (Nat.le_of_ble_eq_true rfl) (Nat.le_of_ble_eq_true rfl)) (fun h_3 hp_3 => ?_)
  obtain ⟨hS, f_3⟩ := hp_3
  exact ww_vret hQ dJ15_init_6 rfl (Nat.le_of_ble_eq_true rfl) (Nat.le_of_ble_eq_true rfl) ⟨rfl, hS, f_3⟩

set_option maxHeartbeats 4000000 in
theorem ct_J15_appA {G : GT} {h : AH} (hG : GOK G) {b C : Nat} {l : List Int} (hS : SB G h b l C) (hlt : l.length < C) (c : Int) (hc0 : 97 ≤ c) (hc1 : c ≤ 122) : CT G (MJ15_append_3 5 400 0 0) h [.ref b, .int (iI c)] (pR (fun q h' => q = b ∧ SB G h' b (l ++ [c]) (C) ∧ FO b 10005 10006 h h')) := by
  refine CT.of rfl hG (Nat.le_of_ble_eq_true rfl) rfl (fun E hQ => ?_)
  obtain ⟨v, hb0, hb, hv, hlC, hC, hw⟩ := id hS
  refine ww_aload_n 0 dJ15_append_3_0 rfl ?_
  refine ww_iload_n 1 dJ15_append_3_1 rfl ?_
  refine cr_r (cr_P (ct_J14_appA hG hS hlt c hc0 hc1) sp_J15_50 rfl dJ15_append_3_2 hb rfl rfl rfl ⟨Nat.le_of_ble_eq_true rfl, Nat.le_of_ble_eq_true rfl⟩ (Nat.le_of_ble_eq_true rfl) (Nat.le_of_ble_eq_true rfl) (by show 0 + 0 ≤ 0; omega)) (fun r_2 h_2 hp_2 => ?_)
  obtain ⟨eq_2, hS2, hF⟩ := hp_2
  refine ww_pop dJ15_append_3_5 rfl ?_
  refine ww_aload_n 0 dJ15_append_3_6 rfl ?_
  exact ww_aret hQ dJ15_append_3_7 rfl rfl (Nat.le_of_ble_eq_true rfl) (by show 0 + 0 ≤ 0; omega) ⟨b, rfl, rfl, hS2, hF⟩

set_option maxHeartbeats 4000000 in
theorem ct_J15_appB {G : GT} {h : AH} (hG : GOK G) {b C : Nat} {l : List Int} (hS : SB G h b l C) (hc : l.length = C) (hC2 : C < 2000) (c : Int) (hc0 : 97 ≤ c) (hc1 : c ≤ 122) : CT G (MJ15_append_3 5 400 1 (2 * C + 2)) h [.ref b, .int (iI c)] (pR (fun q h' => q = b ∧ SB G h' b (l ++ [c]) (2 * C + 2) ∧ FO b 10005 10006 h h')) := by
  refine CT.of rfl hG (Nat.le_of_ble_eq_true rfl) rfl (fun E hQ => ?_)
  obtain ⟨v, hb0, hb, hv, hlC, hC, hw⟩ := id hS
  refine ww_aload_n 0 dJ15_append_3_0 rfl ?_
  refine ww_iload_n 1 dJ15_append_3_1 rfl ?_
  refine cr_r (cr_P (ct_J14_appB hG hS hc hC2 c hc0 hc1) sp_J15_50 rfl dJ15_append_3_2 hb rfl rfl rfl ⟨Nat.le_of_ble_eq_true rfl, Nat.le_of_ble_eq_true rfl⟩ (Nat.le_of_ble_eq_true rfl) (Nat.le_of_ble_eq_true rfl) (by show 0 + (2 * C + 2) ≤ 2 * C + 2; omega)) (fun r_2 h_2 hp_2 => ?_)
  obtain ⟨eq_2, hS2, hF⟩ := hp_2
  refine ww_pop dJ15_append_3_5 rfl ?_
  refine ww_aload_n 0 dJ15_append_3_6 rfl ?_
  exact ww_aret hQ dJ15_append_3_7 rfl rfl (Nat.le_of_ble_eq_true rfl) (by show 0 + (2 * C + 2) ≤ 2 * C + 2; omega) ⟨b, rfl, rfl, hS2, hF⟩

set_option maxHeartbeats 4000000 in
theorem ct_J14_getValue {G : GT} {h : AH} (hG : GOK G) {b v : Nat} {t : Tg} {x1 x2 x3 : Value} (hb : h b = some (t, ob 14 [.ref v, x1, x2, x3])) : CT G (MJ14_getValue 0 0 0 0) h [.ref b] (pR (fun q h' => q = v ∧ h' = h)) := by
  refine CT.of rfl hG (Nat.le_of_ble_eq_true rfl) rfl (fun E hQ => ?_)
  refine ww_aload_n 0 dJ14_getValue_0 rfl ?_
  refine ww_getf gf_J14_15 rfl dJ14_getValue_1 hb rfl ?_
  exact ww_aret hQ dJ14_getValue_4 rfl rfl (Nat.le_of_ble_eq_true rfl) (Nat.le_of_ble_eq_true rfl) ⟨v, rfl, rfl, rfl⟩

set_option maxHeartbeats 4000000 in
theorem ct_J17_checkLength {G : GT} {h : AH} (hG : GOK G) (x y : Int) (hx : inI x) (hy : inI y) (hxy : x ≤ y) : CPv G (MJ17_checkLength 0 0 0 0) h [.int (iI x), .int (iI y)]  := by
  refine CT.of rfl hG (Nat.le_of_ble_eq_true rfl) rfl (fun E hQ => ?_)
  refine ww_iload_n 1 dJ17_checkLength_0 rfl ?_
  refine ww_iload_n 0 dJ17_checkLength_1 rfl ?_
  refine ww_icmp_ge 37 dJ17_checkLength_2 (by decide) hy hx (fun c_2 => ?_) (fun c_2 => ?_)
  · exact ww_vret hQ dJ17_checkLength_37 rfl (Nat.le_of_ble_eq_true rfl) (Nat.le_of_ble_eq_true rfl) ⟨rfl, rfl⟩
  · exact absurd hxy c_2

set_option maxHeartbeats 4000000 in
theorem ct_J17_copyOfRangeByte {G : GT} {h : AH} (hG : GOK G) {v C u1 u2 : Nat} {t : Tg} {l : List Int} (hv : h v = some (t, aA G 1 C (lf l))) (hlC : l.length ≤ C) (hw : Wd l) (hu : u1 ≠ 0) (hu2 : ∀ q, Nw h q → u1 ≤ q) (hC : C < 10000) : CT G (MJ17_copyOfRangeByte 1 60 1 l.length) h [.ref v, .int (iI 0), .int (iI (l.length : Int))] (pR (fun q h' => h' q = some ((u1, u2), aA G 1 l.length (lf l)) ∧ Ex h h' ∧ Nw h q)) := by
  refine CT.of rfl hG (Nat.le_of_ble_eq_true rfl) rfl (fun E hQ => ?_)
  refine ww_iload_n 1 dJ17_copyOfRangeByte_0 rfl ?_
  refine ww_iload_n 2 dJ17_copyOfRangeByte_1 rfl ?_
  refine cr_pv (cr_S (ct_J17_checkLength hG 0 (l.length : Int) (inI.mk (by decide) (by decide)) (inI.mk (by omega) (by omega)) (by omega)) ss_J17_343 rfl dJ17_copyOfRangeByte_2 rfl rfl ⟨Nat.le_of_ble_eq_true rfl, Nat.le_of_ble_eq_true rfl⟩ (Nat.le_of_ble_eq_true rfl) (Nat.le_of_ble_eq_true rfl) (by show 0 + 0 ≤ l.length; omega)) ?_
  refine ww_iload_n 2 dJ17_copyOfRangeByte_5 rfl ?_
  refine ww_iload_n 1 dJ17_copyOfRangeByte_6 rfl ?_
  refine ww_isub dJ17_copyOfRangeByte_7 ?_
  rw [show (l.length : Int) - 0 = (l.length : Int) by omega]
  refine ww_istore_n [(3, _), (0, _), (1, _), (2, _)] dJ17_copyOfRangeByte_8 (Nat.le_of_ble_eq_true rfl) rfl ?_
  refine ww_iload_n 0 dJ17_copyOfRangeByte_9 rfl ?_
  refine wx_newA (N := l.length) (j := 1) (atype := .byte) (fun _ => (u1, u2)) rfl (by omega) q151 rfl (fun _ x => x) rfl (by decide) dJ17_copyOfRangeByte_10 (fun q hq => ⟨hu, hu2 q hq⟩) (Nat.le_of_ble_eq_true rfl) (by show 0 + 0 + l.length ≤ l.length; omega) (fun q_10 h_10 n_10 e_10 hq => ?_)
  have hv := e_10 _ _ hv
  refine ww_astore [(4, _), (3, _), (0, _), (1, _), (2, _)] dJ17_copyOfRangeByte_12 (Nat.le_of_ble_eq_true rfl) rfl ?_
  refine ww_aload_n 2 dJ17_copyOfRangeByte_14 rfl ?_
  refine ww_iload_n 3 dJ17_copyOfRangeByte_15 rfl ?_
  refine ww_aload 0 dJ17_copyOfRangeByte_16 rfl ?_
  refine ww_iconst dJ17_copyOfRangeByte_18 ?_
  refine ww_aload_n 2 dJ17_copyOfRangeByte_19 rfl ?_
  refine ww_alenA dJ17_copyOfRangeByte_20 hv (by omega) ?_
  refine ww_iload_n 3 dJ17_copyOfRangeByte_21 rfl ?_
  refine ww_isub dJ17_copyOfRangeByte_22 ?_
  refine ww_iload_n 1 dJ17_copyOfRangeByte_23 rfl ?_
  refine ww_mmin q395 rfl dJ17_copyOfRangeByte_24 (inI.mk (by omega) (by omega)) (inI.mk (by omega) (by omega)) (Nat.le_of_ble_eq_true rfl) (Nat.le_of_ble_eq_true rfl) (Nat.le_of_ble_eq_true rfl) (by show 0 + 0 + l.length ≤ l.length; omega) ?_
  rw [show min ((C : Int) - 0) (l.length : Int) = (l.length : Int) by omega]
  refine ww_copyB q_ac q_acn q_acs q_aci rfl dJ17_copyOfRangeByte_27 hv hq hu (by omega) (by omega) (by omega) (by omega) (by omega) (by omega) (by omega) (fun i a b => lf_by hw i a) (Nat.le_of_ble_eq_true rfl) (Nat.le_of_ble_eq_true rfl) ?_
  refine ww_aload 0 dJ17_copyOfRangeByte_30 rfl ?_
  exact ww_aret hQ dJ17_copyOfRangeByte_32 rfl rfl (Nat.le_of_ble_eq_true rfl) (by show 0 + 0 + l.length ≤ l.length; omega) ⟨_, rfl, by rw [hset_s, aA_fn (lf_icp (by omega))], (KT.of hq).nw e_10 n_10, n_10⟩

set_option maxHeartbeats 4000000 in
theorem ct_J17_copyOfRange {G : GT} {h : AH} (hG : GOK G) {v C u1 u2 : Nat} {t : Tg} {l : List Int} (hv : h v = some (t, aA G 1 C (lf l))) (hlC : l.length ≤ C) (hw : Wd l) (hu : u1 ≠ 0) (hu2 : ∀ q, Nw h q → u1 ≤ q) (hC : C < 10000) : CT G (MJ17_copyOfRange 2 120 1 l.length) h [.ref v, .int (iI 0), .int (iI (l.length : Int))] (pR (fun q h' => h' q = some ((u1, u2), aA G 1 l.length (lf l)) ∧ Ex h h' ∧ Nw h q)) := by
  refine CT.of rfl hG (Nat.le_of_ble_eq_true rfl) rfl (fun E hQ => ?_)
  refine ww_iload_n 1 dJ17_copyOfRange_0 rfl ?_
  refine ww_if_ne 10 dJ17_copyOfRange_1 (by decide) (inI.mk (by decide) (by decide)) (fun c_1 => ?_) (fun c_1 => ?_)
  · exact absurd rfl c_1
  · refine ww_iload_n 2 dJ17_copyOfRange_4 rfl ?_
    refine ww_aload_n 0 dJ17_copyOfRange_5 rfl ?_
    refine ww_alenA dJ17_copyOfRange_6 hv (by omega) ?_
    refine ww_icmp_eq 17 dJ17_copyOfRange_7 (by decide) (inI.mk (by omega) (by omega)) (inI.mk (by omega) (by omega)) (fun c_7 => ?_) (fun c_7 => ?_)
    · refine ww_aload_n 0 dJ17_copyOfRange_17 rfl ?_
      refine wx_cloneB (fun _ => (u1, u2)) q388 rfl dJ17_copyOfRange_18 hv (fun i a b => lf_by hw i a) (fun q hq => ⟨hu, hu2 q hq⟩) (Nat.le_of_ble_eq_true rfl) (Nat.le_of_ble_eq_true rfl) (Nat.le_of_ble_eq_true rfl) (by show 0 + C ≤ l.length; omega) (fun q h9 n9 e9 hq => ?_)
      refine ww_castA dJ17_copyOfRange_21 hq q394 (fun U hU => (hU.2 1 _ rfl).2) rfl ?_
      exact ww_aret hQ dJ17_copyOfRange_24 rfl rfl (Nat.le_of_ble_eq_true rfl) (by show 0 + C ≤ l.length; omega) ⟨_, rfl, by rw [hq, show C = l.length by omega], e9, n9⟩
    · refine ww_aload_n 0 dJ17_copyOfRange_10 rfl ?_
      refine ww_iload_n 1 dJ17_copyOfRange_11 rfl ?_
      refine ww_iload_n 2 dJ17_copyOfRange_12 rfl ?_
      refine cr_r (cr_S (ct_J17_copyOfRangeByte (u1 := u1) (u2 := u2) hG hv hlC hw hu hu2 hC) ss_J17_339 rfl dJ17_copyOfRange_13 rfl rfl ⟨Nat.le_of_ble_eq_true rfl, Nat.le_of_ble_eq_true rfl⟩ (Nat.le_of_ble_eq_true rfl) (Nat.le_of_ble_eq_true rfl) (by show 0 + l.length ≤ l.length; omega)) (fun r_13 h_13 hp_13 => ?_)
      obtain ⟨hq_13, e_13, n_13⟩ := hp_13
      have hv := e_13 _ _ hv
      exact ww_aret hQ dJ17_copyOfRange_16 rfl rfl (Nat.le_of_ble_eq_true rfl) (by show 0 + l.length ≤ l.length; omega) ⟨_, rfl, hq_13, e_13, n_13⟩

set_option maxHeartbeats 4000000 in
theorem ct_J15_length {G : GT} {h : AH} (hG : GOK G) {b C : Nat} {l : List Int} (hS : SB G h b l C) : CPi G (MJ15_length 1 20 0 0) h [.ref b] (l.length) := by
  refine CT.of rfl hG (Nat.le_of_ble_eq_true rfl) rfl (fun E hQ => ?_)
  obtain ⟨v, hb0, hb, hv, hlC, hC, hw⟩ := id hS
  refine ww_aload_n 0 dJ15_length_0 rfl ?_
  refine cr_pi (cr_P (ct_J14_length hG hS) sp_J15_343 rfl dJ15_length_1 hb rfl rfl rfl ⟨by decide, by decide⟩ (Nat.le_of_ble_eq_true rfl) (Nat.le_of_ble_eq_true rfl) (Nat.le_of_ble_eq_true rfl)) ?_
  exact ww_iret hQ dJ15_length_4 rfl (Nat.le_of_ble_eq_true rfl) (Nat.le_of_ble_eq_true rfl) ⟨_, rfl, rfl, rfl⟩

set_option maxHeartbeats 4000000 in
theorem ct_J6_init_2 {G : GT} {h : AH} (hG : GOK G) {b C : Nat} {l : List Int} (hS : SB G h b l C) {q : Nat} (hq0 : q ≠ 0) (hq : h q = some ((q, 10000), ob 13 [.null, .int 0, .int 0, .int 0])) (hl : l.length < 1000) : CT G (MJ6_init_2 3 200 1 l.length) h [.ref q, .ref b, .null] (pV (fun h' => StO G h' q q l ∧ KT q (q, 10000) h h')) := by
  refine CT.of rfl hG (Nat.le_of_ble_eq_true rfl) rfl (fun E hQ => ?_)
  obtain ⟨v, hb0, hb, hv, hlC, hC, hw⟩ := id hS
  refine ww_aload_n 0 dJ6_init_2_0 rfl ?_
  refine ww_objInit q502 q128 q129 rfl dJ6_init_2_1 (Nat.le_of_ble_eq_true rfl) (Nat.le_of_ble_eq_true rfl) ?_
  refine ww_aload_n 1 dJ6_init_2_4 rfl ?_
  refine cr_pr (cr_U (ct_J14_getValue hG hb) su_J6_552_J15 rfl dJ6_init_2_5 hb rfl rfl rfl rfl ⟨Nat.le_of_ble_eq_true rfl, Nat.le_of_ble_eq_true rfl⟩ (Nat.le_of_ble_eq_true rfl) (Nat.le_of_ble_eq_true rfl) (by show 0 + 0 ≤ l.length; omega)) ?_
  refine ww_astore_n [(3, _), (0, _), (1, _), (2, _)] dJ6_init_2_8 (Nat.le_of_ble_eq_true rfl) rfl ?_
  refine ww_aload_n 2 dJ6_init_2_9 rfl ?_
  refine cr_pi (cr_O (ct_J15_length hG hS) so_J6_549_J15 rfl dJ6_init_2_10 hb rfl rfl rfl rfl ⟨Nat.le_of_ble_eq_true rfl, Nat.le_of_ble_eq_true rfl⟩ (Nat.le_of_ble_eq_true rfl) (Nat.le_of_ble_eq_true rfl) (by show 0 + 0 + 0 ≤ l.length; omega)) ?_
  refine ww_istore [(4, _), (3, _), (0, _), (1, _), (2, _)] dJ6_init_2_13 (Nat.le_of_ble_eq_true rfl) rfl ?_
  refine ww_aload_n 3 dJ6_init_2_15 rfl ?_
  refine cr_pi (cr_U (ct_J14_isLatin1 hG hS) su_J6_1047_J15 rfl dJ6_init_2_16 hb rfl rfl rfl rfl ⟨Nat.le_of_ble_eq_true rfl, Nat.le_of_ble_eq_true rfl⟩ (Nat.le_of_ble_eq_true rfl) (Nat.le_of_ble_eq_true rfl) (by show 0 + 0 + 0 + 0 ≤ l.length; omega)) ?_
  refine ww_if_eq 41 dJ6_init_2_19 (by decide) (inI.mk (by decide) (by decide)) (fun c_19 => ?_) (fun c_19 => ?_)
  · exact absurd c_19 (by decide)
  · refine ww_aload_n 2 dJ6_init_2_22 rfl ?_
    refine ww_iconst dJ6_init_2_23 ?_
    refine wx_putF pf_J6_15 rfl rfl dJ6_init_2_24 hq hq0 (Nat.le_of_ble_eq_true rfl) (nar_byte (by decide) (by decide)) (byte_fits (by decide) (by decide)) (fun h_24 hq f_24 => ?_)
    have hb := f_24.at hb (by omega)
    have hv := f_24.at hv (by omega)
    refine ww_aload_n 2 dJ6_init_2_27 rfl ?_
    refine ww_aload_n 1 dJ6_init_2_28 rfl ?_
    refine ww_iconst dJ6_init_2_29 ?_
    refine ww_iload 0 dJ6_init_2_30 rfl ?_
    refine cr_r (cr_S (ct_J17_copyOfRange (u1 := q) (u2 := 10001) hG hv hlC hw hq0 (fun p hp => Nat.le_of_lt (hp.2 _ _ _ hq).1) (by omega)) ss_J6_54 rfl dJ6_init_2_32 rfl rfl ⟨Nat.le_of_ble_eq_true rfl, Nat.le_of_ble_eq_true rfl⟩ (Nat.le_of_ble_eq_true rfl) (Nat.le_of_ble_eq_true rfl) (by show 0 + 0 + 0 + 0 + l.length ≤ l.length; omega)) (fun r_32 h_32 hp_32 => ?_)
    obtain ⟨hq_32, e_32, n_32⟩ := hp_32
    have hq := e_32 _ _ hq
    have hb := e_32 _ _ hb
    have hv := e_32 _ _ hv
    refine wx_putF pf_J6_9 rfl rfl dJ6_init_2_35 hq hq0 (Nat.le_of_ble_eq_true rfl) rfl rfl (fun h_35 hq f_35 => ?_)
    have hb := f_35.at hb (by omega)
    have hv := f_35.at hv (by omega)
    have hr := f_35.at hq_32 (by omega)
    refine ww_goto 97 dJ6_init_2_38 (by decide) ?_
    exact ww_vret hQ dJ6_init_2_97 rfl (Nat.le_of_ble_eq_true rfl) (by show 0 + 0 + 0 + 0 + l.length ≤ l.length; omega) ⟨rfl, ⟨_, 0, 0, hq, hr, hw, hl, inI.mk (by decide) (by decide), Or.inl ⟨rfl, rfl, hq0⟩⟩, fun y u x hy hu => f_35 y u x (e_32 _ _ (f_24 y u x hy hu)) hu⟩

set_option maxHeartbeats 4000000 in
theorem ct_J6_init {G : GT} {h : AH} (hG : GOK G) {b C : Nat} {l : List Int} (hS : SB G h b l C) {q : Nat} (hq0 : q ≠ 0) (hq : h q = some ((q, 10000), ob 13 [.null, .int 0, .int 0, .int 0])) (hl : l.length < 1000) : CT G (MJ6_init 4 250 1 l.length) h [.ref q, .ref b] (pV (fun h' => StO G h' q q l ∧ KT q (q, 10000) h h')) := by
  refine CT.of rfl hG (Nat.le_of_ble_eq_true rfl) rfl (fun E hQ => ?_)
  obtain ⟨v, hb0, hb, hv, hlC, hC, hw⟩ := id hS
  refine ww_aload_n 0 dJ6_init_0 rfl ?_
  refine ww_aload_n 1 dJ6_init_1 rfl ?_
  refine ww_null dJ6_init_2 ?_
  refine cr_v (cr_I (ct_J6_init_2 hG hS hq0 hq hl) si_J6_489 rfl rfl dJ6_init_3 rfl rfl ⟨Nat.le_of_ble_eq_true rfl, Nat.le_of_ble_eq_true rfl⟩ (Nat.le_of_ble_eq_true rfl) (Nat.le_of_ble_eq_true rfl) (by show 0 + l.length ≤ l.length; omega)) (fun h_3 hp_3 => ?_)
  obtain ⟨hT_3, f_3⟩ := hp_3
  exact ww_vret hQ dJ6_init_6 rfl (Nat.le_of_ble_eq_true rfl) (by show 0 + l.length ≤ l.length; omega) ⟨rfl, hT_3, f_3⟩

set_option maxHeartbeats 4000000 in
theorem ct_J15_toString {G : GT} {h : AH} (hG : GOK G) {b C : Nat} {l : List Int} (hS : SB G h b l C) (hl : l.length < 1000) : CT G (MJ15_toString 5 300 2 (4 + l.length)) h [.ref b] (pR (fun q h' => StO G h' q q l ∧ Ex h h' ∧ Nw h q)) := by
  refine CT.of rfl hG (Nat.le_of_ble_eq_true rfl) rfl (fun E hQ => ?_)
  obtain ⟨v, hb0, hb, hv, hlC, hC, hw⟩ := id hS
  refine wx_new (fun q => (q, 10000)) nw_J15_18 rfl dJ15_toString_0 (fun q hq => ⟨hq.1, Nat.le_refl _⟩) (by show 0 + 1 ≤ 2; omega) (by show 0 + 4 ≤ 4 + l.length; omega) (fun q_0 h_0 n_0 e_0 hq => ?_)
  refine ww_dup dJ15_toString_3 rfl ?_
  refine ww_aload_n 0 dJ15_toString_4 rfl ?_
  refine cr_v (cr_I (ct_J6_init hG (hS.ex e_0) n_0.1 hq hl) si_J15_137 rfl rfl dJ15_toString_5 rfl rfl ⟨Nat.le_of_ble_eq_true rfl, Nat.le_of_ble_eq_true rfl⟩ (Nat.le_of_ble_eq_true rfl) (Nat.le_of_ble_eq_true rfl) (by show 0 + 4 + l.length ≤ 4 + l.length; omega)) (fun h_5 hp_5 => ?_)
  obtain ⟨hT_5, f_5⟩ := hp_5
  exact ww_aret hQ dJ15_toString_8 rfl rfl (Nat.le_of_ble_eq_true rfl) (by show 0 + 4 + l.length ≤ 4 + l.length; omega) ⟨_, rfl, hT_5, f_5.nw e_0 n_0, n_0⟩
