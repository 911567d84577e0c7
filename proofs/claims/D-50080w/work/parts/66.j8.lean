set_option maxRecDepth 100000
set_option maxHeartbeats 4000000 in
theorem ct_J6_hashCode {G : GT} {h : AH} {o a : Nat} {l : List Int} (hG : GOK G) (hS : StO G h o a l) : CT G (MJ6_hashCode 3 69 0 0) h [.ref a] (pI (fun z h' => z = hsI l ∧ StO G h' o a l ∧ FZ o h h')) := by
  refine CT.of rfl hG (Nat.le_of_ble_eq_true rfl) rfl (fun E hQ => ?_)
  have hS0 := hS
  obtain ⟨v, hs, hz, h1, h2, hw, hl, hsi, hh⟩ := hS
  have hz01 : hz = 0 ∨ hz = 1 ∨ hs ≠ 0 := by rcases hh with q | ⟨-, q⟩ | ⟨-, -, q⟩; exact Or.inl q.2.1; exact Or.inr (Or.inr q); exact Or.inr (Or.inl q)
  refine ww_aload_n 0 dJ6_hashCode_0 rfl ?_
  refine ww_getf gf_J6_19 rfl dJ6_hashCode_1 h1 rfl ?_
  refine ww_istore_n [(1, _), (0, _)] dJ6_hashCode_4 (by decide) rfl ?_
  refine ww_iload_n 0 dJ6_hashCode_5 rfl ?_
  refine ww_if_ne 58 dJ6_hashCode_6 (by decide) hsi (fun c_6 => ?_) (fun c_6 => ?_)
  · have he : iI hs = iI (shash l) := by rcases hh with ⟨q, -⟩ | ⟨q, -⟩ | ⟨q, -⟩; exact absurd q c_6; exact q; exact q
    refine ww_iload_n 0 dJ6_hashCode_58 rfl ?_
    exact ww_iret hQ dJ6_hashCode_59 rfl (Nat.le_of_ble_eq_true rfl) (Nat.le_of_ble_eq_true rfl) ⟨_, rfl, (hsI_eq hsi he).symm, hS0, FZ.rf⟩
  · refine ww_aload_n 1 dJ6_hashCode_9 rfl ?_
    refine ww_getf gf_J6_23 rfl dJ6_hashCode_10 h1 rfl ?_
    refine ww_if_ne 58 dJ6_hashCode_13 (by decide) (inI.mk (by omega) (by omega)) (fun c_13 => ?_) (fun c_13 => ?_)
    · have he : iI hs = iI (shash l) := by rcases hh with ⟨-, q, -⟩ | ⟨q, -⟩ | ⟨q, -⟩; exact absurd q c_13; exact q; exact q
      refine ww_iload_n 0 dJ6_hashCode_58 rfl ?_
      exact ww_iret hQ dJ6_hashCode_59 rfl (Nat.le_of_ble_eq_true rfl) (Nat.le_of_ble_eq_true rfl) ⟨_, rfl, (hsI_eq hsi he).symm, hS0, FZ.rf⟩
    · have ho : o ≠ 0 := by rcases hh with ⟨-, -, q⟩ | ⟨-, q⟩ | ⟨-, -, q⟩; exact q; exact absurd c_6 q; omega
      refine ww_aload_n 1 dJ6_hashCode_16 rfl ?_
      refine cr_pi (cr_V (ct_J6_isLatin1 hG hS0) sv_J6_492 rfl dJ6_hashCode_17 h1 rfl rfl rfl rfl ⟨by decide, by decide⟩ (Nat.le_of_ble_eq_true rfl) (Nat.le_of_ble_eq_true rfl) (Nat.le_of_ble_eq_true rfl)) ?_
      refine ww_if_eq 33 dJ6_hashCode_20 (by decide) (inI.mk (by decide) (by decide)) (fun c_20 => ?_) (fun c_20 => ?_)
      · exact absurd c_20 (by decide)
      · refine ww_aload_n 1 dJ6_hashCode_23 rfl ?_
        refine ww_getf gf_J6_9 rfl dJ6_hashCode_24 h1 rfl ?_
        refine cr_i (cr_S (ct_J7_hashCode hG h2 hw hl) ss_J6_628 rfl dJ6_hashCode_27 rfl rfl ⟨by decide, by decide⟩ (Nat.le_of_ble_eq_true rfl) (Nat.le_of_ble_eq_true rfl) (Nat.le_of_ble_eq_true rfl)) (fun r_27 h_27 hp_27 => ?_)
        obtain ⟨er_27, eh_27⟩ := hp_27
        subst eh_27
        subst er_27
        rw [← hsI_i l]
        refine ww_goto 40 dJ6_hashCode_30 (by decide) ?_
        refine ww_istore_n [(1, _), (0, _)] dJ6_hashCode_40 (by decide) rfl ?_
        refine ww_iload_n 0 dJ6_hashCode_41 rfl ?_
        refine ww_if_ne 53 dJ6_hashCode_42 (by decide) (hsI_in l) (fun c_42 => ?_) (fun c_42 => ?_)
        · refine ww_aload_n 1 dJ6_hashCode_53 rfl ?_
          refine ww_iload_n 0 dJ6_hashCode_54 rfl ?_
          refine wx_putf pf_J6_19 rfl dJ6_hashCode_55 h1 ho (Nat.le_of_ble_eq_true rfl) rfl rfl (fun h_55 h1 f_55 => ?_)
          have h2 := f_55.at h2 (by omega)
          refine ww_iload_n 0 dJ6_hashCode_58 rfl ?_
          exact ww_iret hQ dJ6_hashCode_59 rfl (Nat.le_of_ble_eq_true rfl) (Nat.le_of_ble_eq_true rfl) ⟨_, rfl, rfl, ⟨v, _, _, h1, h2, hw, hl, hsI_in l, Or.inr (Or.inl ⟨hsI_i l, c_42⟩)⟩, fun b t x hb ht => f_55 b t x hb (Or.inl (fun e => ht ⟨ho, e⟩))⟩
        · refine ww_aload_n 1 dJ6_hashCode_45 rfl ?_
          refine ww_iconst dJ6_hashCode_46 ?_
          refine wx_putf pf_J6_23 rfl dJ6_hashCode_47 h1 ho (Nat.le_of_ble_eq_true rfl) rfl rfl (fun h_47 h1 f_47 => ?_)
          have h2 := f_47.at h2 (by omega)
          refine ww_goto 58 dJ6_hashCode_50 (by decide) ?_
          refine ww_iload_n 0 dJ6_hashCode_58 rfl ?_
          exact ww_iret hQ dJ6_hashCode_59 rfl (Nat.le_of_ble_eq_true rfl) (Nat.le_of_ble_eq_true rfl) ⟨_, rfl, rfl, ⟨v, _, _, h1, h2, hw, hl, hsi, Or.inr (Or.inr ⟨by rw [c_6, ← c_42, hsI_i], c_6, rfl⟩)⟩, fun b t x hb ht => f_47 b t x hb (Or.inl (fun e => ht ⟨ho, e⟩))⟩

theorem hk_T : hsI kwTrust = 110640728 := by decide +kernel
theorem hk_R : hsI kwRank = 3492908 := by decide +kernel
theorem hk_O : hsI kwOffers = -1019793001 := by decide +kernel
theorem hk_F : hsI kwFriends = -600094315 := by decide +kernel
set_option maxHeartbeats 4000000 in
theorem ct_X1_variable {G : GT} {h : AH} {o a : Nat} {l : List Int} (hG : GOK G) (hS : StO G h o a l) (hL : LitC G h) : CT G (MX1_variable 10 3200 0 0) h [.ref a] (pO (fun r h' => VRes G l r ∧ StO G h' o a l ∧ FZ o h h')) := by
  refine CT.of rfl hG (Nat.le_of_ble_eq_true rfl) rfl (fun E hQ => ?_)
  have hS0 := hS
  obtain ⟨v, hs, hz, h1, h2, hw, hl, hsi, hh⟩ := hS
  have hS := hS0
  refine ww_aload_n 0 dX1_variable_0 rfl ?_
  refine ww_astore_n [(1, _), (0, _)] dX1_variable_1 (by decide) rfl ?_
  refine ww_iconst dX1_variable_2 ?_
  refine ww_istore_n [(2, _), (1, _), (0, _)] dX1_variable_3 (by decide) rfl ?_
  refine ww_aload_n 1 dX1_variable_4 rfl ?_
  refine cr_i (cr_V (ct_J6_hashCode hG hS) sv_X1_5 rfl dX1_variable_5 h1 rfl rfl rfl rfl ⟨by decide, by decide⟩ (Nat.le_of_ble_eq_true rfl) (Nat.le_of_ble_eq_true rfl) (Nat.le_of_ble_eq_true rfl)) (fun r_5 h_5 hp_5 => ?_)
  obtain ⟨er_5, hS, f_5⟩ := hp_5
  subst er_5
  have hL := hL.fz f_5
  obtain ⟨v, hs, hz, h1, h2, hw, hl, hsi, hh⟩ := id hS
  have hsw : hsI l = 110640728 ∨ hsI l = 3492908 ∨ hsI l = -1019793001 ∨ hsI l = -600094315 ∨ (hsI l ≠ 110640728 ∧ hsI l ≠ 3492908 ∧ hsI l ≠ -1019793001 ∧ hsI l ≠ -600094315) := by omega
  rcases hsw with hz9 | hz9 | hz9 | hz9 | hz9
  · rw [hz9]
    refine ww_lookup 52 dX1_variable_8 (inI.mk (by decide) (by decide)) rfl rfl (by decide) ?_
    refine ww_aload_n 1 dX1_variable_52 rfl ?_
    obtain ⟨a9, tx9, hz8, hS9⟩ := hL.1 "LinkElection" 11 kwTrust (by decide)
    refine ww_ldcS hz8 dX1_variable_53 ?_
    refine cr_pi (cr_V (ct_J6_equals hG hS hS9) sv_X1_13 rfl dX1_variable_55 h1 rfl rfl rfl rfl ⟨by decide, by decide⟩ (Nat.le_of_ble_eq_true rfl) (Nat.le_of_ble_eq_true rfl) (Nat.le_of_ble_eq_true rfl)) ?_
    refine ww_ifb_eq 105 dX1_variable_58 (by decide) (fun c_58 => ?_) (fun c_58 => ?_)
    · have nB : l ≠ kwRank := fun e => by rw [e, hk_R] at hz9; exact absurd hz9 (by decide)
      have nC : l ≠ kwOffers := fun e => by rw [e, hk_O] at hz9; exact absurd hz9 (by decide)
      have nD : l ≠ kwFriends := fun e => by rw [e, hk_F] at hz9; exact absurd hz9 (by decide)
      have nA : l ≠ kwTrust := c_58
      refine ww_iload_n 0 dX1_variable_105 rfl ?_
      refine ww_tableOut 160 dX1_variable_106 (inI.mk (by decide) (by decide)) (by decide) (by decide) ?_
      refine ww_null dX1_variable_160 ?_
      exact ww_aretq (a := none) hQ dX1_variable_161 rfl rfl (Nat.le_of_ble_eq_true rfl) (Nat.le_of_ble_eq_true rfl) ⟨none, rfl, Or.inr ⟨nA, nB, nC, nD, rfl⟩, hS, f_5⟩
    · refine ww_iconst dX1_variable_61 ?_
      refine ww_istore_n [(2, _), (1, _), (0, _)] dX1_variable_62 (by decide) rfl ?_
      refine ww_goto 105 dX1_variable_63 (by decide) ?_
      refine ww_iload_n 0 dX1_variable_105 rfl ?_
      refine ww_tableIn 136 dX1_variable_106 (inI.mk (by decide) (by decide)) (by decide) (by decide) rfl (by decide) ?_
      refine ww_indy0 (i := 1) (by decide) (by decide) hG rfl rfl dX1_variable_136 (Nat.le_of_ble_eq_true rfl) ?_
      exact ww_aret hQ dX1_variable_141 rfl rfl (Nat.le_of_ble_eq_true rfl) (Nat.le_of_ble_eq_true rfl) ⟨some _, rfl, Or.inl ⟨1, by decide, by decide, c_58, rfl⟩, hS, f_5⟩
  · rw [hz9]
    refine ww_lookup 66 dX1_variable_8 (inI.mk (by decide) (by decide)) rfl rfl (by decide) ?_
    refine ww_aload_n 1 dX1_variable_66 rfl ?_
    obtain ⟨a9, tx9, hz8, hS9⟩ := hL.1 "LinkElection" 17 kwRank (by decide)
    refine ww_ldcS hz8 dX1_variable_67 ?_
    refine cr_pi (cr_V (ct_J6_equals hG hS hS9) sv_X1_13 rfl dX1_variable_69 h1 rfl rfl rfl rfl ⟨by decide, by decide⟩ (Nat.le_of_ble_eq_true rfl) (Nat.le_of_ble_eq_true rfl) (Nat.le_of_ble_eq_true rfl)) ?_
    refine ww_ifb_eq 105 dX1_variable_72 (by decide) (fun c_72 => ?_) (fun c_72 => ?_)
    · have nA : l ≠ kwTrust := fun e => by rw [e, hk_T] at hz9; exact absurd hz9 (by decide)
      have nC : l ≠ kwOffers := fun e => by rw [e, hk_O] at hz9; exact absurd hz9 (by decide)
      have nD : l ≠ kwFriends := fun e => by rw [e, hk_F] at hz9; exact absurd hz9 (by decide)
      have nB : l ≠ kwRank := c_72
      refine ww_iload_n 0 dX1_variable_105 rfl ?_
      refine ww_tableOut 160 dX1_variable_106 (inI.mk (by decide) (by decide)) (by decide) (by decide) ?_
      refine ww_null dX1_variable_160 ?_
      exact ww_aretq (a := none) hQ dX1_variable_161 rfl rfl (Nat.le_of_ble_eq_true rfl) (Nat.le_of_ble_eq_true rfl) ⟨none, rfl, Or.inr ⟨nA, nB, nC, nD, rfl⟩, hS, f_5⟩
    · refine ww_iconst dX1_variable_75 ?_
      refine ww_istore_n [(2, _), (1, _), (0, _)] dX1_variable_76 (by decide) rfl ?_
      refine ww_goto 105 dX1_variable_77 (by decide) ?_
      refine ww_iload_n 0 dX1_variable_105 rfl ?_
      refine ww_tableIn 142 dX1_variable_106 (inI.mk (by decide) (by decide)) (by decide) (by decide) rfl (by decide) ?_
      refine ww_indy0 (i := 2) (by decide) (by decide) hG rfl rfl dX1_variable_142 (Nat.le_of_ble_eq_true rfl) ?_
      exact ww_aret hQ dX1_variable_147 rfl rfl (Nat.le_of_ble_eq_true rfl) (Nat.le_of_ble_eq_true rfl) ⟨some _, rfl, Or.inl ⟨2, by decide, by decide, c_72, rfl⟩, hS, f_5⟩
  · rw [hz9]
    refine ww_lookup 80 dX1_variable_8 (inI.mk (by decide) (by decide)) rfl rfl (by decide) ?_
    refine ww_aload_n 1 dX1_variable_80 rfl ?_
    obtain ⟨a9, tx9, hz8, hS9⟩ := hL.1 "LinkElection" 19 kwOffers (by decide)
    refine ww_ldcS hz8 dX1_variable_81 ?_
    refine cr_pi (cr_V (ct_J6_equals hG hS hS9) sv_X1_13 rfl dX1_variable_83 h1 rfl rfl rfl rfl ⟨by decide, by decide⟩ (Nat.le_of_ble_eq_true rfl) (Nat.le_of_ble_eq_true rfl) (Nat.le_of_ble_eq_true rfl)) ?_
    refine ww_ifb_eq 105 dX1_variable_86 (by decide) (fun c_86 => ?_) (fun c_86 => ?_)
    · have nA : l ≠ kwTrust := fun e => by rw [e, hk_T] at hz9; exact absurd hz9 (by decide)
      have nB : l ≠ kwRank := fun e => by rw [e, hk_R] at hz9; exact absurd hz9 (by decide)
      have nD : l ≠ kwFriends := fun e => by rw [e, hk_F] at hz9; exact absurd hz9 (by decide)
      have nC : l ≠ kwOffers := c_86
      refine ww_iload_n 0 dX1_variable_105 rfl ?_
      refine ww_tableOut 160 dX1_variable_106 (inI.mk (by decide) (by decide)) (by decide) (by decide) ?_
      refine ww_null dX1_variable_160 ?_
      exact ww_aretq (a := none) hQ dX1_variable_161 rfl rfl (Nat.le_of_ble_eq_true rfl) (Nat.le_of_ble_eq_true rfl) ⟨none, rfl, Or.inr ⟨nA, nB, nC, nD, rfl⟩, hS, f_5⟩
    · refine ww_iconst dX1_variable_89 ?_
      refine ww_istore_n [(2, _), (1, _), (0, _)] dX1_variable_90 (by decide) rfl ?_
      refine ww_goto 105 dX1_variable_91 (by decide) ?_
      refine ww_iload_n 0 dX1_variable_105 rfl ?_
      refine ww_tableIn 148 dX1_variable_106 (inI.mk (by decide) (by decide)) (by decide) (by decide) rfl (by decide) ?_
      refine ww_indy0 (i := 3) (by decide) (by decide) hG rfl rfl dX1_variable_148 (Nat.le_of_ble_eq_true rfl) ?_
      exact ww_aret hQ dX1_variable_153 rfl rfl (Nat.le_of_ble_eq_true rfl) (Nat.le_of_ble_eq_true rfl) ⟨some _, rfl, Or.inl ⟨3, by decide, by decide, c_86, rfl⟩, hS, f_5⟩
  · rw [hz9]
    refine ww_lookup 94 dX1_variable_8 (inI.mk (by decide) (by decide)) rfl rfl (by decide) ?_
    refine ww_aload_n 1 dX1_variable_94 rfl ?_
    obtain ⟨a9, tx9, hz8, hS9⟩ := hL.1 "LinkElection" 21 kwFriends (by decide)
    refine ww_ldcS hz8 dX1_variable_95 ?_
    refine cr_pi (cr_V (ct_J6_equals hG hS hS9) sv_X1_13 rfl dX1_variable_97 h1 rfl rfl rfl rfl ⟨by decide, by decide⟩ (Nat.le_of_ble_eq_true rfl) (Nat.le_of_ble_eq_true rfl) (Nat.le_of_ble_eq_true rfl)) ?_
    refine ww_ifb_eq 105 dX1_variable_100 (by decide) (fun c_100 => ?_) (fun c_100 => ?_)
    · have nA : l ≠ kwTrust := fun e => by rw [e, hk_T] at hz9; exact absurd hz9 (by decide)
      have nB : l ≠ kwRank := fun e => by rw [e, hk_R] at hz9; exact absurd hz9 (by decide)
      have nC : l ≠ kwOffers := fun e => by rw [e, hk_O] at hz9; exact absurd hz9 (by decide)
      have nD : l ≠ kwFriends := c_100
      refine ww_iload_n 0 dX1_variable_105 rfl ?_
      refine ww_tableOut 160 dX1_variable_106 (inI.mk (by decide) (by decide)) (by decide) (by decide) ?_
      refine ww_null dX1_variable_160 ?_
      exact ww_aretq (a := none) hQ dX1_variable_161 rfl rfl (Nat.le_of_ble_eq_true rfl) (Nat.le_of_ble_eq_true rfl) ⟨none, rfl, Or.inr ⟨nA, nB, nC, nD, rfl⟩, hS, f_5⟩
    · refine ww_iconst dX1_variable_103 ?_
      refine ww_istore_n [(2, _), (1, _), (0, _)] dX1_variable_104 (by decide) rfl ?_
      refine ww_iload_n 0 dX1_variable_105 rfl ?_
      refine ww_tableIn 154 dX1_variable_106 (inI.mk (by decide) (by decide)) (by decide) (by decide) rfl (by decide) ?_
      refine ww_indy0 (i := 4) (by decide) (by decide) hG rfl rfl dX1_variable_154 (Nat.le_of_ble_eq_true rfl) ?_
      exact ww_aret hQ dX1_variable_159 rfl rfl (Nat.le_of_ble_eq_true rfl) (Nat.le_of_ble_eq_true rfl) ⟨some _, rfl, Or.inl ⟨4, by decide, by decide, c_100, rfl⟩, hS, f_5⟩
  · have nA : l ≠ kwTrust := fun e => hz9.1 (by rw [e]; exact hk_T)
    have nB : l ≠ kwRank := fun e => hz9.2.1 (by rw [e]; exact hk_R)
    have nC : l ≠ kwOffers := fun e => hz9.2.2.1 (by rw [e]; exact hk_O)
    have nD : l ≠ kwFriends := fun e => hz9.2.2.2 (by rw [e]; exact hk_F)
    refine ww_lookup 105 dX1_variable_8 (hsI_in l) rfl (off := 97) (by simp [Op.lookupswitch.offset, List.find?, Ne.symm hz9.1, Ne.symm hz9.2.1, Ne.symm hz9.2.2.1, Ne.symm hz9.2.2.2]) (by decide) ?_
    refine ww_iload_n 0 dX1_variable_105 rfl ?_
    refine ww_tableOut 160 dX1_variable_106 (inI.mk (by decide) (by decide)) (by decide) (by decide) ?_
    refine ww_null dX1_variable_160 ?_
    exact ww_aretq (a := none) hQ dX1_variable_161 rfl rfl (Nat.le_of_ble_eq_true rfl) (Nat.le_of_ble_eq_true rfl) ⟨none, rfl, Or.inr ⟨nA, nB, nC, nD, rfl⟩, hS, f_5⟩
