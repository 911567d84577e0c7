set_option maxRecDepth 100000
set_option maxHeartbeats 4000000 in
theorem ct_X3_isMissing {G : GT} {h0 h : AH} {m : Nat} {A : Nat → Nat} {B : Nat → Int → Nat} {D : Int → Int} {σ : MS} (hG : GOK G) (hM : MWF G h0 h m A B D σ) {fn : EF} (hD : DOK D fn) (k n : Int) (hk : inI k) (hn : inI n) (h0 : σ 0 0 0 = 0) : CSi G (MX3_isMissing 6 134 0 0) h m A B D [.ref m, .int (iI k), .int (iI n)] (fun r σ' => ((0 ≤ k ∧ k < D 1 ∧ 0 ≤ n ∧ n < D 2) ∧ ((∀ j, j < 18 ∨ 23 < j → σ' j = σ j) ∧ Laid D fn σ') ∧ r = 0) ∨ (¬ (0 ≤ k ∧ k < D 1 ∧ 0 ≤ n ∧ n < D 2) ∧ su σ 0 0 0 1 = σ' ∧ r = 1)) := by
  refine CT.of rfl hG (Nat.le_of_ble_eq_true rfl) rfl (fun E hQ => ?_)
  have hM := hM.1.f
  have hD0 := hD
  obtain ⟨⟨hl1, hl2⟩, ⟨hn1, hn2⟩, ⟨hs1, hs2⟩, hpf, hpr, htr, hwt, hof⟩ := hD
  refine ww_aload_n 0 dX3_isMissing_0 rfl ?_
  refine ww_iload_n 1 dX3_isMissing_1 rfl ?_
  refine cr_si hM (cr_V (ct_X3_noLibrary hG hM _ (by first | exact hM.rd _ | exact hM.ri rfl _ _ | exact ⟨by omega, by omega⟩ | assumption | exact bI_in _ | exact inI.mk (by omega) (by omega)) (by omega) (by omega) (by first | assumption | simp [su])) sv_X3_277 rfl dX3_isMissing_2 hM.obj rfl rfl rfl rfl ⟨by decide, by decide⟩ (Nat.le_of_ble_eq_true rfl) (Nat.le_of_ble_eq_true rfl) (Nat.le_of_ble_eq_true rfl)) (fun r_2 σ_2 hh hM hp_2 => ?_)
  rcases hp_2 with ⟨c0_2, rfl, rfl⟩ | ⟨c0_2, rfl, rfl⟩
  · refine ww_if_ne 16 dX3_isMissing_5 (by decide) (inI.mk (by decide) (by decide)) (fun c_5 => ?_) (fun c_5 => ?_)
    · exact absurd c_5 (by decide)
    · refine ww_aload_n 0 dX3_isMissing_8 rfl ?_
      refine ww_iload_n 2 dX3_isMissing_9 rfl ?_
      refine cr_si hM (cr_V (ct_X3_noName hG hM _ (by first | exact hM.rd _ | exact hM.ri rfl _ _ | exact ⟨by omega, by omega⟩ | assumption | exact bI_in _ | exact inI.mk (by omega) (by omega)) (by omega) (by omega) (by first | assumption | simp [su])) sv_X3_280 rfl dX3_isMissing_10 hM.obj rfl rfl rfl rfl ⟨by decide, by decide⟩ (Nat.le_of_ble_eq_true rfl) (Nat.le_of_ble_eq_true rfl) (Nat.le_of_ble_eq_true rfl)) (fun r_10 σ_10 hh hM hp_10 => ?_)
      rcases hp_10 with ⟨c0_10, rfl, rfl⟩ | ⟨c0_10, rfl, rfl⟩
      · refine ww_if_eq 18 dX3_isMissing_13 (by decide) (inI.mk (by decide) (by decide)) (fun c_13 => ?_) (fun c_13 => ?_)
        · refine ww_aload_n 0 dX3_isMissing_18 rfl ?_
          refine cr_sv hM (cr_V (ct_X3_layAll hG hM hD0) sv_X3_271 rfl dX3_isMissing_19 hM.obj rfl rfl rfl rfl ⟨by decide, by decide⟩ (Nat.le_of_ble_eq_true rfl) (Nat.le_of_ble_eq_true rfl) (Nat.le_of_ble_eq_true rfl)) (fun σ_19 hh hM hp_19 => ?_)
          obtain ⟨hk_19, hL_19⟩ := hp_19
          refine ww_iconst dX3_isMissing_22 ?_
          exact ww_zret hQ dX3_isMissing_23 rfl (Nat.le_of_ble_eq_true rfl) (Nat.le_of_ble_eq_true rfl) (by first | exact Or.inl rfl | exact Or.inr rfl | (unfold bI; split <;> simp)) ⟨_, rfl, _, hM, Or.inl ⟨by omega, ⟨hk_19, hL_19⟩, rfl⟩⟩
        · exact absurd c_13 (by decide)
      · refine ww_if_eq 18 dX3_isMissing_13 (by decide) (inI.mk (by decide) (by decide)) (fun c_13 => ?_) (fun c_13 => ?_)
        · exact absurd c_13 (by decide)
        · refine ww_iconst dX3_isMissing_16 ?_
          exact ww_zret hQ dX3_isMissing_17 rfl (Nat.le_of_ble_eq_true rfl) (Nat.le_of_ble_eq_true rfl) (by first | exact Or.inl rfl | exact Or.inr rfl | (unfold bI; split <;> simp)) ⟨_, rfl, _, hM, Or.inr ⟨by omega, rfl, rfl⟩⟩
  · refine ww_if_ne 16 dX3_isMissing_5 (by decide) (inI.mk (by decide) (by decide)) (fun c_5 => ?_) (fun c_5 => ?_)
    · refine ww_iconst dX3_isMissing_16 ?_
      exact ww_zret hQ dX3_isMissing_17 rfl (Nat.le_of_ble_eq_true rfl) (Nat.le_of_ble_eq_true rfl) (by first | exact Or.inl rfl | exact Or.inr rfl | (unfold bI; split <;> simp)) ⟨_, rfl, _, hM, Or.inr ⟨by omega, rfl, rfl⟩⟩
    · exact absurd c_5 (by decide)

set_option maxHeartbeats 4000000 in
theorem ct_X3_libraries {G : GT} {h0 h : AH} {m : Nat} {A : Nat → Nat} {B : Nat → Int → Nat} {D : Int → Int} {σ : MS} (hG : GOK G) (hM : MWF G h0 h m A B D σ) : CSi G (MX3_libraries 0 0 0 0) h m A B D [.ref m] (fun r σ' => kp σ σ' ∧ r = D 1) := by
  refine CT.of rfl hG (Nat.le_of_ble_eq_true rfl) rfl (fun E hQ => ?_)
  have hM := hM.1.f
  refine ww_aload_n 0 dX3_libraries_0 rfl ?_
  refine ww_iconst dX3_libraries_1 ?_
  refine mw_put pf_X3_59 rfl dX3_libraries_2 hM rfl (by first | exact hM.rd _ | exact hM.ri rfl _ _ | exact ⟨by omega, by omega⟩ | assumption | exact bI_in _ | exact inI.mk (by omega) (by omega)) (fun hh hM => ?_)
  refine ww_aload_n 0 dX3_libraries_5 rfl ?_
  refine ww_getf gf_X3_17 rfl dX3_libraries_6 hM.obj rfl ?_
  refine ww_iconst dX3_libraries_9 ?_
  refine mw_ldD dX3_libraries_10 hM (by omega) (by omega) ?_
  exact ww_iret hQ dX3_libraries_11 rfl (Nat.le_of_ble_eq_true rfl) (Nat.le_of_ble_eq_true rfl) ⟨_, rfl, _, hM, by refine ⟨?_, ?_, ?_, ?_, ?_⟩ <;> simp [su_off], rfl⟩

set_option maxHeartbeats 4000000 in
theorem ct_X3_names {G : GT} {h0 h : AH} {m : Nat} {A : Nat → Nat} {B : Nat → Int → Nat} {D : Int → Int} {σ : MS} (hG : GOK G) (hM : MWF G h0 h m A B D σ) : CSi G (MX3_names 0 0 0 0) h m A B D [.ref m] (fun r σ' => kp σ σ' ∧ r = D 2) := by
  refine CT.of rfl hG (Nat.le_of_ble_eq_true rfl) rfl (fun E hQ => ?_)
  have hM := hM.1.f
  refine ww_aload_n 0 dX3_names_0 rfl ?_
  refine ww_iconst dX3_names_1 ?_
  refine mw_put pf_X3_59 rfl dX3_names_2 hM rfl (by first | exact hM.rd _ | exact hM.ri rfl _ _ | exact ⟨by omega, by omega⟩ | assumption | exact bI_in _ | exact inI.mk (by omega) (by omega)) (fun hh hM => ?_)
  refine ww_aload_n 0 dX3_names_5 rfl ?_
  refine ww_getf gf_X3_17 rfl dX3_names_6 hM.obj rfl ?_
  refine ww_iconst dX3_names_9 ?_
  refine mw_ldD dX3_names_10 hM (by omega) (by omega) ?_
  exact ww_iret hQ dX3_names_11 rfl (Nat.le_of_ble_eq_true rfl) (Nat.le_of_ble_eq_true rfl) ⟨_, rfl, _, hM, by refine ⟨?_, ?_, ?_, ?_, ?_⟩ <;> simp [su_off], rfl⟩

set_option maxHeartbeats 4000000 in
theorem ct_X3_share {G : GT} {h0 h : AH} {m : Nat} {A : Nat → Nat} {B : Nat → Int → Nat} {D : Int → Int} {σ : MS} (hG : GOK G) (hM : MWF G h0 h m A B D σ) : CSi G (MX3_share 0 0 0 0) h m A B D [.ref m] (fun r σ' => kp σ σ' ∧ r = D 0) := by
  refine CT.of rfl hG (Nat.le_of_ble_eq_true rfl) rfl (fun E hQ => ?_)
  have hM := hM.1.f
  refine ww_aload_n 0 dX3_share_0 rfl ?_
  refine ww_iconst dX3_share_1 ?_
  refine mw_put pf_X3_59 rfl dX3_share_2 hM rfl (by first | exact hM.rd _ | exact hM.ri rfl _ _ | exact ⟨by omega, by omega⟩ | assumption | exact bI_in _ | exact inI.mk (by omega) (by omega)) (fun hh hM => ?_)
  refine ww_aload_n 0 dX3_share_5 rfl ?_
  refine ww_getf gf_X3_17 rfl dX3_share_6 hM.obj rfl ?_
  refine ww_iconst dX3_share_9 ?_
  refine mw_ldD dX3_share_10 hM (by omega) (by omega) ?_
  exact ww_iret hQ dX3_share_11 rfl (Nat.le_of_ble_eq_true rfl) (Nat.le_of_ble_eq_true rfl) ⟨_, rfl, _, hM, by refine ⟨?_, ?_, ?_, ?_, ?_⟩ <;> simp [su_off], rfl⟩

set_option maxHeartbeats 4000000 in
theorem ct_X3_errorOffset {G : GT} {h0 h : AH} {m : Nat} {A : Nat → Nat} {B : Nat → Int → Nat} {D : Int → Int} {σ : MS} (hG : GOK G) (hM : MWF G h0 h m A B D σ) : CSi G (MX3_errorOffset 0 0 0 0) h m A B D [.ref m] (fun r σ' => kp σ σ' ∧ r = σ 7 0 0) := by
  refine CT.of rfl hG (Nat.le_of_ble_eq_true rfl) rfl (fun E hQ => ?_)
  have hM := hM.1.f
  refine ww_aload_n 0 dX3_errorOffset_0 rfl ?_
  refine ww_iconst dX3_errorOffset_1 ?_
  refine mw_put pf_X3_59 rfl dX3_errorOffset_2 hM rfl (by first | exact hM.rd _ | exact hM.ri rfl _ _ | exact ⟨by omega, by omega⟩ | assumption | exact bI_in _ | exact inI.mk (by omega) (by omega)) (fun hh hM => ?_)
  refine ww_aload_n 0 dX3_errorOffset_5 rfl ?_
  refine ww_getf gf_X3_13 rfl dX3_errorOffset_6 hM.obj rfl ?_
  exact ww_iret hQ dX3_errorOffset_9 rfl (Nat.le_of_ble_eq_true rfl) (Nat.le_of_ble_eq_true rfl) ⟨_, rfl, _, hM, by refine ⟨?_, ?_, ?_, ?_, ?_⟩ <;> simp [su_off], rfl⟩

set_option maxHeartbeats 4000000 in
theorem ct_X3_told {G : GT} {h0 h : AH} {m : Nat} {A : Nat → Nat} {B : Nat → Int → Nat} {D : Int → Int} {σ : MS} (hG : GOK G) (hM : MWF G h0 h m A B D σ) {fn : EF} (hD : DOK D fn) (k w : Int) (h1 : 0 ≤ k) (h2 : k < D 1) (h3 : 0 ≤ w) (h4 : w ≤ 5) : CSi G (MX3_told 4 92 0 0) h m A B D [.ref m, .int (iI k), .int (iI w)] (fun r σ' => (∀ j, j ≠ 18 → σ j = σ' j) ∧ r = dTo D fn k w) := by
  refine CT.of rfl hG (Nat.le_of_ble_eq_true rfl) rfl (fun E hQ => ?_)
  have hM := hM.1.f
  have hD0 := hD
  obtain ⟨⟨hl1, hl2⟩, ⟨hn1, hn2⟩, ⟨hs1, hs2⟩, hpf, hpr, htr, hwt, hof⟩ := hD
  refine ww_iload_n 2 dX3_told_0 rfl ?_
  refine ww_iconst dX3_told_1 ?_
  refine ww_icmp_ge 19 dX3_told_2 (by decide) (by first | exact hM.rd _ | exact hM.ri rfl _ _ | exact ⟨by omega, by omega⟩ | assumption | exact bI_in _ | exact inI.mk (by omega) (by omega)) (by first | exact hM.rd _ | exact hM.ri rfl _ _ | exact ⟨by omega, by omega⟩ | assumption | exact bI_in _ | exact inI.mk (by omega) (by omega)) (fun c_2 => ?_) (fun c_2 => ?_)
  · refine ww_iload_n 2 dX3_told_19 rfl ?_
    refine ww_iconst dX3_told_20 ?_
    refine ww_icmp_ne 32 dX3_told_21 (by decide) (by first | exact hM.rd _ | exact hM.ri rfl _ _ | exact ⟨by omega, by omega⟩ | assumption | exact bI_in _ | exact inI.mk (by omega) (by omega)) (by first | exact hM.rd _ | exact hM.ri rfl _ _ | exact ⟨by omega, by omega⟩ | assumption | exact bI_in _ | exact inI.mk (by omega) (by omega)) (fun c_21 => ?_) (fun c_21 => ?_)
    · refine ww_iload_n 2 dX3_told_32 rfl ?_
      refine ww_iconst dX3_told_33 ?_
      refine ww_icmp_ne 45 dX3_told_34 (by decide) (by first | exact hM.rd _ | exact hM.ri rfl _ _ | exact ⟨by omega, by omega⟩ | assumption | exact bI_in _ | exact inI.mk (by omega) (by omega)) (by first | exact hM.rd _ | exact hM.ri rfl _ _ | exact ⟨by omega, by omega⟩ | assumption | exact bI_in _ | exact inI.mk (by omega) (by omega)) (fun c_34 => ?_) (fun c_34 => ?_)
      · refine ww_iload_n 2 dX3_told_45 rfl ?_
        refine ww_iconst dX3_told_46 ?_
        refine ww_icmp_ne 64 dX3_told_47 (by decide) (by first | exact hM.rd _ | exact hM.ri rfl _ _ | exact ⟨by omega, by omega⟩ | assumption | exact bI_in _ | exact inI.mk (by omega) (by omega)) (by first | exact hM.rd _ | exact hM.ri rfl _ _ | exact ⟨by omega, by omega⟩ | assumption | exact bI_in _ | exact inI.mk (by omega) (by omega)) (fun c_47 => ?_) (fun c_47 => ?_)
        · refine ww_aload_n 0 dX3_told_64 rfl ?_
          refine ww_iload_n 1 dX3_told_65 rfl ?_
          refine cr_si hM (cr_V (ct_X3_weightOf hG hM hl1 hl2 hn1 hn2 hpf _ (by omega) (by omega) (by have := htr k (by omega) (by omega); omega) (by have := htr k (by omega) (by omega); omega) hwt) sv_X3_265 rfl dX3_told_66 hM.obj rfl rfl rfl rfl ⟨by decide, by decide⟩ (Nat.le_of_ble_eq_true rfl) (Nat.le_of_ble_eq_true rfl) (Nat.le_of_ble_eq_true rfl)) (fun r_66 σ_66 hh hM hp_66 => ?_)
          obtain ⟨hk_66, rfl⟩ := hp_66
          exact ww_iret hQ dX3_told_69 rfl (Nat.le_of_ble_eq_true rfl) (Nat.le_of_ble_eq_true rfl) ⟨_, rfl, _, hM, fun j hj => by first | rfl | exact (hk_66 j hj).symm, by unfold dTo; first | rw [if_pos (by omega)] | rw [if_neg (by omega), if_pos (by omega)] | rw [if_neg (by omega), if_neg (by omega), if_pos (by omega)] | rw [if_neg (by omega), if_neg (by omega), if_neg (by omega), if_pos (by omega)] | rw [if_neg (by omega), if_neg (by omega), if_neg (by omega), if_neg (by omega)]⟩
        · refine ww_aload_n 0 dX3_told_50 rfl ?_
          refine ww_getf gf_X3_17 rfl dX3_told_51 hM.obj rfl ?_
          refine ww_iload_n 1 dX3_told_54 rfl ?_
          refine cr_pi (cr_S (ct_X3_at hG _) ss_X3_174 rfl dX3_told_55 rfl rfl ⟨by decide, by decide⟩ (Nat.le_of_ble_eq_true rfl) (Nat.le_of_ble_eq_true rfl) (Nat.le_of_ble_eq_true rfl)) ?_
          refine ww_iconst dX3_told_58 ?_
          refine ww_iadd dX3_told_59 ?_
          refine mw_ldD dX3_told_60 hM (by omega) (by omega) ?_
          refine ww_goto 69 dX3_told_61 (by decide) ?_
          exact ww_iret hQ dX3_told_69 rfl (Nat.le_of_ble_eq_true rfl) (Nat.le_of_ble_eq_true rfl) ⟨_, rfl, _, hM, fun j hj => by first | rfl | exact (hk_66 j hj).symm, by unfold dTo; first | rw [if_pos (by omega)] | rw [if_neg (by omega), if_pos (by omega)] | rw [if_neg (by omega), if_neg (by omega), if_pos (by omega)] | rw [if_neg (by omega), if_neg (by omega), if_neg (by omega), if_pos (by omega)] | rw [if_neg (by omega), if_neg (by omega), if_neg (by omega), if_neg (by omega)]⟩
      · refine ww_aload_n 0 dX3_told_37 rfl ?_
        refine ww_iload_n 1 dX3_told_38 rfl ?_
        refine cr_pi (cr_V (ct_X3_offersOf hG hM (by omega) (by omega) _ (by omega) (by omega)) sv_X3_246 rfl dX3_told_39 hM.obj rfl rfl rfl rfl ⟨by decide, by decide⟩ (Nat.le_of_ble_eq_true rfl) (Nat.le_of_ble_eq_true rfl) (Nat.le_of_ble_eq_true rfl)) ?_
        refine ww_goto 69 dX3_told_42 (by decide) ?_
        exact ww_iret hQ dX3_told_69 rfl (Nat.le_of_ble_eq_true rfl) (Nat.le_of_ble_eq_true rfl) ⟨_, rfl, _, hM, fun j hj => by first | rfl | exact (hk_66 j hj).symm, by unfold dTo; first | rw [if_pos (by omega)] | rw [if_neg (by omega), if_pos (by omega)] | rw [if_neg (by omega), if_neg (by omega), if_pos (by omega)] | rw [if_neg (by omega), if_neg (by omega), if_neg (by omega), if_pos (by omega)] | rw [if_neg (by omega), if_neg (by omega), if_neg (by omega), if_neg (by omega)]⟩
    · refine ww_aload_n 0 dX3_told_24 rfl ?_
      refine ww_iload_n 1 dX3_told_25 rfl ?_
      refine cr_pi (cr_V (ct_X3_rankOf hG hM (by omega) (by omega) _ (by omega) (by omega)) sv_X3_243 rfl dX3_told_26 hM.obj rfl rfl rfl rfl ⟨by decide, by decide⟩ (Nat.le_of_ble_eq_true rfl) (Nat.le_of_ble_eq_true rfl) (Nat.le_of_ble_eq_true rfl)) ?_
      refine ww_goto 69 dX3_told_29 (by decide) ?_
      exact ww_iret hQ dX3_told_69 rfl (Nat.le_of_ble_eq_true rfl) (Nat.le_of_ble_eq_true rfl) ⟨_, rfl, _, hM, fun j hj => by first | rfl | exact (hk_66 j hj).symm, by unfold dTo; first | rw [if_pos (by omega)] | rw [if_neg (by omega), if_pos (by omega)] | rw [if_neg (by omega), if_neg (by omega), if_pos (by omega)] | rw [if_neg (by omega), if_neg (by omega), if_neg (by omega), if_pos (by omega)] | rw [if_neg (by omega), if_neg (by omega), if_neg (by omega), if_neg (by omega)]⟩
  · refine ww_aload_n 0 dX3_told_5 rfl ?_
    refine ww_getf gf_X3_17 rfl dX3_told_6 hM.obj rfl ?_
    refine ww_iload_n 1 dX3_told_9 rfl ?_
    refine cr_pi (cr_S (ct_X3_at hG _) ss_X3_174 rfl dX3_told_10 rfl rfl ⟨by decide, by decide⟩ (Nat.le_of_ble_eq_true rfl) (Nat.le_of_ble_eq_true rfl) (Nat.le_of_ble_eq_true rfl)) ?_
    refine ww_iload_n 2 dX3_told_13 rfl ?_
    refine ww_iadd dX3_told_14 ?_
    refine mw_ldD dX3_told_15 hM (by omega) (by omega) ?_
    refine ww_goto 69 dX3_told_16 (by decide) ?_
    exact ww_iret hQ dX3_told_69 rfl (Nat.le_of_ble_eq_true rfl) (Nat.le_of_ble_eq_true rfl) ⟨_, rfl, _, hM, fun j hj => by first | rfl | exact (hk_66 j hj).symm, by unfold dTo; first | rw [if_pos (by omega)] | rw [if_neg (by omega), if_pos (by omega)] | rw [if_neg (by omega), if_neg (by omega), if_pos (by omega)] | rw [if_neg (by omega), if_neg (by omega), if_neg (by omega), if_pos (by omega)] | rw [if_neg (by omega), if_neg (by omega), if_neg (by omega), if_neg (by omega)]⟩

set_option maxHeartbeats 4000000 in
theorem ct_X3_library {G : GT} {h0 h : AH} {m : Nat} {A : Nat → Nat} {B : Nat → Int → Nat} {D : Int → Int} {σ : MS} (hG : GOK G) (hM : MWF G h0 h m A B D σ) {fn : EF} (hD : DOK D fn) (k w : Int) (hk : inI k) (hw : inI w) : CSi G (MX3_library 5 114 0 0) h m A B D [.ref m, .int (iI k), .int (iI w)] (fun r σ' => kp σ σ' ∧ (((0 ≤ k ∧ k < D 1) ∧ (0 ≤ w ∧ w ≤ 5) ∧ σ' 0 0 0 = 0 ∧ r = dTo D fn k w) ∨ (¬ (0 ≤ k ∧ k < D 1) ∧ σ' 0 0 0 = 1) ∨ ((0 ≤ k ∧ k < D 1) ∧ ¬ (0 ≤ w ∧ w ≤ 5) ∧ σ' 0 0 0 = 2))) := by
  refine CT.of rfl hG (Nat.le_of_ble_eq_true rfl) rfl (fun E hQ => ?_)
  have hM := hM.1.f
  have hD0 := hD
  obtain ⟨⟨hl1, hl2⟩, ⟨hn1, hn2⟩, ⟨hs1, hs2⟩, hpf, hpr, htr, hwt, hof⟩ := hD
  refine ww_aload_n 0 dX3_library_0 rfl ?_
  refine ww_iconst dX3_library_1 ?_
  refine mw_put pf_X3_59 rfl dX3_library_2 hM rfl (by first | exact hM.rd _ | exact hM.ri rfl _ _ | exact ⟨by omega, by omega⟩ | assumption | exact bI_in _ | exact inI.mk (by omega) (by omega)) (fun hh hM => ?_)
  refine ww_aload_n 0 dX3_library_5 rfl ?_
  refine ww_iload_n 1 dX3_library_6 rfl ?_
  refine cr_si hM (cr_V (ct_X3_noLibrary hG hM _ (by first | exact hM.rd _ | exact hM.ri rfl _ _ | exact ⟨by omega, by omega⟩ | assumption | exact bI_in _ | exact inI.mk (by omega) (by omega)) (by omega) (by omega) (by first | assumption | simp [su])) sv_X3_277 rfl dX3_library_7 hM.obj rfl rfl rfl rfl ⟨by decide, by decide⟩ (Nat.le_of_ble_eq_true rfl) (Nat.le_of_ble_eq_true rfl) (Nat.le_of_ble_eq_true rfl)) (fun r_7 σ_7 hh hM hp_7 => ?_)
  rcases hp_7 with ⟨c0_7, rfl, rfl⟩ | ⟨c0_7, rfl, rfl⟩
  · refine ww_if_ne 35 dX3_library_10 (by decide) (inI.mk (by decide) (by decide)) (fun c_10 => ?_) (fun c_10 => ?_)
    · exact absurd c_10 (by decide)
    · refine ww_aload_n 0 dX3_library_13 rfl ?_
      refine ww_iload_n 2 dX3_library_14 rfl ?_
      refine ww_iconst dX3_library_15 ?_
      refine ww_iconst dX3_library_16 ?_
      refine cr_pi (cr_S (ct_X3_in hG _ _ _ (by first | exact hM.rd _ | exact hM.ri rfl _ _ | exact ⟨by omega, by omega⟩ | assumption | exact bI_in _ | exact inI.mk (by omega) (by omega)) (by first | exact hM.rd _ | exact hM.ri rfl _ _ | exact ⟨by omega, by omega⟩ | assumption | exact bI_in _ | exact inI.mk (by omega) (by omega)) (by first | exact hM.rd _ | exact hM.ri rfl _ _ | exact ⟨by omega, by omega⟩ | assumption | exact bI_in _ | exact inI.mk (by omega) (by omega))) ss_X3_81 rfl dX3_library_17 rfl rfl ⟨by decide, by decide⟩ (Nat.le_of_ble_eq_true rfl) (Nat.le_of_ble_eq_true rfl) (Nat.le_of_ble_eq_true rfl)) ?_
      refine ww_ifb_ne 27 dX3_library_20 (by decide) (fun c_20 => ?_) (fun c_20 => ?_)
      · refine ww_iconst dX3_library_27 ?_
        refine ww_iconst dX3_library_28 ?_
        refine cr_si hM (cr_V (ct_X3_fails hG hM _ _ (by first | exact hM.rd _ | exact hM.ri rfl _ _ | exact ⟨by omega, by omega⟩ | assumption | exact bI_in _ | exact inI.mk (by omega) (by omega)) (by first | exact hM.rd _ | exact hM.ri rfl _ _ | exact ⟨by omega, by omega⟩ | assumption | exact bI_in _ | exact inI.mk (by omega) (by omega)) (by decide) (by first | assumption | simp [su] | omega)) sv_X3_216 rfl dX3_library_29 hM.obj rfl rfl rfl rfl ⟨by decide, by decide⟩ (Nat.le_of_ble_eq_true rfl) (Nat.le_of_ble_eq_true rfl) (Nat.le_of_ble_eq_true rfl)) (fun r_29 σ_29 hh hM hp_29 => ?_)
        rcases hp_29 with ⟨c0_29, rfl, rfl⟩ | ⟨c0_29, rfl, rfl⟩
        · refine ww_if_eq 39 dX3_library_32 (by decide) (inI.mk (by decide) (by decide)) (fun c_32 => ?_) (fun c_32 => ?_)
          · refine ww_aload_n 0 dX3_library_39 rfl ?_
            refine ww_iload_n 1 dX3_library_40 rfl ?_
            refine ww_iload_n 2 dX3_library_41 rfl ?_
            refine cr_si hM (cr_V (ct_X3_told hG hM hD0 _ _ (by omega) (by omega) (by omega) (by omega)) sv_X3_283 rfl dX3_library_42 hM.obj rfl rfl rfl rfl ⟨by decide, by decide⟩ (Nat.le_of_ble_eq_true rfl) (Nat.le_of_ble_eq_true rfl) (Nat.le_of_ble_eq_true rfl)) (fun r_42 σ_42 hh hM hp_42 => ?_)
            obtain ⟨hk_42, rfl⟩ := hp_42
            exact ww_iret hQ dX3_library_45 rfl (Nat.le_of_ble_eq_true rfl) (Nat.le_of_ble_eq_true rfl) ⟨_, rfl, _, hM, by first | (refine ⟨?_, ?_, ?_, ?_, ?_⟩ <;> simp [su_off, ← hk_42]; done) | (refine ⟨?_, ?_, ?_, ?_, ?_⟩ <;> simp [su_off]), by first | (exfalso; omega) | exact Or.inl ⟨by omega, by omega, by simp [su, ← hk_42], rfl⟩ | exact Or.inr (Or.inl ⟨by omega, by simp [su]⟩) | exact Or.inr (Or.inr ⟨by omega, by omega, by simp [su]⟩)⟩
          · exact absurd c_32 (by decide)
        · refine ww_if_eq 39 dX3_library_32 (by decide) (inI.mk (by decide) (by decide)) (fun c_32 => ?_) (fun c_32 => ?_)
          · exact absurd c_32 (by decide)
          · refine ww_iconst dX3_library_35 ?_
            refine ww_goto 45 dX3_library_36 (by decide) ?_
            exact ww_iret hQ dX3_library_45 rfl (Nat.le_of_ble_eq_true rfl) (Nat.le_of_ble_eq_true rfl) ⟨_, rfl, _, hM, by first | (refine ⟨?_, ?_, ?_, ?_, ?_⟩ <;> simp [su_off, ← hk_42]; done) | (refine ⟨?_, ?_, ?_, ?_, ?_⟩ <;> simp [su_off]), by first | (exfalso; omega) | exact Or.inl ⟨by omega, by omega, by simp [su, ← hk_42], rfl⟩ | exact Or.inr (Or.inl ⟨by omega, by simp [su]⟩) | exact Or.inr (Or.inr ⟨by omega, by omega, by simp [su]⟩)⟩
      · refine ww_iconst dX3_library_23 ?_
        refine ww_goto 28 dX3_library_24 (by decide) ?_
        refine ww_iconst dX3_library_28 ?_
        refine cr_si hM (cr_V (ct_X3_fails hG hM _ _ (by first | exact hM.rd _ | exact hM.ri rfl _ _ | exact ⟨by omega, by omega⟩ | assumption | exact bI_in _ | exact inI.mk (by omega) (by omega)) (by first | exact hM.rd _ | exact hM.ri rfl _ _ | exact ⟨by omega, by omega⟩ | assumption | exact bI_in _ | exact inI.mk (by omega) (by omega)) (by decide) (by first | assumption | simp [su] | omega)) sv_X3_216 rfl dX3_library_29 hM.obj rfl rfl rfl rfl ⟨by decide, by decide⟩ (Nat.le_of_ble_eq_true rfl) (Nat.le_of_ble_eq_true rfl) (Nat.le_of_ble_eq_true rfl)) (fun r_29 σ_29 hh hM hp_29 => ?_)
        rcases hp_29 with ⟨c0_29, rfl, rfl⟩ | ⟨c0_29, rfl, rfl⟩
        · refine ww_if_eq 39 dX3_library_32 (by decide) (inI.mk (by decide) (by decide)) (fun c_32 => ?_) (fun c_32 => ?_)
          · refine ww_aload_n 0 dX3_library_39 rfl ?_
            refine ww_iload_n 1 dX3_library_40 rfl ?_
            refine ww_iload_n 2 dX3_library_41 rfl ?_
            refine cr_si hM (cr_V (ct_X3_told hG hM hD0 _ _ (by omega) (by omega) (by omega) (by omega)) sv_X3_283 rfl dX3_library_42 hM.obj rfl rfl rfl rfl ⟨by decide, by decide⟩ (Nat.le_of_ble_eq_true rfl) (Nat.le_of_ble_eq_true rfl) (Nat.le_of_ble_eq_true rfl)) (fun r_42 σ_42 hh hM hp_42 => ?_)
            obtain ⟨hk_42, rfl⟩ := hp_42
            exact ww_iret hQ dX3_library_45 rfl (Nat.le_of_ble_eq_true rfl) (Nat.le_of_ble_eq_true rfl) ⟨_, rfl, _, hM, by first | (refine ⟨?_, ?_, ?_, ?_, ?_⟩ <;> simp [su_off, ← hk_42]; done) | (refine ⟨?_, ?_, ?_, ?_, ?_⟩ <;> simp [su_off]), by first | (exfalso; omega) | exact Or.inl ⟨by omega, by omega, by simp [su, ← hk_42], rfl⟩ | exact Or.inr (Or.inl ⟨by omega, by simp [su]⟩) | exact Or.inr (Or.inr ⟨by omega, by omega, by simp [su]⟩)⟩
          · exact absurd c_32 (by decide)
        · refine ww_if_eq 39 dX3_library_32 (by decide) (inI.mk (by decide) (by decide)) (fun c_32 => ?_) (fun c_32 => ?_)
          · exact absurd c_32 (by decide)
          · refine ww_iconst dX3_library_35 ?_
            refine ww_goto 45 dX3_library_36 (by decide) ?_
            exact ww_iret hQ dX3_library_45 rfl (Nat.le_of_ble_eq_true rfl) (Nat.le_of_ble_eq_true rfl) ⟨_, rfl, _, hM, by first | (refine ⟨?_, ?_, ?_, ?_, ?_⟩ <;> simp [su_off, ← hk_42]; done) | (refine ⟨?_, ?_, ?_, ?_, ?_⟩ <;> simp [su_off]), by first | (exfalso; omega) | exact Or.inl ⟨by omega, by omega, by simp [su, ← hk_42], rfl⟩ | exact Or.inr (Or.inl ⟨by omega, by simp [su]⟩) | exact Or.inr (Or.inr ⟨by omega, by omega, by simp [su]⟩)⟩
  · refine ww_if_ne 35 dX3_library_10 (by decide) (inI.mk (by decide) (by decide)) (fun c_10 => ?_) (fun c_10 => ?_)
    · refine ww_iconst dX3_library_35 ?_
      refine ww_goto 45 dX3_library_36 (by decide) ?_
      exact ww_iret hQ dX3_library_45 rfl (Nat.le_of_ble_eq_true rfl) (Nat.le_of_ble_eq_true rfl) ⟨_, rfl, _, hM, by first | (refine ⟨?_, ?_, ?_, ?_, ?_⟩ <;> simp [su_off, ← hk_42]; done) | (refine ⟨?_, ?_, ?_, ?_, ?_⟩ <;> simp [su_off]), by first | (exfalso; omega) | exact Or.inl ⟨by omega, by omega, by simp [su, ← hk_42], rfl⟩ | exact Or.inr (Or.inl ⟨by omega, by simp [su]⟩) | exact Or.inr (Or.inr ⟨by omega, by omega, by simp [su]⟩)⟩
    · exact absurd c_10 (by decide)

set_option maxHeartbeats 4000000 in
theorem ct_X3_offer {G : GT} {h0 h : AH} {m : Nat} {A : Nat → Nat} {B : Nat → Int → Nat} {D : Int → Int} {σ : MS} (hG : GOK G) (hM : MWF G h0 h m A B D σ) {fn : EF} (hD : DOK D fn) (k n : Int) (hk : inI k) (hn : inI n) : CSi G (MX3_offer 2 43 0 0) h m A B D [.ref m, .int (iI k), .int (iI n)] (fun r σ' => kp σ σ' ∧ (((0 ≤ k ∧ k < D 1 ∧ 0 ≤ n ∧ n < D 2) ∧ σ' 0 0 0 = 0 ∧ r = D (6 + 24 * k + 12 + n)) ∨ (¬ (0 ≤ k ∧ k < D 1 ∧ 0 ≤ n ∧ n < D 2) ∧ σ' 0 0 0 = 1))) := by
  refine CT.of rfl hG (Nat.le_of_ble_eq_true rfl) rfl (fun E hQ => ?_)
  have hM := hM.1.f
  have hD0 := hD
  obtain ⟨⟨hl1, hl2⟩, ⟨hn1, hn2⟩, ⟨hs1, hs2⟩, hpf, hpr, htr, hwt, hof⟩ := hD
  refine ww_aload_n 0 dX3_offer_0 rfl ?_
  refine ww_iconst dX3_offer_1 ?_
  refine mw_put pf_X3_59 rfl dX3_offer_2 hM rfl (by first | exact hM.rd _ | exact hM.ri rfl _ _ | exact ⟨by omega, by omega⟩ | assumption | exact bI_in _ | exact inI.mk (by omega) (by omega)) (fun hh hM => ?_)
  refine ww_aload_n 0 dX3_offer_5 rfl ?_
  refine ww_iload_n 1 dX3_offer_6 rfl ?_
  refine cr_si hM (cr_V (ct_X3_noLibrary hG hM _ (by first | exact hM.rd _ | exact hM.ri rfl _ _ | exact ⟨by omega, by omega⟩ | assumption | exact bI_in _ | exact inI.mk (by omega) (by omega)) (by omega) (by omega) (by first | assumption | simp [su])) sv_X3_277 rfl dX3_offer_7 hM.obj rfl rfl rfl rfl ⟨by decide, by decide⟩ (Nat.le_of_ble_eq_true rfl) (Nat.le_of_ble_eq_true rfl) (Nat.le_of_ble_eq_true rfl)) (fun r_7 σ_7 hh hM hp_7 => ?_)
  rcases hp_7 with ⟨c0_7, rfl, rfl⟩ | ⟨c0_7, rfl, rfl⟩
  · refine ww_if_ne 21 dX3_offer_10 (by decide) (inI.mk (by decide) (by decide)) (fun c_10 => ?_) (fun c_10 => ?_)
    · exact absurd c_10 (by decide)
    · refine ww_aload_n 0 dX3_offer_13 rfl ?_
      refine ww_iload_n 2 dX3_offer_14 rfl ?_
      refine cr_si hM (cr_V (ct_X3_noName hG hM _ (by first | exact hM.rd _ | exact hM.ri rfl _ _ | exact ⟨by omega, by omega⟩ | assumption | exact bI_in _ | exact inI.mk (by omega) (by omega)) (by omega) (by omega) (by first | assumption | simp [su])) sv_X3_280 rfl dX3_offer_15 hM.obj rfl rfl rfl rfl ⟨by decide, by decide⟩ (Nat.le_of_ble_eq_true rfl) (Nat.le_of_ble_eq_true rfl) (Nat.le_of_ble_eq_true rfl)) (fun r_15 σ_15 hh hM hp_15 => ?_)
      rcases hp_15 with ⟨c0_15, rfl, rfl⟩ | ⟨c0_15, rfl, rfl⟩
      · refine ww_if_eq 25 dX3_offer_18 (by decide) (inI.mk (by decide) (by decide)) (fun c_18 => ?_) (fun c_18 => ?_)
        · refine ww_aload_n 0 dX3_offer_25 rfl ?_
          refine ww_getf gf_X3_17 rfl dX3_offer_26 hM.obj rfl ?_
          refine ww_iload_n 1 dX3_offer_29 rfl ?_
          refine cr_pi (cr_S (ct_X3_at hG _) ss_X3_174 rfl dX3_offer_30 rfl rfl ⟨by decide, by decide⟩ (Nat.le_of_ble_eq_true rfl) (Nat.le_of_ble_eq_true rfl) (Nat.le_of_ble_eq_true rfl)) ?_
          refine ww_bipush dX3_offer_33 (by decide) ?_
          refine ww_iadd dX3_offer_35 ?_
          refine ww_iload_n 2 dX3_offer_36 rfl ?_
          refine ww_iadd dX3_offer_37 ?_
          refine mw_ldD dX3_offer_38 hM (by omega) (by omega) ?_
          exact ww_iret hQ dX3_offer_39 rfl (Nat.le_of_ble_eq_true rfl) (Nat.le_of_ble_eq_true rfl) (by first | exact ⟨_, rfl, _, hM, by refine ⟨?_, ?_, ?_, ?_, ?_⟩ <;> simp [su_off], Or.inl ⟨(by omega), by simp [su], rfl⟩⟩ | exact ⟨_, rfl, _, hM, by refine ⟨?_, ?_, ?_, ?_, ?_⟩ <;> simp [su_off], Or.inr ⟨by omega, by simp [su]⟩⟩)
        · exact absurd c_18 (by decide)
      · refine ww_if_eq 25 dX3_offer_18 (by decide) (inI.mk (by decide) (by decide)) (fun c_18 => ?_) (fun c_18 => ?_)
        · exact absurd c_18 (by decide)
        · refine ww_iconst dX3_offer_21 ?_
          refine ww_goto 39 dX3_offer_22 (by decide) ?_
          exact ww_iret hQ dX3_offer_39 rfl (Nat.le_of_ble_eq_true rfl) (Nat.le_of_ble_eq_true rfl) (by first | exact ⟨_, rfl, _, hM, by refine ⟨?_, ?_, ?_, ?_, ?_⟩ <;> simp [su_off], Or.inl ⟨(by omega), by simp [su], rfl⟩⟩ | exact ⟨_, rfl, _, hM, by refine ⟨?_, ?_, ?_, ?_, ?_⟩ <;> simp [su_off], Or.inr ⟨by omega, by simp [su]⟩⟩)
  · refine ww_if_ne 21 dX3_offer_10 (by decide) (inI.mk (by decide) (by decide)) (fun c_10 => ?_) (fun c_10 => ?_)
    · refine ww_iconst dX3_offer_21 ?_
      refine ww_goto 39 dX3_offer_22 (by decide) ?_
      exact ww_iret hQ dX3_offer_39 rfl (Nat.le_of_ble_eq_true rfl) (Nat.le_of_ble_eq_true rfl) (by first | exact ⟨_, rfl, _, hM, by refine ⟨?_, ?_, ?_, ?_, ?_⟩ <;> simp [su_off], Or.inl ⟨(by omega), by simp [su], rfl⟩⟩ | exact ⟨_, rfl, _, hM, by refine ⟨?_, ?_, ?_, ?_, ?_⟩ <;> simp [su_off], Or.inr ⟨by omega, by simp [su]⟩⟩)
    · exact absurd c_10 (by decide)

set_option maxHeartbeats 4000000 in
theorem ct_X3_vote {G : GT} {h0 h : AH} {m : Nat} {A : Nat → Nat} {B : Nat → Int → Nat} {D : Int → Int} {σ : MS} (hG : GOK G) (hM : MWF G h0 h m A B D σ) {fn : EF} (hD : DOK D fn) (k n : Int) (hk : inI k) (hn : inI n) : CSi G (MX3_vote 4 87 0 0) h m A B D [.ref m, .int (iI k), .int (iI n)] (fun r σ' => kp σ σ' ∧ (((0 ≤ k ∧ k < D 1 ∧ 0 ≤ n ∧ n < D 2) ∧ σ' 0 0 0 = 0 ∧ r = dVt D k n) ∨ (¬ (0 ≤ k ∧ k < D 1 ∧ 0 ≤ n ∧ n < D 2) ∧ σ' 0 0 0 = 1))) := by
  refine CT.of rfl hG (Nat.le_of_ble_eq_true rfl) rfl (fun E hQ => ?_)
  have hM := hM.1.f
  have hD0 := hD
  obtain ⟨⟨hl1, hl2⟩, ⟨hn1, hn2⟩, ⟨hs1, hs2⟩, hpf, hpr, htr, hwt, hof⟩ := hD
  refine ww_aload_n 0 dX3_vote_0 rfl ?_
  refine ww_iconst dX3_vote_1 ?_
  refine mw_put pf_X3_59 rfl dX3_vote_2 hM rfl (by first | exact hM.rd _ | exact hM.ri rfl _ _ | exact ⟨by omega, by omega⟩ | assumption | exact bI_in _ | exact inI.mk (by omega) (by omega)) (fun hh hM => ?_)
  refine ww_aload_n 0 dX3_vote_5 rfl ?_
  refine ww_iload_n 1 dX3_vote_6 rfl ?_
  refine cr_si hM (cr_V (ct_X3_noLibrary hG hM _ (by first | exact hM.rd _ | exact hM.ri rfl _ _ | exact ⟨by omega, by omega⟩ | assumption | exact bI_in _ | exact inI.mk (by omega) (by omega)) (by omega) (by omega) (by first | assumption | simp [su])) sv_X3_277 rfl dX3_vote_7 hM.obj rfl rfl rfl rfl ⟨by decide, by decide⟩ (Nat.le_of_ble_eq_true rfl) (Nat.le_of_ble_eq_true rfl) (Nat.le_of_ble_eq_true rfl)) (fun r_7 σ_7 hh hM hp_7 => ?_)
  rcases hp_7 with ⟨c0_7, rfl, rfl⟩ | ⟨c0_7, rfl, rfl⟩
  · refine ww_if_ne 21 dX3_vote_10 (by decide) (inI.mk (by decide) (by decide)) (fun c_10 => ?_) (fun c_10 => ?_)
    · exact absurd c_10 (by decide)
    · refine ww_aload_n 0 dX3_vote_13 rfl ?_
      refine ww_iload_n 2 dX3_vote_14 rfl ?_
      refine cr_si hM (cr_V (ct_X3_noName hG hM _ (by first | exact hM.rd _ | exact hM.ri rfl _ _ | exact ⟨by omega, by omega⟩ | assumption | exact bI_in _ | exact inI.mk (by omega) (by omega)) (by omega) (by omega) (by first | assumption | simp [su])) sv_X3_280 rfl dX3_vote_15 hM.obj rfl rfl rfl rfl ⟨by decide, by decide⟩ (Nat.le_of_ble_eq_true rfl) (Nat.le_of_ble_eq_true rfl) (Nat.le_of_ble_eq_true rfl)) (fun r_15 σ_15 hh hM hp_15 => ?_)
      rcases hp_15 with ⟨c0_15, rfl, rfl⟩ | ⟨c0_15, rfl, rfl⟩
      · refine ww_if_eq 25 dX3_vote_18 (by decide) (inI.mk (by decide) (by decide)) (fun c_18 => ?_) (fun c_18 => ?_)
        · refine ww_aload_n 0 dX3_vote_25 rfl ?_
          refine ww_iload_n 1 dX3_vote_26 rfl ?_
          refine ww_iload_n 2 dX3_vote_27 rfl ?_
          refine cr_pi (cr_V (ct_X3_voteOf hG hM hpf (fun k i a b c d => by have := hpr k i a b c d; omega) _ _ (by omega) (by omega) (by omega) (by omega)) sv_X3_262 rfl dX3_vote_28 hM.obj rfl rfl rfl rfl ⟨by decide, by decide⟩ (Nat.le_of_ble_eq_true rfl) (Nat.le_of_ble_eq_true rfl) (Nat.le_of_ble_eq_true rfl)) ?_
          exact ww_iret hQ dX3_vote_31 rfl (Nat.le_of_ble_eq_true rfl) (Nat.le_of_ble_eq_true rfl) (by first | exact ⟨_, rfl, _, hM, by refine ⟨?_, ?_, ?_, ?_, ?_⟩ <;> simp [su_off], Or.inl ⟨(by omega), by simp [su], rfl⟩⟩ | exact ⟨_, rfl, _, hM, by refine ⟨?_, ?_, ?_, ?_, ?_⟩ <;> simp [su_off], Or.inr ⟨by omega, by simp [su]⟩⟩)
        · exact absurd c_18 (by decide)
      · refine ww_if_eq 25 dX3_vote_18 (by decide) (inI.mk (by decide) (by decide)) (fun c_18 => ?_) (fun c_18 => ?_)
        · exact absurd c_18 (by decide)
        · refine ww_iconst dX3_vote_21 ?_
          refine ww_goto 31 dX3_vote_22 (by decide) ?_
          exact ww_iret hQ dX3_vote_31 rfl (Nat.le_of_ble_eq_true rfl) (Nat.le_of_ble_eq_true rfl) (by first | exact ⟨_, rfl, _, hM, by refine ⟨?_, ?_, ?_, ?_, ?_⟩ <;> simp [su_off], Or.inl ⟨(by omega), by simp [su], rfl⟩⟩ | exact ⟨_, rfl, _, hM, by refine ⟨?_, ?_, ?_, ?_, ?_⟩ <;> simp [su_off], Or.inr ⟨by omega, by simp [su]⟩⟩)
  · refine ww_if_ne 21 dX3_vote_10 (by decide) (inI.mk (by decide) (by decide)) (fun c_10 => ?_) (fun c_10 => ?_)
    · refine ww_iconst dX3_vote_21 ?_
      refine ww_goto 31 dX3_vote_22 (by decide) ?_
      exact ww_iret hQ dX3_vote_31 rfl (Nat.le_of_ble_eq_true rfl) (Nat.le_of_ble_eq_true rfl) (by first | exact ⟨_, rfl, _, hM, by refine ⟨?_, ?_, ?_, ?_, ?_⟩ <;> simp [su_off], Or.inl ⟨(by omega), by simp [su], rfl⟩⟩ | exact ⟨_, rfl, _, hM, by refine ⟨?_, ?_, ?_, ?_, ?_⟩ <;> simp [su_off], Or.inr ⟨by omega, by simp [su]⟩⟩)
    · exact absurd c_10 (by decide)

set_option maxHeartbeats 4000000 in
theorem ct_X3_candidates {G : GT} {h0 h : AH} {m : Nat} {A : Nat → Nat} {B : Nat → Int → Nat} {D : Int → Int} {σ : MS} (hG : GOK G) (hM : MWF G h0 h m A B D σ) {fn : EF} (hD : DOK D fn) (n : Int) (hn : inI n) : CSi G (MX3_candidates 3 63 0 0) h m A B D [.ref m, .int (iI n)] (fun r σ' => kp σ σ' ∧ (((0 ≤ n ∧ n < D 2) ∧ σ' 0 0 0 = 0 ∧ r = smI (D 1) (fun k => bI (D (6 + 24 * k + 2) > 0 ∧ D (6 + 24 * k + 12 + n) ≠ -1))) ∨ (¬ (0 ≤ n ∧ n < D 2) ∧ σ' 0 0 0 = 1))) := by
  refine CT.of rfl hG (Nat.le_of_ble_eq_true rfl) rfl (fun E hQ => ?_)
  have hM := hM.1.f
  have hD0 := hD
  obtain ⟨⟨hl1, hl2⟩, ⟨hn1, hn2⟩, ⟨hs1, hs2⟩, hpf, hpr, htr, hwt, hof⟩ := hD
  refine ww_aload_n 0 dX3_candidates_0 rfl ?_
  refine ww_iconst dX3_candidates_1 ?_
  refine mw_put pf_X3_59 rfl dX3_candidates_2 hM rfl (by first | exact hM.rd _ | exact hM.ri rfl _ _ | exact ⟨by omega, by omega⟩ | assumption | exact bI_in _ | exact inI.mk (by omega) (by omega)) (fun hh hM => ?_)
  refine ww_aload_n 0 dX3_candidates_5 rfl ?_
  refine ww_iload_n 1 dX3_candidates_6 rfl ?_
  refine cr_si hM (cr_V (ct_X3_noName hG hM _ (by first | exact hM.rd _ | exact hM.ri rfl _ _ | exact ⟨by omega, by omega⟩ | assumption | exact bI_in _ | exact inI.mk (by omega) (by omega)) (by omega) (by omega) (by first | assumption | simp [su])) sv_X3_280 rfl dX3_candidates_7 hM.obj rfl rfl rfl rfl ⟨by decide, by decide⟩ (Nat.le_of_ble_eq_true rfl) (Nat.le_of_ble_eq_true rfl) (Nat.le_of_ble_eq_true rfl)) (fun r_7 σ_7 hh hM hp_7 => ?_)
  rcases hp_7 with ⟨c0_7, rfl, rfl⟩ | ⟨c0_7, rfl, rfl⟩
  · refine ww_if_eq 15 dX3_candidates_10 (by decide) (inI.mk (by decide) (by decide)) (fun c_10 => ?_) (fun c_10 => ?_)
    · refine ww_iconst dX3_candidates_15 ?_
      refine ww_istore_n [(2, _), (0, _), (1, _)] dX3_candidates_16 (by decide) rfl ?_
      refine ww_iconst dX3_candidates_17 ?_
      refine ww_istore_n [(3, _), (2, _), (0, _), (1, _)] dX3_candidates_18 (by decide) rfl ?_
      have loop_19 : ∀ (f : Nat) (i acc : Int), (0 ≤ i) → (i ≤ D 1) → (acc = smI i (fun k => bI (D (6 + 24 * k + 2) > 0 ∧ D (6 + 24 * k + 12 + n) ≠ -1))) → (D 1 - i < f) → WW G E (MX3_candidates 3 63 0 0) hh 0 0 19 [(3, .int (iI i)), (2, .int (iI acc)), (0, .ref m), (1, .int (iI n))] [] := by
        intro f
        induction f with
        | zero => intro i acc hi0 hi1 hacc hf; exact absurd hf (by omega)
        | succ f ih =>
          intro i acc hi0 hi1 hacc hf
          have hie : ¬ i < D 1 → i = D 1 := by omega
          refine ww_iload_n 0 dX3_candidates_19 rfl ?_
          refine ww_aload_n 2 dX3_candidates_20 rfl ?_
          refine ww_getf gf_X3_17 rfl dX3_candidates_21 hM.obj rfl ?_
          refine ww_iconst dX3_candidates_24 ?_
          refine mw_ldD dX3_candidates_25 hM (by omega) (by omega) ?_
          refine ww_icmp_ge 52 dX3_candidates_26 (by decide) (by first | exact hM.rd _ | exact hM.ri rfl _ _ | exact ⟨by omega, by omega⟩ | assumption | exact bI_in _ | exact inI.mk (by omega) (by omega)) (by first | exact hM.rd _ | exact hM.ri rfl _ _ | exact ⟨by omega, by omega⟩ | assumption | exact bI_in _ | exact inI.mk (by omega) (by omega)) (fun c_26 => ?_) (fun c_26 => ?_)
          · refine ww_iload_n 1 dX3_candidates_52 rfl ?_
            exact ww_iret hQ dX3_candidates_53 rfl (Nat.le_of_ble_eq_true rfl) (Nat.le_of_ble_eq_true rfl) ⟨_, rfl, _, hM, by refine ⟨?_, ?_, ?_, ?_, ?_⟩ <;> simp [su_off], Or.inl ⟨(by omega), by simp [su], by rw [hacc, hie (by omega)]⟩⟩
          · refine ww_iload_n 1 dX3_candidates_29 rfl ?_
            refine ww_aload_n 2 dX3_candidates_30 rfl ?_
            refine ww_iload_n 0 dX3_candidates_31 rfl ?_
            refine ww_iload_n 3 dX3_candidates_32 rfl ?_
            refine cr_pi (cr_V (ct_X3_isCandidate hG hM _ _ (by omega) (by omega) (by omega) (by omega)) sv_X3_258 rfl dX3_candidates_33 hM.obj rfl rfl rfl rfl ⟨by decide, by decide⟩ (Nat.le_of_ble_eq_true rfl) (Nat.le_of_ble_eq_true rfl) (Nat.le_of_ble_eq_true rfl)) ?_
            refine ww_ifb_eq 43 dX3_candidates_36 (by decide) (fun c_36 => ?_) (fun c_36 => ?_)
            · refine ww_iconst dX3_candidates_43 ?_
              refine ww_iadd dX3_candidates_44 ?_
              refine ww_istore_n [(2, _), (3, _), (0, _), (1, _)] dX3_candidates_45 (by decide) rfl ?_
              refine ww_iinc (j := 1) [(3, _), (2, _), (0, _), (1, _)] dX3_candidates_46 rfl (by decide) rfl ?_
              refine ww_goto 19 dX3_candidates_49 (by decide) ?_
              refine ww_sub [0, 1, 2, 3] rfl ?_
              exact ih (i + 1) _ (by omega) (by omega) (smI_step hi0 hacc (by first | exact (bI_t (by first | assumption | omega | (constructor <;> assumption))).symm | exact (bI_f (by first | assumption | omega | (rintro ⟨h1, h2⟩; first | exact absurd h1 (by assumption) | exact absurd h2 (by assumption)))).symm)) (by omega)
            · refine ww_iconst dX3_candidates_39 ?_
              refine ww_goto 44 dX3_candidates_40 (by decide) ?_
              refine ww_iadd dX3_candidates_44 ?_
              refine ww_istore_n [(2, _), (3, _), (0, _), (1, _)] dX3_candidates_45 (by decide) rfl ?_
              refine ww_iinc (j := 1) [(3, _), (2, _), (0, _), (1, _)] dX3_candidates_46 rfl (by decide) rfl ?_
              refine ww_goto 19 dX3_candidates_49 (by decide) ?_
              refine ww_sub [0, 1, 2, 3] rfl ?_
              exact ih (i + 1) _ (by omega) (by omega) (smI_step hi0 hacc (by first | exact (bI_t (by first | assumption | omega | (constructor <;> assumption))).symm | exact (bI_f (by first | assumption | omega | (rintro ⟨h1, h2⟩; first | exact absurd h1 (by assumption) | exact absurd h2 (by assumption)))).symm)) (by omega)
      refine ww_sub [0, 1, 2, 3] rfl ?_
      exact loop_19 ((D 1).toNat + 1) 0 0 (by omega) (by omega) rfl (by omega)
    · exact absurd c_10 (by decide)
  · refine ww_if_eq 15 dX3_candidates_10 (by decide) (inI.mk (by decide) (by decide)) (fun c_10 => ?_) (fun c_10 => ?_)
    · exact absurd c_10 (by decide)
    · refine ww_iconst dX3_candidates_13 ?_
      exact ww_iret hQ dX3_candidates_14 rfl (Nat.le_of_ble_eq_true rfl) (Nat.le_of_ble_eq_true rfl) ⟨_, rfl, _, hM, by refine ⟨?_, ?_, ?_, ?_, ?_⟩ <;> simp [su_off], Or.inr ⟨by omega, by simp [su]⟩⟩

set_option maxHeartbeats 4000000 in
theorem ct_X3_support {G : GT} {h0 h : AH} {m : Nat} {A : Nat → Nat} {B : Nat → Int → Nat} {D : Int → Int} {σ : MS} (hG : GOK G) (hM : MWF G h0 h m A B D σ) {fn : EF} (hD : DOK D fn) (k n : Int) (hk : inI k) (hn : inI n) : CSi G (MX3_support 7 156 0 0) h m A B D [.ref m, .int (iI k), .int (iI n)] (fun r σ' => kp σ σ' ∧ (((0 ≤ k ∧ k < D 1 ∧ 0 ≤ n ∧ n < D 2) ∧ σ' 0 0 0 = 0 ∧ r = (if dCd D k n = true then xSp D fn k n else -1)) ∨ (¬ (0 ≤ k ∧ k < D 1 ∧ 0 ≤ n ∧ n < D 2) ∧ σ' 0 0 0 = 1))) := by
  refine CT.of rfl hG (Nat.le_of_ble_eq_true rfl) rfl (fun E hQ => ?_)
  have hM := hM.1.f
  have hD0 := hD
  obtain ⟨⟨hl1, hl2⟩, ⟨hn1, hn2⟩, ⟨hs1, hs2⟩, hpf, hpr, htr, hwt, hof⟩ := hD
  refine ww_aload_n 0 dX3_support_0 rfl ?_
  refine ww_iconst dX3_support_1 ?_
  refine mw_put pf_X3_59 rfl dX3_support_2 hM rfl (by first | exact hM.rd _ | exact hM.ri rfl _ _ | exact ⟨by omega, by omega⟩ | assumption | exact bI_in _ | exact inI.mk (by omega) (by omega)) (fun hh hM => ?_)
  refine ww_aload_n 0 dX3_support_5 rfl ?_
  refine ww_iload_n 1 dX3_support_6 rfl ?_
  refine ww_iload_n 2 dX3_support_7 rfl ?_
  refine cr_si hM (cr_V (ct_X3_isMissing hG hM hD0 _ _ (by first | exact hM.rd _ | exact hM.ri rfl _ _ | exact ⟨by omega, by omega⟩ | assumption | exact bI_in _ | exact inI.mk (by omega) (by omega)) (by first | exact hM.rd _ | exact hM.ri rfl _ _ | exact ⟨by omega, by omega⟩ | assumption | exact bI_in _ | exact inI.mk (by omega) (by omega)) (by first | assumption | simp [su])) sv_X3_286 rfl dX3_support_8 hM.obj rfl rfl rfl rfl ⟨by decide, by decide⟩ (Nat.le_of_ble_eq_true rfl) (Nat.le_of_ble_eq_true rfl) (Nat.le_of_ble_eq_true rfl)) (fun r_8 σ_8 hh hM hp_8 => ?_)
  rcases hp_8 with ⟨c0_8, ⟨hk_8, hL_8⟩, rfl⟩ | ⟨c0_8, rfl, rfl⟩
  · refine ww_if_eq 18 dX3_support_11 (by decide) (inI.mk (by decide) (by decide)) (fun c_11 => ?_) (fun c_11 => ?_)
    · refine ww_aload_n 0 dX3_support_18 rfl ?_
      refine ww_iload_n 1 dX3_support_19 rfl ?_
      refine ww_iload_n 2 dX3_support_20 rfl ?_
      refine cr_pi (cr_V (ct_X3_isCandidate hG hM _ _ (by omega) (by omega) (by omega) (by omega)) sv_X3_258 rfl dX3_support_21 hM.obj rfl rfl rfl rfl ⟨by decide, by decide⟩ (Nat.le_of_ble_eq_true rfl) (Nat.le_of_ble_eq_true rfl) (Nat.le_of_ble_eq_true rfl)) ?_
      refine ww_ifb_eq 38 dX3_support_24 (by decide) (fun c_24 => ?_) (fun c_24 => ?_)
      · refine ww_iconst dX3_support_38 ?_
        exact ww_iret hQ dX3_support_39 rfl (Nat.le_of_ble_eq_true rfl) (Nat.le_of_ble_eq_true rfl) (by first | exact ⟨_, rfl, _, hM, by refine ⟨?_, ?_, ?_, ?_, ?_⟩ <;> simp [su_off, hk_8], Or.inl ⟨(by omega), by simp [su, hk_8], by rw [if_pos (by simp only [dCd, decide_eq_true_eq]; assumption)]; exact ((hL_8.2 n (by omega) (by omega)).2 k (by omega) (by omega)).1⟩⟩ | exact ⟨_, rfl, _, hM, by refine ⟨?_, ?_, ?_, ?_, ?_⟩ <;> simp [su_off, hk_8], Or.inl ⟨(by omega), by simp [su, hk_8], by rw [if_neg (by simp only [dCd, decide_eq_true_eq]; assumption)]⟩⟩ | exact ⟨_, rfl, _, hM, by refine ⟨?_, ?_, ?_, ?_, ?_⟩ <;> simp [su_off], Or.inr ⟨by omega, by simp [su]⟩⟩)
      · refine ww_aload_n 0 dX3_support_27 rfl ?_
        refine ww_getf gf_X3_47 rfl dX3_support_28 hM.obj rfl ?_
        refine ww_iload_n 1 dX3_support_31 rfl ?_
        refine mw_gld dX3_support_32 hM rfl (by omega) (by omega) ?_
        refine ww_iload_n 2 dX3_support_33 rfl ?_
        refine mw_rld dX3_support_34 hM rfl (by omega) (by omega) (by omega) (by omega) ?_
        refine ww_goto 39 dX3_support_35 (by decide) ?_
        exact ww_iret hQ dX3_support_39 rfl (Nat.le_of_ble_eq_true rfl) (Nat.le_of_ble_eq_true rfl) (by first | exact ⟨_, rfl, _, hM, by refine ⟨?_, ?_, ?_, ?_, ?_⟩ <;> simp [su_off, hk_8], Or.inl ⟨(by omega), by simp [su, hk_8], by rw [if_pos (by simp only [dCd, decide_eq_true_eq]; assumption)]; exact ((hL_8.2 n (by omega) (by omega)).2 k (by omega) (by omega)).1⟩⟩ | exact ⟨_, rfl, _, hM, by refine ⟨?_, ?_, ?_, ?_, ?_⟩ <;> simp [su_off, hk_8], Or.inl ⟨(by omega), by simp [su, hk_8], by rw [if_neg (by simp only [dCd, decide_eq_true_eq]; assumption)]⟩⟩ | exact ⟨_, rfl, _, hM, by refine ⟨?_, ?_, ?_, ?_, ?_⟩ <;> simp [su_off], Or.inr ⟨by omega, by simp [su]⟩⟩)
    · exact absurd c_11 (by decide)
  · refine ww_if_eq 18 dX3_support_11 (by decide) (inI.mk (by decide) (by decide)) (fun c_11 => ?_) (fun c_11 => ?_)
    · exact absurd c_11 (by decide)
    · refine ww_iconst dX3_support_14 ?_
      refine ww_goto 39 dX3_support_15 (by decide) ?_
      exact ww_iret hQ dX3_support_39 rfl (Nat.le_of_ble_eq_true rfl) (Nat.le_of_ble_eq_true rfl) (by first | exact ⟨_, rfl, _, hM, by refine ⟨?_, ?_, ?_, ?_, ?_⟩ <;> simp [su_off, hk_8], Or.inl ⟨(by omega), by simp [su, hk_8], by rw [if_pos (by simp only [dCd, decide_eq_true_eq]; assumption)]; exact ((hL_8.2 n (by omega) (by omega)).2 k (by omega) (by omega)).1⟩⟩ | exact ⟨_, rfl, _, hM, by refine ⟨?_, ?_, ?_, ?_, ?_⟩ <;> simp [su_off, hk_8], Or.inl ⟨(by omega), by simp [su, hk_8], by rw [if_neg (by simp only [dCd, decide_eq_true_eq]; assumption)]⟩⟩ | exact ⟨_, rfl, _, hM, by refine ⟨?_, ?_, ?_, ?_, ?_⟩ <;> simp [su_off], Or.inr ⟨by omega, by simp [su]⟩⟩)

set_option maxHeartbeats 4000000 in
theorem ct_X3_winner {G : GT} {h0 h : AH} {m : Nat} {A : Nat → Nat} {B : Nat → Int → Nat} {D : Int → Int} {σ : MS} (hG : GOK G) (hM : MWF G h0 h m A B D σ) {fn : EF} (hD : DOK D fn) (n : Int) (hn : inI n) : CSi G (MX3_winner 6 134 0 0) h m A B D [.ref m, .int (iI n)] (fun r σ' => kp σ σ' ∧ (((0 ≤ n ∧ n < D 2) ∧ σ' 0 0 0 = 0 ∧ r = xBs D fn n) ∨ (¬ (0 ≤ n ∧ n < D 2) ∧ σ' 0 0 0 = 1))) := by
  refine CT.of rfl hG (Nat.le_of_ble_eq_true rfl) rfl (fun E hQ => ?_)
  have hM := hM.1.f
  have hD0 := hD
  obtain ⟨⟨hl1, hl2⟩, ⟨hn1, hn2⟩, ⟨hs1, hs2⟩, hpf, hpr, htr, hwt, hof⟩ := hD
  refine ww_aload_n 0 dX3_winner_0 rfl ?_
  refine ww_iconst dX3_winner_1 ?_
  refine mw_put pf_X3_59 rfl dX3_winner_2 hM rfl (by first | exact hM.rd _ | exact hM.ri rfl _ _ | exact ⟨by omega, by omega⟩ | assumption | exact bI_in _ | exact inI.mk (by omega) (by omega)) (fun hh hM => ?_)
  refine ww_aload_n 0 dX3_winner_5 rfl ?_
  refine ww_iload_n 1 dX3_winner_6 rfl ?_
  refine cr_si hM (cr_V (ct_X3_noName hG hM _ (by first | exact hM.rd _ | exact hM.ri rfl _ _ | exact ⟨by omega, by omega⟩ | assumption | exact bI_in _ | exact inI.mk (by omega) (by omega)) (by omega) (by omega) (by first | assumption | simp [su])) sv_X3_280 rfl dX3_winner_7 hM.obj rfl rfl rfl rfl ⟨by decide, by decide⟩ (Nat.le_of_ble_eq_true rfl) (Nat.le_of_ble_eq_true rfl) (Nat.le_of_ble_eq_true rfl)) (fun r_7 σ_7 hh hM hp_7 => ?_)
  rcases hp_7 with ⟨c0_7, rfl, rfl⟩ | ⟨c0_7, rfl, rfl⟩
  · refine ww_if_eq 15 dX3_winner_10 (by decide) (inI.mk (by decide) (by decide)) (fun c_10 => ?_) (fun c_10 => ?_)
    · refine ww_aload_n 0 dX3_winner_15 rfl ?_
      refine cr_sv hM (cr_V (ct_X3_layAll hG hM hD0) sv_X3_271 rfl dX3_winner_16 hM.obj rfl rfl rfl rfl ⟨by decide, by decide⟩ (Nat.le_of_ble_eq_true rfl) (Nat.le_of_ble_eq_true rfl) (Nat.le_of_ble_eq_true rfl)) (fun σ_16 hh hM hp_16 => ?_)
      obtain ⟨hk_16, hL_16⟩ := hp_16
      refine ww_aload_n 0 dX3_winner_19 rfl ?_
      refine ww_getf gf_X3_44 rfl dX3_winner_20 hM.obj rfl ?_
      refine ww_iload_n 1 dX3_winner_23 rfl ?_
      refine mw_ld dX3_winner_24 hM rfl (by omega) (by omega) ?_
      exact ww_iret hQ dX3_winner_25 rfl (Nat.le_of_ble_eq_true rfl) (Nat.le_of_ble_eq_true rfl) ⟨_, rfl, _, hM, by refine ⟨?_, ?_, ?_, ?_, ?_⟩ <;> simp [su_off, hk_16], Or.inl ⟨(by omega), by simp [su, hk_16], (hL_16.2 n (by omega) (by omega)).1⟩⟩
    · exact absurd c_10 (by decide)
  · refine ww_if_eq 15 dX3_winner_10 (by decide) (inI.mk (by decide) (by decide)) (fun c_10 => ?_) (fun c_10 => ?_)
    · exact absurd c_10 (by decide)
    · refine ww_iconst dX3_winner_13 ?_
      exact ww_iret hQ dX3_winner_14 rfl (Nat.le_of_ble_eq_true rfl) (Nat.le_of_ble_eq_true rfl) ⟨_, rfl, _, hM, by refine ⟨?_, ?_, ?_, ?_, ?_⟩ <;> simp [su_off], Or.inr ⟨by omega, by simp [su]⟩⟩

set_option maxHeartbeats 4000000 in
theorem ct_X3_binding {G : GT} {h0 h : AH} {m : Nat} {A : Nat → Nat} {B : Nat → Int → Nat} {D : Int → Int} {σ : MS} (hG : GOK G) (hM : MWF G h0 h m A B D σ) {fn : EF} (hD : DOK D fn) (k n : Int) (hk : inI k) (hn : inI n) : CSi G (MX3_binding 7 156 0 0) h m A B D [.ref m, .int (iI k), .int (iI n)] (fun r σ' => kp σ σ' ∧ (((0 ≤ k ∧ k < D 1 ∧ 0 ≤ n ∧ n < D 2) ∧ σ' 0 0 0 = 0 ∧ r = xBd D fn k n) ∨ (¬ (0 ≤ k ∧ k < D 1 ∧ 0 ≤ n ∧ n < D 2) ∧ σ' 0 0 0 = 1))) := by
  refine CT.of rfl hG (Nat.le_of_ble_eq_true rfl) rfl (fun E hQ => ?_)
  have hM := hM.1.f
  have hD0 := hD
  obtain ⟨⟨hl1, hl2⟩, ⟨hn1, hn2⟩, ⟨hs1, hs2⟩, hpf, hpr, htr, hwt, hof⟩ := hD
  refine ww_aload_n 0 dX3_binding_0 rfl ?_
  refine ww_iconst dX3_binding_1 ?_
  refine mw_put pf_X3_59 rfl dX3_binding_2 hM rfl (by first | exact hM.rd _ | exact hM.ri rfl _ _ | exact ⟨by omega, by omega⟩ | assumption | exact bI_in _ | exact inI.mk (by omega) (by omega)) (fun hh hM => ?_)
  refine ww_aload_n 0 dX3_binding_5 rfl ?_
  refine ww_iload_n 1 dX3_binding_6 rfl ?_
  refine ww_iload_n 2 dX3_binding_7 rfl ?_
  refine cr_si hM (cr_V (ct_X3_isMissing hG hM hD0 _ _ (by first | exact hM.rd _ | exact hM.ri rfl _ _ | exact ⟨by omega, by omega⟩ | assumption | exact bI_in _ | exact inI.mk (by omega) (by omega)) (by first | exact hM.rd _ | exact hM.ri rfl _ _ | exact ⟨by omega, by omega⟩ | assumption | exact bI_in _ | exact inI.mk (by omega) (by omega)) (by first | assumption | simp [su])) sv_X3_286 rfl dX3_binding_8 hM.obj rfl rfl rfl rfl ⟨by decide, by decide⟩ (Nat.le_of_ble_eq_true rfl) (Nat.le_of_ble_eq_true rfl) (Nat.le_of_ble_eq_true rfl)) (fun r_8 σ_8 hh hM hp_8 => ?_)
  rcases hp_8 with ⟨c0_8, ⟨hk_8, hL_8⟩, rfl⟩ | ⟨c0_8, rfl, rfl⟩
  · refine ww_if_eq 18 dX3_binding_11 (by decide) (inI.mk (by decide) (by decide)) (fun c_11 => ?_) (fun c_11 => ?_)
    · refine ww_aload_n 0 dX3_binding_18 rfl ?_
      refine ww_getf gf_X3_50 rfl dX3_binding_19 hM.obj rfl ?_
      refine ww_iload_n 1 dX3_binding_22 rfl ?_
      refine mw_gld dX3_binding_23 hM rfl (by omega) (by omega) ?_
      refine ww_iload_n 2 dX3_binding_24 rfl ?_
      refine mw_rld dX3_binding_25 hM rfl (by omega) (by omega) (by omega) (by omega) ?_
      exact ww_iret hQ dX3_binding_26 rfl (Nat.le_of_ble_eq_true rfl) (Nat.le_of_ble_eq_true rfl) (by first | exact ⟨_, rfl, _, hM, by refine ⟨?_, ?_, ?_, ?_, ?_⟩ <;> simp [su_off, hk_8], Or.inl ⟨(by omega), by simp [su, hk_8], ((hL_8.2 n (by omega) (by omega)).2 k (by omega) (by omega)).2⟩⟩ | exact ⟨_, rfl, _, hM, by refine ⟨?_, ?_, ?_, ?_, ?_⟩ <;> simp [su_off], Or.inr ⟨by omega, by simp [su]⟩⟩)
    · exact absurd c_11 (by decide)
  · refine ww_if_eq 18 dX3_binding_11 (by decide) (inI.mk (by decide) (by decide)) (fun c_11 => ?_) (fun c_11 => ?_)
    · exact absurd c_11 (by decide)
    · refine ww_iconst dX3_binding_14 ?_
      refine ww_goto 26 dX3_binding_15 (by decide) ?_
      exact ww_iret hQ dX3_binding_26 rfl (Nat.le_of_ble_eq_true rfl) (Nat.le_of_ble_eq_true rfl) (by first | exact ⟨_, rfl, _, hM, by refine ⟨?_, ?_, ?_, ?_, ?_⟩ <;> simp [su_off, hk_8], Or.inl ⟨(by omega), by simp [su, hk_8], ((hL_8.2 n (by omega) (by omega)).2 k (by omega) (by omega)).2⟩⟩ | exact ⟨_, rfl, _, hM, by refine ⟨?_, ?_, ?_, ?_, ?_⟩ <;> simp [su_off], Or.inr ⟨by omega, by simp [su]⟩⟩)

set_option maxHeartbeats 4000000 in
theorem ct_X3_minority {G : GT} {h0 h : AH} {m : Nat} {A : Nat → Nat} {B : Nat → Int → Nat} {D : Int → Int} {σ : MS} (hG : GOK G) (hM : MWF G h0 h m A B D σ) {fn : EF} (hD : DOK D fn) (n : Int) (hn : inI n) : CSi G (MX3_minority 6 134 0 0) h m A B D [.ref m, .int (iI n)] (fun r σ' => kp σ σ' ∧ (((0 ≤ n ∧ n < D 2) ∧ σ' 0 0 0 = 0 ∧ r = smI (D 1) (fun k => bI (D (6 + 24 * k + 2) > 0 ∧ xBd D fn k n ≠ xBs D fn n))) ∨ (¬ (0 ≤ n ∧ n < D 2) ∧ σ' 0 0 0 = 1))) := by
  refine CT.of rfl hG (Nat.le_of_ble_eq_true rfl) rfl (fun E hQ => ?_)
  have hM := hM.1.f
  have hD0 := hD
  obtain ⟨⟨hl1, hl2⟩, ⟨hn1, hn2⟩, ⟨hs1, hs2⟩, hpf, hpr, htr, hwt, hof⟩ := hD
  refine ww_aload_n 0 dX3_minority_0 rfl ?_
  refine ww_iconst dX3_minority_1 ?_
  refine mw_put pf_X3_59 rfl dX3_minority_2 hM rfl (by first | exact hM.rd _ | exact hM.ri rfl _ _ | exact ⟨by omega, by omega⟩ | assumption | exact bI_in _ | exact inI.mk (by omega) (by omega)) (fun hh hM => ?_)
  refine ww_aload_n 0 dX3_minority_5 rfl ?_
  refine ww_iload_n 1 dX3_minority_6 rfl ?_
  refine cr_si hM (cr_V (ct_X3_noName hG hM _ (by first | exact hM.rd _ | exact hM.ri rfl _ _ | exact ⟨by omega, by omega⟩ | assumption | exact bI_in _ | exact inI.mk (by omega) (by omega)) (by omega) (by omega) (by first | assumption | simp [su])) sv_X3_280 rfl dX3_minority_7 hM.obj rfl rfl rfl rfl ⟨by decide, by decide⟩ (Nat.le_of_ble_eq_true rfl) (Nat.le_of_ble_eq_true rfl) (Nat.le_of_ble_eq_true rfl)) (fun r_7 σ_7 hh hM hp_7 => ?_)
  rcases hp_7 with ⟨c0_7, rfl, rfl⟩ | ⟨c0_7, rfl, rfl⟩
  · refine ww_if_eq 15 dX3_minority_10 (by decide) (inI.mk (by decide) (by decide)) (fun c_10 => ?_) (fun c_10 => ?_)
    · refine ww_aload_n 0 dX3_minority_15 rfl ?_
      refine cr_sv hM (cr_V (ct_X3_layAll hG hM hD0) sv_X3_271 rfl dX3_minority_16 hM.obj rfl rfl rfl rfl ⟨by decide, by decide⟩ (Nat.le_of_ble_eq_true rfl) (Nat.le_of_ble_eq_true rfl) (Nat.le_of_ble_eq_true rfl)) (fun σ_16 hh hM hp_16 => ?_)
      obtain ⟨hk_16, hL_16⟩ := hp_16
      refine ww_iconst dX3_minority_19 ?_
      refine ww_istore_n [(2, _), (0, _), (1, _)] dX3_minority_20 (by decide) rfl ?_
      refine ww_iconst dX3_minority_21 ?_
      refine ww_istore_n [(3, _), (2, _), (0, _), (1, _)] dX3_minority_22 (by decide) rfl ?_
      have loop_23 : ∀ (f : Nat) (i acc : Int), (0 ≤ i) → (i ≤ D 1) → (acc = smI i (fun k => bI (D (6 + 24 * k + 2) > 0 ∧ xBd D fn k n ≠ xBs D fn n))) → (D 1 - i < f) → WW G E (MX3_minority 6 134 0 0) hh 0 0 23 [(3, .int (iI i)), (2, .int (iI acc)), (0, .ref m), (1, .int (iI n))] [] := by
        intro f
        induction f with
        | zero => intro i acc hi0 hi1 hacc hf; exact absurd hf (by omega)
        | succ f ih =>
          intro i acc hi0 hi1 hacc hf
          have hie : ¬ i < D 1 → i = D 1 := by omega
          have eb : i < D 1 → σ_16 23 i n = xBd D fn i n := fun q => ((hL_16.2 n (by omega) (by omega)).2 i (by omega) q).2
          have ew : σ_16 21 0 n = xBs D fn n := (hL_16.2 n (by omega) (by omega)).1
          refine ww_iload_n 0 dX3_minority_23 rfl ?_
          refine ww_aload_n 2 dX3_minority_24 rfl ?_
          refine ww_getf gf_X3_17 rfl dX3_minority_25 hM.obj rfl ?_
          refine ww_iconst dX3_minority_28 ?_
          refine mw_ldD dX3_minority_29 hM (by omega) (by omega) ?_
          refine ww_icmp_ge 72 dX3_minority_30 (by decide) (by first | exact hM.rd _ | exact hM.ri rfl _ _ | exact ⟨by omega, by omega⟩ | assumption | exact bI_in _ | exact inI.mk (by omega) (by omega)) (by first | exact hM.rd _ | exact hM.ri rfl _ _ | exact ⟨by omega, by omega⟩ | assumption | exact bI_in _ | exact inI.mk (by omega) (by omega)) (fun c_30 => ?_) (fun c_30 => ?_)
          · refine ww_iload_n 1 dX3_minority_72 rfl ?_
            exact ww_iret hQ dX3_minority_73 rfl (Nat.le_of_ble_eq_true rfl) (Nat.le_of_ble_eq_true rfl) ⟨_, rfl, _, hM, by refine ⟨?_, ?_, ?_, ?_, ?_⟩ <;> simp [su_off, hk_16], Or.inl ⟨(by omega), by simp [su, hk_16], by rw [hacc, hie (by omega)]⟩⟩
          · refine ww_iload_n 1 dX3_minority_33 rfl ?_
            refine ww_aload_n 2 dX3_minority_34 rfl ?_
            refine ww_iload_n 0 dX3_minority_35 rfl ?_
            refine cr_pi (cr_V (ct_X3_isLoaded hG hM _ (by omega) (by omega)) sv_X3_232 rfl dX3_minority_36 hM.obj rfl rfl rfl rfl ⟨by decide, by decide⟩ (Nat.le_of_ble_eq_true rfl) (Nat.le_of_ble_eq_true rfl) (Nat.le_of_ble_eq_true rfl)) ?_
            refine ww_ifb_eq 63 dX3_minority_39 (by decide) (fun c_39 => ?_) (fun c_39 => ?_)
            · refine ww_iconst dX3_minority_63 ?_
              refine ww_iadd dX3_minority_64 ?_
              refine ww_istore_n [(2, _), (3, _), (0, _), (1, _)] dX3_minority_65 (by decide) rfl ?_
              refine ww_iinc (j := 1) [(3, _), (2, _), (0, _), (1, _)] dX3_minority_66 rfl (by decide) rfl ?_
              refine ww_goto 23 dX3_minority_69 (by decide) ?_
              refine ww_sub [0, 1, 2, 3] rfl ?_
              exact ih (i + 1) _ (by omega) (by omega) (smI_step hi0 hacc (by first | exact (bI_t ⟨by assumption, by rw [← eb (by omega), ← ew]; assumption⟩).symm | exact (bI_f (fun q => by have q1 := q.1; have q2 := q.2; first | exact absurd q1 (by assumption) | exact absurd q2 (by rw [← eb (by omega), ← ew]; exact Classical.not_not.mpr (by assumption)))).symm)) (by omega)
            · refine ww_aload_n 2 dX3_minority_42 rfl ?_
              refine ww_getf gf_X3_50 rfl dX3_minority_43 hM.obj rfl ?_
              refine ww_iload_n 0 dX3_minority_46 rfl ?_
              refine mw_gld dX3_minority_47 hM rfl (by omega) (by omega) ?_
              refine ww_iload_n 3 dX3_minority_48 rfl ?_
              refine mw_rld dX3_minority_49 hM rfl (by omega) (by omega) (by omega) (by omega) ?_
              refine ww_aload_n 2 dX3_minority_50 rfl ?_
              refine ww_getf gf_X3_44 rfl dX3_minority_51 hM.obj rfl ?_
              refine ww_iload_n 3 dX3_minority_54 rfl ?_
              refine mw_ld dX3_minority_55 hM rfl (by omega) (by omega) ?_
              refine ww_icmp_eq 63 dX3_minority_56 (by decide) (by first | exact hM.rd _ | exact hM.ri rfl _ _ | exact ⟨by omega, by omega⟩ | assumption | exact bI_in _ | exact inI.mk (by omega) (by omega)) (by first | exact hM.rd _ | exact hM.ri rfl _ _ | exact ⟨by omega, by omega⟩ | assumption | exact bI_in _ | exact inI.mk (by omega) (by omega)) (fun c_56 => ?_) (fun c_56 => ?_)
              · refine ww_iconst dX3_minority_63 ?_
                refine ww_iadd dX3_minority_64 ?_
                refine ww_istore_n [(2, _), (3, _), (0, _), (1, _)] dX3_minority_65 (by decide) rfl ?_
                refine ww_iinc (j := 1) [(3, _), (2, _), (0, _), (1, _)] dX3_minority_66 rfl (by decide) rfl ?_
                refine ww_goto 23 dX3_minority_69 (by decide) ?_
                refine ww_sub [0, 1, 2, 3] rfl ?_
                exact ih (i + 1) _ (by omega) (by omega) (smI_step hi0 hacc (by first | exact (bI_t ⟨by assumption, by rw [← eb (by omega), ← ew]; assumption⟩).symm | exact (bI_f (fun q => by have q1 := q.1; have q2 := q.2; first | exact absurd q1 (by assumption) | exact absurd q2 (by rw [← eb (by omega), ← ew]; exact Classical.not_not.mpr (by assumption)))).symm)) (by omega)
              · refine ww_iconst dX3_minority_59 ?_
                refine ww_goto 64 dX3_minority_60 (by decide) ?_
                refine ww_iadd dX3_minority_64 ?_
                refine ww_istore_n [(2, _), (3, _), (0, _), (1, _)] dX3_minority_65 (by decide) rfl ?_
                refine ww_iinc (j := 1) [(3, _), (2, _), (0, _), (1, _)] dX3_minority_66 rfl (by decide) rfl ?_
                refine ww_goto 23 dX3_minority_69 (by decide) ?_
                refine ww_sub [0, 1, 2, 3] rfl ?_
                exact ih (i + 1) _ (by omega) (by omega) (smI_step hi0 hacc (by first | exact (bI_t ⟨by assumption, by rw [← eb (by omega), ← ew]; assumption⟩).symm | exact (bI_f (fun q => by have q1 := q.1; have q2 := q.2; first | exact absurd q1 (by assumption) | exact absurd q2 (by rw [← eb (by omega), ← ew]; exact Classical.not_not.mpr (by assumption)))).symm)) (by omega)
      refine ww_sub [0, 1, 2, 3] rfl ?_
      exact loop_23 ((D 1).toNat + 1) 0 0 (by omega) (by omega) rfl (by omega)
    · exact absurd c_10 (by decide)
  · refine ww_if_eq 15 dX3_minority_10 (by decide) (inI.mk (by decide) (by decide)) (fun c_10 => ?_) (fun c_10 => ?_)
    · exact absurd c_10 (by decide)
    · refine ww_iconst dX3_minority_13 ?_
      exact ww_iret hQ dX3_minority_14 rfl (Nat.le_of_ble_eq_true rfl) (Nat.le_of_ble_eq_true rfl) ⟨_, rfl, _, hM, by refine ⟨?_, ?_, ?_, ?_, ?_⟩ <;> simp [su_off], Or.inr ⟨by omega, by simp [su]⟩⟩

set_option maxHeartbeats 4000000 in
theorem ct_X3_users {G : GT} {h0 h : AH} {m : Nat} {A : Nat → Nat} {B : Nat → Int → Nat} {D : Int → Int} {σ : MS} (hG : GOK G) (hM : MWF G h0 h m A B D σ) {fn : EF} (hD : DOK D fn) (k n : Int) (hk : inI k) (hn : inI n) : CSi G (MX3_users 7 156 0 0) h m A B D [.ref m, .int (iI k), .int (iI n)] (fun r σ' => kp σ σ' ∧ (((0 ≤ k ∧ k < D 1 ∧ 0 ≤ n ∧ n < D 2) ∧ σ' 0 0 0 = 0 ∧ r = smI (D 1) (fun q => bI (D (6 + 24 * q + 2) > 0 ∧ xBd D fn q n = k))) ∨ (¬ (0 ≤ k ∧ k < D 1 ∧ 0 ≤ n ∧ n < D 2) ∧ σ' 0 0 0 = 1))) := by
  refine CT.of rfl hG (Nat.le_of_ble_eq_true rfl) rfl (fun E hQ => ?_)
  have hM := hM.1.f
  have hD0 := hD
  obtain ⟨⟨hl1, hl2⟩, ⟨hn1, hn2⟩, ⟨hs1, hs2⟩, hpf, hpr, htr, hwt, hof⟩ := hD
  refine ww_aload_n 0 dX3_users_0 rfl ?_
  refine ww_iconst dX3_users_1 ?_
  refine mw_put pf_X3_59 rfl dX3_users_2 hM rfl (by first | exact hM.rd _ | exact hM.ri rfl _ _ | exact ⟨by omega, by omega⟩ | assumption | exact bI_in _ | exact inI.mk (by omega) (by omega)) (fun hh hM => ?_)
  refine ww_aload_n 0 dX3_users_5 rfl ?_
  refine ww_iload_n 1 dX3_users_6 rfl ?_
  refine ww_iload_n 2 dX3_users_7 rfl ?_
  refine cr_si hM (cr_V (ct_X3_isMissing hG hM hD0 _ _ (by first | exact hM.rd _ | exact hM.ri rfl _ _ | exact ⟨by omega, by omega⟩ | assumption | exact bI_in _ | exact inI.mk (by omega) (by omega)) (by first | exact hM.rd _ | exact hM.ri rfl _ _ | exact ⟨by omega, by omega⟩ | assumption | exact bI_in _ | exact inI.mk (by omega) (by omega)) (by first | assumption | simp [su])) sv_X3_286 rfl dX3_users_8 hM.obj rfl rfl rfl rfl ⟨by decide, by decide⟩ (Nat.le_of_ble_eq_true rfl) (Nat.le_of_ble_eq_true rfl) (Nat.le_of_ble_eq_true rfl)) (fun r_8 σ_8 hh hM hp_8 => ?_)
  rcases hp_8 with ⟨c0_8, ⟨hk_8, hL_8⟩, rfl⟩ | ⟨c0_8, rfl, rfl⟩
  · refine ww_if_eq 16 dX3_users_11 (by decide) (inI.mk (by decide) (by decide)) (fun c_11 => ?_) (fun c_11 => ?_)
    · refine ww_iconst dX3_users_16 ?_
      refine ww_istore_n [(3, _), (0, _), (1, _), (2, _)] dX3_users_17 (by decide) rfl ?_
      refine ww_iconst dX3_users_18 ?_
      refine ww_istore [(4, _), (3, _), (0, _), (1, _), (2, _)] dX3_users_19 (by decide) rfl ?_
      have loop_21 : ∀ (f : Nat) (i acc : Int), (0 ≤ i) → (i ≤ D 1) → (acc = smI i (fun q => bI (D (6 + 24 * q + 2) > 0 ∧ xBd D fn q n = k))) → (D 1 - i < f) → WW G E (MX3_users 7 156 0 0) hh 0 0 21 [(4, .int (iI i)), (3, .int (iI acc)), (0, .ref m), (1, .int (iI k)), (2, .int (iI n))] [] := by
        intro f
        induction f with
        | zero => intro i acc hi0 hi1 hacc hf; exact absurd hf (by omega)
        | succ f ih =>
          intro i acc hi0 hi1 hacc hf
          have hie : ¬ i < D 1 → i = D 1 := by omega
          have eb : i < D 1 → σ_8 23 i n = xBd D fn i n := fun q => ((hL_8.2 n (by omega) (by omega)).2 i (by omega) q).2
          refine ww_iload 0 dX3_users_21 rfl ?_
          refine ww_aload_n 2 dX3_users_23 rfl ?_
          refine ww_getf gf_X3_17 rfl dX3_users_24 hM.obj rfl ?_
          refine ww_iconst dX3_users_27 ?_
          refine mw_ldD dX3_users_28 hM (by omega) (by omega) ?_
          refine ww_icmp_ge 68 dX3_users_29 (by decide) (by first | exact hM.rd _ | exact hM.ri rfl _ _ | exact ⟨by omega, by omega⟩ | assumption | exact bI_in _ | exact inI.mk (by omega) (by omega)) (by first | exact hM.rd _ | exact hM.ri rfl _ _ | exact ⟨by omega, by omega⟩ | assumption | exact bI_in _ | exact inI.mk (by omega) (by omega)) (fun c_29 => ?_) (fun c_29 => ?_)
          · refine ww_iload_n 1 dX3_users_68 rfl ?_
            exact ww_iret hQ dX3_users_69 rfl (Nat.le_of_ble_eq_true rfl) (Nat.le_of_ble_eq_true rfl) ⟨_, rfl, _, hM, by refine ⟨?_, ?_, ?_, ?_, ?_⟩ <;> simp [su_off, hk_8], Or.inl ⟨(by omega), by simp [su, hk_8], by rw [hacc, hie (by omega)]⟩⟩
          · refine ww_iload_n 1 dX3_users_32 rfl ?_
            refine ww_aload_n 2 dX3_users_33 rfl ?_
            refine ww_iload 0 dX3_users_34 rfl ?_
            refine cr_pi (cr_V (ct_X3_isLoaded hG hM _ (by omega) (by omega)) sv_X3_232 rfl dX3_users_36 hM.obj rfl rfl rfl rfl ⟨by decide, by decide⟩ (Nat.le_of_ble_eq_true rfl) (Nat.le_of_ble_eq_true rfl) (Nat.le_of_ble_eq_true rfl)) ?_
            refine ww_ifb_eq 59 dX3_users_39 (by decide) (fun c_39 => ?_) (fun c_39 => ?_)
            · refine ww_iconst dX3_users_59 ?_
              refine ww_iadd dX3_users_60 ?_
              refine ww_istore_n [(3, _), (4, _), (0, _), (1, _), (2, _)] dX3_users_61 (by decide) rfl ?_
              refine ww_iinc (j := 1) [(4, _), (3, _), (0, _), (1, _), (2, _)] dX3_users_62 rfl (by decide) rfl ?_
              refine ww_goto 21 dX3_users_65 (by decide) ?_
              refine ww_sub [0, 1, 2, 3, 4] rfl ?_
              exact ih (i + 1) _ (by omega) (by omega) (smI_step hi0 hacc (by first | exact (bI_t ⟨by assumption, by rw [← eb (by omega)]; assumption⟩).symm | exact (bI_f (fun q => by have q1 := q.1; have q2 := q.2; first | exact absurd q1 (by assumption) | exact absurd q2 (by rw [← eb (by omega)]; assumption))).symm)) (by omega)
            · refine ww_aload_n 2 dX3_users_42 rfl ?_
              refine ww_getf gf_X3_50 rfl dX3_users_43 hM.obj rfl ?_
              refine ww_iload 0 dX3_users_46 rfl ?_
              refine mw_gld dX3_users_48 hM rfl (by omega) (by omega) ?_
              refine ww_iload_n 4 dX3_users_49 rfl ?_
              refine mw_rld dX3_users_50 hM rfl (by omega) (by omega) (by omega) (by omega) ?_
              refine ww_iload_n 3 dX3_users_51 rfl ?_
              refine ww_icmp_ne 59 dX3_users_52 (by decide) (by first | exact hM.rd _ | exact hM.ri rfl _ _ | exact ⟨by omega, by omega⟩ | assumption | exact bI_in _ | exact inI.mk (by omega) (by omega)) (by first | exact hM.rd _ | exact hM.ri rfl _ _ | exact ⟨by omega, by omega⟩ | assumption | exact bI_in _ | exact inI.mk (by omega) (by omega)) (fun c_52 => ?_) (fun c_52 => ?_)
              · refine ww_iconst dX3_users_59 ?_
                refine ww_iadd dX3_users_60 ?_
                refine ww_istore_n [(3, _), (4, _), (0, _), (1, _), (2, _)] dX3_users_61 (by decide) rfl ?_
                refine ww_iinc (j := 1) [(4, _), (3, _), (0, _), (1, _), (2, _)] dX3_users_62 rfl (by decide) rfl ?_
                refine ww_goto 21 dX3_users_65 (by decide) ?_
                refine ww_sub [0, 1, 2, 3, 4] rfl ?_
                exact ih (i + 1) _ (by omega) (by omega) (smI_step hi0 hacc (by first | exact (bI_t ⟨by assumption, by rw [← eb (by omega)]; assumption⟩).symm | exact (bI_f (fun q => by have q1 := q.1; have q2 := q.2; first | exact absurd q1 (by assumption) | exact absurd q2 (by rw [← eb (by omega)]; assumption))).symm)) (by omega)
              · refine ww_iconst dX3_users_55 ?_
                refine ww_goto 60 dX3_users_56 (by decide) ?_
                refine ww_iadd dX3_users_60 ?_
                refine ww_istore_n [(3, _), (4, _), (0, _), (1, _), (2, _)] dX3_users_61 (by decide) rfl ?_
                refine ww_iinc (j := 1) [(4, _), (3, _), (0, _), (1, _), (2, _)] dX3_users_62 rfl (by decide) rfl ?_
                refine ww_goto 21 dX3_users_65 (by decide) ?_
                refine ww_sub [0, 1, 2, 3, 4] rfl ?_
                exact ih (i + 1) _ (by omega) (by omega) (smI_step hi0 hacc (by first | exact (bI_t ⟨by assumption, by rw [← eb (by omega)]; assumption⟩).symm | exact (bI_f (fun q => by have q1 := q.1; have q2 := q.2; first | exact absurd q1 (by assumption) | exact absurd q2 (by rw [← eb (by omega)]; assumption))).symm)) (by omega)
      refine ww_sub [0, 1, 2, 3, 4] rfl ?_
      exact loop_21 ((D 1).toNat + 1) 0 0 (by omega) (by omega) rfl (by omega)
    · exact absurd c_11 (by decide)
  · refine ww_if_eq 16 dX3_users_11 (by decide) (inI.mk (by decide) (by decide)) (fun c_11 => ?_) (fun c_11 => ?_)
    · exact absurd c_11 (by decide)
    · refine ww_iconst dX3_users_14 ?_
      exact ww_iret hQ dX3_users_15 rfl (Nat.le_of_ble_eq_true rfl) (Nat.le_of_ble_eq_true rfl) ⟨_, rfl, _, hM, by refine ⟨?_, ?_, ?_, ?_, ?_⟩ <;> simp [su_off], Or.inr ⟨by omega, by simp [su]⟩⟩

def xMx (D : Int → Int) (fn : EF) (n b : Int) : Nat → Int
  | 0 => 0
  | z + 1 => if (z : Int) ≠ b ∧ dCd D z n = true then max (xMx D fn n b z) (xSp D fn z n) else xMx D fn n b z
theorem xMx_s {D : Int → Int} {fn : EF} {n b z : Int} (h : 0 ≤ z) : xMx D fn n b (z + 1).toNat = if z ≠ b ∧ dCd D z n = true then max (xMx D fn n b z.toNat) (xSp D fn z n) else xMx D fn n b z.toNat := by
  have e : (z + 1).toNat = z.toNat + 1 := by omega
  rw [e]
  show (if ((z.toNat : Nat) : Int) ≠ b ∧ _ then _ else _) = _
  rw [Int.toNat_of_nonneg h]
theorem xSp_bd {D : Int → Int} {fn : EF} {c n : Int} (h : 0 ≤ D 1) : -(9999 * D 1) ≤ xSp D fn c n ∧ xSp D fn c n ≤ 9999 * D 1 := smI_bd2 h (fun q a b => by have := dWt_bd (D := D) (fn := fn) (k := q); (try simp only); split <;> omega)
theorem xMx_bd {D : Int → Int} {fn : EF} {n b : Int} (h : 0 ≤ D 1) (h8 : D 1 ≤ 8) (z : Nat) : 0 ≤ xMx D fn n b z ∧ xMx D fn n b z ≤ 80000 := by
  induction z with
  | zero => exact ⟨(by decide : (0 : Int) ≤ 0), (by decide : (0 : Int) ≤ 80000)⟩
  | succ z ih =>
    have := xSp_bd (fn := fn) (c := z) (n := n) h
    unfold xMx
    split <;> omega

set_option maxHeartbeats 4000000 in
theorem ct_X3_margin {G : GT} {h0 h : AH} {m : Nat} {A : Nat → Nat} {B : Nat → Int → Nat} {D : Int → Int} {σ : MS} (hG : GOK G) (hM : MWF G h0 h m A B D σ) {fn : EF} (hD : DOK D fn) (n : Int) (hn : inI n) : CSi G (MX3_margin 6 134 0 0) h m A B D [.ref m, .int (iI n)] (fun r σ' => kp σ σ' ∧ (((0 ≤ n ∧ n < D 2) ∧ σ' 0 0 0 = 0 ∧ r = (if xBs D fn n = -1 then -1 else xSp D fn (xBs D fn n) n - xMx D fn n (xBs D fn n) (D 1).toNat)) ∨ (¬ (0 ≤ n ∧ n < D 2) ∧ σ' 0 0 0 = 1))) := by
  refine CT.of rfl hG (Nat.le_of_ble_eq_true rfl) rfl (fun E hQ => ?_)
  have hM := hM.1.f
  have hD0 := hD
  obtain ⟨⟨hl1, hl2⟩, ⟨hn1, hn2⟩, ⟨hs1, hs2⟩, hpf, hpr, htr, hwt, hof⟩ := hD
  refine ww_aload_n 0 dX3_margin_0 rfl ?_
  refine ww_iconst dX3_margin_1 ?_
  refine mw_put pf_X3_59 rfl dX3_margin_2 hM rfl (by first | exact hM.rd _ | exact hM.ri rfl _ _ | exact ⟨by omega, by omega⟩ | assumption | exact bI_in _ | exact inI.mk (by omega) (by omega)) (fun hh hM => ?_)
  refine ww_aload_n 0 dX3_margin_5 rfl ?_
  refine ww_iload_n 1 dX3_margin_6 rfl ?_
  refine cr_si hM (cr_V (ct_X3_noName hG hM _ (by first | exact hM.rd _ | exact hM.ri rfl _ _ | exact ⟨by omega, by omega⟩ | assumption | exact bI_in _ | exact inI.mk (by omega) (by omega)) (by omega) (by omega) (by first | assumption | simp [su])) sv_X3_280 rfl dX3_margin_7 hM.obj rfl rfl rfl rfl ⟨by decide, by decide⟩ (Nat.le_of_ble_eq_true rfl) (Nat.le_of_ble_eq_true rfl) (Nat.le_of_ble_eq_true rfl)) (fun r_7 σ_7 hh hM hp_7 => ?_)
  rcases hp_7 with ⟨c0_7, rfl, rfl⟩ | ⟨c0_7, rfl, rfl⟩
  · refine ww_if_eq 15 dX3_margin_10 (by decide) (inI.mk (by decide) (by decide)) (fun c_10 => ?_) (fun c_10 => ?_)
    · refine ww_aload_n 0 dX3_margin_15 rfl ?_
      refine cr_sv hM (cr_V (ct_X3_layAll hG hM hD0) sv_X3_271 rfl dX3_margin_16 hM.obj rfl rfl rfl rfl ⟨by decide, by decide⟩ (Nat.le_of_ble_eq_true rfl) (Nat.le_of_ble_eq_true rfl) (Nat.le_of_ble_eq_true rfl)) (fun σ_16 hh hM hp_16 => ?_)
      obtain ⟨hk_16, hL_16⟩ := hp_16
      refine ww_aload_n 0 dX3_margin_19 rfl ?_
      refine ww_getf gf_X3_44 rfl dX3_margin_20 hM.obj rfl ?_
      refine ww_iload_n 1 dX3_margin_23 rfl ?_
      refine mw_ld dX3_margin_24 hM rfl (by omega) (by omega) ?_
      refine ww_istore_n [(2, _), (0, _), (1, _)] dX3_margin_25 (by decide) rfl ?_
      have ew : σ_16 21 0 n = xBs D fn n := (hL_16.2 n (by omega) (by omega)).1
      have hbr := eBsI_rg (z := D 1) (cd := fun k => dCd D k n) (sp := fun c => xSp D fn c n) (r := dRk D)
      have hbr2 : xBs D fn n = -1 ∨ 0 ≤ xBs D fn n ∧ xBs D fn n < D 1 := hbr
      refine ww_iconst dX3_margin_26 ?_
      refine ww_istore_n [(3, _), (2, _), (0, _), (1, _)] dX3_margin_27 (by decide) rfl ?_
      refine ww_iload_n 1 dX3_margin_28 rfl ?_
      refine ww_iconst dX3_margin_29 ?_
      refine ww_icmp_ne 35 dX3_margin_30 (by decide) (by first | exact hM.rd _ | exact hM.ri rfl _ _ | exact ⟨by omega, by omega⟩ | assumption | exact bI_in _ | exact inI.mk (by omega) (by omega)) (by first | exact hM.rd _ | exact hM.ri rfl _ _ | exact ⟨by omega, by omega⟩ | assumption | exact bI_in _ | exact inI.mk (by omega) (by omega)) (fun c_30 => ?_) (fun c_30 => ?_)
      · refine ww_iconst dX3_margin_35 ?_
        refine ww_istore [(4, _), (3, _), (2, _), (0, _), (1, _)] dX3_margin_36 (by decide) rfl ?_
        have loop_38 : ∀ (f : Nat) (i x : Int), (0 ≤ i) → (i ≤ D 1) → (x = xMx D fn n (xBs D fn n) i.toNat) → (D 1 - i < f) → WW G E (MX3_margin 6 134 0 0) hh 0 0 38 [(4, .int (iI i)), (3, .int (iI x)), (2, .int (iI (σ_16 21 0 n))), (0, .ref m), (1, .int (iI n))] [] := by
          intro f
          induction f with
          | zero => intro i x hi0 hi1 hx hf; exact absurd hf (by omega)
          | succ f ih =>
            intro i x hi0 hi1 hx hf
            have eb : i < D 1 → σ_16 22 i n = xSp D fn i n := fun q => ((hL_16.2 n (by omega) (by omega)).2 i (by omega) q).1
            have hxb := xMx_bd (fn := fn) (n := n) (b := xBs D fn n) hl1 hl2 i.toNat
            refine ww_iload 0 dX3_margin_38 rfl ?_
            refine ww_aload_n 3 dX3_margin_40 rfl ?_
            refine ww_getf gf_X3_17 rfl dX3_margin_41 hM.obj rfl ?_
            refine ww_iconst dX3_margin_44 ?_
            refine mw_ldD dX3_margin_45 hM (by omega) (by omega) ?_
            refine ww_icmp_ge 94 dX3_margin_46 (by decide) (by first | exact hM.rd _ | exact hM.ri rfl _ _ | exact ⟨by omega, by omega⟩ | assumption | exact bI_in _ | exact inI.mk (by omega) (by omega)) (by first | exact hM.rd _ | exact hM.ri rfl _ _ | exact ⟨by omega, by omega⟩ | assumption | exact bI_in _ | exact inI.mk (by omega) (by omega)) (fun c_46 => ?_) (fun c_46 => ?_)
            · refine ww_aload_n 3 dX3_margin_94 rfl ?_
              refine ww_getf gf_X3_47 rfl dX3_margin_95 hM.obj rfl ?_
              refine ww_iload_n 2 dX3_margin_98 rfl ?_
              refine mw_gld dX3_margin_99 hM rfl (by omega) (by omega) ?_
              refine ww_iload_n 4 dX3_margin_100 rfl ?_
              refine mw_rld dX3_margin_101 hM rfl (by omega) (by omega) (by omega) (by omega) ?_
              refine ww_iload_n 1 dX3_margin_102 rfl ?_
              refine ww_isub dX3_margin_103 ?_
              exact ww_iret hQ dX3_margin_104 rfl (Nat.le_of_ble_eq_true rfl) (Nat.le_of_ble_eq_true rfl) ⟨_, rfl, _, hM, by refine ⟨?_, ?_, ?_, ?_, ?_⟩ <;> simp [su_off, hk_16], Or.inl ⟨(by omega), by simp [su, hk_16], by rw [if_neg (by omega), hx, show i = D 1 by omega, ((hL_16.2 n (by omega) (by omega)).2 _ (by omega) (by omega)).1, ew]⟩⟩
            · refine ww_iload 0 dX3_margin_49 rfl ?_
              refine ww_iload_n 2 dX3_margin_51 rfl ?_
              refine ww_icmp_eq 88 dX3_margin_52 (by decide) (by first | exact hM.rd _ | exact hM.ri rfl _ _ | exact ⟨by omega, by omega⟩ | assumption | exact bI_in _ | exact inI.mk (by omega) (by omega)) (by first | exact hM.rd _ | exact hM.ri rfl _ _ | exact ⟨by omega, by omega⟩ | assumption | exact bI_in _ | exact inI.mk (by omega) (by omega)) (fun c_52 => ?_) (fun c_52 => ?_)
              · refine ww_iinc (j := 0) [(4, _), (3, _), (2, _), (0, _), (1, _)] dX3_margin_88 rfl (by decide) rfl ?_
                refine ww_goto 38 dX3_margin_91 (by decide) ?_
                refine ww_sub [0, 1, 2, 3, 4] rfl ?_
                exact ih (i + 1) _ (by omega) (by omega) (by rw [xMx_s hi0, ← hx, ← ew]; first | rw [if_pos ⟨by omega, by simp only [dCd, decide_eq_true_eq]; assumption⟩, ← eb (by omega)]; omega | rw [if_neg (fun q => by have q2 := dCd_t q.2; have q1 := q.1; first | exact absurd q2 (by assumption) | omega)]) (by omega)
              · refine ww_aload_n 3 dX3_margin_55 rfl ?_
                refine ww_iload 0 dX3_margin_56 rfl ?_
                refine ww_iload_n 4 dX3_margin_58 rfl ?_
                refine cr_pi (cr_V (ct_X3_isCandidate hG hM _ _ (by omega) (by omega) (by omega) (by omega)) sv_X3_258 rfl dX3_margin_59 hM.obj rfl rfl rfl rfl ⟨by decide, by decide⟩ (Nat.le_of_ble_eq_true rfl) (Nat.le_of_ble_eq_true rfl) (Nat.le_of_ble_eq_true rfl)) ?_
                refine ww_ifb_eq 88 dX3_margin_62 (by decide) (fun c_62 => ?_) (fun c_62 => ?_)
                · refine ww_iinc (j := 0) [(4, _), (3, _), (2, _), (0, _), (1, _)] dX3_margin_88 rfl (by decide) rfl ?_
                  refine ww_goto 38 dX3_margin_91 (by decide) ?_
                  refine ww_sub [0, 1, 2, 3, 4] rfl ?_
                  exact ih (i + 1) _ (by omega) (by omega) (by rw [xMx_s hi0, ← hx, ← ew]; first | rw [if_pos ⟨by omega, by simp only [dCd, decide_eq_true_eq]; assumption⟩, ← eb (by omega)]; omega | rw [if_neg (fun q => by have q2 := dCd_t q.2; have q1 := q.1; first | exact absurd q2 (by assumption) | omega)]) (by omega)
                · refine ww_aload_n 3 dX3_margin_65 rfl ?_
                  refine ww_getf gf_X3_47 rfl dX3_margin_66 hM.obj rfl ?_
                  refine ww_iload 0 dX3_margin_69 rfl ?_
                  refine mw_gld dX3_margin_71 hM rfl (by omega) (by omega) ?_
                  refine ww_iload_n 4 dX3_margin_72 rfl ?_
                  refine mw_rld dX3_margin_73 hM rfl (by omega) (by omega) (by omega) (by omega) ?_
                  refine ww_iload_n 1 dX3_margin_74 rfl ?_
                  refine ww_icmp_le 88 dX3_margin_75 (by decide) (by first | exact hM.rd _ | exact hM.ri rfl _ _ | exact ⟨by omega, by omega⟩ | assumption | exact bI_in _ | exact inI.mk (by omega) (by omega)) (inI.mk (by omega) (by omega)) (fun c_75 => ?_) (fun c_75 => ?_)
                  · refine ww_iinc (j := 0) [(4, _), (3, _), (2, _), (0, _), (1, _)] dX3_margin_88 rfl (by decide) rfl ?_
                    refine ww_goto 38 dX3_margin_91 (by decide) ?_
                    refine ww_sub [0, 1, 2, 3, 4] rfl ?_
                    exact ih (i + 1) _ (by omega) (by omega) (by rw [xMx_s hi0, ← hx, ← ew]; first | rw [if_pos ⟨by omega, by simp only [dCd, decide_eq_true_eq]; assumption⟩, ← eb (by omega)]; omega | rw [if_neg (fun q => by have q2 := dCd_t q.2; have q1 := q.1; first | exact absurd q2 (by assumption) | omega)]) (by omega)
                  · refine ww_aload_n 3 dX3_margin_78 rfl ?_
                    refine ww_getf gf_X3_47 rfl dX3_margin_79 hM.obj rfl ?_
                    refine ww_iload 0 dX3_margin_82 rfl ?_
                    refine mw_gld dX3_margin_84 hM rfl (by omega) (by omega) ?_
                    refine ww_iload_n 4 dX3_margin_85 rfl ?_
                    refine mw_rld dX3_margin_86 hM rfl (by omega) (by omega) (by omega) (by omega) ?_
                    refine ww_istore_n [(3, _), (4, _), (2, _), (0, _), (1, _)] dX3_margin_87 (by decide) rfl ?_
                    refine ww_iinc (j := 1) [(4, _), (3, _), (2, _), (0, _), (1, _)] dX3_margin_88 rfl (by decide) rfl ?_
                    refine ww_goto 38 dX3_margin_91 (by decide) ?_
                    refine ww_sub [0, 1, 2, 3, 4] rfl ?_
                    exact ih (i + 1) _ (by omega) (by omega) (by rw [xMx_s hi0, ← hx, ← ew]; first | rw [if_pos ⟨by omega, by simp only [dCd, decide_eq_true_eq]; assumption⟩, ← eb (by omega)]; omega | rw [if_neg (fun q => by have q2 := dCd_t q.2; have q1 := q.1; first | exact absurd q2 (by assumption) | omega)]) (by omega)
        refine ww_sub [0, 1, 2, 3, 4] rfl ?_
        exact loop_38 9 0 0 (by omega) (by omega) rfl (by omega)
      · refine ww_iconst dX3_margin_33 ?_
        exact ww_iret hQ dX3_margin_34 rfl (Nat.le_of_ble_eq_true rfl) (Nat.le_of_ble_eq_true rfl) ⟨_, rfl, _, hM, by refine ⟨?_, ?_, ?_, ?_, ?_⟩ <;> simp [su_off, hk_16], Or.inl ⟨(by omega), by simp [su, hk_16], by rw [if_pos (by omega)]⟩⟩
    · exact absurd c_10 (by decide)
  · refine ww_if_eq 15 dX3_margin_10 (by decide) (inI.mk (by decide) (by decide)) (fun c_10 => ?_) (fun c_10 => ?_)
    · exact absurd c_10 (by decide)
    · refine ww_iconst dX3_margin_13 ?_
      exact ww_iret hQ dX3_margin_14 rfl (Nat.le_of_ble_eq_true rfl) (Nat.le_of_ble_eq_true rfl) ⟨_, rfl, _, hM, by refine ⟨?_, ?_, ?_, ?_, ?_⟩ <;> simp [su_off], Or.inr ⟨by omega, by simp [su]⟩⟩
