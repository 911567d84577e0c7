set_option maxRecDepth 100000
set_option maxHeartbeats 4000000 in
theorem ct_X3_reload {G : GT} {h0 h : AH} {m : Nat} {A : Nat → Nat} {B : Nat → Int → Nat} {D : Int → Int} {σ : MS} (hG : GOK G) (hM : MWF G h0 h m A B D σ) {fn : EF} (hD : DOK D fn) (hu1 : 0 ≤ σ 11 0 0) (hu2 : σ 11 0 0 ≤ 8) (hc1 : 0 ≤ D 3) (hc2 : D 3 ≤ 1000000) (k : Int) (hk : inI k) : CMi G (MX3_reload 7 158 0 0) h m A B [.ref m, .int (iI k)] (fun r D' σ' => (((0 ≤ k ∧ k < D 1) ∧ ¬ D (6 + 24 * k + 2) > 0) ∧ D' = iup (iup D 3 (D 3 + 1)) (6 + 24 * k + 2) (D 3 + 1) ∧ Chg σ D σ' ∧ σ' 0 0 0 = 0 ∧ r = xCh (xBd D fn) (iup (iup D 3 (D 3 + 1)) (6 + 24 * k + 2) (D 3 + 1)) fn k) ∨ ((¬ (0 ≤ k ∧ k < D 1)) ∧ D' = D ∧ kp σ σ' ∧ σ' 0 0 0 = 1) ∨ (((0 ≤ k ∧ k < D 1) ∧ D (6 + 24 * k + 2) > 0) ∧ D' = D ∧ kp σ σ' ∧ σ' 0 0 0 = 2)) := by
  refine CT.of rfl hG (Nat.le_of_ble_eq_true rfl) rfl (fun E hQ => ?_)
  have hM := hM.1.f
  have hD0 := hD
  obtain ⟨⟨hl1, hl2⟩, ⟨hn1, hn2⟩, ⟨hs1, hs2⟩, hpf, hpr, htr, hwt, hof⟩ := hD
  refine ww_aload_n 0 dX3_reload_0 rfl ?_
  refine ww_iconst dX3_reload_1 ?_
  refine mw_put pf_X3_59 rfl dX3_reload_2 hM rfl (by first | exact hM.rd _ | exact hM.ri rfl _ _ | exact ⟨by omega, by omega⟩ | assumption | exact bI_in _ | exact inI.mk (by omega) (by omega)) (fun hh hM => ?_)
  refine ww_aload_n 0 dX3_reload_5 rfl ?_
  refine ww_iload_n 1 dX3_reload_6 rfl ?_
  refine cr_si hM (cr_V (ct_X3_noLibrary hG hM _ (by first | exact hM.rd _ | exact hM.ri rfl _ _ | exact ⟨by omega, by omega⟩ | assumption | exact bI_in _ | exact inI.mk (by omega) (by omega)) (by omega) (by omega) (by first | assumption | simp [su])) sv_X3_277 rfl dX3_reload_7 hM.obj rfl rfl rfl rfl ⟨by decide, by decide⟩ (Nat.le_of_ble_eq_true rfl) (Nat.le_of_ble_eq_true rfl) (Nat.le_of_ble_eq_true rfl)) (fun r_7 σ_7 hh hM hp_7 => ?_)
  rcases hp_7 with ⟨c0_7, rfl, rfl⟩ | ⟨c0_7, rfl, rfl⟩
  · refine ww_if_ne 26 dX3_reload_10 (by decide) (inI.mk (by decide) (by decide)) (fun c_10 => ?_) (fun c_10 => ?_)
    · exact absurd c_10 (by decide)
    · refine ww_aload_n 0 dX3_reload_13 rfl ?_
      refine ww_aload_n 0 dX3_reload_14 rfl ?_
      refine ww_iload_n 1 dX3_reload_15 rfl ?_
      refine cr_pi (cr_V (ct_X3_isLoaded hG hM _ (by omega) (by omega)) sv_X3_232 rfl dX3_reload_16 hM.obj rfl rfl rfl rfl ⟨by decide, by decide⟩ (Nat.le_of_ble_eq_true rfl) (Nat.le_of_ble_eq_true rfl) (Nat.le_of_ble_eq_true rfl)) ?_
      refine ww_iconst dX3_reload_19 ?_
      refine cr_si hM (cr_V (ct_X3_fails hG hM _ _ (bI_in _) (by first | exact hM.rd _ | exact hM.ri rfl _ _ | exact ⟨by omega, by omega⟩ | assumption | exact bI_in _ | exact inI.mk (by omega) (by omega)) (by decide) (by first | assumption | simp [su] | omega)) sv_X3_216 rfl dX3_reload_20 hM.obj rfl rfl rfl rfl ⟨by decide, by decide⟩ (Nat.le_of_ble_eq_true rfl) (Nat.le_of_ble_eq_true rfl) (Nat.le_of_ble_eq_true rfl)) (fun r_20 σ_20 hh hM hp_20 => ?_)
      rcases hp_20 with ⟨c0_20, rfl, rfl⟩ | ⟨c0_20, rfl, rfl⟩
      · refine ww_if_eq 28 dX3_reload_23 (by decide) (inI.mk (by decide) (by decide)) (fun c_23 => ?_) (fun c_23 => ?_)
        · refine ww_aload_n 0 dX3_reload_28 rfl ?_
          refine cr_sv hM (cr_V (ct_X3_remember hG hM (by first | assumption | (simp [su_off]; omega)) (by first | assumption | (simp [su_off]; omega))) sv_X3_225 rfl dX3_reload_29 hM.obj rfl rfl rfl rfl ⟨by decide, by decide⟩ (Nat.le_of_ble_eq_true rfl) (Nat.le_of_ble_eq_true rfl) (Nat.le_of_ble_eq_true rfl)) (fun σ_29 hh hM hp_29 => ?_)
          obtain ⟨hR_29, hr_29⟩ := hp_29
          refine ww_aload_n 0 dX3_reload_32 rfl ?_
          refine cr_sv hM (cr_V (ct_X3_keepBindings hG hM hD0) sv_X3_295 rfl dX3_reload_33 hM.obj rfl rfl rfl rfl ⟨by decide, by decide⟩ (Nat.le_of_ble_eq_true rfl) (Nat.le_of_ble_eq_true rfl) (Nat.le_of_ble_eq_true rfl)) (fun σ_33 hh hM hp_33 => ?_)
          obtain ⟨hk_33, hW_33⟩ := hp_33
          refine ww_aload_n 0 dX3_reload_36 rfl ?_
          refine ww_getf gf_X3_17 rfl dX3_reload_37 hM.obj rfl ?_
          refine ww_iconst dX3_reload_40 ?_
          refine ww_dup2 dX3_reload_41 rfl rfl ?_
          refine mw_ldD dX3_reload_42 hM (by omega) (by omega) ?_
          refine ww_iconst dX3_reload_43 ?_
          refine ww_iadd dX3_reload_44 ?_
          refine mw_stD dX3_reload_45 hM (by omega) (by omega) (inI.mk (by omega) (by omega)) (fun hh hM => ?_)
          refine ww_aload_n 0 dX3_reload_46 rfl ?_
          refine ww_getf gf_X3_17 rfl dX3_reload_47 hM.obj rfl ?_
          refine ww_iload_n 1 dX3_reload_50 rfl ?_
          refine cr_pi (cr_S (ct_X3_at hG _) ss_X3_174 rfl dX3_reload_51 rfl rfl ⟨by decide, by decide⟩ (Nat.le_of_ble_eq_true rfl) (Nat.le_of_ble_eq_true rfl) (Nat.le_of_ble_eq_true rfl)) ?_
          refine ww_iconst dX3_reload_54 ?_
          refine ww_iadd dX3_reload_55 ?_
          refine ww_aload_n 0 dX3_reload_56 rfl ?_
          refine ww_getf gf_X3_17 rfl dX3_reload_57 hM.obj rfl ?_
          refine ww_iconst dX3_reload_60 ?_
          refine mw_ldD dX3_reload_61 hM (by omega) (by omega) ?_
          rw [iup_s]
          refine mw_stD dX3_reload_62 hM (by omega) (by omega) (inI.mk (by omega) (by omega)) (fun hh hM => ?_)
          refine ww_aload_n 0 dX3_reload_63 rfl ?_
          refine ww_iload_n 1 dX3_reload_64 rfl ?_
          refine cr_si hM (cr_V (ct_X3_changedBut hG hM (hD0.ck.ld (by omega) (by omega)) (w := xBd D fn) (fun a b x y z w => by rw [iup_n (by omega), iup_n (by omega)] at y w; exact hW_33 a b x y z w) _ (by first | exact hM.rd _ | exact hM.ri rfl _ _ | exact ⟨by omega, by omega⟩ | assumption | exact bI_in _ | exact inI.mk (by omega) (by omega))) sv_X3_298 rfl dX3_reload_65 hM.obj rfl rfl rfl rfl ⟨by decide, by decide⟩ (Nat.le_of_ble_eq_true rfl) (Nat.le_of_ble_eq_true rfl) (Nat.le_of_ble_eq_true rfl)) (fun r_65 σ_65 hh hM hp_65 => ?_)
          obtain ⟨hk_65, rfl⟩ := hp_65
          exact ww_iret hQ dX3_reload_68 rfl (Nat.le_of_ble_eq_true rfl) (Nat.le_of_ble_eq_true rfl) ⟨_, rfl, _, _, hM, Or.inl ⟨⟨by omega, by unfold bI at c0_20; split at c0_20 <;> omega⟩, rfl, ⟨hR_29.ext (su_off (by decide)).symm (su_off (by decide)).symm (by simp [hk_65, hk_33, hr_29]) (by simp [hk_65, hk_33, hr_29]), by simp [hk_65, hk_33, hr_29, su_off], by simp [hk_65, hk_33, hr_29, su_off], by simp [hk_65, hk_33, hr_29, su_off]⟩, by simp [hk_65, hk_33, hr_29, su], rfl⟩⟩
        · exact absurd c_23 (by decide)
      · refine ww_if_eq 28 dX3_reload_23 (by decide) (inI.mk (by decide) (by decide)) (fun c_23 => ?_) (fun c_23 => ?_)
        · exact absurd c_23 (by decide)
        · refine ww_iconst dX3_reload_26 ?_
          exact ww_iret hQ dX3_reload_27 rfl (Nat.le_of_ble_eq_true rfl) (Nat.le_of_ble_eq_true rfl) ⟨_, rfl, _, _, hM, by first | exact Or.inr (Or.inl ⟨by omega, rfl, by refine ⟨?_, ?_, ?_, ?_, ?_⟩ <;> simp [su_off], by simp [su]⟩) | exact Or.inr (Or.inr ⟨⟨by omega, by unfold bI at c0_20; split at c0_20 <;> omega⟩, rfl, by refine ⟨?_, ?_, ?_, ?_, ?_⟩ <;> simp [su_off], by simp [su]⟩)⟩
  · refine ww_if_ne 26 dX3_reload_10 (by decide) (inI.mk (by decide) (by decide)) (fun c_10 => ?_) (fun c_10 => ?_)
    · refine ww_iconst dX3_reload_26 ?_
      exact ww_iret hQ dX3_reload_27 rfl (Nat.le_of_ble_eq_true rfl) (Nat.le_of_ble_eq_true rfl) ⟨_, rfl, _, _, hM, by first | exact Or.inr (Or.inl ⟨by omega, rfl, by refine ⟨?_, ?_, ?_, ?_, ?_⟩ <;> simp [su_off], by simp [su]⟩) | exact Or.inr (Or.inr ⟨⟨by omega, by unfold bI at c0_20; split at c0_20 <;> omega⟩, rfl, by refine ⟨?_, ?_, ?_, ?_, ?_⟩ <;> simp [su_off], by simp [su]⟩)⟩
    · exact absurd c_10 (by decide)

set_option maxHeartbeats 4000000 in
theorem ct_X3_setKeeps {G : GT} {h0 h : AH} {m : Nat} {A : Nat → Nat} {B : Nat → Int → Nat} {D : Int → Int} {σ : MS} (hG : GOK G) (hM : MWF G h0 h m A B D σ) {fn : EF} (hD : DOK D fn) (hu1 : 0 ≤ σ 11 0 0) (hu2 : σ 11 0 0 ≤ 8) (k b : Int) (hk : inI k) (hb : inI b) : CMi G (MX3_setKeeps 7 158 0 0) h m A B [.ref m, .int (iI k), .int (iI b)] (fun r D' σ' => (((0 ≤ k ∧ k < D 1)) ∧ D' = iup D (6 + 24 * k + 1) (bI (b ≠ 0)) ∧ Chg σ D σ' ∧ σ' 0 0 0 = 0 ∧ r = xCh (xBd D fn) (iup D (6 + 24 * k + 1) (bI (b ≠ 0))) fn (-1)) ∨ ((¬ (0 ≤ k ∧ k < D 1)) ∧ D' = D ∧ kp σ σ' ∧ σ' 0 0 0 = 1)) := by
  refine CT.of rfl hG (Nat.le_of_ble_eq_true rfl) rfl (fun E hQ => ?_)
  have hM := hM.1.f
  have hD0 := hD
  obtain ⟨⟨hl1, hl2⟩, ⟨hn1, hn2⟩, ⟨hs1, hs2⟩, hpf, hpr, htr, hwt, hof⟩ := hD
  refine ww_aload_n 0 dX3_setKeeps_0 rfl ?_
  refine ww_iconst dX3_setKeeps_1 ?_
  refine mw_put pf_X3_59 rfl dX3_setKeeps_2 hM rfl (by first | exact hM.rd _ | exact hM.ri rfl _ _ | exact ⟨by omega, by omega⟩ | assumption | exact bI_in _ | exact inI.mk (by omega) (by omega)) (fun hh hM => ?_)
  refine ww_aload_n 0 dX3_setKeeps_5 rfl ?_
  refine ww_iload_n 1 dX3_setKeeps_6 rfl ?_
  refine cr_si hM (cr_V (ct_X3_noLibrary hG hM _ (by first | exact hM.rd _ | exact hM.ri rfl _ _ | exact ⟨by omega, by omega⟩ | assumption | exact bI_in _ | exact inI.mk (by omega) (by omega)) (by omega) (by omega) (by first | assumption | simp [su])) sv_X3_277 rfl dX3_setKeeps_7 hM.obj rfl rfl rfl rfl ⟨by decide, by decide⟩ (Nat.le_of_ble_eq_true rfl) (Nat.le_of_ble_eq_true rfl) (Nat.le_of_ble_eq_true rfl)) (fun r_7 σ_7 hh hM hp_7 => ?_)
  rcases hp_7 with ⟨c0_7, rfl, rfl⟩ | ⟨c0_7, rfl, rfl⟩
  · refine ww_if_eq 15 dX3_setKeeps_10 (by decide) (inI.mk (by decide) (by decide)) (fun c_10 => ?_) (fun c_10 => ?_)
    · refine ww_aload_n 0 dX3_setKeeps_15 rfl ?_
      refine cr_sv hM (cr_V (ct_X3_remember hG hM (by first | assumption | (simp [su_off]; omega)) (by first | assumption | (simp [su_off]; omega))) sv_X3_225 rfl dX3_setKeeps_16 hM.obj rfl rfl rfl rfl ⟨by decide, by decide⟩ (Nat.le_of_ble_eq_true rfl) (Nat.le_of_ble_eq_true rfl) (Nat.le_of_ble_eq_true rfl)) (fun σ_16 hh hM hp_16 => ?_)
      obtain ⟨hR_16, hr_16⟩ := hp_16
      refine ww_aload_n 0 dX3_setKeeps_19 rfl ?_
      refine cr_sv hM (cr_V (ct_X3_keepBindings hG hM hD0) sv_X3_295 rfl dX3_setKeeps_20 hM.obj rfl rfl rfl rfl ⟨by decide, by decide⟩ (Nat.le_of_ble_eq_true rfl) (Nat.le_of_ble_eq_true rfl) (Nat.le_of_ble_eq_true rfl)) (fun σ_20 hh hM hp_20 => ?_)
      obtain ⟨hk_20, hW_20⟩ := hp_20
      refine ww_aload_n 0 dX3_setKeeps_23 rfl ?_
      refine ww_getf gf_X3_17 rfl dX3_setKeeps_24 hM.obj rfl ?_
      refine ww_iload_n 1 dX3_setKeeps_27 rfl ?_
      refine cr_pi (cr_S (ct_X3_at hG _) ss_X3_174 rfl dX3_setKeeps_28 rfl rfl ⟨by decide, by decide⟩ (Nat.le_of_ble_eq_true rfl) (Nat.le_of_ble_eq_true rfl) (Nat.le_of_ble_eq_true rfl)) ?_
      refine ww_iconst dX3_setKeeps_31 ?_
      refine ww_iadd dX3_setKeeps_32 ?_
      refine ww_iload_n 2 dX3_setKeeps_33 rfl ?_
      refine ww_if_eq 41 dX3_setKeeps_34 (by decide) (by first | exact hM.rd _ | exact hM.ri rfl _ _ | exact ⟨by omega, by omega⟩ | assumption | exact bI_in _ | exact inI.mk (by omega) (by omega)) (fun c_34 => ?_) (fun c_34 => ?_)
      · refine ww_iconst dX3_setKeeps_41 ?_
        refine mw_stD dX3_setKeeps_42 hM (by omega) (by omega) (by first | exact hM.rd _ | exact hM.ri rfl _ _ | exact ⟨by omega, by omega⟩ | assumption | exact bI_in _ | exact inI.mk (by omega) (by omega)) (fun hh hM => ?_)
        refine ww_aload_n 0 dX3_setKeeps_43 rfl ?_
        refine ww_iconst dX3_setKeeps_44 ?_
        refine cr_si hM (cr_V (ct_X3_changedBut hG hM (hD0.kp (by omega) (by omega)) (w := xBd D fn) (fun a b x y z w => by rw [iup_n (by omega)] at y w; exact hW_20 a b x y z w) _ (by first | exact hM.rd _ | exact hM.ri rfl _ _ | exact ⟨by omega, by omega⟩ | assumption | exact bI_in _ | exact inI.mk (by omega) (by omega))) sv_X3_298 rfl dX3_setKeeps_45 hM.obj rfl rfl rfl rfl ⟨by decide, by decide⟩ (Nat.le_of_ble_eq_true rfl) (Nat.le_of_ble_eq_true rfl) (Nat.le_of_ble_eq_true rfl)) (fun r_45 σ_45 hh hM hp_45 => ?_)
        obtain ⟨hk_45, rfl⟩ := hp_45
        exact ww_iret hQ dX3_setKeeps_48 rfl (Nat.le_of_ble_eq_true rfl) (Nat.le_of_ble_eq_true rfl) (by first | exact ⟨_, rfl, _, _, hM, Or.inl ⟨by omega, by rw [bI_t (by omega)], ⟨hR_16.ext (su_off (by decide)).symm (su_off (by decide)).symm (by simp [hk_45, hk_20, hr_16]) (by simp [hk_45, hk_20, hr_16]), by simp [hk_45, hk_20, hr_16, su_off], by simp [hk_45, hk_20, hr_16, su_off], by simp [hk_45, hk_20, hr_16, su_off]⟩, by simp [hk_45, hk_20, hr_16, su], by rw [bI_t (by omega)]⟩⟩ | exact ⟨_, rfl, _, _, hM, Or.inl ⟨by omega, by rw [bI_f (by omega)], ⟨hR_16.ext (su_off (by decide)).symm (su_off (by decide)).symm (by simp [hk_45, hk_20, hr_16]) (by simp [hk_45, hk_20, hr_16]), by simp [hk_45, hk_20, hr_16, su_off], by simp [hk_45, hk_20, hr_16, su_off], by simp [hk_45, hk_20, hr_16, su_off]⟩, by simp [hk_45, hk_20, hr_16, su], by rw [bI_f (by omega)]⟩⟩)
      · refine ww_iconst dX3_setKeeps_37 ?_
        refine ww_goto 42 dX3_setKeeps_38 (by decide) ?_
        refine mw_stD dX3_setKeeps_42 hM (by omega) (by omega) (by first | exact hM.rd _ | exact hM.ri rfl _ _ | exact ⟨by omega, by omega⟩ | assumption | exact bI_in _ | exact inI.mk (by omega) (by omega)) (fun hh hM => ?_)
        refine ww_aload_n 0 dX3_setKeeps_43 rfl ?_
        refine ww_iconst dX3_setKeeps_44 ?_
        refine cr_si hM (cr_V (ct_X3_changedBut hG hM (hD0.kp (by omega) (by omega)) (w := xBd D fn) (fun a b x y z w => by rw [iup_n (by omega)] at y w; exact hW_20 a b x y z w) _ (by first | exact hM.rd _ | exact hM.ri rfl _ _ | exact ⟨by omega, by omega⟩ | assumption | exact bI_in _ | exact inI.mk (by omega) (by omega))) sv_X3_298 rfl dX3_setKeeps_45 hM.obj rfl rfl rfl rfl ⟨by decide, by decide⟩ (Nat.le_of_ble_eq_true rfl) (Nat.le_of_ble_eq_true rfl) (Nat.le_of_ble_eq_true rfl)) (fun r_45 σ_45 hh hM hp_45 => ?_)
        obtain ⟨hk_45, rfl⟩ := hp_45
        exact ww_iret hQ dX3_setKeeps_48 rfl (Nat.le_of_ble_eq_true rfl) (Nat.le_of_ble_eq_true rfl) (by first | exact ⟨_, rfl, _, _, hM, Or.inl ⟨by omega, by rw [bI_t (by omega)], ⟨hR_16.ext (su_off (by decide)).symm (su_off (by decide)).symm (by simp [hk_45, hk_20, hr_16]) (by simp [hk_45, hk_20, hr_16]), by simp [hk_45, hk_20, hr_16, su_off], by simp [hk_45, hk_20, hr_16, su_off], by simp [hk_45, hk_20, hr_16, su_off]⟩, by simp [hk_45, hk_20, hr_16, su], by rw [bI_t (by omega)]⟩⟩ | exact ⟨_, rfl, _, _, hM, Or.inl ⟨by omega, by rw [bI_f (by omega)], ⟨hR_16.ext (su_off (by decide)).symm (su_off (by decide)).symm (by simp [hk_45, hk_20, hr_16]) (by simp [hk_45, hk_20, hr_16]), by simp [hk_45, hk_20, hr_16, su_off], by simp [hk_45, hk_20, hr_16, su_off], by simp [hk_45, hk_20, hr_16, su_off]⟩, by simp [hk_45, hk_20, hr_16, su], by rw [bI_f (by omega)]⟩⟩)
    · exact absurd c_10 (by decide)
  · refine ww_if_eq 15 dX3_setKeeps_10 (by decide) (inI.mk (by decide) (by decide)) (fun c_10 => ?_) (fun c_10 => ?_)
    · exact absurd c_10 (by decide)
    · refine ww_iconst dX3_setKeeps_13 ?_
      exact ww_iret hQ dX3_setKeeps_14 rfl (Nat.le_of_ble_eq_true rfl) (Nat.le_of_ble_eq_true rfl) ⟨_, rfl, _, _, hM, by first | (exfalso; omega) | exact Or.inr (⟨by omega, rfl, by refine ⟨?_, ?_, ?_, ?_, ?_⟩ <;> simp [su_off], by simp [su]⟩)⟩

set_option maxHeartbeats 4000000 in
theorem ct_X3_setShare {G : GT} {h0 h : AH} {m : Nat} {A : Nat → Nat} {B : Nat → Int → Nat} {D : Int → Int} {σ : MS} (hG : GOK G) (hM : MWF G h0 h m A B D σ) {fn : EF} (hD : DOK D fn) (hu1 : 0 ≤ σ 11 0 0) (hu2 : σ 11 0 0 ≤ 8) (v : Int) (hv : inI v) : CMi G (MX3_setShare 7 158 0 0) h m A B [.ref m, .int (iI v)] (fun r D' σ' => ((0 ≤ v ∧ v ≤ 100) ∧ D' = iup D 0 v ∧ Chg σ D σ' ∧ σ' 0 0 0 = 0 ∧ r = xCh (xBd D fn) (iup D 0 v) fn (-1)) ∨ ((¬ (0 ≤ v ∧ v ≤ 100)) ∧ D' = D ∧ kp σ σ' ∧ σ' 0 0 0 = 1)) := by
  refine CT.of rfl hG (Nat.le_of_ble_eq_true rfl) rfl (fun E hQ => ?_)
  have hM := hM.1.f
  have hD0 := hD
  obtain ⟨⟨hl1, hl2⟩, ⟨hn1, hn2⟩, ⟨hs1, hs2⟩, hpf, hpr, htr, hwt, hof⟩ := hD
  refine ww_aload_n 0 dX3_setShare_0 rfl ?_
  refine ww_iconst dX3_setShare_1 ?_
  refine mw_put pf_X3_59 rfl dX3_setShare_2 hM rfl (by first | exact hM.rd _ | exact hM.ri rfl _ _ | exact ⟨by omega, by omega⟩ | assumption | exact bI_in _ | exact inI.mk (by omega) (by omega)) (fun hh hM => ?_)
  refine ww_aload_n 0 dX3_setShare_5 rfl ?_
  refine ww_iload_n 1 dX3_setShare_6 rfl ?_
  refine ww_iconst dX3_setShare_7 ?_
  refine ww_bipush dX3_setShare_8 (by decide) ?_
  refine cr_pi (cr_S (ct_X3_in hG _ _ _ (by first | exact hM.rd _ | exact hM.ri rfl _ _ | exact ⟨by omega, by omega⟩ | assumption | exact bI_in _ | exact inI.mk (by omega) (by omega)) (by first | exact hM.rd _ | exact hM.ri rfl _ _ | exact ⟨by omega, by omega⟩ | assumption | exact bI_in _ | exact inI.mk (by omega) (by omega)) (by first | exact hM.rd _ | exact hM.ri rfl _ _ | exact ⟨by omega, by omega⟩ | assumption | exact bI_in _ | exact inI.mk (by omega) (by omega))) ss_X3_81 rfl dX3_setShare_10 rfl rfl ⟨by decide, by decide⟩ (Nat.le_of_ble_eq_true rfl) (Nat.le_of_ble_eq_true rfl) (Nat.le_of_ble_eq_true rfl)) ?_
  refine ww_ifb_ne 20 dX3_setShare_13 (by decide) (fun c_13 => ?_) (fun c_13 => ?_)
  · refine ww_iconst dX3_setShare_20 ?_
    refine ww_iconst dX3_setShare_21 ?_
    refine cr_si hM (cr_V (ct_X3_fails hG hM _ _ (by first | exact hM.rd _ | exact hM.ri rfl _ _ | exact ⟨by omega, by omega⟩ | assumption | exact bI_in _ | exact inI.mk (by omega) (by omega)) (by first | exact hM.rd _ | exact hM.ri rfl _ _ | exact ⟨by omega, by omega⟩ | assumption | exact bI_in _ | exact inI.mk (by omega) (by omega)) (by decide) (by first | assumption | simp [su] | omega)) sv_X3_216 rfl dX3_setShare_22 hM.obj rfl rfl rfl rfl ⟨by decide, by decide⟩ (Nat.le_of_ble_eq_true rfl) (Nat.le_of_ble_eq_true rfl) (Nat.le_of_ble_eq_true rfl)) (fun r_22 σ_22 hh hM hp_22 => ?_)
    rcases hp_22 with ⟨c0_22, rfl, rfl⟩ | ⟨c0_22, rfl, rfl⟩
    · refine ww_if_eq 30 dX3_setShare_25 (by decide) (inI.mk (by decide) (by decide)) (fun c_25 => ?_) (fun c_25 => ?_)
      · refine ww_aload_n 0 dX3_setShare_30 rfl ?_
        refine cr_sv hM (cr_V (ct_X3_remember hG hM (by first | assumption | (simp [su_off]; omega)) (by first | assumption | (simp [su_off]; omega))) sv_X3_225 rfl dX3_setShare_31 hM.obj rfl rfl rfl rfl ⟨by decide, by decide⟩ (Nat.le_of_ble_eq_true rfl) (Nat.le_of_ble_eq_true rfl) (Nat.le_of_ble_eq_true rfl)) (fun σ_31 hh hM hp_31 => ?_)
        obtain ⟨hR_31, hr_31⟩ := hp_31
        refine ww_aload_n 0 dX3_setShare_34 rfl ?_
        refine cr_sv hM (cr_V (ct_X3_keepBindings hG hM hD0) sv_X3_295 rfl dX3_setShare_35 hM.obj rfl rfl rfl rfl ⟨by decide, by decide⟩ (Nat.le_of_ble_eq_true rfl) (Nat.le_of_ble_eq_true rfl) (Nat.le_of_ble_eq_true rfl)) (fun σ_35 hh hM hp_35 => ?_)
        obtain ⟨hk_35, hW_35⟩ := hp_35
        refine ww_aload_n 0 dX3_setShare_38 rfl ?_
        refine ww_getf gf_X3_17 rfl dX3_setShare_39 hM.obj rfl ?_
        refine ww_iconst dX3_setShare_42 ?_
        refine ww_iload_n 1 dX3_setShare_43 rfl ?_
        refine mw_stD dX3_setShare_44 hM (by omega) (by omega) (by first | exact hM.rd _ | exact hM.ri rfl _ _ | exact ⟨by omega, by omega⟩ | assumption | exact bI_in _ | exact inI.mk (by omega) (by omega)) (fun hh hM => ?_)
        refine ww_aload_n 0 dX3_setShare_45 rfl ?_
        refine ww_iconst dX3_setShare_46 ?_
        refine cr_si hM (cr_V (ct_X3_changedBut hG hM (hD0.sh (by omega) (by omega)) (w := xBd D fn) (fun a b x y z w => by rw [iup_n (by omega)] at y w; exact hW_35 a b x y z w) _ (by first | exact hM.rd _ | exact hM.ri rfl _ _ | exact ⟨by omega, by omega⟩ | assumption | exact bI_in _ | exact inI.mk (by omega) (by omega))) sv_X3_298 rfl dX3_setShare_47 hM.obj rfl rfl rfl rfl ⟨by decide, by decide⟩ (Nat.le_of_ble_eq_true rfl) (Nat.le_of_ble_eq_true rfl) (Nat.le_of_ble_eq_true rfl)) (fun r_47 σ_47 hh hM hp_47 => ?_)
        obtain ⟨hk_47, rfl⟩ := hp_47
        exact ww_iret hQ dX3_setShare_50 rfl (Nat.le_of_ble_eq_true rfl) (Nat.le_of_ble_eq_true rfl) ⟨_, rfl, _, _, hM, Or.inl ⟨by omega, rfl, ⟨hR_31.ext (su_off (by decide)).symm (su_off (by decide)).symm (by simp [hk_47, hk_35, hr_31]) (by simp [hk_47, hk_35, hr_31]), by simp [hk_47, hk_35, hr_31, su_off], by simp [hk_47, hk_35, hr_31, su_off], by simp [hk_47, hk_35, hr_31, su_off]⟩, by simp [hk_47, hk_35, hr_31, su], rfl⟩⟩
      · exact absurd c_25 (by decide)
    · refine ww_if_eq 30 dX3_setShare_25 (by decide) (inI.mk (by decide) (by decide)) (fun c_25 => ?_) (fun c_25 => ?_)
      · exact absurd c_25 (by decide)
      · refine ww_iconst dX3_setShare_28 ?_
        exact ww_iret hQ dX3_setShare_29 rfl (Nat.le_of_ble_eq_true rfl) (Nat.le_of_ble_eq_true rfl) ⟨_, rfl, _, _, hM, by first | (exfalso; omega) | exact Or.inr (⟨by omega, rfl, by refine ⟨?_, ?_, ?_, ?_, ?_⟩ <;> simp [su_off], by simp [su]⟩)⟩
  · refine ww_iconst dX3_setShare_16 ?_
    refine ww_goto 21 dX3_setShare_17 (by decide) ?_
    refine ww_iconst dX3_setShare_21 ?_
    refine cr_si hM (cr_V (ct_X3_fails hG hM _ _ (by first | exact hM.rd _ | exact hM.ri rfl _ _ | exact ⟨by omega, by omega⟩ | assumption | exact bI_in _ | exact inI.mk (by omega) (by omega)) (by first | exact hM.rd _ | exact hM.ri rfl _ _ | exact ⟨by omega, by omega⟩ | assumption | exact bI_in _ | exact inI.mk (by omega) (by omega)) (by decide) (by first | assumption | simp [su] | omega)) sv_X3_216 rfl dX3_setShare_22 hM.obj rfl rfl rfl rfl ⟨by decide, by decide⟩ (Nat.le_of_ble_eq_true rfl) (Nat.le_of_ble_eq_true rfl) (Nat.le_of_ble_eq_true rfl)) (fun r_22 σ_22 hh hM hp_22 => ?_)
    rcases hp_22 with ⟨c0_22, rfl, rfl⟩ | ⟨c0_22, rfl, rfl⟩
    · refine ww_if_eq 30 dX3_setShare_25 (by decide) (inI.mk (by decide) (by decide)) (fun c_25 => ?_) (fun c_25 => ?_)
      · refine ww_aload_n 0 dX3_setShare_30 rfl ?_
        refine cr_sv hM (cr_V (ct_X3_remember hG hM (by first | assumption | (simp [su_off]; omega)) (by first | assumption | (simp [su_off]; omega))) sv_X3_225 rfl dX3_setShare_31 hM.obj rfl rfl rfl rfl ⟨by decide, by decide⟩ (Nat.le_of_ble_eq_true rfl) (Nat.le_of_ble_eq_true rfl) (Nat.le_of_ble_eq_true rfl)) (fun σ_31 hh hM hp_31 => ?_)
        obtain ⟨hR_31, hr_31⟩ := hp_31
        refine ww_aload_n 0 dX3_setShare_34 rfl ?_
        refine cr_sv hM (cr_V (ct_X3_keepBindings hG hM hD0) sv_X3_295 rfl dX3_setShare_35 hM.obj rfl rfl rfl rfl ⟨by decide, by decide⟩ (Nat.le_of_ble_eq_true rfl) (Nat.le_of_ble_eq_true rfl) (Nat.le_of_ble_eq_true rfl)) (fun σ_35 hh hM hp_35 => ?_)
        obtain ⟨hk_35, hW_35⟩ := hp_35
        refine ww_aload_n 0 dX3_setShare_38 rfl ?_
        refine ww_getf gf_X3_17 rfl dX3_setShare_39 hM.obj rfl ?_
        refine ww_iconst dX3_setShare_42 ?_
        refine ww_iload_n 1 dX3_setShare_43 rfl ?_
        refine mw_stD dX3_setShare_44 hM (by omega) (by omega) (by first | exact hM.rd _ | exact hM.ri rfl _ _ | exact ⟨by omega, by omega⟩ | assumption | exact bI_in _ | exact inI.mk (by omega) (by omega)) (fun hh hM => ?_)
        refine ww_aload_n 0 dX3_setShare_45 rfl ?_
        refine ww_iconst dX3_setShare_46 ?_
        refine cr_si hM (cr_V (ct_X3_changedBut hG hM (hD0.sh (by omega) (by omega)) (w := xBd D fn) (fun a b x y z w => by rw [iup_n (by omega)] at y w; exact hW_35 a b x y z w) _ (by first | exact hM.rd _ | exact hM.ri rfl _ _ | exact ⟨by omega, by omega⟩ | assumption | exact bI_in _ | exact inI.mk (by omega) (by omega))) sv_X3_298 rfl dX3_setShare_47 hM.obj rfl rfl rfl rfl ⟨by decide, by decide⟩ (Nat.le_of_ble_eq_true rfl) (Nat.le_of_ble_eq_true rfl) (Nat.le_of_ble_eq_true rfl)) (fun r_47 σ_47 hh hM hp_47 => ?_)
        obtain ⟨hk_47, rfl⟩ := hp_47
        exact ww_iret hQ dX3_setShare_50 rfl (Nat.le_of_ble_eq_true rfl) (Nat.le_of_ble_eq_true rfl) ⟨_, rfl, _, _, hM, Or.inl ⟨by omega, rfl, ⟨hR_31.ext (su_off (by decide)).symm (su_off (by decide)).symm (by simp [hk_47, hk_35, hr_31]) (by simp [hk_47, hk_35, hr_31]), by simp [hk_47, hk_35, hr_31, su_off], by simp [hk_47, hk_35, hr_31, su_off], by simp [hk_47, hk_35, hr_31, su_off]⟩, by simp [hk_47, hk_35, hr_31, su], rfl⟩⟩
      · exact absurd c_25 (by decide)
    · refine ww_if_eq 30 dX3_setShare_25 (by decide) (inI.mk (by decide) (by decide)) (fun c_25 => ?_) (fun c_25 => ?_)
      · exact absurd c_25 (by decide)
      · refine ww_iconst dX3_setShare_28 ?_
        exact ww_iret hQ dX3_setShare_29 rfl (Nat.le_of_ble_eq_true rfl) (Nat.le_of_ble_eq_true rfl) ⟨_, rfl, _, _, hM, by first | (exfalso; omega) | exact Or.inr (⟨by omega, rfl, by refine ⟨?_, ?_, ?_, ?_, ?_⟩ <;> simp [su_off], by simp [su]⟩)⟩

set_option maxHeartbeats 4000000 in
theorem ct_X3_follow {G : GT} {h0 h : AH} {m : Nat} {A : Nat → Nat} {B : Nat → Int → Nat} {D : Int → Int} {σ : MS} (hG : GOK G) (hM : MWF G h0 h m A B D σ) {fn : EF} (hD : DOK D fn) (hB : ∀ a b : Int, 0 ≤ a → a < D 1 → 0 ≤ b → b < D 2 → σ 23 a b = xBd D fn a b) (k : Int) (n : Nat) (h1 : 0 ≤ k) (h2 : k < D 1) (h4 : (n : Int) < D 2) : CSi G (MX3_follow 1 20 0 0) h m A B D [.ref m, .int (iI k), .int (iI (n : Int))] (fun r σ' => (∀ j, j < 25 → σ' j = σ j) ∧ r = (flw 97 (xBd D fn) (fun a b => D (6 + 24 * a + 12 + b)) (fun _ _ => false) k n 0).1 ∧ σ' 26 0 0 = (flw 97 (xBd D fn) (fun a b => D (6 + 24 * a + 12 + b)) (fun _ _ => false) k n 0).2) := by
  refine CT.of rfl hG (Nat.le_of_ble_eq_true rfl) rfl (fun E hQ => ?_)
  have hM := hM.1.f
  have hD0 := hD
  obtain ⟨⟨hl1, hl2⟩, ⟨hn1, hn2⟩, ⟨hs1, hs2⟩, hpf, hpr, htr, hwt, hof⟩ := hD
  refine ww_aload_n 0 dX3_follow_0 rfl ?_
  refine ww_iconst dX3_follow_1 ?_
  refine mw_put pf_X3_274 rfl dX3_follow_2 hM rfl (by first | exact hM.rd _ | exact hM.ri rfl _ _ | exact ⟨by omega, by omega⟩ | assumption | exact bI_in _ | exact inI.mk (by omega) (by omega)) (fun hh hM => ?_)
  refine ww_iconst dX3_follow_5 ?_
  refine ww_istore_n [(3, _), (0, _), (1, _), (2, _)] dX3_follow_6 (by decide) rfl ?_
  have loop_7 : ∀ (f : Nat) (i : Int) (τ : MS) (hx : AH), (0 ≤ i) → (i ≤ 8) → (MWF G h hx m A B D τ) → (∀ j, j < 25 → τ j = σ j) → (τ 26 0 0 = 0) → (∀ r : Int, 0 ≤ r → r < i → τ 25 0 r = 0) → (9 - i ≤ f) → WW G E (MX3_follow 1 20 0 0) hx 0 0 7 [(3, .int (iI i)), (0, .ref m), (1, .int (iI k)), (2, .int (iI (n : Int)))] [] := by
    intro f
    induction f with
    | zero => intro i τ hx hi0 hi1 hM ho hw hz hf; exact absurd hf (by omega)
    | succ f ih =>
      intro i τ hx hi0 hi1 hM ho hw hz hf
      refine ww_iload_n 0 dX3_follow_7 rfl ?_
      refine ww_bipush dX3_follow_8 (by decide) ?_
      refine ww_icmp_ge 26 dX3_follow_10 (by decide) (by first | exact hM.rd _ | exact hM.ri rfl _ _ | exact ⟨by omega, by omega⟩ | assumption | exact bI_in _ | exact inI.mk (by omega) (by omega)) (by first | exact hM.rd _ | exact hM.ri rfl _ _ | exact ⟨by omega, by omega⟩ | assumption | exact bI_in _ | exact inI.mk (by omega) (by omega)) (fun c_10 => ?_) (fun c_10 => ?_)
      · refine ww_iload_n 2 dX3_follow_26 rfl ?_
        refine ww_istore_n [(3, _), (0, _), (1, _), (2, _)] dX3_follow_27 (by decide) rfl ?_
        refine ww_iload_n 3 dX3_follow_28 rfl ?_
        refine ww_istore [(4, _), (3, _), (0, _), (1, _), (2, _)] dX3_follow_29 (by decide) rfl ?_
        have loop_31 : ∀ (g : Nat) (V : Int → Int → Bool) (Mk : Int → Nat) (k1 : Int) (n1 : Nat) (s : Int) (τ1 : MS) (hx1 : AH), (MWF G h hx1 m A B D τ1) → (∀ j, j < 25 → τ1 j = σ j) → (∀ a : Int, 0 ≤ a → a < 8 → τ1 25 0 a = (Mk a : Nat)) → (mkOK Mk V) → (τ1 26 0 0 = s) → (0 ≤ k1) → (k1 < D 1) → ((n1 : Int) < D 2) → (0 ≤ s ∧ s + g ≤ 200) → (flw 97 (xBd D fn) (fun a b => D (6 + 24 * a + 12 + b)) (fun _ _ => false) k n 0 = flw g (xBd D fn) (fun a b => D (6 + 24 * a + 12 + b)) V k1 n1 s) → (fmu V < g) → WW G E (MX3_follow 1 20 0 0) hx1 0 0 31 [(4, .int (iI (n1 : Int))), (3, .int (iI k1)), (0, .ref m), (1, .int (iI k)), (2, .int (iI (n : Int)))] [] := by
          intro g
          induction g with
          | zero => intro V Mk k1 n1 s τ1 hx1 hM ho1 hmk hmo hs hk3 hk4 hn4 hsb he hg; exact absurd hg (by have := fmu_nn V; omega)
          | succ g ig =>
            intro V Mk k1 n1 s τ1 hx1 hM ho1 hmk hmo hs hk3 hk4 hn4 hsb he hg
            have hml := hmo.1 k1
            have hb1 := xBd_bd (n := (n1 : Int)) hD0 hk3 hk4
            have hbt := bit_t (k := k1) hmo (show n1 < 12 by omega)
            refine ww_aload_n 2 dX3_follow_31 rfl ?_
            refine ww_getf gf_X3_56 rfl dX3_follow_32 hM.obj rfl ?_
            refine ww_iload_n 1 dX3_follow_35 rfl ?_
            refine mw_ld dX3_follow_36 hM rfl (by omega) (by omega) ?_
            rw [hmk k1 (by omega) (by omega)]
            refine ww_iload 0 dX3_follow_37 rfl ?_
            refine ww_ishr dX3_follow_39 (by omega) (by omega) ?_
            refine ww_iconst dX3_follow_40 ?_
            refine ww_iand (m := 0) dX3_follow_41 1 (by decide) (Nat.lt_of_le_of_lt (Nat.div_le_self _ _) (by omega)) ?_
            refine ww_iconst dX3_follow_42 ?_
            refine ww_icmp_ne 49 dX3_follow_43 (by decide) (inI.mk (by omega) (by omega)) (inI.mk (by omega) (by omega)) (fun c_43 => ?_) (fun c_43 => ?_)
            · refine ww_aload_n 2 dX3_follow_49 rfl ?_
              refine ww_getf gf_X3_56 rfl dX3_follow_50 hM.obj rfl ?_
              refine ww_iload_n 1 dX3_follow_53 rfl ?_
              refine ww_dup2 dX3_follow_54 rfl rfl ?_
              refine mw_ld dX3_follow_55 hM rfl (by omega) (by omega) ?_
              rw [hmk k1 (by omega) (by omega)]
              refine ww_iconst dX3_follow_56 ?_
              refine ww_iload 0 dX3_follow_57 rfl ?_
              refine ww_ishl (a := 1) dX3_follow_59 (by omega) (by rw [Nat.one_mul]; exact Nat.pow_lt_pow_right (by decide) (by omega)) ?_
              refine ww_ior dX3_follow_60 ?_
              have hor : Mk k1 ||| 1 * 2 ^ n1 < 4096 := by have := (mkOK_up (k := k1) hmo (show n1 < 12 by omega)).1 k1; simpa using this
              refine mw_st dX3_follow_61 hM rfl (by omega) (by omega) (inI.mk (by omega) (by omega)) (fun hh hM => ?_)
              refine ww_aload_n 2 dX3_follow_62 rfl ?_
              refine ww_getf gf_X3_50 rfl dX3_follow_63 hM.obj rfl ?_
              refine ww_iload_n 1 dX3_follow_66 rfl ?_
              refine mw_gld dX3_follow_67 hM rfl (by omega) (by omega) ?_
              refine ww_iload 0 dX3_follow_68 rfl ?_
              refine mw_rld dX3_follow_70 hM rfl (by omega) (by omega) (by omega) (by omega) ?_
              rw [su_off (by decide), ho1 23 (by decide), hB k1 n1 hk3 hk4 (by omega) hn4]
              refine ww_istore [(5, _), (4, _), (3, _), (0, _), (1, _), (2, _)] dX3_follow_71 (by decide) rfl ?_
              refine ww_iload 0 dX3_follow_73 rfl ?_
              refine ww_iconst dX3_follow_75 ?_
              refine ww_icmp_ne 81 dX3_follow_76 (by decide) (inI.mk (by omega) (by omega)) (inI.mk (by omega) (by omega)) (fun c_76 => ?_) (fun c_76 => ?_)
              · have hcd := dCd_t (xBd_cd c_76)
                have hfo := hof (xBd D fn k1 n1) n1 (by omega) (by omega) (by omega) (by omega)
                refine ww_aload_n 3 dX3_follow_81 rfl ?_
                refine ww_dup dX3_follow_82 rfl ?_
                refine ww_getf gf_X3_274 rfl dX3_follow_83 hM.obj rfl ?_
                rw [su_off (by decide), hs]
                refine ww_iconst dX3_follow_86 ?_
                refine ww_iadd dX3_follow_87 ?_
                refine mw_put pf_X3_274 rfl dX3_follow_88 hM rfl (inI.mk (by omega) (by omega)) (fun hh hM => ?_)
                refine ww_aload_n 3 dX3_follow_91 rfl ?_
                refine ww_getf gf_X3_17 rfl dX3_follow_92 hM.obj rfl ?_
                refine ww_iload 0 dX3_follow_95 rfl ?_
                refine cr_pi (cr_S (ct_X3_at hG _) ss_X3_174 rfl dX3_follow_97 rfl rfl ⟨by decide, by decide⟩ (Nat.le_of_ble_eq_true rfl) (Nat.le_of_ble_eq_true rfl) (Nat.le_of_ble_eq_true rfl)) ?_
                refine ww_bipush dX3_follow_100 (by decide) ?_
                refine ww_iadd dX3_follow_102 ?_
                refine ww_iload 1 dX3_follow_103 rfl ?_
                refine ww_iadd dX3_follow_105 ?_
                refine mw_ldD dX3_follow_106 hM (by omega) (by omega) ?_
                refine ww_istore [(6, _), (5, _), (4, _), (3, _), (0, _), (1, _), (2, _)] dX3_follow_107 (by decide) rfl ?_
                refine ww_iload 0 dX3_follow_109 rfl ?_
                refine ww_if_lt 117 dX3_follow_111 (by decide) (hM.rd _) (fun c_111 => ?_) (fun c_111 => ?_)
                · refine ww_iload 1 dX3_follow_117 rfl ?_
                  refine ww_istore_n [(3, _), (6, _), (5, _), (4, _), (0, _), (1, _), (2, _)] dX3_follow_119 (by decide) rfl ?_
                  refine ww_bipush dX3_follow_120 (by decide) ?_
                  refine ww_iload 1 dX3_follow_122 rfl ?_
                  refine ww_isub dX3_follow_124 ?_
                  refine ww_istore [(4, _), (3, _), (6, _), (5, _), (0, _), (1, _), (2, _)] dX3_follow_125 (by decide) rfl ?_
                  refine ww_goto 31 dX3_follow_127 (by decide) ?_
                  refine ww_sub [0, 1, 4, 5, 6] rfl ?_
                  have hnn : ((-2 - D (6 + 24 * xBd D fn k1 n1 + 12 + n1)).toNat : Int) = -2 - D (6 + 24 * xBd D fn k1 n1 + 12 + n1) := Int.toNat_of_nonneg (by omega)
                  rw [← hnn]
                  exact ig (fmk V k1 n1) (fun a => if a = k1 then Mk k1 ||| 1 * 2 ^ n1 else Mk a) _ _ (s + 1) _ _ hM (fun j hj => by rw [su_off (by omega), su_off (by omega)]; exact ho1 j hj) (fun a x y => if e : a = k1 then by (subst e; rw [su_off (by decide), su_s]; simp) else by (rw [su_off (by decide), su_n (by omega), hmk a x y]; simp [e])) (mkOK_up hmo (by omega)) su_s (by omega) (by omega) (by omega) (by omega) (by rw [he, hnn]; show (if V k1 n1 = true then _ else _) = _; rw [if_neg (by rw [← hbt]; exact c_43), if_neg c_76, if_neg (show ¬ 0 ≤ D (6 + 24 * xBd D fn k1 n1 + 12 + n1) by omega)]) (by rw [fmu_mk hk3 (by omega) (by omega) (by omega) (by simpa using (fun q => c_43 (hbt.mpr q)))]; omega)
                · refine ww_iload 0 dX3_follow_114 rfl ?_
                  exact ww_iret hQ dX3_follow_116 rfl (Nat.le_of_ble_eq_true rfl) (Nat.le_of_ble_eq_true rfl) ⟨_, rfl, _, hM, fun j hj => by rw [su_off (by omega), su_off (by omega)]; exact ho1 j hj, by rw [he]; show _ = (if V k1 n1 = true then _ else _ : Int × Int).1; rw [if_neg (by rw [← hbt]; exact c_43), if_neg c_76, if_pos (show 0 ≤ D (6 + 24 * xBd D fn k1 n1 + 12 + n1) by omega)], by rw [he, su_s]; show _ = (if V k1 n1 = true then _ else _ : Int × Int).2; rw [if_neg (by rw [← hbt]; exact c_43), if_neg c_76, if_pos (show 0 ≤ D (6 + 24 * xBd D fn k1 n1 + 12 + n1) by omega)]⟩
              · refine ww_iconst dX3_follow_79 ?_
                exact ww_iret hQ dX3_follow_80 rfl (Nat.le_of_ble_eq_true rfl) (Nat.le_of_ble_eq_true rfl) ⟨_, rfl, _, hM, fun j hj => by rw [su_off (by omega)]; exact ho1 j hj, by rw [he]; show _ = (if V k1 n1 = true then _ else _ : Int × Int).1; rw [if_neg (by rw [← hbt]; exact c_43), if_pos c_76], by rw [he, su_off (by decide), hs]; show _ = (if V k1 n1 = true then _ else _ : Int × Int).2; rw [if_neg (by rw [← hbt]; exact c_43), if_pos c_76]⟩
            · refine ww_bipush dX3_follow_46 (by decide) ?_
              exact ww_iret hQ dX3_follow_48 rfl (Nat.le_of_ble_eq_true rfl) (Nat.le_of_ble_eq_true rfl) ⟨_, rfl, _, hM, fun j hj => ho1 j hj, by rw [he]; show _ = (if V k1 n1 = true then _ else _ : Int × Int).1; rw [if_pos (hbt.mp c_43)], by rw [he, hs]; show _ = (if V k1 n1 = true then _ else _ : Int × Int).2; rw [if_pos (hbt.mp c_43)]⟩
        refine ww_sub [0, 1, 2, 3, 4] rfl ?_
        exact loop_31 97 (fun _ _ => false) (fun _ => 0) k n 0 τ hx hM ho (fun a x y => hz a x (by omega)) mkOK_0 hw (by omega) (by omega) (by omega) (by omega) rfl (by rw [fmu_0]; decide)
      · refine ww_aload_n 1 dX3_follow_13 rfl ?_
        refine ww_getf gf_X3_56 rfl dX3_follow_14 hM.obj rfl ?_
        refine ww_iload_n 0 dX3_follow_17 rfl ?_
        refine ww_iconst dX3_follow_18 ?_
        refine mw_st dX3_follow_19 hM rfl (by omega) (by omega) (by first | exact hM.rd _ | exact hM.ri rfl _ _ | exact ⟨by omega, by omega⟩ | assumption | exact bI_in _ | exact inI.mk (by omega) (by omega)) (fun hh hM => ?_)
        refine ww_iinc (j := 0) [(3, _), (0, _), (1, _), (2, _)] dX3_follow_20 rfl (by decide) rfl ?_
        refine ww_goto 7 dX3_follow_23 (by decide) ?_
        refine ww_sub [0, 1, 2, 3] rfl ?_
        exact ih (i + 1) _ _ (by omega) (by omega) hM (fun j hj => by rw [su_off (by omega)]; exact ho j hj) (by rw [su_off (by decide)]; exact hw) (fun r x y => if e : r = i then by (rw [e, su_s]) else by (rw [su_n (by omega)]; exact hz r x (by omega))) (by omega)
  refine ww_sub [0, 1, 2, 3] rfl ?_
  exact loop_7 9 0 _ _ (by omega) (by omega) hM (fun j hj => su_off (by omega)) su_s (fun r x y => by omega) (by omega)
