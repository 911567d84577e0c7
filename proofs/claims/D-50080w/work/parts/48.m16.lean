set_option maxRecDepth 100000
set_option maxHeartbeats 4000000 in
theorem ct_X3_statement {G : GT} {h0 h : AH} {m : Nat} {A : Nat → Nat} {B : Nat → Int → Nat} {D : Int → Int} {σ : MS} (hG : GOK G) (hM : MWF G h0 h m A B D σ) {t : Int → Int} {n : Int} (hT : TX σ t n) (p : Int) (hp : σ 4 0 0 = p) (hp0 : 0 ≤ p) (hp1 : p ≤ n) (hg : σ 5 0 0 = 0) {s : PS} (hs : PSok s) (hR : MRep σ s) (hL : LitM G h) : CSv G (MX3_statement 20 432 0 0) h m A B D [.ref m] (fun σ' => NP σ σ' ∧ ((∃ c o, pSt t p s = .error (c, o) ∧ c ≠ 0 ∧ σ' 5 0 0 = c ∧ σ' 6 0 0 = o) ∨ (∃ e s', pSt t p s = .ok (e, s') ∧ σ' 5 0 0 = 0 ∧ σ' 4 0 0 = e ∧ p < e ∧ e ≤ n ∧ PSok s' ∧ MRep σ' s' ∧ σ' 6 = σ 6))) := by
  refine CT.of rfl hG (Nat.le_of_ble_eq_true rfl) rfl (fun E hQ => ?_)
  have hT0 := hT
  have hM := hM.1.f
  have hx := hT.1
  have hn8 := hx.2.1
  have l8 := hs.lbl
  have l12 := hs.nml
  have hrn := hR.hn
  have hrl := hR.hl
  refine ww_aload_n 0 dX3_statement_0 rfl ?_
  refine cr_si hM (cr_V (ct_X3_next hG hM hT _ (by first | exact hp | exact su_s | rfl) (by omega) (by omega)) sv_X3_89 rfl dX3_statement_1 hM.obj rfl rfl rfl rfl ⟨by decide, by decide⟩ (Nat.le_of_ble_eq_true rfl) (Nat.le_of_ble_eq_true rfl) (Nat.le_of_ble_eq_true rfl)) (fun r_1 σ_1 hh hM hp_1 => ?_)
  obtain ⟨rfl, rfl⟩ := hp_1
  try rw [su_su] at hM
  have hk := hx.k1 hp1
  have hT := hT.mv hM (by decide) (by decide)
  refine ww_pop dX3_statement_4 rfl ?_
  refine ww_aload_n 0 dX3_statement_5 rfl ?_
  refine ww_getf gf_X3_68 rfl dX3_statement_6 hM.obj rfl ?_
  rw [su_s]
  have hww := hx.w1 hk.2.1
  refine ww_istore_n [(1, _), (0, _)] dX3_statement_9 (by decide) rfl ?_
  refine ww_aload_n 1 dX3_statement_10 rfl ?_
  obtain ⟨a_11, tx_11, hz_11, hS_11⟩ := (hL.fr hM) 189 kwName (by decide)
  refine ww_ldcS hz_11 dX3_statement_11 ?_
  refine cr_si hM (cr_V (ct_X3_takeWord hG hM hT (sk t p) su_s (by omega) hk.2.1 (by rw [su_off (by decide)]; exact hg) hS_11 (fun e => hM.1.1 e.symm)) sv_X3_130 rfl dX3_statement_13 hM.obj rfl rfl rfl rfl ⟨by decide, by decide⟩ (Nat.le_of_ble_eq_true rfl) (Nat.le_of_ble_eq_true rfl) (Nat.le_of_ble_eq_true rfl)) (fun r_13 σ_13 hh hM hp_13 => ?_)
  rcases hp_13 with ⟨c0_13, rfl, rfl⟩ | ⟨c0_13, rfl, rfl⟩
  · rw [hx.kk hp1] at hM c0_13
    rw [su_su] at hM
    refine ww_if_eq 27 dX3_statement_16 (by decide) (inI.mk (by decide) (by decide)) (fun c_16 => ?_) (fun c_16 => ?_)
    · exact absurd c_16 (by decide)
    · refine ww_aload_n 1 dX3_statement_19 rfl ?_
      refine ww_iload_n 0 dX3_statement_20 rfl ?_
      refine cr_sv hM (cr_V (ct_X3_readName hG hM (hT0.mv hM (by decide) (by decide)) (we t (sk t p)) su_s (by omega) (by omega) (by rw [su_off (by decide)]; exact hg) hs (hR.of (su_off (by decide)) (su_off (by decide)) (su_off (by decide)) (su_off (by decide)) (su_off (by decide))) (sk t p) (by omega) hk.2.1) sv_X3_191 rfl dX3_statement_21 hM.obj rfl rfl rfl rfl ⟨by decide, by decide⟩ (Nat.le_of_ble_eq_true rfl) (Nat.le_of_ble_eq_true rfl) (Nat.le_of_ble_eq_true rfl)) (fun σ_21 hh hM hp_21 => ?_)
      obtain ⟨hnp, hcc⟩ := hp_21
      have hnf : NP σ σ_21 := (NP.rf.sx (by decide)).tr hnp
      have hT1 := hT0.of (hnf 1 (by decide)) (hnf 3 (by decide))
      rcases hcc with ⟨c, o, hpe, hce, h5, h6⟩ | ⟨e, s1, hpe, h5, h4, l0, l1, hsk, hR1, m6⟩
      · have hs1 : pSt1 t p s = .error (c, o) := by unfold pSt1; rw [if_pos (show pw t p = kwName from c0_13)]; exact hpe
        refine ww_goto 143 dX3_statement_24 (by decide) ?_
        refine ww_aload_n 1 dX3_statement_143 rfl ?_
        refine ww_bipush dX3_statement_144 (by decide) ?_
        refine cr_pv (cr_V (ct_X3_expectB hG hM (fun e => hce (h5.symm.trans e)) _) sv_X3_124 rfl dX3_statement_146 hM.obj rfl rfl rfl rfl ⟨by decide, by decide⟩ (Nat.le_of_ble_eq_true rfl) (Nat.le_of_ble_eq_true rfl) (Nat.le_of_ble_eq_true rfl)) ?_
        exact ww_vret hQ dX3_statement_149 rfl (Nat.le_of_ble_eq_true rfl) (Nat.le_of_ble_eq_true rfl) ⟨rfl, _, hM, hnf, Or.inl ⟨c, o, pSt_e hs1, hce, h5, h6⟩⟩
      · have hs1 : pSt1 t p s = .ok (e, s1) := by unfold pSt1; rw [if_pos (show pw t p = kwName from c0_13)]; exact hpe
        refine ww_goto 143 dX3_statement_24 (by decide) ?_
        refine ww_aload_n 1 dX3_statement_143 rfl ?_
        refine ww_bipush dX3_statement_144 (by decide) ?_
        refine cr_sv hM (cr_V (ct_X3_expect hG hM hT1 e h4 (by omega) (by omega) h5 59 (inI.mk (by decide) (by decide))) sv_X3_124 rfl dX3_statement_146 hM.obj rfl rfl rfl rfl ⟨by decide, by decide⟩ (Nat.le_of_ble_eq_true rfl) (Nat.le_of_ble_eq_true rfl) (Nat.le_of_ble_eq_true rfl)) (fun σ_146 hh hM hp_146 => ?_)
        rcases hp_146 with ⟨c59, rfl⟩ | ⟨c59, rfl⟩
        · have hsn : sk t e ≠ n := fun x => by rw [x, hx.2.2.1 n (Int.le_refl _)] at c59; cases c59
          have hke := hx.k1 (show e ≤ n by omega)
          exact ww_vret hQ dX3_statement_149 rfl (Nat.le_of_ble_eq_true rfl) (Nat.le_of_ble_eq_true rfl) ⟨rfl, _, hM, hnf.sx (by decide), Or.inr ⟨_, _, pSt_ok hs1 c59, by rw [su_off (by decide)]; exact h5, su_s, by omega, by omega, hsk, hR1.of (su_off (by decide)) (su_off (by decide)) (su_off (by decide)) (su_off (by decide)) (su_off (by decide)), by rw [su_off (by decide)]; exact (m6.trans (su_off (by decide)))⟩⟩
        · exact ww_vret hQ dX3_statement_149 rfl (Nat.le_of_ble_eq_true rfl) (Nat.le_of_ble_eq_true rfl) ⟨rfl, _, hM, ((hnf.sx (by decide)).sx (by decide)).sx (by decide), Or.inl ⟨-2, sk t e, pSt_no hs1 c59, by decide, by rw [su_off (by decide), su_s], su_s⟩⟩
  · rw [hx.kk hp1] at hM c0_13
    rw [su_su] at hM
    refine ww_if_eq 27 dX3_statement_16 (by decide) (inI.mk (by decide) (by decide)) (fun c_16 => ?_) (fun c_16 => ?_)
    · refine ww_aload_n 1 dX3_statement_27 rfl ?_
      obtain ⟨a_28, tx_28, hz_28, hS_28⟩ := (hL.fr hM) 194 kwLibrary (by decide)
      refine ww_ldcS hz_28 dX3_statement_28 ?_
      refine cr_si hM (cr_V (ct_X3_takeWord hG hM hT (sk t p) su_s (by omega) hk.2.1 (by rw [su_off (by decide)]; exact hg) hS_28 (fun e => hM.1.1 e.symm)) sv_X3_130 rfl dX3_statement_30 hM.obj rfl rfl rfl rfl ⟨by decide, by decide⟩ (Nat.le_of_ble_eq_true rfl) (Nat.le_of_ble_eq_true rfl) (Nat.le_of_ble_eq_true rfl)) (fun r_30 σ_30 hh hM hp_30 => ?_)
      rcases hp_30 with ⟨c0_30, rfl, rfl⟩ | ⟨c0_30, rfl, rfl⟩
      · rw [hx.kk hp1] at hM c0_30
        rw [su_su] at hM
        refine ww_if_eq 44 dX3_statement_33 (by decide) (inI.mk (by decide) (by decide)) (fun c_33 => ?_) (fun c_33 => ?_)
        · exact absurd c_33 (by decide)
        · refine ww_aload_n 1 dX3_statement_36 rfl ?_
          refine ww_iload_n 0 dX3_statement_37 rfl ?_
          refine cr_sv hM (cr_V (ct_X3_readLibrary hG hM (hT0.mv hM (by decide) (by decide)) (we t (sk t p)) su_s (by omega) (by omega) (by rw [su_off (by decide)]; exact hg) hs (hR.of (su_off (by decide)) (su_off (by decide)) (su_off (by decide)) (su_off (by decide)) (su_off (by decide))) (sk t p) (by omega) hk.2.1 (hL.fr hM)) sv_X3_196 rfl dX3_statement_38 hM.obj rfl rfl rfl rfl ⟨by decide, by decide⟩ (Nat.le_of_ble_eq_true rfl) (Nat.le_of_ble_eq_true rfl) (Nat.le_of_ble_eq_true rfl)) (fun σ_38 hh hM hp_38 => ?_)
          obtain ⟨hnp, hcc⟩ := hp_38
          have hnf : NP σ σ_38 := (NP.rf.sx (by decide)).tr hnp
          have hT1 := hT0.of (hnf 1 (by decide)) (hnf 3 (by decide))
          rcases hcc with ⟨c, o, hpe, hce, h5, h6⟩ | ⟨e, s1, hpe, h5, h4, l0, l1, hsk, hR1, m6⟩
          · have hs1 : pSt1 t p s = .error (c, o) := by unfold pSt1; rw [if_neg (show ¬ pw t p = kwName from c0_13), if_pos (show pw t p = kwLibrary from c0_30)]; exact hpe
            refine ww_goto 143 dX3_statement_41 (by decide) ?_
            refine ww_aload_n 1 dX3_statement_143 rfl ?_
            refine ww_bipush dX3_statement_144 (by decide) ?_
            refine cr_pv (cr_V (ct_X3_expectB hG hM (fun e => hce (h5.symm.trans e)) _) sv_X3_124 rfl dX3_statement_146 hM.obj rfl rfl rfl rfl ⟨by decide, by decide⟩ (Nat.le_of_ble_eq_true rfl) (Nat.le_of_ble_eq_true rfl) (Nat.le_of_ble_eq_true rfl)) ?_
            exact ww_vret hQ dX3_statement_149 rfl (Nat.le_of_ble_eq_true rfl) (Nat.le_of_ble_eq_true rfl) ⟨rfl, _, hM, hnf, Or.inl ⟨c, o, pSt_e hs1, hce, h5, h6⟩⟩
          · have hs1 : pSt1 t p s = .ok (e, s1) := by unfold pSt1; rw [if_neg (show ¬ pw t p = kwName from c0_13), if_pos (show pw t p = kwLibrary from c0_30)]; exact hpe
            refine ww_goto 143 dX3_statement_41 (by decide) ?_
            refine ww_aload_n 1 dX3_statement_143 rfl ?_
            refine ww_bipush dX3_statement_144 (by decide) ?_
            refine cr_sv hM (cr_V (ct_X3_expect hG hM hT1 e h4 (by omega) (by omega) h5 59 (inI.mk (by decide) (by decide))) sv_X3_124 rfl dX3_statement_146 hM.obj rfl rfl rfl rfl ⟨by decide, by decide⟩ (Nat.le_of_ble_eq_true rfl) (Nat.le_of_ble_eq_true rfl) (Nat.le_of_ble_eq_true rfl)) (fun σ_146 hh hM hp_146 => ?_)
            rcases hp_146 with ⟨c59, rfl⟩ | ⟨c59, rfl⟩
            · have hsn : sk t e ≠ n := fun x => by rw [x, hx.2.2.1 n (Int.le_refl _)] at c59; cases c59
              have hke := hx.k1 (show e ≤ n by omega)
              exact ww_vret hQ dX3_statement_149 rfl (Nat.le_of_ble_eq_true rfl) (Nat.le_of_ble_eq_true rfl) ⟨rfl, _, hM, hnf.sx (by decide), Or.inr ⟨_, _, pSt_ok hs1 c59, by rw [su_off (by decide)]; exact h5, su_s, by omega, by omega, hsk, hR1.of (su_off (by decide)) (su_off (by decide)) (su_off (by decide)) (su_off (by decide)) (su_off (by decide)), by rw [su_off (by decide)]; exact (m6.trans (su_off (by decide)))⟩⟩
            · exact ww_vret hQ dX3_statement_149 rfl (Nat.le_of_ble_eq_true rfl) (Nat.le_of_ble_eq_true rfl) ⟨rfl, _, hM, ((hnf.sx (by decide)).sx (by decide)).sx (by decide), Or.inl ⟨-2, sk t e, pSt_no hs1 c59, by decide, by rw [su_off (by decide), su_s], su_s⟩⟩
      · rw [hx.kk hp1] at hM c0_30
        rw [su_su] at hM
        refine ww_if_eq 44 dX3_statement_33 (by decide) (inI.mk (by decide) (by decide)) (fun c_33 => ?_) (fun c_33 => ?_)
        · refine ww_aload_n 1 dX3_statement_44 rfl ?_
          obtain ⟨a_45, tx_45, hz_45, hS_45⟩ := (hL.fr hM) 199 kwOffer (by decide)
          refine ww_ldcS hz_45 dX3_statement_45 ?_
          refine cr_si hM (cr_V (ct_X3_takeWord hG hM hT (sk t p) su_s (by omega) hk.2.1 (by rw [su_off (by decide)]; exact hg) hS_45 (fun e => hM.1.1 e.symm)) sv_X3_130 rfl dX3_statement_47 hM.obj rfl rfl rfl rfl ⟨by decide, by decide⟩ (Nat.le_of_ble_eq_true rfl) (Nat.le_of_ble_eq_true rfl) (Nat.le_of_ble_eq_true rfl)) (fun r_47 σ_47 hh hM hp_47 => ?_)
          rcases hp_47 with ⟨c0_47, rfl, rfl⟩ | ⟨c0_47, rfl, rfl⟩
          · rw [hx.kk hp1] at hM c0_47
            rw [su_su] at hM
            refine ww_if_eq 60 dX3_statement_50 (by decide) (inI.mk (by decide) (by decide)) (fun c_50 => ?_) (fun c_50 => ?_)
            · exact absurd c_50 (by decide)
            · refine ww_aload_n 1 dX3_statement_53 rfl ?_
              refine cr_sv hM (cr_V (ct_X3_readOffer hG hM (hT0.mv hM (by decide) (by decide)) (we t (sk t p)) su_s (by omega) (by omega) (by rw [su_off (by decide)]; exact hg) hs (hR.of (su_off (by decide)) (su_off (by decide)) (su_off (by decide)) (su_off (by decide)) (su_off (by decide))) (hL.fr hM)) sv_X3_201 rfl dX3_statement_54 hM.obj rfl rfl rfl rfl ⟨by decide, by decide⟩ (Nat.le_of_ble_eq_true rfl) (Nat.le_of_ble_eq_true rfl) (Nat.le_of_ble_eq_true rfl)) (fun σ_54 hh hM hp_54 => ?_)
              obtain ⟨hnp, hcc⟩ := hp_54
              have hnf : NP σ σ_54 := (NP.rf.sx (by decide)).tr hnp
              have hT1 := hT0.of (hnf 1 (by decide)) (hnf 3 (by decide))
              rcases hcc with ⟨c, o, hpe, hce, h5, h6⟩ | ⟨e, s1, hpe, h5, h4, l0, l1, hsk, hR1, m6⟩
              · have hs1 : pSt1 t p s = .error (c, o) := by unfold pSt1; rw [if_neg (show ¬ pw t p = kwName from c0_13), if_neg (show ¬ pw t p = kwLibrary from c0_30), if_pos (show pw t p = kwOffer from c0_47)]; exact hpe
                refine ww_goto 143 dX3_statement_57 (by decide) ?_
                refine ww_aload_n 1 dX3_statement_143 rfl ?_
                refine ww_bipush dX3_statement_144 (by decide) ?_
                refine cr_pv (cr_V (ct_X3_expectB hG hM (fun e => hce (h5.symm.trans e)) _) sv_X3_124 rfl dX3_statement_146 hM.obj rfl rfl rfl rfl ⟨by decide, by decide⟩ (Nat.le_of_ble_eq_true rfl) (Nat.le_of_ble_eq_true rfl) (Nat.le_of_ble_eq_true rfl)) ?_
                exact ww_vret hQ dX3_statement_149 rfl (Nat.le_of_ble_eq_true rfl) (Nat.le_of_ble_eq_true rfl) ⟨rfl, _, hM, hnf, Or.inl ⟨c, o, pSt_e hs1, hce, h5, h6⟩⟩
              · have hs1 : pSt1 t p s = .ok (e, s1) := by unfold pSt1; rw [if_neg (show ¬ pw t p = kwName from c0_13), if_neg (show ¬ pw t p = kwLibrary from c0_30), if_pos (show pw t p = kwOffer from c0_47)]; exact hpe
                refine ww_goto 143 dX3_statement_57 (by decide) ?_
                refine ww_aload_n 1 dX3_statement_143 rfl ?_
                refine ww_bipush dX3_statement_144 (by decide) ?_
                refine cr_sv hM (cr_V (ct_X3_expect hG hM hT1 e h4 (by omega) (by omega) h5 59 (inI.mk (by decide) (by decide))) sv_X3_124 rfl dX3_statement_146 hM.obj rfl rfl rfl rfl ⟨by decide, by decide⟩ (Nat.le_of_ble_eq_true rfl) (Nat.le_of_ble_eq_true rfl) (Nat.le_of_ble_eq_true rfl)) (fun σ_146 hh hM hp_146 => ?_)
                rcases hp_146 with ⟨c59, rfl⟩ | ⟨c59, rfl⟩
                · have hsn : sk t e ≠ n := fun x => by rw [x, hx.2.2.1 n (Int.le_refl _)] at c59; cases c59
                  have hke := hx.k1 (show e ≤ n by omega)
                  exact ww_vret hQ dX3_statement_149 rfl (Nat.le_of_ble_eq_true rfl) (Nat.le_of_ble_eq_true rfl) ⟨rfl, _, hM, hnf.sx (by decide), Or.inr ⟨_, _, pSt_ok hs1 c59, by rw [su_off (by decide)]; exact h5, su_s, by omega, by omega, hsk, hR1.of (su_off (by decide)) (su_off (by decide)) (su_off (by decide)) (su_off (by decide)) (su_off (by decide)), by rw [su_off (by decide)]; exact (m6.trans (su_off (by decide)))⟩⟩
                · exact ww_vret hQ dX3_statement_149 rfl (Nat.le_of_ble_eq_true rfl) (Nat.le_of_ble_eq_true rfl) ⟨rfl, _, hM, ((hnf.sx (by decide)).sx (by decide)).sx (by decide), Or.inl ⟨-2, sk t e, pSt_no hs1 c59, by decide, by rw [su_off (by decide), su_s], su_s⟩⟩
          · rw [hx.kk hp1] at hM c0_47
            rw [su_su] at hM
            refine ww_if_eq 60 dX3_statement_50 (by decide) (inI.mk (by decide) (by decide)) (fun c_50 => ?_) (fun c_50 => ?_)
            · refine ww_aload_n 1 dX3_statement_60 rfl ?_
              obtain ⟨a_61, tx_61, hz_61, hS_61⟩ := (hL.fr hM) 204 kwPrefer (by decide)
              refine ww_ldcS hz_61 dX3_statement_61 ?_
              refine cr_si hM (cr_V (ct_X3_takeWord hG hM hT (sk t p) su_s (by omega) hk.2.1 (by rw [su_off (by decide)]; exact hg) hS_61 (fun e => hM.1.1 e.symm)) sv_X3_130 rfl dX3_statement_63 hM.obj rfl rfl rfl rfl ⟨by decide, by decide⟩ (Nat.le_of_ble_eq_true rfl) (Nat.le_of_ble_eq_true rfl) (Nat.le_of_ble_eq_true rfl)) (fun r_63 σ_63 hh hM hp_63 => ?_)
              rcases hp_63 with ⟨c0_63, rfl, rfl⟩ | ⟨c0_63, rfl, rfl⟩
              · rw [hx.kk hp1] at hM c0_63
                rw [su_su] at hM
                refine ww_if_eq 76 dX3_statement_66 (by decide) (inI.mk (by decide) (by decide)) (fun c_66 => ?_) (fun c_66 => ?_)
                · exact absurd c_66 (by decide)
                · refine ww_aload_n 1 dX3_statement_69 rfl ?_
                  refine cr_sv hM (cr_V (ct_X3_readPreference hG hM (hT0.mv hM (by decide) (by decide)) (we t (sk t p)) su_s (by omega) (by omega) (by rw [su_off (by decide)]; exact hg) hs (hR.of (su_off (by decide)) (su_off (by decide)) (su_off (by decide)) (su_off (by decide)) (su_off (by decide)))) sv_X3_206 rfl dX3_statement_70 hM.obj rfl rfl rfl rfl ⟨by decide, by decide⟩ (Nat.le_of_ble_eq_true rfl) (Nat.le_of_ble_eq_true rfl) (Nat.le_of_ble_eq_true rfl)) (fun σ_70 hh hM hp_70 => ?_)
                  obtain ⟨hnp, hcc⟩ := hp_70
                  have hnf : NP σ σ_70 := (NP.rf.sx (by decide)).tr hnp
                  have hT1 := hT0.of (hnf 1 (by decide)) (hnf 3 (by decide))
                  rcases hcc with ⟨c, o, hpe, hce, h5, h6⟩ | ⟨e, s1, hpe, h5, h4, l0, l1, hsk, hR1, m6⟩
                  · have hs1 : pSt1 t p s = .error (c, o) := by unfold pSt1; rw [if_neg (show ¬ pw t p = kwName from c0_13), if_neg (show ¬ pw t p = kwLibrary from c0_30), if_neg (show ¬ pw t p = kwOffer from c0_47), if_pos (show pw t p = kwPrefer from c0_63)]; exact hpe
                    refine ww_goto 143 dX3_statement_73 (by decide) ?_
                    refine ww_aload_n 1 dX3_statement_143 rfl ?_
                    refine ww_bipush dX3_statement_144 (by decide) ?_
                    refine cr_pv (cr_V (ct_X3_expectB hG hM (fun e => hce (h5.symm.trans e)) _) sv_X3_124 rfl dX3_statement_146 hM.obj rfl rfl rfl rfl ⟨by decide, by decide⟩ (Nat.le_of_ble_eq_true rfl) (Nat.le_of_ble_eq_true rfl) (Nat.le_of_ble_eq_true rfl)) ?_
                    exact ww_vret hQ dX3_statement_149 rfl (Nat.le_of_ble_eq_true rfl) (Nat.le_of_ble_eq_true rfl) ⟨rfl, _, hM, hnf, Or.inl ⟨c, o, pSt_e hs1, hce, h5, h6⟩⟩
                  · have hs1 : pSt1 t p s = .ok (e, s1) := by unfold pSt1; rw [if_neg (show ¬ pw t p = kwName from c0_13), if_neg (show ¬ pw t p = kwLibrary from c0_30), if_neg (show ¬ pw t p = kwOffer from c0_47), if_pos (show pw t p = kwPrefer from c0_63)]; exact hpe
                    refine ww_goto 143 dX3_statement_73 (by decide) ?_
                    refine ww_aload_n 1 dX3_statement_143 rfl ?_
                    refine ww_bipush dX3_statement_144 (by decide) ?_
                    refine cr_sv hM (cr_V (ct_X3_expect hG hM hT1 e h4 (by omega) (by omega) h5 59 (inI.mk (by decide) (by decide))) sv_X3_124 rfl dX3_statement_146 hM.obj rfl rfl rfl rfl ⟨by decide, by decide⟩ (Nat.le_of_ble_eq_true rfl) (Nat.le_of_ble_eq_true rfl) (Nat.le_of_ble_eq_true rfl)) (fun σ_146 hh hM hp_146 => ?_)
                    rcases hp_146 with ⟨c59, rfl⟩ | ⟨c59, rfl⟩
                    · have hsn : sk t e ≠ n := fun x => by rw [x, hx.2.2.1 n (Int.le_refl _)] at c59; cases c59
                      have hke := hx.k1 (show e ≤ n by omega)
                      exact ww_vret hQ dX3_statement_149 rfl (Nat.le_of_ble_eq_true rfl) (Nat.le_of_ble_eq_true rfl) ⟨rfl, _, hM, hnf.sx (by decide), Or.inr ⟨_, _, pSt_ok hs1 c59, by rw [su_off (by decide)]; exact h5, su_s, by omega, by omega, hsk, hR1.of (su_off (by decide)) (su_off (by decide)) (su_off (by decide)) (su_off (by decide)) (su_off (by decide)), by rw [su_off (by decide)]; exact (m6.trans (su_off (by decide)))⟩⟩
                    · exact ww_vret hQ dX3_statement_149 rfl (Nat.le_of_ble_eq_true rfl) (Nat.le_of_ble_eq_true rfl) ⟨rfl, _, hM, ((hnf.sx (by decide)).sx (by decide)).sx (by decide), Or.inl ⟨-2, sk t e, pSt_no hs1 c59, by decide, by rw [su_off (by decide), su_s], su_s⟩⟩
              · rw [hx.kk hp1] at hM c0_63
                rw [su_su] at hM
                refine ww_if_eq 76 dX3_statement_66 (by decide) (inI.mk (by decide) (by decide)) (fun c_66 => ?_) (fun c_66 => ?_)
                · refine ww_aload_n 1 dX3_statement_76 rfl ?_
                  obtain ⟨a_77, tx_77, hz_77, hS_77⟩ := (hL.fr hM) 209 kwShare (by decide)
                  refine ww_ldcS hz_77 dX3_statement_77 ?_
                  refine cr_si hM (cr_V (ct_X3_takeWord hG hM hT (sk t p) su_s (by omega) hk.2.1 (by rw [su_off (by decide)]; exact hg) hS_77 (fun e => hM.1.1 e.symm)) sv_X3_130 rfl dX3_statement_79 hM.obj rfl rfl rfl rfl ⟨by decide, by decide⟩ (Nat.le_of_ble_eq_true rfl) (Nat.le_of_ble_eq_true rfl) (Nat.le_of_ble_eq_true rfl)) (fun r_79 σ_79 hh hM hp_79 => ?_)
                  rcases hp_79 with ⟨c0_79, rfl, rfl⟩ | ⟨c0_79, rfl, rfl⟩
                  · rw [hx.kk hp1] at hM c0_79
                    rw [su_su] at hM
                    refine ww_if_eq 107 dX3_statement_82 (by decide) (inI.mk (by decide) (by decide)) (fun c_82 => ?_) (fun c_82 => ?_)
                    · exact absurd c_82 (by decide)
                    · refine ww_aload_n 1 dX3_statement_85 rfl ?_
                      refine ww_iconst dX3_statement_86 ?_
                      refine ww_iload_n 0 dX3_statement_87 rfl ?_
                      refine cr_sv hM (cr_V (ct_X3_once hG hM (by rw [su_off (by decide)]; exact hg) 0 (bN s.hs + 2 * bN s.hw) _ (inI.mk (by omega) (by omega)) (by decide) (bN4 _ _) (by rw [su_off (by decide)]; exact hR.seen)) sv_X3_211 rfl dX3_statement_88 hM.obj rfl rfl rfl rfl ⟨by decide, by decide⟩ (Nat.le_of_ble_eq_true rfl) (Nat.le_of_ble_eq_true rfl) (Nat.le_of_ble_eq_true rfl)) (fun σ_88 hh hM hp_88 => ?_)
                      obtain ⟨hko, h14o, hco⟩ := hp_88
                      rw [(seen0 s.hs s.hw).2] at h14o
                      rw [(seen0 s.hs s.hw).1] at hco
                      have hnf : NP σ σ_88 := fun j hj => by rw [hko j (by omega) (by omega) (by omega), su_off (by omega)]
                      have hT1 := hT0.of (hnf 1 (by decide)) (hnf 3 (by decide))
                      rcases hco with ⟨hh1, h5, h6⟩ | ⟨hh1, h5, h6⟩
                      · refine ww_aload_n 1 dX3_statement_91 rfl ?_
                        refine ww_getf gf_X3_20 rfl dX3_statement_92 hM.obj rfl ?_
                        refine ww_iconst dX3_statement_95 ?_
                        refine ww_aload_n 1 dX3_statement_96 rfl ?_
                        refine ww_iconst dX3_statement_97 ?_
                        refine ww_bipush dX3_statement_98 (by decide) ?_
                        refine cr_pi (cr_V (ct_X3_numberB hG hM (by rw [h5]; decide) _ _) sv_X3_140 rfl dX3_statement_100 hM.obj rfl rfl rfl rfl ⟨by decide, by decide⟩ (Nat.le_of_ble_eq_true rfl) (Nat.le_of_ble_eq_true rfl) (Nat.le_of_ble_eq_true rfl)) ?_
                        refine mw_st dX3_statement_103 hM rfl (by omega) (by omega) (inI.mk (by decide) (by decide)) (fun hh hM => ?_)
                        refine ww_goto 143 dX3_statement_104 (by decide) ?_
                        refine ww_aload_n 1 dX3_statement_143 rfl ?_
                        refine ww_bipush dX3_statement_144 (by decide) ?_
                        refine cr_pv (cr_V (ct_X3_expectB hG hM (by rw [su_off (by decide), h5]; decide) _) sv_X3_124 rfl dX3_statement_146 hM.obj rfl rfl rfl rfl ⟨by decide, by decide⟩ (Nat.le_of_ble_eq_true rfl) (Nat.le_of_ble_eq_true rfl) (Nat.le_of_ble_eq_true rfl)) ?_
                        exact ww_vret hQ dX3_statement_149 rfl (Nat.le_of_ble_eq_true rfl) (Nat.le_of_ble_eq_true rfl) ⟨rfl, _, hM, hnf.sx (by decide), Or.inl ⟨-2, sk t p, pSt_e (by unfold pSt1; rw [if_neg (show ¬ pw t p = kwName from c0_13), if_neg (show ¬ pw t p = kwLibrary from c0_30), if_neg (show ¬ pw t p = kwOffer from c0_47), if_neg (show ¬ pw t p = kwPrefer from c0_63), if_pos (show pw t p = kwShare from c0_79)]; exact pSha_e1 hh1), by decide, (by rw [su_off (by decide)]; exact h5), (by rw [su_off (by decide)]; exact h6)⟩⟩
                      · refine ww_aload_n 1 dX3_statement_91 rfl ?_
                        refine ww_getf gf_X3_20 rfl dX3_statement_92 hM.obj rfl ?_
                        refine ww_iconst dX3_statement_95 ?_
                        refine ww_aload_n 1 dX3_statement_96 rfl ?_
                        refine ww_iconst dX3_statement_97 ?_
                        refine ww_bipush dX3_statement_98 (by decide) ?_
                        refine cr_si hM (cr_V (ct_X3_number hG hM hT1 (we t (sk t p)) (by rw [hko 4 (by decide) (by decide) (by decide), su_s]) (by omega) (by omega) (by rw [h5, su_off (by decide)]; exact hg) 0 100 (inI.mk (by decide) (by decide)) (inI.mk (by decide) (by decide))) sv_X3_140 rfl dX3_statement_100 hM.obj rfl rfl rfl rfl ⟨by decide, by decide⟩ (Nat.le_of_ble_eq_true rfl) (Nat.le_of_ble_eq_true rfl) (Nat.le_of_ble_eq_true rfl)) (fun r_100 σ_100 hh hM hp_100 => ?_)
                        obtain ⟨hk_100, hr_100, hc_100⟩ := hp_100
                        have hnf2 : NP σ σ_100 := hnf.tr (fun j hj => hk_100 j (by omega) (by omega) (by omega) (by omega))
                        rcases hc_100 with ⟨c, o, hpe, hce, h5e, h6e⟩ | ⟨v, e, hpn, h5g, h4g, rfl, f1, f2, f3, f4, f6⟩
                        · refine mw_st dX3_statement_103 hM rfl (by omega) (by omega) (inI.mk (by omega) (by omega)) (fun hh hM => ?_)
                          refine ww_goto 143 dX3_statement_104 (by decide) ?_
                          refine ww_aload_n 1 dX3_statement_143 rfl ?_
                          refine ww_bipush dX3_statement_144 (by decide) ?_
                          refine cr_pv (cr_V (ct_X3_expectB hG hM (fun e => hce (h5e.symm.trans e)) _) sv_X3_124 rfl dX3_statement_146 hM.obj rfl rfl rfl rfl ⟨by decide, by decide⟩ (Nat.le_of_ble_eq_true rfl) (Nat.le_of_ble_eq_true rfl) (Nat.le_of_ble_eq_true rfl)) ?_
                          exact ww_vret hQ dX3_statement_149 rfl (Nat.le_of_ble_eq_true rfl) (Nat.le_of_ble_eq_true rfl) ⟨rfl, _, hM, hnf2.sx (by decide), Or.inl ⟨c, o, pSt_e (by unfold pSt1; rw [if_neg (show ¬ pw t p = kwName from c0_13), if_neg (show ¬ pw t p = kwLibrary from c0_30), if_neg (show ¬ pw t p = kwOffer from c0_47), if_neg (show ¬ pw t p = kwPrefer from c0_63), if_pos (show pw t p = kwShare from c0_79)]; exact pSha_e2 hh1 hpe), hce, (by rw [su_off (by decide)]; exact h5e), (by rw [su_off (by decide)]; exact h6e)⟩⟩
                        · refine mw_st dX3_statement_103 hM rfl (by omega) (by omega) (inI.mk (by omega) (by omega)) (fun hh hM => ?_)
                          have hnf3 : NP σ (su σ_100 9 0 0 r_100) := hnf2.sx (by decide)
                          have hT3 := hT0.of (hnf3 1 (by decide)) (hnf3 3 (by decide))
                          have hs1 : pSt1 t p s = .ok (e, PS.mk0 s.nm s.lb s.of r_100 true s.hw s.cs s.fn) := by unfold pSt1; rw [if_neg (show ¬ pw t p = kwName from c0_13), if_neg (show ¬ pw t p = kwLibrary from c0_30), if_neg (show ¬ pw t p = kwOffer from c0_47), if_neg (show ¬ pw t p = kwPrefer from c0_63), if_pos (show pw t p = kwShare from c0_79)]; exact pSha_ok hh1 hpn
                          have hR1 := hR.addS (σ' := su σ_100 9 0 0 r_100) su_s (fun z hz => by rw [su_n (by omega), hk_100 9 (by decide) (by decide) (by decide) (by decide), hko 9 (by decide) (by decide) (by decide), su_off (by decide)]) (by rw [su_off (by decide), hk_100 14 (by decide) (by decide) (by decide) (by decide)]; exact h14o) (by rw [su_off (by decide), hk_100 13 (by decide) (by decide) (by decide) (by decide), hko 13 (by decide) (by decide) (by decide), su_off (by decide)]) (by rw [su_off (by decide), hk_100 15 (by decide) (by decide) (by decide) (by decide), hko 15 (by decide) (by decide) (by decide), su_off (by decide)]) (by rw [su_off (by decide), hk_100 16 (by decide) (by decide) (by decide) (by decide), hko 16 (by decide) (by decide) (by decide), su_off (by decide)])
                          refine ww_goto 143 dX3_statement_104 (by decide) ?_
                          refine ww_aload_n 1 dX3_statement_143 rfl ?_
                          refine ww_bipush dX3_statement_144 (by decide) ?_
                          refine cr_sv hM (cr_V (ct_X3_expect hG hM hT3 e (show su σ_100 9 0 0 r_100 4 0 0 = e from h4g) (by omega) (by omega) (show su σ_100 9 0 0 r_100 5 0 0 = 0 from h5g) 59 (inI.mk (by decide) (by decide))) sv_X3_124 rfl dX3_statement_146 hM.obj rfl rfl rfl rfl ⟨by decide, by decide⟩ (Nat.le_of_ble_eq_true rfl) (Nat.le_of_ble_eq_true rfl) (Nat.le_of_ble_eq_true rfl)) (fun σ_146 hh hM hp_146 => ?_)
                          rcases hp_146 with ⟨c59, rfl⟩ | ⟨c59, rfl⟩
                          · have hsn : sk t e ≠ n := fun x => by rw [x, hx.2.2.1 n (Int.le_refl _)] at c59; cases c59
                            have hke := hx.k1 (show e ≤ n by omega)
                            exact ww_vret hQ dX3_statement_149 rfl (Nat.le_of_ble_eq_true rfl) (Nat.le_of_ble_eq_true rfl) ⟨rfl, _, hM, hnf3.sx (by decide), Or.inr ⟨_, _, pSt_ok hs1 c59, by rw [su_off (by decide)]; exact (show su σ_100 9 0 0 r_100 5 0 0 = 0 from h5g), su_s, by omega, by omega, (hs.addS f3 f4), hR1.of (su_off (by decide)) (su_off (by decide)) (su_off (by decide)) (su_off (by decide)) (su_off (by decide)), by rw [su_off (by decide)]; exact (show su σ_100 9 0 0 r_100 6 = σ 6 by rw [su_off (by decide), f6, h6, su_off (by decide)])⟩⟩
                          · exact ww_vret hQ dX3_statement_149 rfl (Nat.le_of_ble_eq_true rfl) (Nat.le_of_ble_eq_true rfl) ⟨rfl, _, hM, ((hnf3.sx (by decide)).sx (by decide)).sx (by decide), Or.inl ⟨-2, sk t e, pSt_no hs1 c59, by decide, by rw [su_off (by decide), su_s], su_s⟩⟩
                  · rw [hx.kk hp1] at hM c0_79
                    rw [su_su] at hM
                    refine ww_if_eq 107 dX3_statement_82 (by decide) (inI.mk (by decide) (by decide)) (fun c_82 => ?_) (fun c_82 => ?_)
                    · refine ww_aload_n 1 dX3_statement_107 rfl ?_
                      obtain ⟨a_108, tx_108, hz_108, hS_108⟩ := (hL.fr hM) 214 kwWeight (by decide)
                      refine ww_ldcS hz_108 dX3_statement_108 ?_
                      refine cr_si hM (cr_V (ct_X3_takeWord hG hM hT (sk t p) su_s (by omega) hk.2.1 (by rw [su_off (by decide)]; exact hg) hS_108 (fun e => hM.1.1 e.symm)) sv_X3_130 rfl dX3_statement_110 hM.obj rfl rfl rfl rfl ⟨by decide, by decide⟩ (Nat.le_of_ble_eq_true rfl) (Nat.le_of_ble_eq_true rfl) (Nat.le_of_ble_eq_true rfl)) (fun r_110 σ_110 hh hM hp_110 => ?_)
                      rcases hp_110 with ⟨c0_110, rfl, rfl⟩ | ⟨c0_110, rfl, rfl⟩
                      · rw [hx.kk hp1] at hM c0_110
                        rw [su_su] at hM
                        refine ww_if_eq 136 dX3_statement_113 (by decide) (inI.mk (by decide) (by decide)) (fun c_113 => ?_) (fun c_113 => ?_)
                        · exact absurd c_113 (by decide)
                        · refine ww_aload_n 1 dX3_statement_116 rfl ?_
                          refine ww_iconst dX3_statement_117 ?_
                          refine ww_iload_n 0 dX3_statement_118 rfl ?_
                          refine cr_sv hM (cr_V (ct_X3_once hG hM (by rw [su_off (by decide)]; exact hg) 1 (bN s.hs + 2 * bN s.hw) _ (inI.mk (by omega) (by omega)) (by decide) (bN4 _ _) (by rw [su_off (by decide)]; exact hR.seen)) sv_X3_211 rfl dX3_statement_119 hM.obj rfl rfl rfl rfl ⟨by decide, by decide⟩ (Nat.le_of_ble_eq_true rfl) (Nat.le_of_ble_eq_true rfl) (Nat.le_of_ble_eq_true rfl)) (fun σ_119 hh hM hp_119 => ?_)
                          obtain ⟨hko, h14o, hco⟩ := hp_119
                          rw [(seen1 s.hs s.hw).2] at h14o
                          rw [(seen1 s.hs s.hw).1] at hco
                          have hnf : NP σ (su σ_119 9 0 4 1) := NP.sx (fun j hj => by rw [hko j (by omega) (by omega) (by omega), su_off (by omega)]) (by decide)
                          have hT1 := hT0.of (hnf 1 (by decide)) (hnf 3 (by decide))
                          rcases hco with ⟨hh1, h5, h6⟩ | ⟨hh1, h5, h6⟩
                          · refine ww_aload_n 1 dX3_statement_122 rfl ?_
                            refine ww_getf gf_X3_20 rfl dX3_statement_123 hM.obj rfl ?_
                            refine ww_iconst dX3_statement_126 ?_
                            refine ww_iconst dX3_statement_127 ?_
                            refine mw_st dX3_statement_128 hM rfl (by omega) (by omega) (by first | exact hM.rd _ | exact hM.ri rfl _ _ | exact ⟨by omega, by omega⟩ | assumption | exact bI_in _ | exact inI.mk (by omega) (by omega)) (fun hh hM => ?_)
                            refine ww_aload_n 1 dX3_statement_129 rfl ?_
                            refine cr_pv (cr_V (ct_X3_sumB hG hM (by rw [su_off (by decide), h5]; decide)) sv_X3_121 rfl dX3_statement_130 hM.obj rfl rfl rfl rfl ⟨by decide, by decide⟩ (Nat.le_of_ble_eq_true rfl) (Nat.le_of_ble_eq_true rfl) (Nat.le_of_ble_eq_true rfl)) ?_
                            refine ww_goto 143 dX3_statement_133 (by decide) ?_
                            refine ww_aload_n 1 dX3_statement_143 rfl ?_
                            refine ww_bipush dX3_statement_144 (by decide) ?_
                            refine cr_pv (cr_V (ct_X3_expectB hG hM (by rw [su_off (by decide), h5]; decide) _) sv_X3_124 rfl dX3_statement_146 hM.obj rfl rfl rfl rfl ⟨by decide, by decide⟩ (Nat.le_of_ble_eq_true rfl) (Nat.le_of_ble_eq_true rfl) (Nat.le_of_ble_eq_true rfl)) ?_
                            exact ww_vret hQ dX3_statement_149 rfl (Nat.le_of_ble_eq_true rfl) (Nat.le_of_ble_eq_true rfl) ⟨rfl, _, hM, hnf, Or.inl ⟨-2, sk t p, pSt_e (by unfold pSt1; rw [if_neg (show ¬ pw t p = kwName from c0_13), if_neg (show ¬ pw t p = kwLibrary from c0_30), if_neg (show ¬ pw t p = kwOffer from c0_47), if_neg (show ¬ pw t p = kwPrefer from c0_63), if_neg (show ¬ pw t p = kwShare from c0_79), if_pos (show pw t p = kwWeight from c0_110)]; exact pWei_e1 hh1), by decide, (by rw [su_off (by decide)]; exact h5), (by rw [su_off (by decide)]; exact h6)⟩⟩
                          · refine ww_aload_n 1 dX3_statement_122 rfl ?_
                            refine ww_getf gf_X3_20 rfl dX3_statement_123 hM.obj rfl ?_
                            refine ww_iconst dX3_statement_126 ?_
                            refine ww_iconst dX3_statement_127 ?_
                            refine mw_st dX3_statement_128 hM rfl (by omega) (by omega) (by first | exact hM.rd _ | exact hM.ri rfl _ _ | exact ⟨by omega, by omega⟩ | assumption | exact bI_in _ | exact inI.mk (by omega) (by omega)) (fun hh hM => ?_)
                            refine ww_aload_n 1 dX3_statement_129 rfl ?_
                            refine cr_sv hM (cr_V (ct_X3_sum0 hG hM hT1 (we t (sk t p)) (by rw [su_off (by decide), hko 4 (by decide) (by decide) (by decide), su_s]) (by omega) (by omega) (by rw [su_off (by decide), h5, su_off (by decide)]; exact hg) (hL.fr hM) ([], fnT) 2500 (by omega) 0 (by rw [su_n (by decide), hko 9 (by decide) (by decide) (by decide), su_off (by decide), hR.ncs, hs.cs0 hh1]; rfl) (by decide) (by omega) (by rw [su_off (by decide), hko 13 (by decide) (by decide) (by decide), su_off (by decide)]; exact hR.nst)) sv_X3_121 rfl dX3_statement_130 hM.obj rfl rfl rfl rfl ⟨by decide, by decide⟩ (Nat.le_of_ble_eq_true rfl) (Nat.le_of_ble_eq_true rfl) (Nat.le_of_ble_eq_true rfl)) (fun σ_130 hh hM hp_130 => ?_)
                            obtain ⟨hfe_130, h13_130, hc_130⟩ := hp_130
                            have hnf2 : NP σ σ_130 := hnf.tr (fun j hj => hfe_130 j (by omega) (by omega) (by omega) (by omega) (by omega) (by omega))
                            have hT2 := hT0.of (hnf2 1 (by decide)) (hnf2 3 (by decide))
                            rcases hc_130 with ⟨c, o, hpe, hce, h5e, h6e⟩ | ⟨y, e, hpy, hy⟩
                            · refine ww_goto 143 dX3_statement_133 (by decide) ?_
                              refine ww_aload_n 1 dX3_statement_143 rfl ?_
                              refine ww_bipush dX3_statement_144 (by decide) ?_
                              refine cr_pv (cr_V (ct_X3_expectB hG hM (fun e => hce (h5e.symm.trans e)) _) sv_X3_124 rfl dX3_statement_146 hM.obj rfl rfl rfl rfl ⟨by decide, by decide⟩ (Nat.le_of_ble_eq_true rfl) (Nat.le_of_ble_eq_true rfl) (Nat.le_of_ble_eq_true rfl)) ?_
                              exact ww_vret hQ dX3_statement_149 rfl (Nat.le_of_ble_eq_true rfl) (Nat.le_of_ble_eq_true rfl) ⟨rfl, _, hM, hnf2, Or.inl ⟨c, o, pSt_e (by unfold pSt1; rw [if_neg (show ¬ pw t p = kwName from c0_13), if_neg (show ¬ pw t p = kwLibrary from c0_30), if_neg (show ¬ pw t p = kwOffer from c0_47), if_neg (show ¬ pw t p = kwPrefer from c0_63), if_neg (show ¬ pw t p = kwShare from c0_79), if_pos (show pw t p = kwWeight from c0_110)]; exact pWei_e2 hh1 hpe), hce, h5e, h6e⟩⟩
                            · have hs1 : pSt1 t p s = .ok (e, PS.mk0 s.nm s.lb s.of s.sh s.hs true y.1 y.2) := by unfold pSt1; rw [if_neg (show ¬ pw t p = kwName from c0_13), if_neg (show ¬ pw t p = kwLibrary from c0_30), if_neg (show ¬ pw t p = kwOffer from c0_47), if_neg (show ¬ pw t p = kwPrefer from c0_63), if_neg (show ¬ pw t p = kwShare from c0_79), if_pos (show pw t p = kwWeight from c0_110)]; exact pWei_ok hh1 hpy
                              obtain ⟨y1, y2, y3, y4, y5, y6, y7, y8, y9, y10, y11⟩ := hy
                              have hR1 := hR.addW (y := y) hs (by rw [y6]; omega) y7 (fun z z1 z2 z3 => by rw [y8 z z2 (by omega), su_n (by omega), hko 9 (by decide) (by decide) (by decide), su_off (by decide)]) (by rw [hfe_130 14 (by decide) (by decide) (by decide) (by decide) (by decide) (by decide), su_off (by decide)]; exact h14o) (by rw [y5, hR.nst]) (by rw [hfe_130 15 (by decide) (by decide) (by decide) (by decide) (by decide) (by decide), su_off (by decide), hko 15 (by decide) (by decide) (by decide), su_off (by decide)]) (by rw [hfe_130 16 (by decide) (by decide) (by decide) (by decide) (by decide) (by decide), su_off (by decide), hko 16 (by decide) (by decide) (by decide), su_off (by decide)])
                              refine ww_goto 143 dX3_statement_133 (by decide) ?_
                              refine ww_aload_n 1 dX3_statement_143 rfl ?_
                              refine ww_bipush dX3_statement_144 (by decide) ?_
                              refine cr_sv hM (cr_V (ct_X3_expect hG hM hT2 e y2 (by omega) (by omega) y1 59 (inI.mk (by decide) (by decide))) sv_X3_124 rfl dX3_statement_146 hM.obj rfl rfl rfl rfl ⟨by decide, by decide⟩ (Nat.le_of_ble_eq_true rfl) (Nat.le_of_ble_eq_true rfl) (Nat.le_of_ble_eq_true rfl)) (fun σ_146 hh hM hp_146 => ?_)
                              rcases hp_146 with ⟨c59, rfl⟩ | ⟨c59, rfl⟩
                              · have hsn : sk t e ≠ n := fun x => by rw [x, hx.2.2.1 n (Int.le_refl _)] at c59; cases c59
                                have hke := hx.k1 (show e ≤ n by omega)
                                exact ww_vret hQ dX3_statement_149 rfl (Nat.le_of_ble_eq_true rfl) (Nat.le_of_ble_eq_true rfl) ⟨rfl, _, hM, hnf2.sx (by decide), Or.inr ⟨_, _, pSt_ok hs1 c59, by rw [su_off (by decide)]; exact y1, su_s, by omega, by omega, (hs.addW (by omega) y10), hR1.of (su_off (by decide)) (su_off (by decide)) (su_off (by decide)) (su_off (by decide)) (su_off (by decide)), by rw [su_off (by decide)]; exact (show σ_130 6 = σ 6 by rw [y11, su_off (by decide), h6, su_off (by decide)])⟩⟩
                              · exact ww_vret hQ dX3_statement_149 rfl (Nat.le_of_ble_eq_true rfl) (Nat.le_of_ble_eq_true rfl) ⟨rfl, _, hM, ((hnf2.sx (by decide)).sx (by decide)).sx (by decide), Or.inl ⟨-2, sk t e, pSt_no hs1 c59, by decide, by rw [su_off (by decide), su_s], su_s⟩⟩
                      · rw [hx.kk hp1] at hM c0_110
                        rw [su_su] at hM
                        refine ww_if_eq 136 dX3_statement_113 (by decide) (inI.mk (by decide) (by decide)) (fun c_113 => ?_) (fun c_113 => ?_)
                        · refine ww_aload_n 1 dX3_statement_136 rfl ?_
                          refine ww_bipush dX3_statement_137 (by decide) ?_
                          refine ww_iload_n 0 dX3_statement_139 rfl ?_
                          refine cr_sv hM (cr_V (ct_X3_report hG hM _ _ (inI.mk (by decide) (by decide)) (inI.mk (by omega) (by omega))) sv_X3_102 rfl dX3_statement_140 hM.obj rfl rfl rfl rfl ⟨by decide, by decide⟩ (Nat.le_of_ble_eq_true rfl) (Nat.le_of_ble_eq_true rfl) (Nat.le_of_ble_eq_true rfl)) (fun σ_140 hh hM hp_140 => ?_)
                          subst hp_140
                          rw [if_pos (show su σ 4 0 0 (sk t p) 5 0 0 = 0 from hg)] at hM
                          refine ww_aload_n 1 dX3_statement_143 rfl ?_
                          refine ww_bipush dX3_statement_144 (by decide) ?_
                          refine cr_pv (cr_V (ct_X3_expectB hG hM (by rw [su_off (by decide), su_s]; decide) _) sv_X3_124 rfl dX3_statement_146 hM.obj rfl rfl rfl rfl ⟨by decide, by decide⟩ (Nat.le_of_ble_eq_true rfl) (Nat.le_of_ble_eq_true rfl) (Nat.le_of_ble_eq_true rfl)) ?_
                          exact ww_vret hQ dX3_statement_149 rfl (Nat.le_of_ble_eq_true rfl) (Nat.le_of_ble_eq_true rfl) ⟨rfl, _, hM, ((NP.rf.sx (by decide)).sx (by decide)).sx (by decide), Or.inl ⟨-2, sk t p, pSt_e (by unfold pSt1; rw [if_neg (show ¬ pw t p = kwName from c0_13), if_neg (show ¬ pw t p = kwLibrary from c0_30), if_neg (show ¬ pw t p = kwOffer from c0_47), if_neg (show ¬ pw t p = kwPrefer from c0_63), if_neg (show ¬ pw t p = kwShare from c0_79), if_neg (show ¬ pw t p = kwWeight from c0_110)]), by decide, by rw [su_off (by decide), su_s], su_s⟩⟩
                        · exact absurd c_113 (by decide)
                    · exact absurd c_82 (by decide)
                · exact absurd c_66 (by decide)
            · exact absurd c_50 (by decide)
        · exact absurd c_33 (by decide)
    · exact absurd c_16 (by decide)
