set_option maxRecDepth 100000
set_option maxHeartbeats 4000000 in
theorem ct_X3_load {G : GT} {h0 h : AH} {m : Nat} {A : Nat → Nat} {B : Nat → Int → Nat} {D : Int → Int} {σ : MS} (hG : GOK G) (hM : MWF G h0 h m A B D σ) (hu1 : 0 ≤ σ 11 0 0) (hu2 : σ 11 0 0 ≤ 8) (hL : LitM G h) (n : Int) (hn : inI n) (hb1 : 0 ≤ σ 2 0 0) (hb2 : σ 2 0 0 ≤ 800) (hby : ∀ q : Int, 0 ≤ q → q < σ 2 0 0 → 0 ≤ σ 1 0 q ∧ σ 1 0 q ≤ 255) : CMi G (MX3_load 21 453 0 0) h m A B [.ref m, .int (iI n)] (fun r D' σ' => σ' 1 = σ 1 ∧ ((¬ (0 ≤ n ∧ n ≤ σ 2 0 0) ∧ D = D' ∧ σ' 2 = σ 2 ∧ σ' 0 0 0 = 1 ∧ σ' 7 = σ 7 ∧ σ' 10 = σ 10 ∧ σ' 11 = σ 11 ∧ r = 0) ∨ (0 ≤ n ∧ n ≤ σ 2 0 0 ∧ σ' 0 0 0 = 0 ∧ σ' 2 0 0 = 0 ∧ ((∃ c o, pAll (tx σ n) = .error (c, o) ∧ c ≠ 0 ∧ D = D' ∧ σ' 7 0 0 = o ∧ σ' 10 = σ 10 ∧ σ' 11 = σ 11 ∧ r = c) ∨ (∃ s, pAll (tx σ n) = .ok s ∧ PSok s ∧ σ' 7 0 0 = -1 ∧ Rem σ D σ' ∧ (∃ τ, MRep τ s ∧ rEq D' (τ 9 0)) ∧ r = s.lb.length))))) := by
  refine CT.of rfl hG (Nat.le_of_ble_eq_true rfl) rfl (fun E hQ => ?_)
  have hM := hM.1.f
  refine ww_aload_n 0 dX3_load_0 rfl ?_
  refine ww_iconst dX3_load_1 ?_
  refine mw_put pf_X3_59 rfl dX3_load_2 hM rfl (by first | exact hM.rd _ | exact hM.ri rfl _ _ | exact ⟨by omega, by omega⟩ | assumption | exact bI_in _ | exact inI.mk (by omega) (by omega)) (fun hh hM => ?_)
  refine ww_aload_n 0 dX3_load_5 rfl ?_
  refine ww_iload_n 1 dX3_load_6 rfl ?_
  refine ww_iconst dX3_load_7 ?_
  refine ww_aload_n 0 dX3_load_8 rfl ?_
  refine ww_getf gf_X3_62 rfl dX3_load_9 hM.obj rfl ?_
  rw [su_off (by decide)]
  refine cr_pi (cr_S (ct_X3_in hG _ _ _ hn (inI.mk (by decide) (by decide)) (inI.mk (by omega) (by omega))) ss_X3_81 rfl dX3_load_12 rfl rfl ⟨by decide, by decide⟩ (Nat.le_of_ble_eq_true rfl) (Nat.le_of_ble_eq_true rfl) (Nat.le_of_ble_eq_true rfl)) ?_
  refine ww_ifb_ne 22 dX3_load_15 (by decide) (fun c_15 => ?_) (fun c_15 => ?_)
  · have hni : 0 ≤ n ∧ n ≤ σ 2 0 0 := c_15
    have hx : Txt (tx σ n) n := tx_txt hni.1 (by omega) (fun q q0 q1 => hby q q0 (by omega))
    refine ww_iconst dX3_load_22 ?_
    refine ww_iconst dX3_load_23 ?_
    refine cr_si hM (cr_V (ct_X3_fails hG hM _ _ (inI.mk (by decide) (by decide)) (inI.mk (by decide) (by decide)) (by decide) su_s) sv_X3_216 rfl dX3_load_24 hM.obj rfl rfl rfl rfl ⟨by decide, by decide⟩ (Nat.le_of_ble_eq_true rfl) (Nat.le_of_ble_eq_true rfl) (Nat.le_of_ble_eq_true rfl)) (fun r_24 σ_24 hh hM hp_24 => ?_)
    rcases hp_24 with ⟨c0_24, rfl, rfl⟩ | ⟨c0_24, rfl, rfl⟩
    · refine ww_if_eq 32 dX3_load_27 (by decide) (inI.mk (by decide) (by decide)) (fun c_27 => ?_) (fun c_27 => ?_)
      · have join_97 : ∀ (ρ : MS) (hx1 : AH), (MWF G h hx1 m A B D ρ) → (TX ρ (tx σ n) n) → (ρ 4 0 0 = 0) → (ρ 5 0 0 = 0) → (ρ 6 0 0 = -1) → (MRep ρ PS0) → (ρ 1 = σ 1 ∧ ρ 2 0 0 = 0 ∧ ρ 0 0 0 = 0 ∧ ρ 10 = σ 10 ∧ ρ 11 = σ 11) → WW G E (MX3_load 21 453 0 0) hx1 0 0 97 [(0, .ref m)] [] := by
          intro ρ hx1 hM hT h4 h5 h6 hR hb
          have hk := hx.k1 hni.1
          have hww := hx.w1 hk.2.1
          have hkw := hx.k1 hww.2.1
          refine ww_aload_n 0 dX3_load_97 rfl ?_
          obtain ⟨a_98, tx_98, hz_98, hS_98⟩ := (hL.fr hM) 220 kwLink (by decide)
          refine ww_ldcS hz_98 dX3_load_98 ?_
          refine cr_si hM (cr_V (ct_X3_takeWord hG hM hT 0 h4 (by omega) (by omega) h5 hS_98 (fun e => hM.1.1 e.symm)) sv_X3_130 rfl dX3_load_100 hM.obj rfl rfl rfl rfl ⟨by decide, by decide⟩ (Nat.le_of_ble_eq_true rfl) (Nat.le_of_ble_eq_true rfl) (Nat.le_of_ble_eq_true rfl)) (fun r_100 σ_100 hh hM hp_100 => ?_)
          rcases hp_100 with ⟨c0_100, rfl, rfl⟩ | ⟨c0_100, rfl, rfl⟩
          · refine ww_if_ne 116 dX3_load_103 (by decide) (inI.mk (by decide) (by decide)) (fun c_103 => ?_) (fun c_103 => ?_)
            · refine ww_aload_n 0 dX3_load_116 rfl ?_
              refine ww_bipush dX3_load_117 (by decide) ?_
              refine cr_sv hM (cr_V (ct_X3_expect hG hM (hT.mv hM (by decide) (by decide)) (we (tx σ n) (sk (tx σ n) 0)) su_s (by omega) (by omega) (by rw [su_off (by decide)]; exact h5) 59 (inI.mk (by decide) (by decide))) sv_X3_124 rfl dX3_load_119 hM.obj rfl rfl rfl rfl ⟨by decide, by decide⟩ (Nat.le_of_ble_eq_true rfl) (Nat.le_of_ble_eq_true rfl) (Nat.le_of_ble_eq_true rfl)) (fun σ_119 hh hM hp_119 => ?_)
              rcases hp_119 with ⟨c59, rfl⟩ | ⟨c59, rfl⟩
              · rw [su_su] at hM
                have hsn : sk (tx σ n) (we (tx σ n) (sk (tx σ n) 0)) ≠ n := fun x => by rw [x, hx.2.2.1 n (Int.le_refl _)] at c59; cases c59
                have loop_122 : ∀ (e : Nat) (u : Nat) (s : PS) (q : Int) (τ : MS) (hx3 : AH), (MWF G h hx3 m A B D τ) → (NP ρ τ) → (τ 5 0 0 = 0) → (τ 4 0 0 = q) → (τ 6 0 0 = -1) → (0 ≤ q) → (q ≤ n) → (PSok s) → (MRep τ s) → (pAll (tx σ n) = pLp u (tx σ n) q s) → (n - q < u) → (n - q < e) → WW G E (MX3_load 21 453 0 0) hx3 0 0 122 [(0, .ref m)] [] := by
                  intro e
                  induction e with
                  | zero => intro u s q τ hx3 hM hnp g5 g4 g6 q0 q1 hs hR hpl hu he; exact absurd he (by omega)
                  | succ e ie =>
                    intro u s q τ hx3 hM hnp g5 g4 g6 q0 q1 hs hR hpl hu he
                    obtain ⟨v, rfl⟩ : ∃ v, u = v + 1 := ⟨u - 1, by omega⟩
                    have hT := hT.of (hnp 1 (by decide)) (hnp 3 (by decide))
                    have hkq := hx.k1 q1
                    have hrx := hx.rg (q := sk (tx σ n) q) (by omega)
                    refine ww_aload_n 0 dX3_load_122 rfl ?_
                    refine cr_pi (cr_V (ct_X3_isGood hG hM) sv_X3_85 rfl dX3_load_123 hM.obj rfl rfl rfl rfl ⟨by decide, by decide⟩ (Nat.le_of_ble_eq_true rfl) (Nat.le_of_ble_eq_true rfl) (Nat.le_of_ble_eq_true rfl)) ?_
                    refine ww_ifb_eq 144 dX3_load_126 (by decide) (fun c_126 => ?_) (fun c_126 => ?_)
                    · exact absurd g5 c_126
                    · refine ww_aload_n 0 dX3_load_129 rfl ?_
                      refine cr_si hM (cr_V (ct_X3_next hG hM hT q g4 (by omega) q1) sv_X3_89 rfl dX3_load_130 hM.obj rfl rfl rfl rfl ⟨by decide, by decide⟩ (Nat.le_of_ble_eq_true rfl) (Nat.le_of_ble_eq_true rfl) (Nat.le_of_ble_eq_true rfl)) (fun r_130 σ_130 hh hM hp_130 => ?_)
                      obtain ⟨rfl, rfl⟩ := hp_130
                      try rw [su_su] at hM
                      refine ww_iconst dX3_load_133 ?_
                      refine ww_icmp_eq 144 dX3_load_134 (by decide) (inI.mk (by omega) (by omega)) (inI.mk (by decide) (by decide)) (fun c_134 => ?_) (fun c_134 => ?_)
                      · refine ww_aload_n 0 dX3_load_144 rfl ?_
                        refine ww_aload_n 0 dX3_load_145 rfl ?_
                        refine ww_getf gf_X3_78 rfl dX3_load_146 hM.obj rfl ?_
                        rw [su_off (by decide), g6]
                        refine mw_put pf_X3_13 rfl dX3_load_149 hM rfl (inI.mk (by decide) (by decide)) (fun hh hM => ?_)
                        refine ww_aload_n 0 dX3_load_152 rfl ?_
                        refine cr_pi (cr_V (ct_X3_isGood hG hM) sv_X3_85 rfl dX3_load_153 hM.obj rfl rfl rfl rfl ⟨by decide, by decide⟩ (Nat.le_of_ble_eq_true rfl) (Nat.le_of_ble_eq_true rfl) (Nat.le_of_ble_eq_true rfl)) ?_
                        refine ww_ifb_ne 164 dX3_load_156 (by decide) (fun c_156 => ?_) (fun c_156 => ?_)
                        · refine ww_aload_n 0 dX3_load_164 rfl ?_
                          refine cr_sv hM (cr_V (ct_X3_remember hG hM (by rw [su_off (by decide), su_off (by decide), hnp 11 (by decide), hb.2.2.2.2]; exact hu1) (by rw [su_off (by decide), su_off (by decide), hnp 11 (by decide), hb.2.2.2.2]; exact hu2)) sv_X3_225 rfl dX3_load_165 hM.obj rfl rfl rfl rfl ⟨by decide, by decide⟩ (Nat.le_of_ble_eq_true rfl) (Nat.le_of_ble_eq_true rfl) (Nat.le_of_ble_eq_true rfl)) (fun σ_165 hh hM hp_165 => ?_)
                          obtain ⟨hR_165, hr_165⟩ := hp_165
                          have hr9 : σ_165 9 = τ 9 := by rw [hr_165 9 (by decide) (by decide), su_off (by decide), su_off (by decide)]
                          refine ww_aload_n 0 dX3_load_168 rfl ?_
                          refine ww_getf gf_X3_20 rfl dX3_load_169 hM.obj rfl ?_
                          refine ww_aload_n 0 dX3_load_172 rfl ?_
                          refine ww_getf gf_X3_17 rfl dX3_load_173 hM.obj rfl ?_
                          refine mw_cpFD dX3_load_176 hM hG rfl ⟨by decide, by decide⟩ (Nat.le_of_ble_eq_true rfl) (Nat.le_of_ble_eq_true rfl)  (Nat.le_of_ble_eq_true rfl) (fun g hh hM hg => ?_)
                          refine ww_aload_n 0 dX3_load_179 rfl ?_
                          refine ww_getf gf_X3_17 rfl dX3_load_180 hM.obj rfl ?_
                          refine ww_iconst dX3_load_183 ?_
                          refine mw_ldD dX3_load_184 hM (by omega) (by omega) ?_
                          rw [hg 1 (by decide) (by decide), hr9, hR.hl]
                          exact ww_iret hQ dX3_load_185 rfl (Nat.le_of_ble_eq_true rfl) (Nat.le_of_ble_eq_true rfl) ⟨_, rfl, _, _, hM, by rw [hr_165 1 (by decide) (by decide), su_off (by decide), su_off (by decide), hnp 1 (by decide)]; exact hb.1, Or.inr ⟨hni.1, hni.2, by rw [hr_165 0 (by decide) (by decide), su_off (by decide), su_off (by decide), hnp 0 (by decide)]; exact hb.2.2.1, by rw [hr_165 2 (by decide) (by decide), su_off (by decide), su_off (by decide), hnp 2 (by decide)]; exact hb.2.1, Or.inr ⟨s, by rw [hpl, pLp_end c_134], hs, by rw [hr_165 7 (by decide) (by decide), su_s], hR_165.ext (by rw [su_off (by decide), su_off (by decide), hnp 10 (by decide)]; exact hb.2.2.2.1.symm) (by rw [su_off (by decide), su_off (by decide), hnp 11 (by decide)]; exact hb.2.2.2.2.symm) rfl rfl, ⟨τ, hR, by rw [← hr9]; exact hg⟩, rfl⟩⟩⟩
                        · exact absurd g5 c_156
                      · refine ww_aload_n 0 dX3_load_137 rfl ?_
                        refine cr_sv hM (cr_V (ct_X3_statement hG hM (hT.mv hM (by decide) (by decide)) (sk (tx σ n) q) su_s (by omega) hkq.2.1 (by rw [su_off (by decide)]; exact g5) hs (hR.of (su_off (by decide)) (su_off (by decide)) (su_off (by decide)) (su_off (by decide)) (su_off (by decide))) (hL.fr hM)) sv_X3_222 rfl dX3_load_138 hM.obj rfl rfl rfl rfl ⟨by decide, by decide⟩ (Nat.le_of_ble_eq_true rfl) (Nat.le_of_ble_eq_true rfl) (Nat.le_of_ble_eq_true rfl)) (fun σ_138 hh hM hp_138 => ?_)
                        obtain ⟨hnp_138, hc_138⟩ := hp_138
                        have hnf : NP ρ σ_138 := (hnp.sx (by decide)).tr hnp_138
                        rcases hc_138 with ⟨c, o, hpe, hce, h5, h6⟩ | ⟨e1, s1, hst, k5, k4, l0, l1, hsk, hR1, k6⟩
                        · have hpr : pAll (tx σ n) = .error (c, o) := by rw [hpl, pLp_e c_134 (by rw [← pSt_kk hx q1]; exact hpe)]
                          refine ww_goto 122 dX3_load_141 (by decide) ?_
                          refine ww_aload_n 0 dX3_load_122 rfl ?_
                          refine cr_pi (cr_V (ct_X3_isGood hG hM) sv_X3_85 rfl dX3_load_123 hM.obj rfl rfl rfl rfl ⟨by decide, by decide⟩ (Nat.le_of_ble_eq_true rfl) (Nat.le_of_ble_eq_true rfl) (Nat.le_of_ble_eq_true rfl)) ?_
                          refine ww_ifb_eq 144 dX3_load_126 (by decide) (fun c_126 => ?_) (fun c_126 => ?_)
                          · refine ww_aload_n 0 dX3_load_144 rfl ?_
                            refine ww_aload_n 0 dX3_load_145 rfl ?_
                            refine ww_getf gf_X3_78 rfl dX3_load_146 hM.obj rfl ?_
                            rw [h6]
                            refine mw_put pf_X3_13 rfl dX3_load_149 hM rfl (by have := hM.ri (j := 6) rfl 0 0; rwa [h6] at this) (fun hh hM => ?_)
                            refine ww_aload_n 0 dX3_load_152 rfl ?_
                            refine cr_pi (cr_V (ct_X3_isGood hG hM) sv_X3_85 rfl dX3_load_153 hM.obj rfl rfl rfl rfl ⟨by decide, by decide⟩ (Nat.le_of_ble_eq_true rfl) (Nat.le_of_ble_eq_true rfl) (Nat.le_of_ble_eq_true rfl)) ?_
                            refine ww_ifb_ne 164 dX3_load_156 (by decide) (fun c_156 => ?_) (fun c_156 => ?_)
                            · exact absurd (h5.symm.trans c_156) hce
                            · refine ww_aload_n 0 dX3_load_159 rfl ?_
                              refine ww_getf gf_X3_75 rfl dX3_load_160 hM.obj rfl ?_
                              rw [su_off (by decide), h5]
                              exact ww_iret hQ dX3_load_163 rfl (Nat.le_of_ble_eq_true rfl) (Nat.le_of_ble_eq_true rfl) ⟨_, rfl, _, _, hM, by rw [su_off (by decide), hnf 1 (by decide)]; exact hb.1, Or.inr ⟨hni.1, hni.2, by rw [su_off (by decide), hnf 0 (by decide)]; exact hb.2.2.1, by rw [su_off (by decide), hnf 2 (by decide)]; exact hb.2.1, Or.inl ⟨_, _, hpr, hce, rfl, su_s, by rw [su_off (by decide), hnf 10 (by decide)]; exact hb.2.2.2.1, by rw [su_off (by decide), hnf 11 (by decide)]; exact hb.2.2.2.2, rfl⟩⟩⟩
                          · exact absurd (h5.symm.trans c_126) hce
                        · refine ww_goto 122 dX3_load_141 (by decide) ?_
                          refine ww_sub [0] rfl ?_
                          exact ie v s1 e1 _ _ hM hnf k5 k4 (by rw [k6, su_off (by decide)]; exact g6) (by omega) (by omega) hsk hR1 (by rw [hpl, pLp_go c_134 (by rw [← pSt_kk hx q1]; exact hst)]) (by omega) (by omega)
                refine ww_sub [0] rfl ?_
                exact loop_122 801 900 PS0 (sk (tx σ n) (we (tx σ n) (sk (tx σ n) 0)) + 1) _ _ hM (NP.rf.sx (by decide)) (by rw [su_off (by decide)]; exact h5) su_s (by rw [su_off (by decide)]; exact h6) (by omega) (by omega) PSok0 (hR.of (su_off (by decide)) (su_off (by decide)) (su_off (by decide)) (su_off (by decide)) (su_off (by decide))) (pAll_go (show pw (tx σ n) 0 = kwLink from c0_100) c59) (by omega) (by omega)
              · have hce : (-2 : Int) ≠ 0 := by decide
                have h5 := su_off (σ := su (su (su ρ 4 0 0 (we (tx σ n) (sk (tx σ n) 0))) 4 0 0 (sk (tx σ n) (we (tx σ n) (sk (tx σ n) 0)))) 5 0 0 (-2)) (j := 6) (j' := 5) (i := 0) (k := 0) (v := sk (tx σ n) (we (tx σ n) (sk (tx σ n) 0))) (by decide)
                have h5 := (congrFun (congrFun h5 0) 0).trans su_s
                have h6 := su_s (σ := su (su (su ρ 4 0 0 (we (tx σ n) (sk (tx σ n) 0))) 4 0 0 (sk (tx σ n) (we (tx σ n) (sk (tx σ n) 0)))) 5 0 0 (-2)) (j := 6) (i := 0) (k := 0) (v := sk (tx σ n) (we (tx σ n) (sk (tx σ n) 0)))
                have hnf := (((NP.rf (σ := ρ)).sx (j := 4) (i := 0) (k := 0) (v := we (tx σ n) (sk (tx σ n) 0)) (by decide)).sx (j := 4) (i := 0) (k := 0) (v := sk (tx σ n) (we (tx σ n) (sk (tx σ n) 0))) (by decide)).sx (j := 5) (i := 0) (k := 0) (v := -2) (by decide)
                have hnf := hnf.sx (j := 6) (i := 0) (k := 0) (v := sk (tx σ n) (we (tx σ n) (sk (tx σ n) 0))) (by decide)
                have hpr := pAll_e (show pw (tx σ n) 0 = kwLink from c0_100) c59
                refine ww_aload_n 0 dX3_load_122 rfl ?_
                refine cr_pi (cr_V (ct_X3_isGood hG hM) sv_X3_85 rfl dX3_load_123 hM.obj rfl rfl rfl rfl ⟨by decide, by decide⟩ (Nat.le_of_ble_eq_true rfl) (Nat.le_of_ble_eq_true rfl) (Nat.le_of_ble_eq_true rfl)) ?_
                refine ww_ifb_eq 144 dX3_load_126 (by decide) (fun c_126 => ?_) (fun c_126 => ?_)
                · refine ww_aload_n 0 dX3_load_144 rfl ?_
                  refine ww_aload_n 0 dX3_load_145 rfl ?_
                  refine ww_getf gf_X3_78 rfl dX3_load_146 hM.obj rfl ?_
                  rw [h6]
                  refine mw_put pf_X3_13 rfl dX3_load_149 hM rfl (by have := hM.ri (j := 6) rfl 0 0; rwa [h6] at this) (fun hh hM => ?_)
                  refine ww_aload_n 0 dX3_load_152 rfl ?_
                  refine cr_pi (cr_V (ct_X3_isGood hG hM) sv_X3_85 rfl dX3_load_153 hM.obj rfl rfl rfl rfl ⟨by decide, by decide⟩ (Nat.le_of_ble_eq_true rfl) (Nat.le_of_ble_eq_true rfl) (Nat.le_of_ble_eq_true rfl)) ?_
                  refine ww_ifb_ne 164 dX3_load_156 (by decide) (fun c_156 => ?_) (fun c_156 => ?_)
                  · exact absurd (h5.symm.trans c_156) hce
                  · refine ww_aload_n 0 dX3_load_159 rfl ?_
                    refine ww_getf gf_X3_75 rfl dX3_load_160 hM.obj rfl ?_
                    rw [su_off (by decide), h5]
                    exact ww_iret hQ dX3_load_163 rfl (Nat.le_of_ble_eq_true rfl) (Nat.le_of_ble_eq_true rfl) ⟨_, rfl, _, _, hM, by rw [su_off (by decide), hnf 1 (by decide)]; exact hb.1, Or.inr ⟨hni.1, hni.2, by rw [su_off (by decide), hnf 0 (by decide)]; exact hb.2.2.1, by rw [su_off (by decide), hnf 2 (by decide)]; exact hb.2.1, Or.inl ⟨_, _, hpr, hce, rfl, su_s, by rw [su_off (by decide), hnf 10 (by decide)]; exact hb.2.2.2.1, by rw [su_off (by decide), hnf 11 (by decide)]; exact hb.2.2.2.2, rfl⟩⟩⟩
                · exact absurd (h5.symm.trans c_126) hce
            · exact absurd c_103 (by decide)
          · refine ww_if_ne 116 dX3_load_103 (by decide) (inI.mk (by decide) (by decide)) (fun c_103 => ?_) (fun c_103 => ?_)
            · exact absurd c_103 (by decide)
            · refine ww_aload_n 0 dX3_load_106 rfl ?_
              refine ww_bipush dX3_load_107 (by decide) ?_
              refine ww_aload_n 0 dX3_load_109 rfl ?_
              refine ww_getf gf_X3_68 rfl dX3_load_110 hM.obj rfl ?_
              rw [su_s]
              refine cr_sv hM (cr_V (ct_X3_report hG hM _ _ (inI.mk (by decide) (by decide)) (inI.mk (by omega) (by omega))) sv_X3_102 rfl dX3_load_113 hM.obj rfl rfl rfl rfl ⟨by decide, by decide⟩ (Nat.le_of_ble_eq_true rfl) (Nat.le_of_ble_eq_true rfl) (Nat.le_of_ble_eq_true rfl)) (fun σ_113 hh hM hp_113 => ?_)
              subst hp_113
              rw [if_pos (show su ρ 4 0 0 (sk (tx σ n) 0) 5 0 0 = 0 from h5)] at hM
              have hce : (-2 : Int) ≠ 0 := by decide
              have h5 : su (su (su ρ 4 0 0 (sk (tx σ n) 0)) 5 0 0 (-2)) 6 0 0 (sk (tx σ n) 0) 5 0 0 = -2 := by rw [su_off (by decide), su_s]
              have h6 : su (su (su ρ 4 0 0 (sk (tx σ n) 0)) 5 0 0 (-2)) 6 0 0 (sk (tx σ n) 0) 6 0 0 = sk (tx σ n) 0 := su_s
              have hnf : NP ρ (su (su (su ρ 4 0 0 (sk (tx σ n) 0)) 5 0 0 (-2)) 6 0 0 (sk (tx σ n) 0)) := ((NP.rf.sx (by decide)).sx (by decide)).sx (by decide)
              have hpr : pAll (tx σ n) = .error (-2, sk (tx σ n) 0) := pAll_no (show ¬ pw (tx σ n) 0 = kwLink from c0_100)
              refine ww_aload_n 0 dX3_load_116 rfl ?_
              refine ww_bipush dX3_load_117 (by decide) ?_
              refine cr_pv (cr_V (ct_X3_expectB hG hM (fun e => hce (h5.symm.trans e)) _) sv_X3_124 rfl dX3_load_119 hM.obj rfl rfl rfl rfl ⟨by decide, by decide⟩ (Nat.le_of_ble_eq_true rfl) (Nat.le_of_ble_eq_true rfl) (Nat.le_of_ble_eq_true rfl)) ?_
              refine ww_aload_n 0 dX3_load_122 rfl ?_
              refine cr_pi (cr_V (ct_X3_isGood hG hM) sv_X3_85 rfl dX3_load_123 hM.obj rfl rfl rfl rfl ⟨by decide, by decide⟩ (Nat.le_of_ble_eq_true rfl) (Nat.le_of_ble_eq_true rfl) (Nat.le_of_ble_eq_true rfl)) ?_
              refine ww_ifb_eq 144 dX3_load_126 (by decide) (fun c_126 => ?_) (fun c_126 => ?_)
              · refine ww_aload_n 0 dX3_load_144 rfl ?_
                refine ww_aload_n 0 dX3_load_145 rfl ?_
                refine ww_getf gf_X3_78 rfl dX3_load_146 hM.obj rfl ?_
                rw [h6]
                refine mw_put pf_X3_13 rfl dX3_load_149 hM rfl (by have := hM.ri (j := 6) rfl 0 0; rwa [h6] at this) (fun hh hM => ?_)
                refine ww_aload_n 0 dX3_load_152 rfl ?_
                refine cr_pi (cr_V (ct_X3_isGood hG hM) sv_X3_85 rfl dX3_load_153 hM.obj rfl rfl rfl rfl ⟨by decide, by decide⟩ (Nat.le_of_ble_eq_true rfl) (Nat.le_of_ble_eq_true rfl) (Nat.le_of_ble_eq_true rfl)) ?_
                refine ww_ifb_ne 164 dX3_load_156 (by decide) (fun c_156 => ?_) (fun c_156 => ?_)
                · exact absurd (h5.symm.trans c_156) hce
                · refine ww_aload_n 0 dX3_load_159 rfl ?_
                  refine ww_getf gf_X3_75 rfl dX3_load_160 hM.obj rfl ?_
                  rw [su_off (by decide), h5]
                  exact ww_iret hQ dX3_load_163 rfl (Nat.le_of_ble_eq_true rfl) (Nat.le_of_ble_eq_true rfl) ⟨_, rfl, _, _, hM, by rw [su_off (by decide), hnf 1 (by decide)]; exact hb.1, Or.inr ⟨hni.1, hni.2, by rw [su_off (by decide), hnf 0 (by decide)]; exact hb.2.2.1, by rw [su_off (by decide), hnf 2 (by decide)]; exact hb.2.1, Or.inl ⟨_, _, hpr, hce, rfl, su_s, by rw [su_off (by decide), hnf 10 (by decide)]; exact hb.2.2.2.1, by rw [su_off (by decide), hnf 11 (by decide)]; exact hb.2.2.2.2, rfl⟩⟩⟩
              · exact absurd (h5.symm.trans c_126) hce
        have join_67 : ∀ (ρ : MS) (hx1 : AH), (MWF G h hx1 m A B D ρ) → (TX ρ (tx σ n) n) → (ρ 4 0 0 = 0) → (ρ 5 0 0 = 0) → (ρ 6 0 0 = -1) → (ρ 13 0 0 = 0) → (ρ 14 0 0 = 0) → (ρ 1 = σ 1 ∧ ρ 2 0 0 = 0 ∧ ρ 0 0 0 = 0 ∧ ρ 10 = σ 10 ∧ ρ 11 = σ 11) → WW G E (MX3_load 21 453 0 0) hx1 0 0 67 [(0, .ref m)] [] := by
          intro ρ hx1 hM hT h4 h5 h6 h13 h14 hb
          refine ww_iconst dX3_load_67 ?_
          refine ww_istore_n [(2, _), (0, _)] dX3_load_68 (by decide) rfl ?_
          have loop_69 : ∀ (f : Nat) (i : Int) (ρ2 : MS) (hx2 : AH), (MWF G h hx2 m A B D ρ2) → (0 ≤ i) → (i ≤ 1498) → (∀ j, j ≠ 9 → ρ2 j = ρ j) → (∀ z : Int, 0 ≤ z → z < i → ρ2 9 0 z = 0) → (1498 - i < f) → WW G E (MX3_load 21 453 0 0) hx2 0 0 69 [(2, .int (iI i)), (0, .ref m)] [] := by
            intro f
            induction f with
            | zero => intro i ρ2 hx2 hM hi0 hi1 ho9 hd hf; exact absurd hf (by omega)
            | succ f ih =>
              intro i ρ2 hx2 hM hi0 hi1 ho9 hd hf
              refine ww_iload_n 0 dX3_load_69 rfl ?_
              refine ww_sipush dX3_load_70 (by decide) ?_
              refine ww_icmp_ge 89 dX3_load_73 (by decide) (inI.mk (by omega) (by omega)) (inI.mk (by omega) (by omega)) (fun c_73 => ?_) (fun c_73 => ?_)
              · refine ww_aload_n 1 dX3_load_89 rfl ?_
                refine ww_getf gf_X3_20 rfl dX3_load_90 hM.obj rfl ?_
                refine ww_iconst dX3_load_93 ?_
                refine ww_bipush dX3_load_94 (by decide) ?_
                refine mw_st dX3_load_96 hM rfl (by omega) (by omega) (inI.mk (by decide) (by decide)) (fun hh hM => ?_)
                refine ww_sub [1] rfl ?_
                exact join_97 _ _ hM (TX.of (σ := ρ) hT (by rw [su_off (by decide), ho9 1 (by decide)]) (by rw [su_off (by decide), ho9 3 (by decide)])) (by rw [su_off (by decide), ho9 4 (by decide)]; exact h4) (by rw [su_off (by decide), ho9 5 (by decide)]; exact h5) (by rw [su_off (by decide), ho9 6 (by decide)]; exact h6) (MRep0 su_s (fun z z0 z1 => by rw [su_n (by omega)]; exact hd z (by omega) (by omega)) (by rw [su_off (by decide), ho9 13 (by decide)]; exact h13) (by rw [su_off (by decide), ho9 14 (by decide)]; exact h14)) ⟨by rw [su_off (by decide), ho9 1 (by decide)]; exact hb.1, by rw [su_off (by decide), ho9 2 (by decide)]; exact hb.2.1, by rw [su_off (by decide), ho9 0 (by decide)]; exact hb.2.2.1, by rw [su_off (by decide), ho9 10 (by decide)]; exact hb.2.2.2.1, by rw [su_off (by decide), ho9 11 (by decide)]; exact hb.2.2.2.2⟩
              · refine ww_aload_n 1 dX3_load_76 rfl ?_
                refine ww_getf gf_X3_20 rfl dX3_load_77 hM.obj rfl ?_
                refine ww_iload_n 0 dX3_load_80 rfl ?_
                refine ww_iconst dX3_load_81 ?_
                refine mw_st dX3_load_82 hM rfl (by omega) (by omega) (inI.mk (by decide) (by decide)) (fun hh hM => ?_)
                refine ww_iinc (j := 0) [(2, _), (0, _)] dX3_load_83 rfl (by decide) rfl ?_
                refine ww_goto 69 dX3_load_86 (by decide) ?_
                refine ww_sub [0, 1] rfl ?_
                exact ih (i + 1) _ _ hM (by omega) (by omega) (fun j hj => by rw [su_off hj]; exact ho9 j hj) (fun z z0 z1 => if e : z = i then by (rw [e, su_s]) else by (rw [su_n (by omega)]; exact hd z z0 (by omega))) (by omega)
          refine ww_sub [0, 1] rfl ?_
          exact loop_69 1499 0 _ _ hM (by omega) (by omega) (fun _ _ => rfl) (fun z _ _ => by omega) (by omega)
        refine ww_aload_n 0 dX3_load_32 rfl ?_
        refine ww_iconst dX3_load_33 ?_
        refine mw_put pf_X3_62 rfl dX3_load_34 hM rfl (inI.mk (by decide) (by decide)) (fun hh hM => ?_)
        refine ww_aload_n 0 dX3_load_37 rfl ?_
        refine ww_iload_n 1 dX3_load_38 rfl ?_
        refine mw_put pf_X3_65 rfl dX3_load_39 hM rfl hn (fun hh hM => ?_)
        refine ww_aload_n 0 dX3_load_42 rfl ?_
        refine ww_iconst dX3_load_43 ?_
        refine mw_put pf_X3_68 rfl dX3_load_44 hM rfl (inI.mk (by decide) (by decide)) (fun hh hM => ?_)
        refine ww_aload_n 0 dX3_load_47 rfl ?_
        refine ww_iconst dX3_load_48 ?_
        refine mw_put pf_X3_75 rfl dX3_load_49 hM rfl (inI.mk (by decide) (by decide)) (fun hh hM => ?_)
        refine ww_aload_n 0 dX3_load_52 rfl ?_
        refine ww_iconst dX3_load_53 ?_
        refine mw_put pf_X3_78 rfl dX3_load_54 hM rfl (inI.mk (by decide) (by decide)) (fun hh hM => ?_)
        refine ww_aload_n 0 dX3_load_57 rfl ?_
        refine ww_iconst dX3_load_58 ?_
        refine mw_put pf_X3_118 rfl dX3_load_59 hM rfl (inI.mk (by decide) (by decide)) (fun hh hM => ?_)
        refine ww_aload_n 0 dX3_load_62 rfl ?_
        refine ww_iconst dX3_load_63 ?_
        refine mw_put pf_X3_152 rfl dX3_load_64 hM rfl (inI.mk (by decide) (by decide)) (fun hh hM => ?_)
        refine ww_sub [0] rfl ?_
        exact join_67 _ _ hM ⟨hx, (by repeat (first | rw [su_s] | rw [su_off (by decide)])), fun q q0 q1 => by rw [su_off (by decide), su_off (by decide), su_off (by decide), su_off (by decide), su_off (by decide), su_off (by decide), su_off (by decide), su_off (by decide)]; unfold tx; rw [if_pos q1]⟩ (by repeat (first | rw [su_s] | rw [su_off (by decide)])) (by repeat (first | rw [su_s] | rw [su_off (by decide)])) (by repeat (first | rw [su_s] | rw [su_off (by decide)])) (by repeat (first | rw [su_s] | rw [su_off (by decide)])) (by repeat (first | rw [su_s] | rw [su_off (by decide)])) ⟨(by repeat (first | rw [su_s] | rw [su_off (by decide)])), (by repeat (first | rw [su_s] | rw [su_off (by decide)])), (by repeat (first | rw [su_s] | rw [su_off (by decide)])), (by repeat (first | rw [su_s] | rw [su_off (by decide)])), (by repeat (first | rw [su_s] | rw [su_off (by decide)]))⟩
      · exact absurd c_27 (by decide)
    · exact absurd rfl c0_24
  · refine ww_iconst dX3_load_18 ?_
    refine ww_goto 23 dX3_load_19 (by decide) ?_
    refine ww_iconst dX3_load_23 ?_
    refine cr_si hM (cr_V (ct_X3_fails hG hM _ _ (inI.mk (by decide) (by decide)) (inI.mk (by decide) (by decide)) (by decide) su_s) sv_X3_216 rfl dX3_load_24 hM.obj rfl rfl rfl rfl ⟨by decide, by decide⟩ (Nat.le_of_ble_eq_true rfl) (Nat.le_of_ble_eq_true rfl) (Nat.le_of_ble_eq_true rfl)) (fun r_24 σ_24 hh hM hp_24 => ?_)
    rcases hp_24 with ⟨c0_24, rfl, rfl⟩ | ⟨c0_24, rfl, rfl⟩
    · exact absurd c0_24 (by decide)
    · refine ww_if_eq 32 dX3_load_27 (by decide) (inI.mk (by decide) (by decide)) (fun c_27 => ?_) (fun c_27 => ?_)
      · exact absurd c_27 (by decide)
      · refine ww_iconst dX3_load_30 ?_
        exact ww_iret hQ dX3_load_31 rfl (Nat.le_of_ble_eq_true rfl) (Nat.le_of_ble_eq_true rfl) ⟨_, rfl, _, _, hM, by rw [su_off (by decide), su_off (by decide)], Or.inl ⟨c_15, rfl, by rw [su_off (by decide), su_off (by decide)], su_s, by rw [su_off (by decide), su_off (by decide)], by rw [su_off (by decide), su_off (by decide)], by rw [su_off (by decide), su_off (by decide)], rfl⟩⟩
