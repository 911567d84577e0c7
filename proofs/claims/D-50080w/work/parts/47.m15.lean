set_option maxRecDepth 100000
set_option maxHeartbeats 4000000 in
theorem ct_X3_factorB {G : GT} {h0 h : AH} {m : Nat} {A : Nat → Nat} {B : Nat → Int → Nat} {D : Int → Int} {σ : MS} (hG : GOK G) (hM : MWF G h0 h m A B D σ) (hg : ¬ σ 5 0 0 = 0) : CPv G (MX3_factor 1 20 0 0) h [.ref m]  := by
  refine CT.of rfl hG (Nat.le_of_ble_eq_true rfl) rfl (fun E hQ => ?_)
  have hM := hM.1.f
  refine ww_aload_n 0 dX3_factor_0 rfl ?_
  refine cr_pi (cr_V (ct_X3_isGood hG hM) sv_X3_85 rfl dX3_factor_1 hM.obj rfl rfl rfl rfl ⟨by decide, by decide⟩ (Nat.le_of_ble_eq_true rfl) (Nat.le_of_ble_eq_true rfl) (Nat.le_of_ble_eq_true rfl)) ?_
  refine ww_ifb_ne 8 dX3_factor_4 (by decide) (fun c_4 => ?_) (fun c_4 => ?_)
  · exact absurd c_4 hg
  · exact ww_vret hQ dX3_factor_7 rfl (Nat.le_of_ble_eq_true rfl) (Nat.le_of_ble_eq_true rfl) ⟨rfl, rfl⟩

set_option maxHeartbeats 4000000 in
theorem ct_X3_termB {G : GT} {h0 h : AH} {m : Nat} {A : Nat → Nat} {B : Nat → Int → Nat} {D : Int → Int} {σ : MS} (hG : GOK G) (hM : MWF G h0 h m A B D σ) (hg : ¬ σ 5 0 0 = 0) : CPv G (MX3_term 2 43 0 0) h [.ref m]  := by
  refine CT.of rfl hG (Nat.le_of_ble_eq_true rfl) rfl (fun E hQ => ?_)
  have hM := hM.1.f
  refine ww_aload_n 0 dX3_term_0 rfl ?_
  refine cr_pv (cr_V (ct_X3_factorB hG hM hg) sv_X3_146 rfl dX3_term_1 hM.obj rfl rfl rfl rfl ⟨by decide, by decide⟩ (Nat.le_of_ble_eq_true rfl) (Nat.le_of_ble_eq_true rfl) (Nat.le_of_ble_eq_true rfl)) ?_
  refine ww_aload_n 0 dX3_term_4 rfl ?_
  refine cr_pi (cr_V (ct_X3_isGood hG hM) sv_X3_85 rfl dX3_term_5 hM.obj rfl rfl rfl rfl ⟨by decide, by decide⟩ (Nat.le_of_ble_eq_true rfl) (Nat.le_of_ble_eq_true rfl) (Nat.le_of_ble_eq_true rfl)) ?_
  refine ww_ifb_eq 74 dX3_term_8 (by decide) (fun c_8 => ?_) (fun c_8 => ?_)
  · exact ww_vret hQ dX3_term_74 rfl (Nat.le_of_ble_eq_true rfl) (Nat.le_of_ble_eq_true rfl) ⟨rfl, rfl⟩
  · exact absurd c_8 hg

set_option maxHeartbeats 4000000 in
theorem ct_X3_sumB {G : GT} {h0 h : AH} {m : Nat} {A : Nat → Nat} {B : Nat → Int → Nat} {D : Int → Int} {σ : MS} (hG : GOK G) (hM : MWF G h0 h m A B D σ) (hg : ¬ σ 5 0 0 = 0) : CPv G (MX3_sum 3 64 0 0) h [.ref m]  := by
  refine CT.of rfl hG (Nat.le_of_ble_eq_true rfl) rfl (fun E hQ => ?_)
  have hM := hM.1.f
  refine ww_aload_n 0 dX3_sum_0 rfl ?_
  refine cr_pv (cr_V (ct_X3_termB hG hM hg) sv_X3_149 rfl dX3_sum_1 hM.obj rfl rfl rfl rfl ⟨by decide, by decide⟩ (Nat.le_of_ble_eq_true rfl) (Nat.le_of_ble_eq_true rfl) (Nat.le_of_ble_eq_true rfl)) ?_
  refine ww_aload_n 0 dX3_sum_4 rfl ?_
  refine cr_pi (cr_V (ct_X3_isGood hG hM) sv_X3_85 rfl dX3_sum_5 hM.obj rfl rfl rfl rfl ⟨by decide, by decide⟩ (Nat.le_of_ble_eq_true rfl) (Nat.le_of_ble_eq_true rfl) (Nat.le_of_ble_eq_true rfl)) ?_
  refine ww_ifb_eq 74 dX3_sum_8 (by decide) (fun c_8 => ?_) (fun c_8 => ?_)
  · exact ww_vret hQ dX3_sum_74 rfl (Nat.le_of_ble_eq_true rfl) (Nat.le_of_ble_eq_true rfl) ⟨rfl, rfl⟩
  · exact absurd c_8 hg

set_option maxHeartbeats 4000000 in
theorem ct_X3_factor4 {G : GT} {h0 h : AH} {m : Nat} {A : Nat → Nat} {B : Nat → Int → Nat} {D : Int → Int} {σ : MS} (hG : GOK G) (hM : MWF G h0 h m A B D σ) {t : Int → Int} {n : Int} (hT : TX σ t n) (p : Int) (hp : σ 4 0 0 = p) (hp0 : 0 ≤ p) (hp1 : p ≤ n) (hg : σ 5 0 0 = 0) (hL : LitM G h) (x : List Int × EF) (f : Nat) (hf : 3 * (n - p) + 1 ≤ f) (c0 : Int) (hc : σ 9 0 5 = c0) (hc0 : 0 ≤ c0) (hcp : 2 * c0 ≤ 3 * p) (hd : σ 13 0 0 = 4) : CSv G (MX3_factor 5 107 0 0) h m A B D [.ref m] (fun σ' => FE σ σ' ∧ σ' 13 0 0 = 4 ∧ PEr (pE f 0 t 4 p x) σ σ' c0 4 p n) := by
  refine CT.of rfl hG (Nat.le_of_ble_eq_true rfl) rfl (fun E hQ => ?_)
  have hM := hM.1.f
  have hx := hT.1
  have hn8 := hx.2.1
  obtain ⟨g, rfl⟩ : ∃ g, f = g + 1 := ⟨f - 1, by omega⟩
  refine ww_aload_n 0 dX3_factor_0 rfl ?_
  refine cr_pi (cr_V (ct_X3_isGood hG hM) sv_X3_85 rfl dX3_factor_1 hM.obj rfl rfl rfl rfl ⟨by decide, by decide⟩ (Nat.le_of_ble_eq_true rfl) (Nat.le_of_ble_eq_true rfl) (Nat.le_of_ble_eq_true rfl)) ?_
  refine ww_ifb_ne 8 dX3_factor_4 (by decide) (fun c_4 => ?_) (fun c_4 => ?_)
  · refine ww_aload_n 0 dX3_factor_8 rfl ?_
    refine cr_si hM (cr_V (ct_X3_next hG hM hT _ (by first | exact hp | exact su_s | rfl) (by omega) (by omega)) sv_X3_89 rfl dX3_factor_9 hM.obj rfl rfl rfl rfl ⟨by decide, by decide⟩ (Nat.le_of_ble_eq_true rfl) (Nat.le_of_ble_eq_true rfl) (Nat.le_of_ble_eq_true rfl)) (fun r_9 σ_9 hh hM hp_9 => ?_)
    obtain ⟨rfl, rfl⟩ := hp_9
    try rw [su_su] at hM
    have hk := hx.k1 hp1
    have hT := hT.mv hM (by decide) (by decide)
    have hrk := hx.rg (q := sk t p) (by omega)
    refine ww_istore_n [(1, _), (0, _)] dX3_factor_12 (by decide) rfl ?_
    refine ww_iload_n 0 dX3_factor_13 rfl ?_
    refine ww_bipush dX3_factor_14 (by decide) ?_
    refine ww_icmp_ne 78 dX3_factor_16 (by decide) (inI.mk (by omega) (by omega)) (inI.mk (by decide) (by decide)) (fun c_16 => ?_) (fun c_16 => ?_)
    · refine ww_iload_n 0 dX3_factor_78 rfl ?_
      refine cr_pi (cr_S (ct_X3_isDigit hG _ (inI.mk (by omega) (by omega))) ss_X3_106 rfl dX3_factor_79 rfl rfl ⟨by decide, by decide⟩ (Nat.le_of_ble_eq_true rfl) (Nat.le_of_ble_eq_true rfl) (Nat.le_of_ble_eq_true rfl)) ?_
      refine ww_ifb_eq 89 dX3_factor_82 (by decide) (fun c_82 => ?_) (fun c_82 => ?_)
      · refine ww_aload_n 1 dX3_factor_89 rfl ?_
        obtain ⟨a_90, tx_90, hz_90, hS_90⟩ := (hL.fr hM) 128 kwTrust (by decide)
        refine ww_ldcS hz_90 dX3_factor_90 ?_
        refine cr_si hM (cr_V (ct_X3_takeWord hG hM hT (sk t p) su_s (by omega) hk.2.1 (by rw [su_off (by decide)]; exact hg) hS_90 (fun e => hM.1.1 e.symm)) sv_X3_130 rfl dX3_factor_92 hM.obj rfl rfl rfl rfl ⟨by decide, by decide⟩ (Nat.le_of_ble_eq_true rfl) (Nat.le_of_ble_eq_true rfl) (Nat.le_of_ble_eq_true rfl)) (fun r_92 σ_92 hh hM hp_92 => ?_)
        rcases hp_92 with ⟨c0_92, rfl, rfl⟩ | ⟨c0_92, rfl, rfl⟩
        · rw [hx.kk hp1] at hM c0_92
          rw [su_su] at hM
          refine ww_if_eq 102 dX3_factor_95 (by decide) (inI.mk (by decide) (by decide)) (fun c_95 => ?_) (fun c_95 => ?_)
          · exact absurd c_95 (by decide)
          · refine ww_iconst dX3_factor_98 ?_
            refine ww_goto 142 dX3_factor_99 (by decide) ?_
            refine ww_istore_n [(2, _), (1, _), (0, _)] dX3_factor_142 (by decide) rfl ?_
            refine ww_iload_n 0 dX3_factor_143 rfl ?_
            refine ww_if_ge 158 dX3_factor_144 (by decide) (inI.mk (by decide) (by decide)) (fun c_144 => ?_) (fun c_144 => ?_)
            · refine ww_iload_n 0 dX3_factor_158 rfl ?_
              refine ww_istore_n [(3, _), (2, _), (1, _), (0, _)] dX3_factor_159 (by decide) rfl ?_
              refine ww_aload_n 3 dX3_factor_160 rfl ?_
              refine ww_iload_n 1 dX3_factor_161 rfl ?_
              refine ww_if_ge 169 dX3_factor_162 (by decide) (inI.mk (by decide) (by decide)) (fun c_162 => ?_) (fun c_162 => ?_)
              · refine ww_iconst dX3_factor_169 ?_
                have hwg := we_gt (show pw t p = kwTrust from c0_92)
                have hww := hx.w1 hk.2.1
                have hc9 : su σ 4 0 0 (we t (sk t p)) 9 0 5 = c0 := by rw [su_off (by decide)]; exact hc
                refine cr_sv hM (cr_V (ct_X3_emit hG hM (by rw [su_off (by decide)]; exact hg) _ (inI.mk (by decide) (by decide)) (by omega) (by omega)) sv_X3_143 rfl dX3_factor_170 hM.obj rfl rfl rfl rfl ⟨by decide, by decide⟩ (Nat.le_of_ble_eq_true rfl) (Nat.le_of_ble_eq_true rfl) (Nat.le_of_ble_eq_true rfl)) (fun σ_170 hh hM hp_170 => ?_)
                have h5e : σ_170 5 0 0 = 0 := by rw [← hp_170, su_off (by decide), su_off (by decide), su_off (by decide)]; exact hg
                have hc9e : σ_170 9 0 5 = c0 + 1 := by rw [← hp_170, su_s, hc9]
                refine ww_aload_n 3 dX3_factor_173 rfl ?_
                refine ww_iload_n 0 dX3_factor_174 rfl ?_
                refine cr_sv hM (cr_V (ct_X3_emit hG hM h5e _ (inI.mk (by decide) (by decide)) (by omega) (by omega)) sv_X3_143 rfl dX3_factor_175 hM.obj rfl rfl rfl rfl ⟨by decide, by decide⟩ (Nat.le_of_ble_eq_true rfl) (Nat.le_of_ble_eq_true rfl) (Nat.le_of_ble_eq_true rfl)) (fun σ_175 hh hM hp_175 => ?_)
                obtain ⟨q1, q2⟩ := emit2 (σ := σ) (d := 4) (n := n) (p := p) hp_170 hp_175 (su_off (by decide)) hc hc0 (by rw [su_off (by decide)]; exact hg) su_s (by rw [su_off (by decide)]; exact hd) (su_off (by decide)) (by omega) hww.2.1 Cd_0
                exact ww_vret hQ dX3_factor_178 rfl (Nat.le_of_ble_eq_true rfl) (Nat.le_of_ble_eq_true rfl) ⟨rfl, _, hM, fun j a b c d e f => by rw [q2 j d, su_off a], q1.2.2.2.2.1, Or.inr ⟨_, _, by rw [pE0_kw c_16 c_82, if_pos (show pw t p = kwTrust from c0_92)], q1⟩⟩
              · exact absurd c_162 (by decide)
            · exact absurd c_144 (by decide)
        · rw [hx.kk hp1] at hM c0_92
          rw [su_su] at hM
          refine ww_if_eq 102 dX3_factor_95 (by decide) (inI.mk (by decide) (by decide)) (fun c_95 => ?_) (fun c_95 => ?_)
          · refine ww_aload_n 1 dX3_factor_102 rfl ?_
            obtain ⟨a_103, tx_103, hz_103, hS_103⟩ := (hL.fr hM) 134 kwRank (by decide)
            refine ww_ldcS hz_103 dX3_factor_103 ?_
            refine cr_si hM (cr_V (ct_X3_takeWord hG hM hT (sk t p) su_s (by omega) hk.2.1 (by rw [su_off (by decide)]; exact hg) hS_103 (fun e => hM.1.1 e.symm)) sv_X3_130 rfl dX3_factor_105 hM.obj rfl rfl rfl rfl ⟨by decide, by decide⟩ (Nat.le_of_ble_eq_true rfl) (Nat.le_of_ble_eq_true rfl) (Nat.le_of_ble_eq_true rfl)) (fun r_105 σ_105 hh hM hp_105 => ?_)
            rcases hp_105 with ⟨c0_105, rfl, rfl⟩ | ⟨c0_105, rfl, rfl⟩
            · rw [hx.kk hp1] at hM c0_105
              rw [su_su] at hM
              refine ww_if_eq 115 dX3_factor_108 (by decide) (inI.mk (by decide) (by decide)) (fun c_108 => ?_) (fun c_108 => ?_)
              · exact absurd c_108 (by decide)
              · refine ww_iconst dX3_factor_111 ?_
                refine ww_goto 142 dX3_factor_112 (by decide) ?_
                refine ww_istore_n [(2, _), (1, _), (0, _)] dX3_factor_142 (by decide) rfl ?_
                refine ww_iload_n 0 dX3_factor_143 rfl ?_
                refine ww_if_ge 158 dX3_factor_144 (by decide) (inI.mk (by decide) (by decide)) (fun c_144 => ?_) (fun c_144 => ?_)
                · refine ww_iload_n 0 dX3_factor_158 rfl ?_
                  refine ww_istore_n [(3, _), (2, _), (1, _), (0, _)] dX3_factor_159 (by decide) rfl ?_
                  refine ww_aload_n 3 dX3_factor_160 rfl ?_
                  refine ww_iload_n 1 dX3_factor_161 rfl ?_
                  refine ww_if_ge 169 dX3_factor_162 (by decide) (inI.mk (by decide) (by decide)) (fun c_162 => ?_) (fun c_162 => ?_)
                  · refine ww_iconst dX3_factor_169 ?_
                    have hwg := we_gt (show pw t p = kwRank from c0_105)
                    have hww := hx.w1 hk.2.1
                    have hc9 : su σ 4 0 0 (we t (sk t p)) 9 0 5 = c0 := by rw [su_off (by decide)]; exact hc
                    refine cr_sv hM (cr_V (ct_X3_emit hG hM (by rw [su_off (by decide)]; exact hg) _ (inI.mk (by decide) (by decide)) (by omega) (by omega)) sv_X3_143 rfl dX3_factor_170 hM.obj rfl rfl rfl rfl ⟨by decide, by decide⟩ (Nat.le_of_ble_eq_true rfl) (Nat.le_of_ble_eq_true rfl) (Nat.le_of_ble_eq_true rfl)) (fun σ_170 hh hM hp_170 => ?_)
                    have h5e : σ_170 5 0 0 = 0 := by rw [← hp_170, su_off (by decide), su_off (by decide), su_off (by decide)]; exact hg
                    have hc9e : σ_170 9 0 5 = c0 + 1 := by rw [← hp_170, su_s, hc9]
                    refine ww_aload_n 3 dX3_factor_173 rfl ?_
                    refine ww_iload_n 0 dX3_factor_174 rfl ?_
                    refine cr_sv hM (cr_V (ct_X3_emit hG hM h5e _ (inI.mk (by decide) (by decide)) (by omega) (by omega)) sv_X3_143 rfl dX3_factor_175 hM.obj rfl rfl rfl rfl ⟨by decide, by decide⟩ (Nat.le_of_ble_eq_true rfl) (Nat.le_of_ble_eq_true rfl) (Nat.le_of_ble_eq_true rfl)) (fun σ_175 hh hM hp_175 => ?_)
                    obtain ⟨q1, q2⟩ := emit2 (σ := σ) (d := 4) (n := n) (p := p) hp_170 hp_175 (su_off (by decide)) hc hc0 (by rw [su_off (by decide)]; exact hg) su_s (by rw [su_off (by decide)]; exact hd) (su_off (by decide)) (by omega) hww.2.1 Cd_1
                    exact ww_vret hQ dX3_factor_178 rfl (Nat.le_of_ble_eq_true rfl) (Nat.le_of_ble_eq_true rfl) ⟨rfl, _, hM, fun j a b c d e f => by rw [q2 j d, su_off a], q1.2.2.2.2.1, Or.inr ⟨_, _, by rw [pE0_kw c_16 c_82, if_neg (show ¬ pw t p = kwTrust from c0_92), if_pos (show pw t p = kwRank from c0_105)], q1⟩⟩
                  · exact absurd c_162 (by decide)
                · exact absurd c_144 (by decide)
            · rw [hx.kk hp1] at hM c0_105
              rw [su_su] at hM
              refine ww_if_eq 115 dX3_factor_108 (by decide) (inI.mk (by decide) (by decide)) (fun c_108 => ?_) (fun c_108 => ?_)
              · refine ww_aload_n 1 dX3_factor_115 rfl ?_
                obtain ⟨a_116, tx_116, hz_116, hS_116⟩ := (hL.fr hM) 136 kwOffers (by decide)
                refine ww_ldcS hz_116 dX3_factor_116 ?_
                refine cr_si hM (cr_V (ct_X3_takeWord hG hM hT (sk t p) su_s (by omega) hk.2.1 (by rw [su_off (by decide)]; exact hg) hS_116 (fun e => hM.1.1 e.symm)) sv_X3_130 rfl dX3_factor_118 hM.obj rfl rfl rfl rfl ⟨by decide, by decide⟩ (Nat.le_of_ble_eq_true rfl) (Nat.le_of_ble_eq_true rfl) (Nat.le_of_ble_eq_true rfl)) (fun r_118 σ_118 hh hM hp_118 => ?_)
                rcases hp_118 with ⟨c0_118, rfl, rfl⟩ | ⟨c0_118, rfl, rfl⟩
                · rw [hx.kk hp1] at hM c0_118
                  rw [su_su] at hM
                  refine ww_if_eq 128 dX3_factor_121 (by decide) (inI.mk (by decide) (by decide)) (fun c_121 => ?_) (fun c_121 => ?_)
                  · exact absurd c_121 (by decide)
                  · refine ww_iconst dX3_factor_124 ?_
                    refine ww_goto 142 dX3_factor_125 (by decide) ?_
                    refine ww_istore_n [(2, _), (1, _), (0, _)] dX3_factor_142 (by decide) rfl ?_
                    refine ww_iload_n 0 dX3_factor_143 rfl ?_
                    refine ww_if_ge 158 dX3_factor_144 (by decide) (inI.mk (by decide) (by decide)) (fun c_144 => ?_) (fun c_144 => ?_)
                    · refine ww_iload_n 0 dX3_factor_158 rfl ?_
                      refine ww_istore_n [(3, _), (2, _), (1, _), (0, _)] dX3_factor_159 (by decide) rfl ?_
                      refine ww_aload_n 3 dX3_factor_160 rfl ?_
                      refine ww_iload_n 1 dX3_factor_161 rfl ?_
                      refine ww_if_ge 169 dX3_factor_162 (by decide) (inI.mk (by decide) (by decide)) (fun c_162 => ?_) (fun c_162 => ?_)
                      · refine ww_iconst dX3_factor_169 ?_
                        have hwg := we_gt (show pw t p = kwOffers from c0_118)
                        have hww := hx.w1 hk.2.1
                        have hc9 : su σ 4 0 0 (we t (sk t p)) 9 0 5 = c0 := by rw [su_off (by decide)]; exact hc
                        refine cr_sv hM (cr_V (ct_X3_emit hG hM (by rw [su_off (by decide)]; exact hg) _ (inI.mk (by decide) (by decide)) (by omega) (by omega)) sv_X3_143 rfl dX3_factor_170 hM.obj rfl rfl rfl rfl ⟨by decide, by decide⟩ (Nat.le_of_ble_eq_true rfl) (Nat.le_of_ble_eq_true rfl) (Nat.le_of_ble_eq_true rfl)) (fun σ_170 hh hM hp_170 => ?_)
                        have h5e : σ_170 5 0 0 = 0 := by rw [← hp_170, su_off (by decide), su_off (by decide), su_off (by decide)]; exact hg
                        have hc9e : σ_170 9 0 5 = c0 + 1 := by rw [← hp_170, su_s, hc9]
                        refine ww_aload_n 3 dX3_factor_173 rfl ?_
                        refine ww_iload_n 0 dX3_factor_174 rfl ?_
                        refine cr_sv hM (cr_V (ct_X3_emit hG hM h5e _ (inI.mk (by decide) (by decide)) (by omega) (by omega)) sv_X3_143 rfl dX3_factor_175 hM.obj rfl rfl rfl rfl ⟨by decide, by decide⟩ (Nat.le_of_ble_eq_true rfl) (Nat.le_of_ble_eq_true rfl) (Nat.le_of_ble_eq_true rfl)) (fun σ_175 hh hM hp_175 => ?_)
                        obtain ⟨q1, q2⟩ := emit2 (σ := σ) (d := 4) (n := n) (p := p) hp_170 hp_175 (su_off (by decide)) hc hc0 (by rw [su_off (by decide)]; exact hg) su_s (by rw [su_off (by decide)]; exact hd) (su_off (by decide)) (by omega) hww.2.1 Cd_2
                        exact ww_vret hQ dX3_factor_178 rfl (Nat.le_of_ble_eq_true rfl) (Nat.le_of_ble_eq_true rfl) ⟨rfl, _, hM, fun j a b c d e f => by rw [q2 j d, su_off a], q1.2.2.2.2.1, Or.inr ⟨_, _, by rw [pE0_kw c_16 c_82, if_neg (show ¬ pw t p = kwTrust from c0_92), if_neg (show ¬ pw t p = kwRank from c0_105), if_pos (show pw t p = kwOffers from c0_118)], q1⟩⟩
                      · exact absurd c_162 (by decide)
                    · exact absurd c_144 (by decide)
                · rw [hx.kk hp1] at hM c0_118
                  rw [su_su] at hM
                  refine ww_if_eq 128 dX3_factor_121 (by decide) (inI.mk (by decide) (by decide)) (fun c_121 => ?_) (fun c_121 => ?_)
                  · refine ww_aload_n 1 dX3_factor_128 rfl ?_
                    obtain ⟨a_129, tx_129, hz_129, hS_129⟩ := (hL.fr hM) 138 kwFriends (by decide)
                    refine ww_ldcS hz_129 dX3_factor_129 ?_
                    refine cr_si hM (cr_V (ct_X3_takeWord hG hM hT (sk t p) su_s (by omega) hk.2.1 (by rw [su_off (by decide)]; exact hg) hS_129 (fun e => hM.1.1 e.symm)) sv_X3_130 rfl dX3_factor_131 hM.obj rfl rfl rfl rfl ⟨by decide, by decide⟩ (Nat.le_of_ble_eq_true rfl) (Nat.le_of_ble_eq_true rfl) (Nat.le_of_ble_eq_true rfl)) (fun r_131 σ_131 hh hM hp_131 => ?_)
                    rcases hp_131 with ⟨c0_131, rfl, rfl⟩ | ⟨c0_131, rfl, rfl⟩
                    · rw [hx.kk hp1] at hM c0_131
                      rw [su_su] at hM
                      refine ww_if_eq 141 dX3_factor_134 (by decide) (inI.mk (by decide) (by decide)) (fun c_134 => ?_) (fun c_134 => ?_)
                      · exact absurd c_134 (by decide)
                      · refine ww_iconst dX3_factor_137 ?_
                        refine ww_goto 142 dX3_factor_138 (by decide) ?_
                        refine ww_istore_n [(2, _), (1, _), (0, _)] dX3_factor_142 (by decide) rfl ?_
                        refine ww_iload_n 0 dX3_factor_143 rfl ?_
                        refine ww_if_ge 158 dX3_factor_144 (by decide) (inI.mk (by decide) (by decide)) (fun c_144 => ?_) (fun c_144 => ?_)
                        · refine ww_iload_n 0 dX3_factor_158 rfl ?_
                          refine ww_istore_n [(3, _), (2, _), (1, _), (0, _)] dX3_factor_159 (by decide) rfl ?_
                          refine ww_aload_n 3 dX3_factor_160 rfl ?_
                          refine ww_iload_n 1 dX3_factor_161 rfl ?_
                          refine ww_if_ge 169 dX3_factor_162 (by decide) (inI.mk (by decide) (by decide)) (fun c_162 => ?_) (fun c_162 => ?_)
                          · refine ww_iconst dX3_factor_169 ?_
                            have hwg := we_gt (show pw t p = kwFriends from c0_131)
                            have hww := hx.w1 hk.2.1
                            have hc9 : su σ 4 0 0 (we t (sk t p)) 9 0 5 = c0 := by rw [su_off (by decide)]; exact hc
                            refine cr_sv hM (cr_V (ct_X3_emit hG hM (by rw [su_off (by decide)]; exact hg) _ (inI.mk (by decide) (by decide)) (by omega) (by omega)) sv_X3_143 rfl dX3_factor_170 hM.obj rfl rfl rfl rfl ⟨by decide, by decide⟩ (Nat.le_of_ble_eq_true rfl) (Nat.le_of_ble_eq_true rfl) (Nat.le_of_ble_eq_true rfl)) (fun σ_170 hh hM hp_170 => ?_)
                            have h5e : σ_170 5 0 0 = 0 := by rw [← hp_170, su_off (by decide), su_off (by decide), su_off (by decide)]; exact hg
                            have hc9e : σ_170 9 0 5 = c0 + 1 := by rw [← hp_170, su_s, hc9]
                            refine ww_aload_n 3 dX3_factor_173 rfl ?_
                            refine ww_iload_n 0 dX3_factor_174 rfl ?_
                            refine cr_sv hM (cr_V (ct_X3_emit hG hM h5e _ (inI.mk (by decide) (by decide)) (by omega) (by omega)) sv_X3_143 rfl dX3_factor_175 hM.obj rfl rfl rfl rfl ⟨by decide, by decide⟩ (Nat.le_of_ble_eq_true rfl) (Nat.le_of_ble_eq_true rfl) (Nat.le_of_ble_eq_true rfl)) (fun σ_175 hh hM hp_175 => ?_)
                            obtain ⟨q1, q2⟩ := emit2 (σ := σ) (d := 4) (n := n) (p := p) hp_170 hp_175 (su_off (by decide)) hc hc0 (by rw [su_off (by decide)]; exact hg) su_s (by rw [su_off (by decide)]; exact hd) (su_off (by decide)) (by omega) hww.2.1 Cd_3
                            exact ww_vret hQ dX3_factor_178 rfl (Nat.le_of_ble_eq_true rfl) (Nat.le_of_ble_eq_true rfl) ⟨rfl, _, hM, fun j a b c d e f => by rw [q2 j d, su_off a], q1.2.2.2.2.1, Or.inr ⟨_, _, by rw [pE0_kw c_16 c_82, if_neg (show ¬ pw t p = kwTrust from c0_92), if_neg (show ¬ pw t p = kwRank from c0_105), if_neg (show ¬ pw t p = kwOffers from c0_118), if_pos (show pw t p = kwFriends from c0_131)], q1⟩⟩
                          · exact absurd c_162 (by decide)
                        · exact absurd c_144 (by decide)
                    · rw [hx.kk hp1] at hM c0_131
                      rw [su_su] at hM
                      refine ww_if_eq 141 dX3_factor_134 (by decide) (inI.mk (by decide) (by decide)) (fun c_134 => ?_) (fun c_134 => ?_)
                      · refine ww_iconst dX3_factor_141 ?_
                        refine ww_istore_n [(2, _), (1, _), (0, _)] dX3_factor_142 (by decide) rfl ?_
                        refine ww_iload_n 0 dX3_factor_143 rfl ?_
                        refine ww_if_ge 158 dX3_factor_144 (by decide) (inI.mk (by decide) (by decide)) (fun c_144 => ?_) (fun c_144 => ?_)
                        · exact absurd c_144 (by decide)
                        · refine ww_aload_n 2 dX3_factor_147 rfl ?_
                          refine ww_iconst dX3_factor_148 ?_
                          refine ww_sipush dX3_factor_149 (by decide) ?_
                          refine cr_si hM (cr_V (ct_X3_number hG hM hT (sk t p) su_s (by omega) hk.2.1 (by rw [su_off (by decide)]; exact hg) 0 9999 (inI.mk (by decide) (by decide)) (inI.mk (by decide) (by decide))) sv_X3_140 rfl dX3_factor_152 hM.obj rfl rfl rfl rfl ⟨by decide, by decide⟩ (Nat.le_of_ble_eq_true rfl) (Nat.le_of_ble_eq_true rfl) (Nat.le_of_ble_eq_true rfl)) (fun r_152 σ_152 hh hM hp_152 => ?_)
                          obtain ⟨hk_152, hr_152, hc_152⟩ := hp_152
                          rw [pnum_kk hx hp1] at hc_152
                          have hf2 : FE σ σ_152 := fun j a b c d e f => by rw [hk_152 j a b c e, su_off a]
                          have h13n : σ_152 13 0 0 = 4 := by rw [hk_152 13 (by decide) (by decide) (by decide) (by decide), su_off (by decide)]; exact hd
                          have h9n : σ_152 9 = σ 9 := by rw [hk_152 9 (by decide) (by decide) (by decide) (by decide), su_off (by decide)]
                          rcases hc_152 with ⟨c, o, hpe, hce, h5, h6⟩ | ⟨v, e3, hpn, h5n, h4n, rfl, f1, f2, f3, f4, f6⟩
                          · refine ww_goto 159 dX3_factor_155 (by decide) ?_
                            refine ww_istore_n [(3, _), (2, _), (1, _), (0, _)] dX3_factor_159 (by decide) rfl ?_
                            refine ww_aload_n 3 dX3_factor_160 rfl ?_
                            refine ww_iload_n 1 dX3_factor_161 rfl ?_
                            refine ww_if_ge 169 dX3_factor_162 (by decide) (inI.mk (by decide) (by decide)) (fun c_162 => ?_) (fun c_162 => ?_)
                            · exact absurd c_162 (by decide)
                            · refine ww_iconst dX3_factor_165 ?_
                              refine ww_goto 170 dX3_factor_166 (by decide) ?_
                              refine cr_pv (cr_V (ct_X3_emitB hG hM (fun e => hce (h5.symm.trans e)) _) sv_X3_143 rfl dX3_factor_170 hM.obj rfl rfl rfl rfl ⟨by decide, by decide⟩ (Nat.le_of_ble_eq_true rfl) (Nat.le_of_ble_eq_true rfl) (Nat.le_of_ble_eq_true rfl)) ?_
                              refine ww_aload_n 3 dX3_factor_173 rfl ?_
                              refine ww_iload_n 0 dX3_factor_174 rfl ?_
                              refine cr_pv (cr_V (ct_X3_emitB hG hM (fun e => hce (h5.symm.trans e)) _) sv_X3_143 rfl dX3_factor_175 hM.obj rfl rfl rfl rfl ⟨by decide, by decide⟩ (Nat.le_of_ble_eq_true rfl) (Nat.le_of_ble_eq_true rfl) (Nat.le_of_ble_eq_true rfl)) ?_
                              exact ww_vret hQ dX3_factor_178 rfl (Nat.le_of_ble_eq_true rfl) (Nat.le_of_ble_eq_true rfl) ⟨rfl, _, hM, hf2, h13n, Or.inl ⟨c, o, by rw [pE0_kw c_16 c_82, if_neg (show ¬ pw t p = kwTrust from c0_92), if_neg (show ¬ pw t p = kwRank from c0_105), if_neg (show ¬ pw t p = kwOffers from c0_118), if_neg (show ¬ pw t p = kwFriends from c0_131)]; unfold pnum at hpe; rw [if_neg c_82] at hpe; cases hpe; rfl, hce, h5, h6⟩⟩
                          · exact absurd hpn (by unfold pnum; rw [if_neg c_82]; intro e; cases e)
                      · exact absurd c_134 (by decide)
                  · exact absurd c_121 (by decide)
              · exact absurd c_108 (by decide)
          · exact absurd c_95 (by decide)
      · refine ww_iconst dX3_factor_85 ?_
        refine ww_goto 142 dX3_factor_86 (by decide) ?_
        refine ww_istore_n [(2, _), (1, _), (0, _)] dX3_factor_142 (by decide) rfl ?_
        refine ww_iload_n 0 dX3_factor_143 rfl ?_
        refine ww_if_ge 158 dX3_factor_144 (by decide) (inI.mk (by decide) (by decide)) (fun c_144 => ?_) (fun c_144 => ?_)
        · exact absurd c_144 (by decide)
        · refine ww_aload_n 2 dX3_factor_147 rfl ?_
          refine ww_iconst dX3_factor_148 ?_
          refine ww_sipush dX3_factor_149 (by decide) ?_
          refine cr_si hM (cr_V (ct_X3_number hG hM hT (sk t p) su_s (by omega) hk.2.1 (by rw [su_off (by decide)]; exact hg) 0 9999 (inI.mk (by decide) (by decide)) (inI.mk (by decide) (by decide))) sv_X3_140 rfl dX3_factor_152 hM.obj rfl rfl rfl rfl ⟨by decide, by decide⟩ (Nat.le_of_ble_eq_true rfl) (Nat.le_of_ble_eq_true rfl) (Nat.le_of_ble_eq_true rfl)) (fun r_152 σ_152 hh hM hp_152 => ?_)
          obtain ⟨hk_152, hr_152, hc_152⟩ := hp_152
          rw [pnum_kk hx hp1] at hc_152
          have hf2 : FE σ σ_152 := fun j a b c d e f => by rw [hk_152 j a b c e, su_off a]
          have h13n : σ_152 13 0 0 = 4 := by rw [hk_152 13 (by decide) (by decide) (by decide) (by decide), su_off (by decide)]; exact hd
          have h9n : σ_152 9 = σ 9 := by rw [hk_152 9 (by decide) (by decide) (by decide) (by decide), su_off (by decide)]
          rcases hc_152 with ⟨c, o, hpe, hce, h5, h6⟩ | ⟨v, e3, hpn, h5n, h4n, rfl, f1, f2, f3, f4, f6⟩
          · refine ww_goto 159 dX3_factor_155 (by decide) ?_
            refine ww_istore_n [(3, _), (2, _), (1, _), (0, _)] dX3_factor_159 (by decide) rfl ?_
            refine ww_aload_n 3 dX3_factor_160 rfl ?_
            refine ww_iload_n 1 dX3_factor_161 rfl ?_
            refine ww_if_ge 169 dX3_factor_162 (by decide) (inI.mk (by decide) (by decide)) (fun c_162 => ?_) (fun c_162 => ?_)
            · exact absurd c_162 (by decide)
            · refine ww_iconst dX3_factor_165 ?_
              refine ww_goto 170 dX3_factor_166 (by decide) ?_
              refine cr_pv (cr_V (ct_X3_emitB hG hM (fun e => hce (h5.symm.trans e)) _) sv_X3_143 rfl dX3_factor_170 hM.obj rfl rfl rfl rfl ⟨by decide, by decide⟩ (Nat.le_of_ble_eq_true rfl) (Nat.le_of_ble_eq_true rfl) (Nat.le_of_ble_eq_true rfl)) ?_
              refine ww_aload_n 3 dX3_factor_173 rfl ?_
              refine ww_iload_n 0 dX3_factor_174 rfl ?_
              refine cr_pv (cr_V (ct_X3_emitB hG hM (fun e => hce (h5.symm.trans e)) _) sv_X3_143 rfl dX3_factor_175 hM.obj rfl rfl rfl rfl ⟨by decide, by decide⟩ (Nat.le_of_ble_eq_true rfl) (Nat.le_of_ble_eq_true rfl) (Nat.le_of_ble_eq_true rfl)) ?_
              exact ww_vret hQ dX3_factor_178 rfl (Nat.le_of_ble_eq_true rfl) (Nat.le_of_ble_eq_true rfl) ⟨rfl, _, hM, hf2, h13n, Or.inl ⟨c, o, by rw [pE0_num c_16 c_82, hpe], hce, h5, h6⟩⟩
          · have hc9 : σ_152 9 0 5 = c0 := by rw [h9n]; exact hc
            refine ww_goto 159 dX3_factor_155 (by decide) ?_
            refine ww_istore_n [(3, _), (2, _), (1, _), (0, _)] dX3_factor_159 (by decide) rfl ?_
            refine ww_aload_n 3 dX3_factor_160 rfl ?_
            refine ww_iload_n 1 dX3_factor_161 rfl ?_
            refine ww_if_ge 169 dX3_factor_162 (by decide) (inI.mk (by decide) (by decide)) (fun c_162 => ?_) (fun c_162 => ?_)
            · exact absurd c_162 (by decide)
            · refine ww_iconst dX3_factor_165 ?_
              refine ww_goto 170 dX3_factor_166 (by decide) ?_
              refine cr_sv hM (cr_V (ct_X3_emit hG hM h5n _ (inI.mk (by decide) (by decide)) (by omega) (by omega)) sv_X3_143 rfl dX3_factor_170 hM.obj rfl rfl rfl rfl ⟨by decide, by decide⟩ (Nat.le_of_ble_eq_true rfl) (Nat.le_of_ble_eq_true rfl) (Nat.le_of_ble_eq_true rfl)) (fun σ_170 hh hM hp_170 => ?_)
              have h5e : σ_170 5 0 0 = 0 := by rw [← hp_170, su_off (by decide), su_off (by decide)]; exact h5n
              have hc9e : σ_170 9 0 5 = c0 + 1 := by rw [← hp_170, su_s, hc9]
              refine ww_aload_n 3 dX3_factor_173 rfl ?_
              refine ww_iload_n 0 dX3_factor_174 rfl ?_
              refine cr_sv hM (cr_V (ct_X3_emit hG hM h5e _ (inI.mk (by omega) (by omega)) (by omega) (by omega)) sv_X3_143 rfl dX3_factor_175 hM.obj rfl rfl rfl rfl ⟨by decide, by decide⟩ (Nat.le_of_ble_eq_true rfl) (Nat.le_of_ble_eq_true rfl) (Nat.le_of_ble_eq_true rfl)) (fun σ_175 hh hM hp_175 => ?_)
              obtain ⟨q1, q2⟩ := emit2 (n := n) (p := p) hp_170 hp_175 h9n hc hc0 h5n h4n h13n (by rw [f6, su_off (by decide)]) (by have := pnum_gt hx hp0 hp1 hpn; omega) (by omega) (Cd_n f3 f4)
              exact ww_vret hQ dX3_factor_178 rfl (Nat.le_of_ble_eq_true rfl) (Nat.le_of_ble_eq_true rfl) ⟨rfl, _, hM, fun j a b c d e f => by rw [q2 j d]; exact hf2 j a b c d e f, q1.2.2.2.2.1, Or.inr ⟨_, _, by rw [pE0_num c_16 c_82, hpn], q1⟩⟩
    · have hsn : sk t p ≠ n := fun e => by rw [e, hx.2.2.1 n (Int.le_refl _)] at c_16; cases c_16
      refine ww_aload_n 1 dX3_factor_19 rfl ?_
      refine ww_getf gf_X3_118 rfl dX3_factor_20 hM.obj rfl ?_
      rw [su_off (by decide), hd]
      refine ww_iconst dX3_factor_23 ?_
      refine ww_icmp_ne 37 dX3_factor_24 (by decide) (inI.mk (by decide) (by decide)) (inI.mk (by decide) (by decide)) (fun c_24 => ?_) (fun c_24 => ?_)
      · exact absurd rfl c_24
      · refine ww_aload_n 1 dX3_factor_27 rfl ?_
        refine ww_bipush dX3_factor_28 (by decide) ?_
        refine ww_aload_n 1 dX3_factor_30 rfl ?_
        refine ww_getf gf_X3_68 rfl dX3_factor_31 hM.obj rfl ?_
        rw [su_s]
        refine cr_sv hM (cr_V (ct_X3_report hG hM _ _ (inI.mk (by decide) (by decide)) (inI.mk (by omega) (by omega))) sv_X3_102 rfl dX3_factor_34 hM.obj rfl rfl rfl rfl ⟨by decide, by decide⟩ (Nat.le_of_ble_eq_true rfl) (Nat.le_of_ble_eq_true rfl) (Nat.le_of_ble_eq_true rfl)) (fun σ_34 hh hM hp_34 => ?_)
        subst hp_34
        rw [if_pos (show su σ 4 0 0 (sk t p) 5 0 0 = 0 from hg)] at hM
        refine ww_aload_n 1 dX3_factor_37 rfl ?_
        refine ww_dup dX3_factor_38 rfl ?_
        refine ww_getf gf_X3_68 rfl dX3_factor_39 hM.obj rfl ?_
        rw [su_off (by decide), su_off (by decide), su_s]
        refine ww_iconst dX3_factor_42 ?_
        refine ww_iadd dX3_factor_43 ?_
        refine mw_put pf_X3_68 rfl dX3_factor_44 hM rfl (inI.mk (by omega) (by omega)) (fun hh hM => ?_)
        refine ww_aload_n 1 dX3_factor_47 rfl ?_
        refine ww_dup dX3_factor_48 rfl ?_
        refine ww_getf gf_X3_118 rfl dX3_factor_49 hM.obj rfl ?_
        rw [su_off (by decide), su_off (by decide), su_off (by decide), su_off (by decide), hd]
        refine ww_iconst dX3_factor_52 ?_
        refine ww_iadd dX3_factor_53 ?_
        refine mw_put pf_X3_118 rfl dX3_factor_54 hM rfl (inI.mk (by decide) (by decide)) (fun hh hM => ?_)
        have hb7 : ¬ su (su (su (su (su σ 4 0 0 (sk t p)) 5 0 0 (-7)) 6 0 0 (sk t p)) 4 0 0 (sk t p + 1)) 13 0 0 (4 + 1) 5 0 0 = 0 := by rw [su_off (by decide), su_off (by decide), su_off (by decide), su_s]; decide
        refine ww_aload_n 1 dX3_factor_57 rfl ?_
        refine cr_pv (cr_V (ct_X3_sumB hG hM hb7) sv_X3_121 rfl dX3_factor_58 hM.obj rfl rfl rfl rfl ⟨by decide, by decide⟩ (Nat.le_of_ble_eq_true rfl) (Nat.le_of_ble_eq_true rfl) (Nat.le_of_ble_eq_true rfl)) ?_
        refine ww_aload_n 1 dX3_factor_61 rfl ?_
        refine ww_bipush dX3_factor_62 (by decide) ?_
        refine cr_pv (cr_V (ct_X3_expectB hG hM hb7 _) sv_X3_124 rfl dX3_factor_64 hM.obj rfl rfl rfl rfl ⟨by decide, by decide⟩ (Nat.le_of_ble_eq_true rfl) (Nat.le_of_ble_eq_true rfl) (Nat.le_of_ble_eq_true rfl)) ?_
        refine ww_aload_n 1 dX3_factor_67 rfl ?_
        refine ww_dup dX3_factor_68 rfl ?_
        refine ww_getf gf_X3_118 rfl dX3_factor_69 hM.obj rfl ?_
        rw [su_s]
        refine ww_iconst dX3_factor_72 ?_
        refine ww_isub dX3_factor_73 ?_
        refine mw_put pf_X3_118 rfl dX3_factor_74 hM rfl (inI.mk (by decide) (by decide)) (fun hh hM => ?_)
        exact ww_vret hQ dX3_factor_77 rfl (Nat.le_of_ble_eq_true rfl) (Nat.le_of_ble_eq_true rfl) ⟨rfl, _, hM, fun j a b c d e f => by rw [su_off f, su_off f, su_off a, su_off c, su_off b, su_off a], su_s, Or.inl ⟨-7, sk t p, pE0_deep c_16 (by decide), by decide, by rw [su_off (by decide), su_off (by decide), su_off (by decide), su_off (by decide), su_s], by rw [su_off (by decide), su_off (by decide), su_off (by decide), su_s]⟩⟩
  · exact absurd hg c_4

set_option maxHeartbeats 4000000 in
theorem ct_X3_term4 {G : GT} {h0 h : AH} {m : Nat} {A : Nat → Nat} {B : Nat → Int → Nat} {D : Int → Int} {σ : MS} (hG : GOK G) (hM : MWF G h0 h m A B D σ) {t : Int → Int} {n : Int} (hT : TX σ t n) (p : Int) (hp : σ 4 0 0 = p) (hp0 : 0 ≤ p) (hp1 : p ≤ n) (hg : σ 5 0 0 = 0) (hL : LitM G h) (x : List Int × EF) (f : Nat) (hf : 3 * (n - p) + 2 ≤ f) (c0 : Int) (hc : σ 9 0 5 = c0) (hc0 : 0 ≤ c0) (hcp : 2 * c0 ≤ 3 * p) (hd : σ 13 0 0 = 4) : CSv G (MX3_term 6 130 0 0) h m A B D [.ref m] (fun σ' => FE σ σ' ∧ σ' 13 0 0 = 4 ∧ PEr (pE f 1 t 4 p x) σ σ' c0 4 p n) := by
  refine CT.of rfl hG (Nat.le_of_ble_eq_true rfl) rfl (fun E hQ => ?_)
  have hM := hM.1.f
  have hx := hT.1
  have hn8 := hx.2.1
  obtain ⟨g, rfl⟩ : ∃ g, f = g + 1 := ⟨f - 1, by omega⟩
  refine ww_aload_n 0 dX3_term_0 rfl ?_
  refine cr_sv hM (cr_V (ct_X3_factor4 hG hM hT p hp hp0 hp1 hg hL x g (by omega) c0 hc hc0 hcp hd) sv_X3_146 rfl dX3_term_1 hM.obj rfl rfl rfl rfl ⟨by decide, by decide⟩ (Nat.le_of_ble_eq_true rfl) (Nat.le_of_ble_eq_true rfl) (Nat.le_of_ble_eq_true rfl)) (fun σ_1 hh hM hp_1 => ?_)
  obtain ⟨hfe_1, h13_1, hc_1⟩ := hp_1
  rcases hc_1 with ⟨c, o, hpe, hce, h5, h6⟩ | ⟨y, p1, hpy, hy⟩
  · have hpr : pE (g + 1) 1 t 4 p x = .error (c, o) := by rw [pE1, hpe]
    have hfr := hfe_1
    have h13r := h13_1
    refine ww_aload_n 0 dX3_term_4 rfl ?_
    refine cr_pi (cr_V (ct_X3_isGood hG hM) sv_X3_85 rfl dX3_term_5 hM.obj rfl rfl rfl rfl ⟨by decide, by decide⟩ (Nat.le_of_ble_eq_true rfl) (Nat.le_of_ble_eq_true rfl) (Nat.le_of_ble_eq_true rfl)) ?_
    refine ww_ifb_eq 74 dX3_term_8 (by decide) (fun c_8 => ?_) (fun c_8 => ?_)
    · exact ww_vret hQ dX3_term_74 rfl (Nat.le_of_ble_eq_true rfl) (Nat.le_of_ble_eq_true rfl) ⟨rfl, _, hM, hfr, h13r, Or.inl ⟨c, o, hpr, hce, h5, h6⟩⟩
    · exact absurd (h5.symm.trans c_8) hce
  · have hpt : pE (g + 1) 1 t 4 p x = pE g 2 t 4 p1 y := by rw [pE1, hpy]
    have loop_4 : ∀ (e : Nat) (u : Nat) (z : List Int × EF) (q : Int) (τ : MS) (hx1 : AH), (MWF G h hx1 m A B D τ) → (FE σ τ) → (ExO σ τ c0 4 p n z q) → (pE (g + 1) 1 t 4 p x = pE u 2 t 4 q z) → (3 * (n - q) + 2 ≤ u) → (n - q < e) → WW G E (MX3_term 6 130 0 0) hx1 0 0 4 [(0, .ref m)] [] := by
      intro e
      induction e with
      | zero => intro u z q τ hx1 hM hfe hy hpt hu he; exact absurd he (by have := hy.2.2.2.1; omega)
      | succ e ie =>
        intro u z q τ hx1 hM hfe hy hpt hu he
        have hq2 := hy.2.2.2.1
        have hq1 := hy.2.2.1
        obtain ⟨v, rfl⟩ : ∃ v, u = v + 1 := ⟨u - 1, by omega⟩
        have hT := hT.of (hfe 1 (by decide) (by decide) (by decide) (by decide) (by decide) (by decide)) (hfe 3 (by decide) (by decide) (by decide) (by decide) (by decide) (by decide))
        have hkq := hx.k1 hq2
        have h13 := hy.2.2.2.2.1
        have h95 := hy.2.2.2.2.2.1
        have h29 := hy.2.2.2.2.2.2.2.2.1
        have hrx := hx.rg (q := sk t q) (by omega)
        refine ww_aload_n 0 dX3_term_4 rfl ?_
        refine cr_pi (cr_V (ct_X3_isGood hG hM) sv_X3_85 rfl dX3_term_5 hM.obj rfl rfl rfl rfl ⟨by decide, by decide⟩ (Nat.le_of_ble_eq_true rfl) (Nat.le_of_ble_eq_true rfl) (Nat.le_of_ble_eq_true rfl)) ?_
        refine ww_ifb_eq 74 dX3_term_8 (by decide) (fun c_8 => ?_) (fun c_8 => ?_)
        · exact absurd hy.1 c_8
        · refine ww_aload_n 0 dX3_term_11 rfl ?_
          refine cr_si hM (cr_V (ct_X3_next hG hM hT q hy.2.1 (by omega) hq2) sv_X3_89 rfl dX3_term_12 hM.obj rfl rfl rfl rfl ⟨by decide, by decide⟩ (Nat.le_of_ble_eq_true rfl) (Nat.le_of_ble_eq_true rfl) (Nat.le_of_ble_eq_true rfl)) (fun r_12 σ_12 hh hM hp_12 => ?_)
          obtain ⟨rfl, rfl⟩ := hp_12
          try rw [su_su] at hM
          refine ww_bipush dX3_term_15 (by decide) ?_
          refine ww_icmp_eq 29 dX3_term_17 (by decide) (inI.mk (by omega) (by omega)) (inI.mk (by decide) (by decide)) (fun c_17 => ?_) (fun c_17 => ?_)
          · have hsn : sk t q ≠ n := fun e => by rw [e, hx.2.2.1 n (Int.le_refl _)] at c_17; cases c_17
            refine ww_aload_n 0 dX3_term_29 rfl ?_
            refine cr_si hM (cr_V (ct_X3_next hG hM (hT.mv hM (by decide) (by decide)) (sk t q) su_s (by omega) hkq.2.1) sv_X3_89 rfl dX3_term_30 hM.obj rfl rfl rfl rfl ⟨by decide, by decide⟩ (Nat.le_of_ble_eq_true rfl) (Nat.le_of_ble_eq_true rfl) (Nat.le_of_ble_eq_true rfl)) (fun r_30 σ_30 hh hM hp_30 => ?_)
            obtain ⟨rfl, rfl⟩ := hp_30
            try rw [su_su] at hM
            rw [hx.kk hq2] at hM
            rw [hx.kk hq2]
            refine ww_bipush dX3_term_33 (by decide) ?_
            refine ww_icmp_ne 42 dX3_term_35 (by decide) (inI.mk (by omega) (by omega)) (inI.mk (by decide) (by decide)) (fun c_35 => ?_) (fun c_35 => ?_)
            · exact absurd c_17 c_35
            · refine ww_iconst dX3_term_38 ?_
              refine ww_goto 43 dX3_term_39 (by decide) ?_
              refine ww_istore_n [(1, _), (0, _)] dX3_term_43 (by decide) rfl ?_
              refine ww_aload_n 1 dX3_term_44 rfl ?_
              refine ww_dup dX3_term_45 rfl ?_
              refine ww_getf gf_X3_68 rfl dX3_term_46 hM.obj rfl ?_
              rw [su_s]
              refine ww_iconst dX3_term_49 ?_
              refine ww_iadd dX3_term_50 ?_
              refine mw_put pf_X3_68 rfl dX3_term_51 hM rfl (inI.mk (by omega) (by omega)) (fun hh hM => ?_)
              rw [su_su] at hM
              refine ww_aload_n 1 dX3_term_54 rfl ?_
              refine cr_sv hM (cr_V (ct_X3_factor4 hG hM (hT.mv hM (by decide) (by decide)) (sk t q + 1) su_s (by omega) (by omega) (by rw [su_off (by decide)]; exact hy.1) (hL.fr hM) z v (by omega) (c0 + z.1.length) (by rw [su_off (by decide)]; exact h95) (by omega) (by omega) (by rw [su_off (by decide)]; exact h13)) sv_X3_146 rfl dX3_term_55 hM.obj rfl rfl rfl rfl ⟨by decide, by decide⟩ (Nat.le_of_ble_eq_true rfl) (Nat.le_of_ble_eq_true rfl) (Nat.le_of_ble_eq_true rfl)) (fun σ_55 hh hM hp_55 => ?_)
              obtain ⟨hfe_55, h13_55, hc_55⟩ := hp_55
              have hfr : FE σ σ_55 := fun j a b c d e f => by rw [hfe_55 j a b c d e f, su_off a, hfe j a b c d e f]
              rcases hc_55 with ⟨c, o, hpe, hce, h5, h6⟩ | ⟨y, q2, hpy, hy2⟩
              · have hpr : pE (g + 1) 1 t 4 p x = .error (c, o) := by rw [hpt, pE2, if_pos (Or.inl c_17), hpe]
                have h13r := h13_55
                refine ww_aload_n 1 dX3_term_58 rfl ?_
                refine ww_iload_n 0 dX3_term_59 rfl ?_
                refine ww_if_eq 67 dX3_term_60 (by decide) (inI.mk (by decide) (by decide)) (fun c_60 => ?_) (fun c_60 => ?_)
                · exact absurd c_60 (by decide)
                · refine ww_iconst dX3_term_63 ?_
                  refine ww_goto 68 dX3_term_64 (by decide) ?_
                  refine cr_pv (cr_V (ct_X3_emitB hG hM (fun e => hce (h5.symm.trans e)) _) sv_X3_143 rfl dX3_term_68 hM.obj rfl rfl rfl rfl ⟨by decide, by decide⟩ (Nat.le_of_ble_eq_true rfl) (Nat.le_of_ble_eq_true rfl) (Nat.le_of_ble_eq_true rfl)) ?_
                  refine ww_goto 4 dX3_term_71 (by decide) ?_
                  refine ww_aload_n 1 dX3_term_4 rfl ?_
                  refine cr_pi (cr_V (ct_X3_isGood hG hM) sv_X3_85 rfl dX3_term_5 hM.obj rfl rfl rfl rfl ⟨by decide, by decide⟩ (Nat.le_of_ble_eq_true rfl) (Nat.le_of_ble_eq_true rfl) (Nat.le_of_ble_eq_true rfl)) ?_
                  refine ww_ifb_eq 74 dX3_term_8 (by decide) (fun c_8 => ?_) (fun c_8 => ?_)
                  · exact ww_vret hQ dX3_term_74 rfl (Nat.le_of_ble_eq_true rfl) (Nat.le_of_ble_eq_true rfl) ⟨rfl, _, hM, hfr, h13r, Or.inl ⟨c, o, hpr, hce, h5, h6⟩⟩
                  · exact absurd (h5.symm.trans c_8) hce
              · have h95b := hy2.2.2.2.2.2.1
                have h29b := hy2.2.2.2.2.2.2.2.2.1
                have hq22 := hy2.2.2.2.1
                have hq23 := hy2.2.2.1
                refine ww_aload_n 1 dX3_term_58 rfl ?_
                refine ww_iload_n 0 dX3_term_59 rfl ?_
                refine ww_if_eq 67 dX3_term_60 (by decide) (inI.mk (by decide) (by decide)) (fun c_60 => ?_) (fun c_60 => ?_)
                · exact absurd c_60 (by decide)
                · refine ww_iconst dX3_term_63 ?_
                  refine ww_goto 68 dX3_term_64 (by decide) ?_
                  refine cr_sv hM (cr_V (ct_X3_emit hG hM hy2.1 _ (inI.mk (by decide) (by decide)) (by omega) (by omega)) sv_X3_143 rfl dX3_term_68 hM.obj rfl rfl rfl rfl ⟨by decide, by decide⟩ (Nat.le_of_ble_eq_true rfl) (Nat.le_of_ble_eq_true rfl) (Nat.le_of_ble_eq_true rfl)) (fun σ_68 hh hM hp_68 => ?_)
                  have hy3 := emitO (op := 4) hy (su_off (by decide)) (su_off (by decide)) rfl (by omega) hy2 hp_68 hc0 (by decide) (by decide)
                  have hpt3 : pE (g + 1) 1 t 4 p x = pE v 2 t 4 q2 (cmb 4 z y) := by rw [hpt, pE2, if_pos (Or.inl c_17), hpy]; simp only; rw [if_pos c_17]
                  have hfe3 : FE σ σ_68 := fun j a b c d e f => by rw [← hp_68, su_off d, su_off d]; exact hfr j a b c d e f
                  refine ww_goto 4 dX3_term_71 (by decide) ?_
                  refine ww_sub [1] rfl ?_
                  exact ie v _ _ _ _ hM hfe3 hy3 hpt3 (by omega) (by omega)
          · refine ww_aload_n 0 dX3_term_20 rfl ?_
            refine cr_si hM (cr_V (ct_X3_next hG hM (hT.mv hM (by decide) (by decide)) (sk t q) su_s (by omega) hkq.2.1) sv_X3_89 rfl dX3_term_21 hM.obj rfl rfl rfl rfl ⟨by decide, by decide⟩ (Nat.le_of_ble_eq_true rfl) (Nat.le_of_ble_eq_true rfl) (Nat.le_of_ble_eq_true rfl)) (fun r_21 σ_21 hh hM hp_21 => ?_)
            obtain ⟨rfl, rfl⟩ := hp_21
            try rw [su_su] at hM
            rw [hx.kk hq2] at hM
            rw [hx.kk hq2]
            refine ww_bipush dX3_term_24 (by decide) ?_
            refine ww_icmp_ne 74 dX3_term_26 (by decide) (inI.mk (by omega) (by omega)) (inI.mk (by decide) (by decide)) (fun c_26 => ?_) (fun c_26 => ?_)
            · exact ww_vret hQ dX3_term_74 rfl (Nat.le_of_ble_eq_true rfl) (Nat.le_of_ble_eq_true rfl) ⟨rfl, _, hM, fun j a b c d e f => by rw [su_off a]; exact hfe j a b c d e f, (by rw [su_off (by decide)]; exact h13), Or.inr ⟨z, sk t q, by rw [hpt, pE2, if_neg (fun x => x.elim c_17 c_26)], hy.of rfl (su_off (by decide)) rfl (su_off (by decide)) (by rw [su_off (by decide)]; exact hy.1) su_s (Int.le_refl _) (by omega) (by omega) (by rw [su_off (by decide)]; exact h13)⟩⟩
            · have hsn : sk t q ≠ n := fun e => by rw [e, hx.2.2.1 n (Int.le_refl _)] at c_26; cases c_26
              refine ww_aload_n 0 dX3_term_29 rfl ?_
              refine cr_si hM (cr_V (ct_X3_next hG hM (hT.mv hM (by decide) (by decide)) (sk t q) su_s (by omega) hkq.2.1) sv_X3_89 rfl dX3_term_30 hM.obj rfl rfl rfl rfl ⟨by decide, by decide⟩ (Nat.le_of_ble_eq_true rfl) (Nat.le_of_ble_eq_true rfl) (Nat.le_of_ble_eq_true rfl)) (fun r_30 σ_30 hh hM hp_30 => ?_)
              obtain ⟨rfl, rfl⟩ := hp_30
              try rw [su_su] at hM
              rw [hx.kk hq2] at hM
              rw [hx.kk hq2]
              refine ww_bipush dX3_term_33 (by decide) ?_
              refine ww_icmp_ne 42 dX3_term_35 (by decide) (inI.mk (by omega) (by omega)) (inI.mk (by decide) (by decide)) (fun c_35 => ?_) (fun c_35 => ?_)
              · refine ww_iconst dX3_term_42 ?_
                refine ww_istore_n [(1, _), (0, _)] dX3_term_43 (by decide) rfl ?_
                refine ww_aload_n 1 dX3_term_44 rfl ?_
                refine ww_dup dX3_term_45 rfl ?_
                refine ww_getf gf_X3_68 rfl dX3_term_46 hM.obj rfl ?_
                rw [su_s]
                refine ww_iconst dX3_term_49 ?_
                refine ww_iadd dX3_term_50 ?_
                refine mw_put pf_X3_68 rfl dX3_term_51 hM rfl (inI.mk (by omega) (by omega)) (fun hh hM => ?_)
                rw [su_su] at hM
                refine ww_aload_n 1 dX3_term_54 rfl ?_
                refine cr_sv hM (cr_V (ct_X3_factor4 hG hM (hT.mv hM (by decide) (by decide)) (sk t q + 1) su_s (by omega) (by omega) (by rw [su_off (by decide)]; exact hy.1) (hL.fr hM) z v (by omega) (c0 + z.1.length) (by rw [su_off (by decide)]; exact h95) (by omega) (by omega) (by rw [su_off (by decide)]; exact h13)) sv_X3_146 rfl dX3_term_55 hM.obj rfl rfl rfl rfl ⟨by decide, by decide⟩ (Nat.le_of_ble_eq_true rfl) (Nat.le_of_ble_eq_true rfl) (Nat.le_of_ble_eq_true rfl)) (fun σ_55 hh hM hp_55 => ?_)
                obtain ⟨hfe_55, h13_55, hc_55⟩ := hp_55
                have hfr : FE σ σ_55 := fun j a b c d e f => by rw [hfe_55 j a b c d e f, su_off a, hfe j a b c d e f]
                rcases hc_55 with ⟨c, o, hpe, hce, h5, h6⟩ | ⟨y, q2, hpy, hy2⟩
                · have hpr : pE (g + 1) 1 t 4 p x = .error (c, o) := by rw [hpt, pE2, if_pos (Or.inr c_26), hpe]
                  have h13r := h13_55
                  refine ww_aload_n 1 dX3_term_58 rfl ?_
                  refine ww_iload_n 0 dX3_term_59 rfl ?_
                  refine ww_if_eq 67 dX3_term_60 (by decide) (inI.mk (by decide) (by decide)) (fun c_60 => ?_) (fun c_60 => ?_)
                  · refine ww_iconst dX3_term_67 ?_
                    refine cr_pv (cr_V (ct_X3_emitB hG hM (fun e => hce (h5.symm.trans e)) _) sv_X3_143 rfl dX3_term_68 hM.obj rfl rfl rfl rfl ⟨by decide, by decide⟩ (Nat.le_of_ble_eq_true rfl) (Nat.le_of_ble_eq_true rfl) (Nat.le_of_ble_eq_true rfl)) ?_
                    refine ww_goto 4 dX3_term_71 (by decide) ?_
                    refine ww_aload_n 1 dX3_term_4 rfl ?_
                    refine cr_pi (cr_V (ct_X3_isGood hG hM) sv_X3_85 rfl dX3_term_5 hM.obj rfl rfl rfl rfl ⟨by decide, by decide⟩ (Nat.le_of_ble_eq_true rfl) (Nat.le_of_ble_eq_true rfl) (Nat.le_of_ble_eq_true rfl)) ?_
                    refine ww_ifb_eq 74 dX3_term_8 (by decide) (fun c_8 => ?_) (fun c_8 => ?_)
                    · exact ww_vret hQ dX3_term_74 rfl (Nat.le_of_ble_eq_true rfl) (Nat.le_of_ble_eq_true rfl) ⟨rfl, _, hM, hfr, h13r, Or.inl ⟨c, o, hpr, hce, h5, h6⟩⟩
                    · exact absurd (h5.symm.trans c_8) hce
                  · exact absurd c_60 (by decide)
                · have h95b := hy2.2.2.2.2.2.1
                  have h29b := hy2.2.2.2.2.2.2.2.2.1
                  have hq22 := hy2.2.2.2.1
                  have hq23 := hy2.2.2.1
                  refine ww_aload_n 1 dX3_term_58 rfl ?_
                  refine ww_iload_n 0 dX3_term_59 rfl ?_
                  refine ww_if_eq 67 dX3_term_60 (by decide) (inI.mk (by decide) (by decide)) (fun c_60 => ?_) (fun c_60 => ?_)
                  · refine ww_iconst dX3_term_67 ?_
                    refine cr_sv hM (cr_V (ct_X3_emit hG hM hy2.1 _ (inI.mk (by decide) (by decide)) (by omega) (by omega)) sv_X3_143 rfl dX3_term_68 hM.obj rfl rfl rfl rfl ⟨by decide, by decide⟩ (Nat.le_of_ble_eq_true rfl) (Nat.le_of_ble_eq_true rfl) (Nat.le_of_ble_eq_true rfl)) (fun σ_68 hh hM hp_68 => ?_)
                    have hy3 := emitO (op := 5) hy (su_off (by decide)) (su_off (by decide)) rfl (by omega) hy2 hp_68 hc0 (by decide) (by decide)
                    have hpt3 : pE (g + 1) 1 t 4 p x = pE v 2 t 4 q2 (cmb 5 z y) := by rw [hpt, pE2, if_pos (Or.inr c_26), hpy]; simp only; rw [if_neg c_17]
                    have hfe3 : FE σ σ_68 := fun j a b c d e f => by rw [← hp_68, su_off d, su_off d]; exact hfr j a b c d e f
                    refine ww_goto 4 dX3_term_71 (by decide) ?_
                    refine ww_sub [1] rfl ?_
                    exact ie v _ _ _ _ hM hfe3 hy3 hpt3 (by omega) (by omega)
                  · exact absurd c_60 (by decide)
              · exact absurd c_35 c_17
    refine ww_sub [0] rfl ?_
    exact loop_4 801 g y p1 _ _ hM hfe_1 hy hpt (by have := hy.2.2.1; have := hy.2.2.2.1; omega) (by have := hy.2.2.1; omega)

set_option maxHeartbeats 4000000 in
theorem ct_X3_sum4 {G : GT} {h0 h : AH} {m : Nat} {A : Nat → Nat} {B : Nat → Int → Nat} {D : Int → Int} {σ : MS} (hG : GOK G) (hM : MWF G h0 h m A B D σ) {t : Int → Int} {n : Int} (hT : TX σ t n) (p : Int) (hp : σ 4 0 0 = p) (hp0 : 0 ≤ p) (hp1 : p ≤ n) (hg : σ 5 0 0 = 0) (hL : LitM G h) (x : List Int × EF) (f : Nat) (hf : 3 * (n - p) + 3 ≤ f) (c0 : Int) (hc : σ 9 0 5 = c0) (hc0 : 0 ≤ c0) (hcp : 2 * c0 ≤ 3 * p) (hd : σ 13 0 0 = 4) : CSv G (MX3_sum 7 151 0 0) h m A B D [.ref m] (fun σ' => FE σ σ' ∧ σ' 13 0 0 = 4 ∧ PEr (pE f 3 t 4 p x) σ σ' c0 4 p n) := by
  refine CT.of rfl hG (Nat.le_of_ble_eq_true rfl) rfl (fun E hQ => ?_)
  have hM := hM.1.f
  have hx := hT.1
  have hn8 := hx.2.1
  obtain ⟨g, rfl⟩ : ∃ g, f = g + 1 := ⟨f - 1, by omega⟩
  refine ww_aload_n 0 dX3_sum_0 rfl ?_
  refine cr_sv hM (cr_V (ct_X3_term4 hG hM hT p hp hp0 hp1 hg hL x g (by omega) c0 hc hc0 hcp hd) sv_X3_149 rfl dX3_sum_1 hM.obj rfl rfl rfl rfl ⟨by decide, by decide⟩ (Nat.le_of_ble_eq_true rfl) (Nat.le_of_ble_eq_true rfl) (Nat.le_of_ble_eq_true rfl)) (fun σ_1 hh hM hp_1 => ?_)
  obtain ⟨hfe_1, h13_1, hc_1⟩ := hp_1
  rcases hc_1 with ⟨c, o, hpe, hce, h5, h6⟩ | ⟨y, p1, hpy, hy⟩
  · have hpr : pE (g + 1) 3 t 4 p x = .error (c, o) := by rw [pE3, hpe]
    have hfr := hfe_1
    have h13r := h13_1
    refine ww_aload_n 0 dX3_sum_4 rfl ?_
    refine cr_pi (cr_V (ct_X3_isGood hG hM) sv_X3_85 rfl dX3_sum_5 hM.obj rfl rfl rfl rfl ⟨by decide, by decide⟩ (Nat.le_of_ble_eq_true rfl) (Nat.le_of_ble_eq_true rfl) (Nat.le_of_ble_eq_true rfl)) ?_
    refine ww_ifb_eq 74 dX3_sum_8 (by decide) (fun c_8 => ?_) (fun c_8 => ?_)
    · exact ww_vret hQ dX3_sum_74 rfl (Nat.le_of_ble_eq_true rfl) (Nat.le_of_ble_eq_true rfl) ⟨rfl, _, hM, hfr, h13r, Or.inl ⟨c, o, hpr, hce, h5, h6⟩⟩
    · exact absurd (h5.symm.trans c_8) hce
  · have hpt : pE (g + 1) 3 t 4 p x = pE g 4 t 4 p1 y := by rw [pE3, hpy]
    have loop_4 : ∀ (e : Nat) (u : Nat) (z : List Int × EF) (q : Int) (τ : MS) (hx1 : AH), (MWF G h hx1 m A B D τ) → (FE σ τ) → (ExO σ τ c0 4 p n z q) → (pE (g + 1) 3 t 4 p x = pE u 4 t 4 q z) → (3 * (n - q) + 2 ≤ u) → (n - q < e) → WW G E (MX3_sum 7 151 0 0) hx1 0 0 4 [(0, .ref m)] [] := by
      intro e
      induction e with
      | zero => intro u z q τ hx1 hM hfe hy hpt hu he; exact absurd he (by have := hy.2.2.2.1; omega)
      | succ e ie =>
        intro u z q τ hx1 hM hfe hy hpt hu he
        have hq2 := hy.2.2.2.1
        have hq1 := hy.2.2.1
        obtain ⟨v, rfl⟩ : ∃ v, u = v + 1 := ⟨u - 1, by omega⟩
        have hT := hT.of (hfe 1 (by decide) (by decide) (by decide) (by decide) (by decide) (by decide)) (hfe 3 (by decide) (by decide) (by decide) (by decide) (by decide) (by decide))
        have hkq := hx.k1 hq2
        have h13 := hy.2.2.2.2.1
        have h95 := hy.2.2.2.2.2.1
        have h29 := hy.2.2.2.2.2.2.2.2.1
        have hrx := hx.rg (q := sk t q) (by omega)
        refine ww_aload_n 0 dX3_sum_4 rfl ?_
        refine cr_pi (cr_V (ct_X3_isGood hG hM) sv_X3_85 rfl dX3_sum_5 hM.obj rfl rfl rfl rfl ⟨by decide, by decide⟩ (Nat.le_of_ble_eq_true rfl) (Nat.le_of_ble_eq_true rfl) (Nat.le_of_ble_eq_true rfl)) ?_
        refine ww_ifb_eq 74 dX3_sum_8 (by decide) (fun c_8 => ?_) (fun c_8 => ?_)
        · exact absurd hy.1 c_8
        · refine ww_aload_n 0 dX3_sum_11 rfl ?_
          refine cr_si hM (cr_V (ct_X3_next hG hM hT q hy.2.1 (by omega) hq2) sv_X3_89 rfl dX3_sum_12 hM.obj rfl rfl rfl rfl ⟨by decide, by decide⟩ (Nat.le_of_ble_eq_true rfl) (Nat.le_of_ble_eq_true rfl) (Nat.le_of_ble_eq_true rfl)) (fun r_12 σ_12 hh hM hp_12 => ?_)
          obtain ⟨rfl, rfl⟩ := hp_12
          try rw [su_su] at hM
          refine ww_bipush dX3_sum_15 (by decide) ?_
          refine ww_icmp_eq 29 dX3_sum_17 (by decide) (inI.mk (by omega) (by omega)) (inI.mk (by decide) (by decide)) (fun c_17 => ?_) (fun c_17 => ?_)
          · have hsn : sk t q ≠ n := fun e => by rw [e, hx.2.2.1 n (Int.le_refl _)] at c_17; cases c_17
            refine ww_aload_n 0 dX3_sum_29 rfl ?_
            refine cr_si hM (cr_V (ct_X3_next hG hM (hT.mv hM (by decide) (by decide)) (sk t q) su_s (by omega) hkq.2.1) sv_X3_89 rfl dX3_sum_30 hM.obj rfl rfl rfl rfl ⟨by decide, by decide⟩ (Nat.le_of_ble_eq_true rfl) (Nat.le_of_ble_eq_true rfl) (Nat.le_of_ble_eq_true rfl)) (fun r_30 σ_30 hh hM hp_30 => ?_)
            obtain ⟨rfl, rfl⟩ := hp_30
            try rw [su_su] at hM
            rw [hx.kk hq2] at hM
            rw [hx.kk hq2]
            refine ww_bipush dX3_sum_33 (by decide) ?_
            refine ww_icmp_ne 42 dX3_sum_35 (by decide) (inI.mk (by omega) (by omega)) (inI.mk (by decide) (by decide)) (fun c_35 => ?_) (fun c_35 => ?_)
            · exact absurd c_17 c_35
            · refine ww_iconst dX3_sum_38 ?_
              refine ww_goto 43 dX3_sum_39 (by decide) ?_
              refine ww_istore_n [(1, _), (0, _)] dX3_sum_43 (by decide) rfl ?_
              refine ww_aload_n 1 dX3_sum_44 rfl ?_
              refine ww_dup dX3_sum_45 rfl ?_
              refine ww_getf gf_X3_68 rfl dX3_sum_46 hM.obj rfl ?_
              rw [su_s]
              refine ww_iconst dX3_sum_49 ?_
              refine ww_iadd dX3_sum_50 ?_
              refine mw_put pf_X3_68 rfl dX3_sum_51 hM rfl (inI.mk (by omega) (by omega)) (fun hh hM => ?_)
              rw [su_su] at hM
              refine ww_aload_n 1 dX3_sum_54 rfl ?_
              refine cr_sv hM (cr_V (ct_X3_term4 hG hM (hT.mv hM (by decide) (by decide)) (sk t q + 1) su_s (by omega) (by omega) (by rw [su_off (by decide)]; exact hy.1) (hL.fr hM) z v (by omega) (c0 + z.1.length) (by rw [su_off (by decide)]; exact h95) (by omega) (by omega) (by rw [su_off (by decide)]; exact h13)) sv_X3_149 rfl dX3_sum_55 hM.obj rfl rfl rfl rfl ⟨by decide, by decide⟩ (Nat.le_of_ble_eq_true rfl) (Nat.le_of_ble_eq_true rfl) (Nat.le_of_ble_eq_true rfl)) (fun σ_55 hh hM hp_55 => ?_)
              obtain ⟨hfe_55, h13_55, hc_55⟩ := hp_55
              have hfr : FE σ σ_55 := fun j a b c d e f => by rw [hfe_55 j a b c d e f, su_off a, hfe j a b c d e f]
              rcases hc_55 with ⟨c, o, hpe, hce, h5, h6⟩ | ⟨y, q2, hpy, hy2⟩
              · have hpr : pE (g + 1) 3 t 4 p x = .error (c, o) := by rw [hpt, pE4, if_pos (Or.inl c_17), hpe]
                have h13r := h13_55
                refine ww_aload_n 1 dX3_sum_58 rfl ?_
                refine ww_iload_n 0 dX3_sum_59 rfl ?_
                refine ww_if_eq 67 dX3_sum_60 (by decide) (inI.mk (by decide) (by decide)) (fun c_60 => ?_) (fun c_60 => ?_)
                · exact absurd c_60 (by decide)
                · refine ww_iconst dX3_sum_63 ?_
                  refine ww_goto 68 dX3_sum_64 (by decide) ?_
                  refine cr_pv (cr_V (ct_X3_emitB hG hM (fun e => hce (h5.symm.trans e)) _) sv_X3_143 rfl dX3_sum_68 hM.obj rfl rfl rfl rfl ⟨by decide, by decide⟩ (Nat.le_of_ble_eq_true rfl) (Nat.le_of_ble_eq_true rfl) (Nat.le_of_ble_eq_true rfl)) ?_
                  refine ww_goto 4 dX3_sum_71 (by decide) ?_
                  refine ww_aload_n 1 dX3_sum_4 rfl ?_
                  refine cr_pi (cr_V (ct_X3_isGood hG hM) sv_X3_85 rfl dX3_sum_5 hM.obj rfl rfl rfl rfl ⟨by decide, by decide⟩ (Nat.le_of_ble_eq_true rfl) (Nat.le_of_ble_eq_true rfl) (Nat.le_of_ble_eq_true rfl)) ?_
                  refine ww_ifb_eq 74 dX3_sum_8 (by decide) (fun c_8 => ?_) (fun c_8 => ?_)
                  · exact ww_vret hQ dX3_sum_74 rfl (Nat.le_of_ble_eq_true rfl) (Nat.le_of_ble_eq_true rfl) ⟨rfl, _, hM, hfr, h13r, Or.inl ⟨c, o, hpr, hce, h5, h6⟩⟩
                  · exact absurd (h5.symm.trans c_8) hce
              · have h95b := hy2.2.2.2.2.2.1
                have h29b := hy2.2.2.2.2.2.2.2.2.1
                have hq22 := hy2.2.2.2.1
                have hq23 := hy2.2.2.1
                refine ww_aload_n 1 dX3_sum_58 rfl ?_
                refine ww_iload_n 0 dX3_sum_59 rfl ?_
                refine ww_if_eq 67 dX3_sum_60 (by decide) (inI.mk (by decide) (by decide)) (fun c_60 => ?_) (fun c_60 => ?_)
                · exact absurd c_60 (by decide)
                · refine ww_iconst dX3_sum_63 ?_
                  refine ww_goto 68 dX3_sum_64 (by decide) ?_
                  refine cr_sv hM (cr_V (ct_X3_emit hG hM hy2.1 _ (inI.mk (by decide) (by decide)) (by omega) (by omega)) sv_X3_143 rfl dX3_sum_68 hM.obj rfl rfl rfl rfl ⟨by decide, by decide⟩ (Nat.le_of_ble_eq_true rfl) (Nat.le_of_ble_eq_true rfl) (Nat.le_of_ble_eq_true rfl)) (fun σ_68 hh hM hp_68 => ?_)
                  have hy3 := emitO (op := 2) hy (su_off (by decide)) (su_off (by decide)) rfl (by omega) hy2 hp_68 hc0 (by decide) (by decide)
                  have hpt3 : pE (g + 1) 3 t 4 p x = pE v 4 t 4 q2 (cmb 2 z y) := by rw [hpt, pE4, if_pos (Or.inl c_17), hpy]; simp only; rw [if_pos c_17]
                  have hfe3 : FE σ σ_68 := fun j a b c d e f => by rw [← hp_68, su_off d, su_off d]; exact hfr j a b c d e f
                  refine ww_goto 4 dX3_sum_71 (by decide) ?_
                  refine ww_sub [1] rfl ?_
                  exact ie v _ _ _ _ hM hfe3 hy3 hpt3 (by omega) (by omega)
          · refine ww_aload_n 0 dX3_sum_20 rfl ?_
            refine cr_si hM (cr_V (ct_X3_next hG hM (hT.mv hM (by decide) (by decide)) (sk t q) su_s (by omega) hkq.2.1) sv_X3_89 rfl dX3_sum_21 hM.obj rfl rfl rfl rfl ⟨by decide, by decide⟩ (Nat.le_of_ble_eq_true rfl) (Nat.le_of_ble_eq_true rfl) (Nat.le_of_ble_eq_true rfl)) (fun r_21 σ_21 hh hM hp_21 => ?_)
            obtain ⟨rfl, rfl⟩ := hp_21
            try rw [su_su] at hM
            rw [hx.kk hq2] at hM
            rw [hx.kk hq2]
            refine ww_bipush dX3_sum_24 (by decide) ?_
            refine ww_icmp_ne 74 dX3_sum_26 (by decide) (inI.mk (by omega) (by omega)) (inI.mk (by decide) (by decide)) (fun c_26 => ?_) (fun c_26 => ?_)
            · exact ww_vret hQ dX3_sum_74 rfl (Nat.le_of_ble_eq_true rfl) (Nat.le_of_ble_eq_true rfl) ⟨rfl, _, hM, fun j a b c d e f => by rw [su_off a]; exact hfe j a b c d e f, (by rw [su_off (by decide)]; exact h13), Or.inr ⟨z, sk t q, by rw [hpt, pE4, if_neg (fun x => x.elim c_17 c_26)], hy.of rfl (su_off (by decide)) rfl (su_off (by decide)) (by rw [su_off (by decide)]; exact hy.1) su_s (Int.le_refl _) (by omega) (by omega) (by rw [su_off (by decide)]; exact h13)⟩⟩
            · have hsn : sk t q ≠ n := fun e => by rw [e, hx.2.2.1 n (Int.le_refl _)] at c_26; cases c_26
              refine ww_aload_n 0 dX3_sum_29 rfl ?_
              refine cr_si hM (cr_V (ct_X3_next hG hM (hT.mv hM (by decide) (by decide)) (sk t q) su_s (by omega) hkq.2.1) sv_X3_89 rfl dX3_sum_30 hM.obj rfl rfl rfl rfl ⟨by decide, by decide⟩ (Nat.le_of_ble_eq_true rfl) (Nat.le_of_ble_eq_true rfl) (Nat.le_of_ble_eq_true rfl)) (fun r_30 σ_30 hh hM hp_30 => ?_)
              obtain ⟨rfl, rfl⟩ := hp_30
              try rw [su_su] at hM
              rw [hx.kk hq2] at hM
              rw [hx.kk hq2]
              refine ww_bipush dX3_sum_33 (by decide) ?_
              refine ww_icmp_ne 42 dX3_sum_35 (by decide) (inI.mk (by omega) (by omega)) (inI.mk (by decide) (by decide)) (fun c_35 => ?_) (fun c_35 => ?_)
              · refine ww_iconst dX3_sum_42 ?_
                refine ww_istore_n [(1, _), (0, _)] dX3_sum_43 (by decide) rfl ?_
                refine ww_aload_n 1 dX3_sum_44 rfl ?_
                refine ww_dup dX3_sum_45 rfl ?_
                refine ww_getf gf_X3_68 rfl dX3_sum_46 hM.obj rfl ?_
                rw [su_s]
                refine ww_iconst dX3_sum_49 ?_
                refine ww_iadd dX3_sum_50 ?_
                refine mw_put pf_X3_68 rfl dX3_sum_51 hM rfl (inI.mk (by omega) (by omega)) (fun hh hM => ?_)
                rw [su_su] at hM
                refine ww_aload_n 1 dX3_sum_54 rfl ?_
                refine cr_sv hM (cr_V (ct_X3_term4 hG hM (hT.mv hM (by decide) (by decide)) (sk t q + 1) su_s (by omega) (by omega) (by rw [su_off (by decide)]; exact hy.1) (hL.fr hM) z v (by omega) (c0 + z.1.length) (by rw [su_off (by decide)]; exact h95) (by omega) (by omega) (by rw [su_off (by decide)]; exact h13)) sv_X3_149 rfl dX3_sum_55 hM.obj rfl rfl rfl rfl ⟨by decide, by decide⟩ (Nat.le_of_ble_eq_true rfl) (Nat.le_of_ble_eq_true rfl) (Nat.le_of_ble_eq_true rfl)) (fun σ_55 hh hM hp_55 => ?_)
                obtain ⟨hfe_55, h13_55, hc_55⟩ := hp_55
                have hfr : FE σ σ_55 := fun j a b c d e f => by rw [hfe_55 j a b c d e f, su_off a, hfe j a b c d e f]
                rcases hc_55 with ⟨c, o, hpe, hce, h5, h6⟩ | ⟨y, q2, hpy, hy2⟩
                · have hpr : pE (g + 1) 3 t 4 p x = .error (c, o) := by rw [hpt, pE4, if_pos (Or.inr c_26), hpe]
                  have h13r := h13_55
                  refine ww_aload_n 1 dX3_sum_58 rfl ?_
                  refine ww_iload_n 0 dX3_sum_59 rfl ?_
                  refine ww_if_eq 67 dX3_sum_60 (by decide) (inI.mk (by decide) (by decide)) (fun c_60 => ?_) (fun c_60 => ?_)
                  · refine ww_iconst dX3_sum_67 ?_
                    refine cr_pv (cr_V (ct_X3_emitB hG hM (fun e => hce (h5.symm.trans e)) _) sv_X3_143 rfl dX3_sum_68 hM.obj rfl rfl rfl rfl ⟨by decide, by decide⟩ (Nat.le_of_ble_eq_true rfl) (Nat.le_of_ble_eq_true rfl) (Nat.le_of_ble_eq_true rfl)) ?_
                    refine ww_goto 4 dX3_sum_71 (by decide) ?_
                    refine ww_aload_n 1 dX3_sum_4 rfl ?_
                    refine cr_pi (cr_V (ct_X3_isGood hG hM) sv_X3_85 rfl dX3_sum_5 hM.obj rfl rfl rfl rfl ⟨by decide, by decide⟩ (Nat.le_of_ble_eq_true rfl) (Nat.le_of_ble_eq_true rfl) (Nat.le_of_ble_eq_true rfl)) ?_
                    refine ww_ifb_eq 74 dX3_sum_8 (by decide) (fun c_8 => ?_) (fun c_8 => ?_)
                    · exact ww_vret hQ dX3_sum_74 rfl (Nat.le_of_ble_eq_true rfl) (Nat.le_of_ble_eq_true rfl) ⟨rfl, _, hM, hfr, h13r, Or.inl ⟨c, o, hpr, hce, h5, h6⟩⟩
                    · exact absurd (h5.symm.trans c_8) hce
                  · exact absurd c_60 (by decide)
                · have h95b := hy2.2.2.2.2.2.1
                  have h29b := hy2.2.2.2.2.2.2.2.2.1
                  have hq22 := hy2.2.2.2.1
                  have hq23 := hy2.2.2.1
                  refine ww_aload_n 1 dX3_sum_58 rfl ?_
                  refine ww_iload_n 0 dX3_sum_59 rfl ?_
                  refine ww_if_eq 67 dX3_sum_60 (by decide) (inI.mk (by decide) (by decide)) (fun c_60 => ?_) (fun c_60 => ?_)
                  · refine ww_iconst dX3_sum_67 ?_
                    refine cr_sv hM (cr_V (ct_X3_emit hG hM hy2.1 _ (inI.mk (by decide) (by decide)) (by omega) (by omega)) sv_X3_143 rfl dX3_sum_68 hM.obj rfl rfl rfl rfl ⟨by decide, by decide⟩ (Nat.le_of_ble_eq_true rfl) (Nat.le_of_ble_eq_true rfl) (Nat.le_of_ble_eq_true rfl)) (fun σ_68 hh hM hp_68 => ?_)
                    have hy3 := emitO (op := 3) hy (su_off (by decide)) (su_off (by decide)) rfl (by omega) hy2 hp_68 hc0 (by decide) (by decide)
                    have hpt3 : pE (g + 1) 3 t 4 p x = pE v 4 t 4 q2 (cmb 3 z y) := by rw [hpt, pE4, if_pos (Or.inr c_26), hpy]; simp only; rw [if_neg c_17]
                    have hfe3 : FE σ σ_68 := fun j a b c d e f => by rw [← hp_68, su_off d, su_off d]; exact hfr j a b c d e f
                    refine ww_goto 4 dX3_sum_71 (by decide) ?_
                    refine ww_sub [1] rfl ?_
                    exact ie v _ _ _ _ hM hfe3 hy3 hpt3 (by omega) (by omega)
                  · exact absurd c_60 (by decide)
              · exact absurd c_35 c_17
    refine ww_sub [0] rfl ?_
    exact loop_4 801 g y p1 _ _ hM hfe_1 hy hpt (by have := hy.2.2.1; have := hy.2.2.2.1; omega) (by have := hy.2.2.1; omega)

set_option maxHeartbeats 4000000 in
theorem ct_X3_factor3 {G : GT} {h0 h : AH} {m : Nat} {A : Nat → Nat} {B : Nat → Int → Nat} {D : Int → Int} {σ : MS} (hG : GOK G) (hM : MWF G h0 h m A B D σ) {t : Int → Int} {n : Int} (hT : TX σ t n) (p : Int) (hp : σ 4 0 0 = p) (hp0 : 0 ≤ p) (hp1 : p ≤ n) (hg : σ 5 0 0 = 0) (hL : LitM G h) (x : List Int × EF) (f : Nat) (hf : 3 * (n - p) + 1 ≤ f) (c0 : Int) (hc : σ 9 0 5 = c0) (hc0 : 0 ≤ c0) (hcp : 2 * c0 ≤ 3 * p) (hd : σ 13 0 0 = 3) : CSv G (MX3_factor 8 172 0 0) h m A B D [.ref m] (fun σ' => FE σ σ' ∧ σ' 13 0 0 = 3 ∧ PEr (pE f 0 t 3 p x) σ σ' c0 3 p n) := by
  refine CT.of rfl hG (Nat.le_of_ble_eq_true rfl) rfl (fun E hQ => ?_)
  have hM := hM.1.f
  have hx := hT.1
  have hn8 := hx.2.1
  obtain ⟨g, rfl⟩ : ∃ g, f = g + 1 := ⟨f - 1, by omega⟩
  refine ww_aload_n 0 dX3_factor_0 rfl ?_
  refine cr_pi (cr_V (ct_X3_isGood hG hM) sv_X3_85 rfl dX3_factor_1 hM.obj rfl rfl rfl rfl ⟨by decide, by decide⟩ (Nat.le_of_ble_eq_true rfl) (Nat.le_of_ble_eq_true rfl) (Nat.le_of_ble_eq_true rfl)) ?_
  refine ww_ifb_ne 8 dX3_factor_4 (by decide) (fun c_4 => ?_) (fun c_4 => ?_)
  · refine ww_aload_n 0 dX3_factor_8 rfl ?_
    refine cr_si hM (cr_V (ct_X3_next hG hM hT _ (by first | exact hp | exact su_s | rfl) (by omega) (by omega)) sv_X3_89 rfl dX3_factor_9 hM.obj rfl rfl rfl rfl ⟨by decide, by decide⟩ (Nat.le_of_ble_eq_true rfl) (Nat.le_of_ble_eq_true rfl) (Nat.le_of_ble_eq_true rfl)) (fun r_9 σ_9 hh hM hp_9 => ?_)
    obtain ⟨rfl, rfl⟩ := hp_9
    try rw [su_su] at hM
    have hk := hx.k1 hp1
    have hT := hT.mv hM (by decide) (by decide)
    have hrk := hx.rg (q := sk t p) (by omega)
    refine ww_istore_n [(1, _), (0, _)] dX3_factor_12 (by decide) rfl ?_
    refine ww_iload_n 0 dX3_factor_13 rfl ?_
    refine ww_bipush dX3_factor_14 (by decide) ?_
    refine ww_icmp_ne 78 dX3_factor_16 (by decide) (inI.mk (by omega) (by omega)) (inI.mk (by decide) (by decide)) (fun c_16 => ?_) (fun c_16 => ?_)
    · refine ww_iload_n 0 dX3_factor_78 rfl ?_
      refine cr_pi (cr_S (ct_X3_isDigit hG _ (inI.mk (by omega) (by omega))) ss_X3_106 rfl dX3_factor_79 rfl rfl ⟨by decide, by decide⟩ (Nat.le_of_ble_eq_true rfl) (Nat.le_of_ble_eq_true rfl) (Nat.le_of_ble_eq_true rfl)) ?_
      refine ww_ifb_eq 89 dX3_factor_82 (by decide) (fun c_82 => ?_) (fun c_82 => ?_)
      · refine ww_aload_n 1 dX3_factor_89 rfl ?_
        obtain ⟨a_90, tx_90, hz_90, hS_90⟩ := (hL.fr hM) 128 kwTrust (by decide)
        refine ww_ldcS hz_90 dX3_factor_90 ?_
        refine cr_si hM (cr_V (ct_X3_takeWord hG hM hT (sk t p) su_s (by omega) hk.2.1 (by rw [su_off (by decide)]; exact hg) hS_90 (fun e => hM.1.1 e.symm)) sv_X3_130 rfl dX3_factor_92 hM.obj rfl rfl rfl rfl ⟨by decide, by decide⟩ (Nat.le_of_ble_eq_true rfl) (Nat.le_of_ble_eq_true rfl) (Nat.le_of_ble_eq_true rfl)) (fun r_92 σ_92 hh hM hp_92 => ?_)
        rcases hp_92 with ⟨c0_92, rfl, rfl⟩ | ⟨c0_92, rfl, rfl⟩
        · rw [hx.kk hp1] at hM c0_92
          rw [su_su] at hM
          refine ww_if_eq 102 dX3_factor_95 (by decide) (inI.mk (by decide) (by decide)) (fun c_95 => ?_) (fun c_95 => ?_)
          · exact absurd c_95 (by decide)
          · refine ww_iconst dX3_factor_98 ?_
            refine ww_goto 142 dX3_factor_99 (by decide) ?_
            refine ww_istore_n [(2, _), (1, _), (0, _)] dX3_factor_142 (by decide) rfl ?_
            refine ww_iload_n 0 dX3_factor_143 rfl ?_
            refine ww_if_ge 158 dX3_factor_144 (by decide) (inI.mk (by decide) (by decide)) (fun c_144 => ?_) (fun c_144 => ?_)
            · refine ww_iload_n 0 dX3_factor_158 rfl ?_
              refine ww_istore_n [(3, _), (2, _), (1, _), (0, _)] dX3_factor_159 (by decide) rfl ?_
              refine ww_aload_n 3 dX3_factor_160 rfl ?_
              refine ww_iload_n 1 dX3_factor_161 rfl ?_
              refine ww_if_ge 169 dX3_factor_162 (by decide) (inI.mk (by decide) (by decide)) (fun c_162 => ?_) (fun c_162 => ?_)
              · refine ww_iconst dX3_factor_169 ?_
                have hwg := we_gt (show pw t p = kwTrust from c0_92)
                have hww := hx.w1 hk.2.1
                have hc9 : su σ 4 0 0 (we t (sk t p)) 9 0 5 = c0 := by rw [su_off (by decide)]; exact hc
                refine cr_sv hM (cr_V (ct_X3_emit hG hM (by rw [su_off (by decide)]; exact hg) _ (inI.mk (by decide) (by decide)) (by omega) (by omega)) sv_X3_143 rfl dX3_factor_170 hM.obj rfl rfl rfl rfl ⟨by decide, by decide⟩ (Nat.le_of_ble_eq_true rfl) (Nat.le_of_ble_eq_true rfl) (Nat.le_of_ble_eq_true rfl)) (fun σ_170 hh hM hp_170 => ?_)
                have h5e : σ_170 5 0 0 = 0 := by rw [← hp_170, su_off (by decide), su_off (by decide), su_off (by decide)]; exact hg
                have hc9e : σ_170 9 0 5 = c0 + 1 := by rw [← hp_170, su_s, hc9]
                refine ww_aload_n 3 dX3_factor_173 rfl ?_
                refine ww_iload_n 0 dX3_factor_174 rfl ?_
                refine cr_sv hM (cr_V (ct_X3_emit hG hM h5e _ (inI.mk (by decide) (by decide)) (by omega) (by omega)) sv_X3_143 rfl dX3_factor_175 hM.obj rfl rfl rfl rfl ⟨by decide, by decide⟩ (Nat.le_of_ble_eq_true rfl) (Nat.le_of_ble_eq_true rfl) (Nat.le_of_ble_eq_true rfl)) (fun σ_175 hh hM hp_175 => ?_)
                obtain ⟨q1, q2⟩ := emit2 (σ := σ) (d := 3) (n := n) (p := p) hp_170 hp_175 (su_off (by decide)) hc hc0 (by rw [su_off (by decide)]; exact hg) su_s (by rw [su_off (by decide)]; exact hd) (su_off (by decide)) (by omega) hww.2.1 Cd_0
                exact ww_vret hQ dX3_factor_178 rfl (Nat.le_of_ble_eq_true rfl) (Nat.le_of_ble_eq_true rfl) ⟨rfl, _, hM, fun j a b c d e f => by rw [q2 j d, su_off a], q1.2.2.2.2.1, Or.inr ⟨_, _, by rw [pE0_kw c_16 c_82, if_pos (show pw t p = kwTrust from c0_92)], q1⟩⟩
              · exact absurd c_162 (by decide)
            · exact absurd c_144 (by decide)
        · rw [hx.kk hp1] at hM c0_92
          rw [su_su] at hM
          refine ww_if_eq 102 dX3_factor_95 (by decide) (inI.mk (by decide) (by decide)) (fun c_95 => ?_) (fun c_95 => ?_)
          · refine ww_aload_n 1 dX3_factor_102 rfl ?_
            obtain ⟨a_103, tx_103, hz_103, hS_103⟩ := (hL.fr hM) 134 kwRank (by decide)
            refine ww_ldcS hz_103 dX3_factor_103 ?_
            refine cr_si hM (cr_V (ct_X3_takeWord hG hM hT (sk t p) su_s (by omega) hk.2.1 (by rw [su_off (by decide)]; exact hg) hS_103 (fun e => hM.1.1 e.symm)) sv_X3_130 rfl dX3_factor_105 hM.obj rfl rfl rfl rfl ⟨by decide, by decide⟩ (Nat.le_of_ble_eq_true rfl) (Nat.le_of_ble_eq_true rfl) (Nat.le_of_ble_eq_true rfl)) (fun r_105 σ_105 hh hM hp_105 => ?_)
            rcases hp_105 with ⟨c0_105, rfl, rfl⟩ | ⟨c0_105, rfl, rfl⟩
            · rw [hx.kk hp1] at hM c0_105
              rw [su_su] at hM
              refine ww_if_eq 115 dX3_factor_108 (by decide) (inI.mk (by decide) (by decide)) (fun c_108 => ?_) (fun c_108 => ?_)
              · exact absurd c_108 (by decide)
              · refine ww_iconst dX3_factor_111 ?_
                refine ww_goto 142 dX3_factor_112 (by decide) ?_
                refine ww_istore_n [(2, _), (1, _), (0, _)] dX3_factor_142 (by decide) rfl ?_
                refine ww_iload_n 0 dX3_factor_143 rfl ?_
                refine ww_if_ge 158 dX3_factor_144 (by decide) (inI.mk (by decide) (by decide)) (fun c_144 => ?_) (fun c_144 => ?_)
                · refine ww_iload_n 0 dX3_factor_158 rfl ?_
                  refine ww_istore_n [(3, _), (2, _), (1, _), (0, _)] dX3_factor_159 (by decide) rfl ?_
                  refine ww_aload_n 3 dX3_factor_160 rfl ?_
                  refine ww_iload_n 1 dX3_factor_161 rfl ?_
                  refine ww_if_ge 169 dX3_factor_162 (by decide) (inI.mk (by decide) (by decide)) (fun c_162 => ?_) (fun c_162 => ?_)
                  · refine ww_iconst dX3_factor_169 ?_
                    have hwg := we_gt (show pw t p = kwRank from c0_105)
                    have hww := hx.w1 hk.2.1
                    have hc9 : su σ 4 0 0 (we t (sk t p)) 9 0 5 = c0 := by rw [su_off (by decide)]; exact hc
                    refine cr_sv hM (cr_V (ct_X3_emit hG hM (by rw [su_off (by decide)]; exact hg) _ (inI.mk (by decide) (by decide)) (by omega) (by omega)) sv_X3_143 rfl dX3_factor_170 hM.obj rfl rfl rfl rfl ⟨by decide, by decide⟩ (Nat.le_of_ble_eq_true rfl) (Nat.le_of_ble_eq_true rfl) (Nat.le_of_ble_eq_true rfl)) (fun σ_170 hh hM hp_170 => ?_)
                    have h5e : σ_170 5 0 0 = 0 := by rw [← hp_170, su_off (by decide), su_off (by decide), su_off (by decide)]; exact hg
                    have hc9e : σ_170 9 0 5 = c0 + 1 := by rw [← hp_170, su_s, hc9]
                    refine ww_aload_n 3 dX3_factor_173 rfl ?_
                    refine ww_iload_n 0 dX3_factor_174 rfl ?_
                    refine cr_sv hM (cr_V (ct_X3_emit hG hM h5e _ (inI.mk (by decide) (by decide)) (by omega) (by omega)) sv_X3_143 rfl dX3_factor_175 hM.obj rfl rfl rfl rfl ⟨by decide, by decide⟩ (Nat.le_of_ble_eq_true rfl) (Nat.le_of_ble_eq_true rfl) (Nat.le_of_ble_eq_true rfl)) (fun σ_175 hh hM hp_175 => ?_)
                    obtain ⟨q1, q2⟩ := emit2 (σ := σ) (d := 3) (n := n) (p := p) hp_170 hp_175 (su_off (by decide)) hc hc0 (by rw [su_off (by decide)]; exact hg) su_s (by rw [su_off (by decide)]; exact hd) (su_off (by decide)) (by omega) hww.2.1 Cd_1
                    exact ww_vret hQ dX3_factor_178 rfl (Nat.le_of_ble_eq_true rfl) (Nat.le_of_ble_eq_true rfl) ⟨rfl, _, hM, fun j a b c d e f => by rw [q2 j d, su_off a], q1.2.2.2.2.1, Or.inr ⟨_, _, by rw [pE0_kw c_16 c_82, if_neg (show ¬ pw t p = kwTrust from c0_92), if_pos (show pw t p = kwRank from c0_105)], q1⟩⟩
                  · exact absurd c_162 (by decide)
                · exact absurd c_144 (by decide)
            · rw [hx.kk hp1] at hM c0_105
              rw [su_su] at hM
              refine ww_if_eq 115 dX3_factor_108 (by decide) (inI.mk (by decide) (by decide)) (fun c_108 => ?_) (fun c_108 => ?_)
              · refine ww_aload_n 1 dX3_factor_115 rfl ?_
                obtain ⟨a_116, tx_116, hz_116, hS_116⟩ := (hL.fr hM) 136 kwOffers (by decide)
                refine ww_ldcS hz_116 dX3_factor_116 ?_
                refine cr_si hM (cr_V (ct_X3_takeWord hG hM hT (sk t p) su_s (by omega) hk.2.1 (by rw [su_off (by decide)]; exact hg) hS_116 (fun e => hM.1.1 e.symm)) sv_X3_130 rfl dX3_factor_118 hM.obj rfl rfl rfl rfl ⟨by decide, by decide⟩ (Nat.le_of_ble_eq_true rfl) (Nat.le_of_ble_eq_true rfl) (Nat.le_of_ble_eq_true rfl)) (fun r_118 σ_118 hh hM hp_118 => ?_)
                rcases hp_118 with ⟨c0_118, rfl, rfl⟩ | ⟨c0_118, rfl, rfl⟩
                · rw [hx.kk hp1] at hM c0_118
                  rw [su_su] at hM
                  refine ww_if_eq 128 dX3_factor_121 (by decide) (inI.mk (by decide) (by decide)) (fun c_121 => ?_) (fun c_121 => ?_)
                  · exact absurd c_121 (by decide)
                  · refine ww_iconst dX3_factor_124 ?_
                    refine ww_goto 142 dX3_factor_125 (by decide) ?_
                    refine ww_istore_n [(2, _), (1, _), (0, _)] dX3_factor_142 (by decide) rfl ?_
                    refine ww_iload_n 0 dX3_factor_143 rfl ?_
                    refine ww_if_ge 158 dX3_factor_144 (by decide) (inI.mk (by decide) (by decide)) (fun c_144 => ?_) (fun c_144 => ?_)
                    · refine ww_iload_n 0 dX3_factor_158 rfl ?_
                      refine ww_istore_n [(3, _), (2, _), (1, _), (0, _)] dX3_factor_159 (by decide) rfl ?_
                      refine ww_aload_n 3 dX3_factor_160 rfl ?_
                      refine ww_iload_n 1 dX3_factor_161 rfl ?_
                      refine ww_if_ge 169 dX3_factor_162 (by decide) (inI.mk (by decide) (by decide)) (fun c_162 => ?_) (fun c_162 => ?_)
                      · refine ww_iconst dX3_factor_169 ?_
                        have hwg := we_gt (show pw t p = kwOffers from c0_118)
                        have hww := hx.w1 hk.2.1
                        have hc9 : su σ 4 0 0 (we t (sk t p)) 9 0 5 = c0 := by rw [su_off (by decide)]; exact hc
                        refine cr_sv hM (cr_V (ct_X3_emit hG hM (by rw [su_off (by decide)]; exact hg) _ (inI.mk (by decide) (by decide)) (by omega) (by omega)) sv_X3_143 rfl dX3_factor_170 hM.obj rfl rfl rfl rfl ⟨by decide, by decide⟩ (Nat.le_of_ble_eq_true rfl) (Nat.le_of_ble_eq_true rfl) (Nat.le_of_ble_eq_true rfl)) (fun σ_170 hh hM hp_170 => ?_)
                        have h5e : σ_170 5 0 0 = 0 := by rw [← hp_170, su_off (by decide), su_off (by decide), su_off (by decide)]; exact hg
                        have hc9e : σ_170 9 0 5 = c0 + 1 := by rw [← hp_170, su_s, hc9]
                        refine ww_aload_n 3 dX3_factor_173 rfl ?_
                        refine ww_iload_n 0 dX3_factor_174 rfl ?_
                        refine cr_sv hM (cr_V (ct_X3_emit hG hM h5e _ (inI.mk (by decide) (by decide)) (by omega) (by omega)) sv_X3_143 rfl dX3_factor_175 hM.obj rfl rfl rfl rfl ⟨by decide, by decide⟩ (Nat.le_of_ble_eq_true rfl) (Nat.le_of_ble_eq_true rfl) (Nat.le_of_ble_eq_true rfl)) (fun σ_175 hh hM hp_175 => ?_)
                        obtain ⟨q1, q2⟩ := emit2 (σ := σ) (d := 3) (n := n) (p := p) hp_170 hp_175 (su_off (by decide)) hc hc0 (by rw [su_off (by decide)]; exact hg) su_s (by rw [su_off (by decide)]; exact hd) (su_off (by decide)) (by omega) hww.2.1 Cd_2
                        exact ww_vret hQ dX3_factor_178 rfl (Nat.le_of_ble_eq_true rfl) (Nat.le_of_ble_eq_true rfl) ⟨rfl, _, hM, fun j a b c d e f => by rw [q2 j d, su_off a], q1.2.2.2.2.1, Or.inr ⟨_, _, by rw [pE0_kw c_16 c_82, if_neg (show ¬ pw t p = kwTrust from c0_92), if_neg (show ¬ pw t p = kwRank from c0_105), if_pos (show pw t p = kwOffers from c0_118)], q1⟩⟩
                      · exact absurd c_162 (by decide)
                    · exact absurd c_144 (by decide)
                · rw [hx.kk hp1] at hM c0_118
                  rw [su_su] at hM
                  refine ww_if_eq 128 dX3_factor_121 (by decide) (inI.mk (by decide) (by decide)) (fun c_121 => ?_) (fun c_121 => ?_)
                  · refine ww_aload_n 1 dX3_factor_128 rfl ?_
                    obtain ⟨a_129, tx_129, hz_129, hS_129⟩ := (hL.fr hM) 138 kwFriends (by decide)
                    refine ww_ldcS hz_129 dX3_factor_129 ?_
                    refine cr_si hM (cr_V (ct_X3_takeWord hG hM hT (sk t p) su_s (by omega) hk.2.1 (by rw [su_off (by decide)]; exact hg) hS_129 (fun e => hM.1.1 e.symm)) sv_X3_130 rfl dX3_factor_131 hM.obj rfl rfl rfl rfl ⟨by decide, by decide⟩ (Nat.le_of_ble_eq_true rfl) (Nat.le_of_ble_eq_true rfl) (Nat.le_of_ble_eq_true rfl)) (fun r_131 σ_131 hh hM hp_131 => ?_)
                    rcases hp_131 with ⟨c0_131, rfl, rfl⟩ | ⟨c0_131, rfl, rfl⟩
                    · rw [hx.kk hp1] at hM c0_131
                      rw [su_su] at hM
                      refine ww_if_eq 141 dX3_factor_134 (by decide) (inI.mk (by decide) (by decide)) (fun c_134 => ?_) (fun c_134 => ?_)
                      · exact absurd c_134 (by decide)
                      · refine ww_iconst dX3_factor_137 ?_
                        refine ww_goto 142 dX3_factor_138 (by decide) ?_
                        refine ww_istore_n [(2, _), (1, _), (0, _)] dX3_factor_142 (by decide) rfl ?_
                        refine ww_iload_n 0 dX3_factor_143 rfl ?_
                        refine ww_if_ge 158 dX3_factor_144 (by decide) (inI.mk (by decide) (by decide)) (fun c_144 => ?_) (fun c_144 => ?_)
                        · refine ww_iload_n 0 dX3_factor_158 rfl ?_
                          refine ww_istore_n [(3, _), (2, _), (1, _), (0, _)] dX3_factor_159 (by decide) rfl ?_
                          refine ww_aload_n 3 dX3_factor_160 rfl ?_
                          refine ww_iload_n 1 dX3_factor_161 rfl ?_
                          refine ww_if_ge 169 dX3_factor_162 (by decide) (inI.mk (by decide) (by decide)) (fun c_162 => ?_) (fun c_162 => ?_)
                          · refine ww_iconst dX3_factor_169 ?_
                            have hwg := we_gt (show pw t p = kwFriends from c0_131)
                            have hww := hx.w1 hk.2.1
                            have hc9 : su σ 4 0 0 (we t (sk t p)) 9 0 5 = c0 := by rw [su_off (by decide)]; exact hc
                            refine cr_sv hM (cr_V (ct_X3_emit hG hM (by rw [su_off (by decide)]; exact hg) _ (inI.mk (by decide) (by decide)) (by omega) (by omega)) sv_X3_143 rfl dX3_factor_170 hM.obj rfl rfl rfl rfl ⟨by decide, by decide⟩ (Nat.le_of_ble_eq_true rfl) (Nat.le_of_ble_eq_true rfl) (Nat.le_of_ble_eq_true rfl)) (fun σ_170 hh hM hp_170 => ?_)
                            have h5e : σ_170 5 0 0 = 0 := by rw [← hp_170, su_off (by decide), su_off (by decide), su_off (by decide)]; exact hg
                            have hc9e : σ_170 9 0 5 = c0 + 1 := by rw [← hp_170, su_s, hc9]
                            refine ww_aload_n 3 dX3_factor_173 rfl ?_
                            refine ww_iload_n 0 dX3_factor_174 rfl ?_
                            refine cr_sv hM (cr_V (ct_X3_emit hG hM h5e _ (inI.mk (by decide) (by decide)) (by omega) (by omega)) sv_X3_143 rfl dX3_factor_175 hM.obj rfl rfl rfl rfl ⟨by decide, by decide⟩ (Nat.le_of_ble_eq_true rfl) (Nat.le_of_ble_eq_true rfl) (Nat.le_of_ble_eq_true rfl)) (fun σ_175 hh hM hp_175 => ?_)
                            obtain ⟨q1, q2⟩ := emit2 (σ := σ) (d := 3) (n := n) (p := p) hp_170 hp_175 (su_off (by decide)) hc hc0 (by rw [su_off (by decide)]; exact hg) su_s (by rw [su_off (by decide)]; exact hd) (su_off (by decide)) (by omega) hww.2.1 Cd_3
                            exact ww_vret hQ dX3_factor_178 rfl (Nat.le_of_ble_eq_true rfl) (Nat.le_of_ble_eq_true rfl) ⟨rfl, _, hM, fun j a b c d e f => by rw [q2 j d, su_off a], q1.2.2.2.2.1, Or.inr ⟨_, _, by rw [pE0_kw c_16 c_82, if_neg (show ¬ pw t p = kwTrust from c0_92), if_neg (show ¬ pw t p = kwRank from c0_105), if_neg (show ¬ pw t p = kwOffers from c0_118), if_pos (show pw t p = kwFriends from c0_131)], q1⟩⟩
                          · exact absurd c_162 (by decide)
                        · exact absurd c_144 (by decide)
                    · rw [hx.kk hp1] at hM c0_131
                      rw [su_su] at hM
                      refine ww_if_eq 141 dX3_factor_134 (by decide) (inI.mk (by decide) (by decide)) (fun c_134 => ?_) (fun c_134 => ?_)
                      · refine ww_iconst dX3_factor_141 ?_
                        refine ww_istore_n [(2, _), (1, _), (0, _)] dX3_factor_142 (by decide) rfl ?_
                        refine ww_iload_n 0 dX3_factor_143 rfl ?_
                        refine ww_if_ge 158 dX3_factor_144 (by decide) (inI.mk (by decide) (by decide)) (fun c_144 => ?_) (fun c_144 => ?_)
                        · exact absurd c_144 (by decide)
                        · refine ww_aload_n 2 dX3_factor_147 rfl ?_
                          refine ww_iconst dX3_factor_148 ?_
                          refine ww_sipush dX3_factor_149 (by decide) ?_
                          refine cr_si hM (cr_V (ct_X3_number hG hM hT (sk t p) su_s (by omega) hk.2.1 (by rw [su_off (by decide)]; exact hg) 0 9999 (inI.mk (by decide) (by decide)) (inI.mk (by decide) (by decide))) sv_X3_140 rfl dX3_factor_152 hM.obj rfl rfl rfl rfl ⟨by decide, by decide⟩ (Nat.le_of_ble_eq_true rfl) (Nat.le_of_ble_eq_true rfl) (Nat.le_of_ble_eq_true rfl)) (fun r_152 σ_152 hh hM hp_152 => ?_)
                          obtain ⟨hk_152, hr_152, hc_152⟩ := hp_152
                          rw [pnum_kk hx hp1] at hc_152
                          have hf2 : FE σ σ_152 := fun j a b c d e f => by rw [hk_152 j a b c e, su_off a]
                          have h13n : σ_152 13 0 0 = 3 := by rw [hk_152 13 (by decide) (by decide) (by decide) (by decide), su_off (by decide)]; exact hd
                          have h9n : σ_152 9 = σ 9 := by rw [hk_152 9 (by decide) (by decide) (by decide) (by decide), su_off (by decide)]
                          rcases hc_152 with ⟨c, o, hpe, hce, h5, h6⟩ | ⟨v, e3, hpn, h5n, h4n, rfl, f1, f2, f3, f4, f6⟩
                          · refine ww_goto 159 dX3_factor_155 (by decide) ?_
                            refine ww_istore_n [(3, _), (2, _), (1, _), (0, _)] dX3_factor_159 (by decide) rfl ?_
                            refine ww_aload_n 3 dX3_factor_160 rfl ?_
                            refine ww_iload_n 1 dX3_factor_161 rfl ?_
                            refine ww_if_ge 169 dX3_factor_162 (by decide) (inI.mk (by decide) (by decide)) (fun c_162 => ?_) (fun c_162 => ?_)
                            · exact absurd c_162 (by decide)
                            · refine ww_iconst dX3_factor_165 ?_
                              refine ww_goto 170 dX3_factor_166 (by decide) ?_
                              refine cr_pv (cr_V (ct_X3_emitB hG hM (fun e => hce (h5.symm.trans e)) _) sv_X3_143 rfl dX3_factor_170 hM.obj rfl rfl rfl rfl ⟨by decide, by decide⟩ (Nat.le_of_ble_eq_true rfl) (Nat.le_of_ble_eq_true rfl) (Nat.le_of_ble_eq_true rfl)) ?_
                              refine ww_aload_n 3 dX3_factor_173 rfl ?_
                              refine ww_iload_n 0 dX3_factor_174 rfl ?_
                              refine cr_pv (cr_V (ct_X3_emitB hG hM (fun e => hce (h5.symm.trans e)) _) sv_X3_143 rfl dX3_factor_175 hM.obj rfl rfl rfl rfl ⟨by decide, by decide⟩ (Nat.le_of_ble_eq_true rfl) (Nat.le_of_ble_eq_true rfl) (Nat.le_of_ble_eq_true rfl)) ?_
                              exact ww_vret hQ dX3_factor_178 rfl (Nat.le_of_ble_eq_true rfl) (Nat.le_of_ble_eq_true rfl) ⟨rfl, _, hM, hf2, h13n, Or.inl ⟨c, o, by rw [pE0_kw c_16 c_82, if_neg (show ¬ pw t p = kwTrust from c0_92), if_neg (show ¬ pw t p = kwRank from c0_105), if_neg (show ¬ pw t p = kwOffers from c0_118), if_neg (show ¬ pw t p = kwFriends from c0_131)]; unfold pnum at hpe; rw [if_neg c_82] at hpe; cases hpe; rfl, hce, h5, h6⟩⟩
                          · exact absurd hpn (by unfold pnum; rw [if_neg c_82]; intro e; cases e)
                      · exact absurd c_134 (by decide)
                  · exact absurd c_121 (by decide)
              · exact absurd c_108 (by decide)
          · exact absurd c_95 (by decide)
      · refine ww_iconst dX3_factor_85 ?_
        refine ww_goto 142 dX3_factor_86 (by decide) ?_
        refine ww_istore_n [(2, _), (1, _), (0, _)] dX3_factor_142 (by decide) rfl ?_
        refine ww_iload_n 0 dX3_factor_143 rfl ?_
        refine ww_if_ge 158 dX3_factor_144 (by decide) (inI.mk (by decide) (by decide)) (fun c_144 => ?_) (fun c_144 => ?_)
        · exact absurd c_144 (by decide)
        · refine ww_aload_n 2 dX3_factor_147 rfl ?_
          refine ww_iconst dX3_factor_148 ?_
          refine ww_sipush dX3_factor_149 (by decide) ?_
          refine cr_si hM (cr_V (ct_X3_number hG hM hT (sk t p) su_s (by omega) hk.2.1 (by rw [su_off (by decide)]; exact hg) 0 9999 (inI.mk (by decide) (by decide)) (inI.mk (by decide) (by decide))) sv_X3_140 rfl dX3_factor_152 hM.obj rfl rfl rfl rfl ⟨by decide, by decide⟩ (Nat.le_of_ble_eq_true rfl) (Nat.le_of_ble_eq_true rfl) (Nat.le_of_ble_eq_true rfl)) (fun r_152 σ_152 hh hM hp_152 => ?_)
          obtain ⟨hk_152, hr_152, hc_152⟩ := hp_152
          rw [pnum_kk hx hp1] at hc_152
          have hf2 : FE σ σ_152 := fun j a b c d e f => by rw [hk_152 j a b c e, su_off a]
          have h13n : σ_152 13 0 0 = 3 := by rw [hk_152 13 (by decide) (by decide) (by decide) (by decide), su_off (by decide)]; exact hd
          have h9n : σ_152 9 = σ 9 := by rw [hk_152 9 (by decide) (by decide) (by decide) (by decide), su_off (by decide)]
          rcases hc_152 with ⟨c, o, hpe, hce, h5, h6⟩ | ⟨v, e3, hpn, h5n, h4n, rfl, f1, f2, f3, f4, f6⟩
          · refine ww_goto 159 dX3_factor_155 (by decide) ?_
            refine ww_istore_n [(3, _), (2, _), (1, _), (0, _)] dX3_factor_159 (by decide) rfl ?_
            refine ww_aload_n 3 dX3_factor_160 rfl ?_
            refine ww_iload_n 1 dX3_factor_161 rfl ?_
            refine ww_if_ge 169 dX3_factor_162 (by decide) (inI.mk (by decide) (by decide)) (fun c_162 => ?_) (fun c_162 => ?_)
            · exact absurd c_162 (by decide)
            · refine ww_iconst dX3_factor_165 ?_
              refine ww_goto 170 dX3_factor_166 (by decide) ?_
              refine cr_pv (cr_V (ct_X3_emitB hG hM (fun e => hce (h5.symm.trans e)) _) sv_X3_143 rfl dX3_factor_170 hM.obj rfl rfl rfl rfl ⟨by decide, by decide⟩ (Nat.le_of_ble_eq_true rfl) (Nat.le_of_ble_eq_true rfl) (Nat.le_of_ble_eq_true rfl)) ?_
              refine ww_aload_n 3 dX3_factor_173 rfl ?_
              refine ww_iload_n 0 dX3_factor_174 rfl ?_
              refine cr_pv (cr_V (ct_X3_emitB hG hM (fun e => hce (h5.symm.trans e)) _) sv_X3_143 rfl dX3_factor_175 hM.obj rfl rfl rfl rfl ⟨by decide, by decide⟩ (Nat.le_of_ble_eq_true rfl) (Nat.le_of_ble_eq_true rfl) (Nat.le_of_ble_eq_true rfl)) ?_
              exact ww_vret hQ dX3_factor_178 rfl (Nat.le_of_ble_eq_true rfl) (Nat.le_of_ble_eq_true rfl) ⟨rfl, _, hM, hf2, h13n, Or.inl ⟨c, o, by rw [pE0_num c_16 c_82, hpe], hce, h5, h6⟩⟩
          · have hc9 : σ_152 9 0 5 = c0 := by rw [h9n]; exact hc
            refine ww_goto 159 dX3_factor_155 (by decide) ?_
            refine ww_istore_n [(3, _), (2, _), (1, _), (0, _)] dX3_factor_159 (by decide) rfl ?_
            refine ww_aload_n 3 dX3_factor_160 rfl ?_
            refine ww_iload_n 1 dX3_factor_161 rfl ?_
            refine ww_if_ge 169 dX3_factor_162 (by decide) (inI.mk (by decide) (by decide)) (fun c_162 => ?_) (fun c_162 => ?_)
            · exact absurd c_162 (by decide)
            · refine ww_iconst dX3_factor_165 ?_
              refine ww_goto 170 dX3_factor_166 (by decide) ?_
              refine cr_sv hM (cr_V (ct_X3_emit hG hM h5n _ (inI.mk (by decide) (by decide)) (by omega) (by omega)) sv_X3_143 rfl dX3_factor_170 hM.obj rfl rfl rfl rfl ⟨by decide, by decide⟩ (Nat.le_of_ble_eq_true rfl) (Nat.le_of_ble_eq_true rfl) (Nat.le_of_ble_eq_true rfl)) (fun σ_170 hh hM hp_170 => ?_)
              have h5e : σ_170 5 0 0 = 0 := by rw [← hp_170, su_off (by decide), su_off (by decide)]; exact h5n
              have hc9e : σ_170 9 0 5 = c0 + 1 := by rw [← hp_170, su_s, hc9]
              refine ww_aload_n 3 dX3_factor_173 rfl ?_
              refine ww_iload_n 0 dX3_factor_174 rfl ?_
              refine cr_sv hM (cr_V (ct_X3_emit hG hM h5e _ (inI.mk (by omega) (by omega)) (by omega) (by omega)) sv_X3_143 rfl dX3_factor_175 hM.obj rfl rfl rfl rfl ⟨by decide, by decide⟩ (Nat.le_of_ble_eq_true rfl) (Nat.le_of_ble_eq_true rfl) (Nat.le_of_ble_eq_true rfl)) (fun σ_175 hh hM hp_175 => ?_)
              obtain ⟨q1, q2⟩ := emit2 (n := n) (p := p) hp_170 hp_175 h9n hc hc0 h5n h4n h13n (by rw [f6, su_off (by decide)]) (by have := pnum_gt hx hp0 hp1 hpn; omega) (by omega) (Cd_n f3 f4)
              exact ww_vret hQ dX3_factor_178 rfl (Nat.le_of_ble_eq_true rfl) (Nat.le_of_ble_eq_true rfl) ⟨rfl, _, hM, fun j a b c d e f => by rw [q2 j d]; exact hf2 j a b c d e f, q1.2.2.2.2.1, Or.inr ⟨_, _, by rw [pE0_num c_16 c_82, hpn], q1⟩⟩
    · have hsn : sk t p ≠ n := fun e => by rw [e, hx.2.2.1 n (Int.le_refl _)] at c_16; cases c_16
      refine ww_aload_n 1 dX3_factor_19 rfl ?_
      refine ww_getf gf_X3_118 rfl dX3_factor_20 hM.obj rfl ?_
      rw [su_off (by decide), hd]
      refine ww_iconst dX3_factor_23 ?_
      refine ww_icmp_ne 37 dX3_factor_24 (by decide) (inI.mk (by decide) (by decide)) (inI.mk (by decide) (by decide)) (fun c_24 => ?_) (fun c_24 => ?_)
      · refine ww_aload_n 1 dX3_factor_37 rfl ?_
        refine ww_dup dX3_factor_38 rfl ?_
        refine ww_getf gf_X3_68 rfl dX3_factor_39 hM.obj rfl ?_
        rw [su_s]
        refine ww_iconst dX3_factor_42 ?_
        refine ww_iadd dX3_factor_43 ?_
        refine mw_put pf_X3_68 rfl dX3_factor_44 hM rfl (inI.mk (by omega) (by omega)) (fun hh hM => ?_)
        rw [su_su] at hM
        refine ww_aload_n 1 dX3_factor_47 rfl ?_
        refine ww_dup dX3_factor_48 rfl ?_
        refine ww_getf gf_X3_118 rfl dX3_factor_49 hM.obj rfl ?_
        rw [su_off (by decide), hd]
        refine ww_iconst dX3_factor_52 ?_
        refine ww_iadd dX3_factor_53 ?_
        refine mw_put pf_X3_118 rfl dX3_factor_54 hM rfl (inI.mk (by decide) (by decide)) (fun hh hM => ?_)
        refine ww_aload_n 1 dX3_factor_57 rfl ?_
        refine cr_sv hM (cr_V (ct_X3_sum4 hG hM (TX.of (σ' := su (su σ 4 0 0 (sk t p + 1)) 13 0 0 (3 + 1)) hT (by rw [su_off (by decide), su_off (by decide), su_off (by decide)]) (by rw [su_off (by decide), su_off (by decide), su_off (by decide)])) (sk t p + 1) (by rw [su_off (by decide), su_s]) (by omega) (by omega) (by rw [su_off (by decide), su_off (by decide)]; exact hg) (hL.fr hM) x g (by omega) c0 (by rw [su_off (by decide), su_off (by decide)]; exact hc) hc0 (by omega) su_s) sv_X3_121 rfl dX3_factor_58 hM.obj rfl rfl rfl rfl ⟨by decide, by decide⟩ (Nat.le_of_ble_eq_true rfl) (Nat.le_of_ble_eq_true rfl) (Nat.le_of_ble_eq_true rfl)) (fun σ_58 hh hM hp_58 => ?_)
        obtain ⟨hfe_58, h13_58, hc_58⟩ := hp_58
        rcases hc_58 with ⟨c, o, hpe, hce, h5, h6⟩ | ⟨y, p1, hpy, hy⟩
        · refine ww_aload_n 1 dX3_factor_61 rfl ?_
          refine ww_bipush dX3_factor_62 (by decide) ?_
          refine cr_pv (cr_V (ct_X3_expectB hG hM (fun e => hce (h5.symm.trans e)) _) sv_X3_124 rfl dX3_factor_64 hM.obj rfl rfl rfl rfl ⟨by decide, by decide⟩ (Nat.le_of_ble_eq_true rfl) (Nat.le_of_ble_eq_true rfl) (Nat.le_of_ble_eq_true rfl)) ?_
          refine ww_aload_n 1 dX3_factor_67 rfl ?_
          refine ww_dup dX3_factor_68 rfl ?_
          refine ww_getf gf_X3_118 rfl dX3_factor_69 hM.obj rfl ?_
          rw [h13_58]
          refine ww_iconst dX3_factor_72 ?_
          refine ww_isub dX3_factor_73 ?_
          refine mw_put pf_X3_118 rfl dX3_factor_74 hM rfl (inI.mk (by decide) (by decide)) (fun hh hM => ?_)
          exact ww_vret hQ dX3_factor_77 rfl (Nat.le_of_ble_eq_true rfl) (Nat.le_of_ble_eq_true rfl) ⟨rfl, _, hM, fun j a b c d e f => by rw [su_off f, hfe_58 j a b c d e f, su_off f, su_off a], su_s, Or.inl ⟨c, o, by rw [pE0_par c_16 (by decide)]; rw [show (3 : Int) + 1 = 4 from rfl, hpe], hce, by rw [su_off (by decide)]; exact h5, by rw [su_off (by decide)]; exact h6⟩⟩
        · have hT3 := hT.of (σ' := σ_58) (by rw [hfe_58 1 (by decide) (by decide) (by decide) (by decide) (by decide) (by decide), su_off (by decide), su_off (by decide), su_off (by decide)]) (by rw [hfe_58 3 (by decide) (by decide) (by decide) (by decide) (by decide) (by decide), su_off (by decide), su_off (by decide), su_off (by decide)])
          have hyp := hy.2.2.1
          have hyn := hy.2.2.2.1
          have hk1 := hx.k1 hyn
          refine ww_aload_n 1 dX3_factor_61 rfl ?_
          refine ww_bipush dX3_factor_62 (by decide) ?_
          refine cr_sv hM (cr_V (ct_X3_expect hG hM hT3 p1 hy.2.1 (by omega) hyn hy.1 41 (inI.mk (by decide) (by decide))) sv_X3_124 rfl dX3_factor_64 hM.obj rfl rfl rfl rfl ⟨by decide, by decide⟩ (Nat.le_of_ble_eq_true rfl) (Nat.le_of_ble_eq_true rfl) (Nat.le_of_ble_eq_true rfl)) (fun σ_64 hh hM hp_64 => ?_)
          rcases hp_64 with ⟨c41, rfl⟩ | ⟨c41, rfl⟩
          · have hsn1 : sk t p1 ≠ n := fun e => by rw [e, hx.2.2.1 n (Int.le_refl _)] at c41; cases c41
            refine ww_aload_n 1 dX3_factor_67 rfl ?_
            refine ww_dup dX3_factor_68 rfl ?_
            refine ww_getf gf_X3_118 rfl dX3_factor_69 hM.obj rfl ?_
            rw [su_off (by decide), h13_58]
            refine ww_iconst dX3_factor_72 ?_
            refine ww_isub dX3_factor_73 ?_
            refine mw_put pf_X3_118 rfl dX3_factor_74 hM rfl (inI.mk (by decide) (by decide)) (fun hh hM => ?_)
            exact ww_vret hQ dX3_factor_77 rfl (Nat.le_of_ble_eq_true rfl) (Nat.le_of_ble_eq_true rfl) ⟨rfl, _, hM, fun j a b c d e f => by rw [su_off f, su_off a, hfe_58 j a b c d e f, su_off f, su_off a], su_s, Or.inr ⟨y, sk t p1 + 1, by rw [pE0_par c_16 (by decide)]; rw [show (3 : Int) + 1 = 4 from rfl, hpy]; simp only; rw [if_pos c41], hy.of (by rw [su_off (by decide), su_off (by decide)]) (by rw [su_off (by decide), su_off (by decide)]) (by rw [su_off (by decide), su_off (by decide)]) (by rw [su_off (by decide), su_off (by decide)]) (by rw [su_off (by decide), su_off (by decide)]; exact hy.1) (by rw [su_off (by decide), su_s]) (by omega) (by omega) (by omega) su_s⟩⟩
          · refine ww_aload_n 1 dX3_factor_67 rfl ?_
            refine ww_dup dX3_factor_68 rfl ?_
            refine ww_getf gf_X3_118 rfl dX3_factor_69 hM.obj rfl ?_
            rw [su_off (by decide), su_off (by decide), su_off (by decide), h13_58]
            refine ww_iconst dX3_factor_72 ?_
            refine ww_isub dX3_factor_73 ?_
            refine mw_put pf_X3_118 rfl dX3_factor_74 hM rfl (inI.mk (by decide) (by decide)) (fun hh hM => ?_)
            exact ww_vret hQ dX3_factor_77 rfl (Nat.le_of_ble_eq_true rfl) (Nat.le_of_ble_eq_true rfl) ⟨rfl, _, hM, fun j a b c d e f => by rw [su_off f, su_off c, su_off b, su_off a, hfe_58 j a b c d e f, su_off f, su_off a], su_s, Or.inl ⟨-2, sk t p1, by rw [pE0_par c_16 (by decide)]; rw [show (3 : Int) + 1 = 4 from rfl, hpy]; simp only; rw [if_neg c41], by decide, by rw [su_off (by decide), su_off (by decide), su_s], by rw [su_off (by decide), su_s]⟩⟩
      · exact absurd c_24 (by decide)
  · exact absurd hg c_4

set_option maxHeartbeats 4000000 in
theorem ct_X3_term3 {G : GT} {h0 h : AH} {m : Nat} {A : Nat → Nat} {B : Nat → Int → Nat} {D : Int → Int} {σ : MS} (hG : GOK G) (hM : MWF G h0 h m A B D σ) {t : Int → Int} {n : Int} (hT : TX σ t n) (p : Int) (hp : σ 4 0 0 = p) (hp0 : 0 ≤ p) (hp1 : p ≤ n) (hg : σ 5 0 0 = 0) (hL : LitM G h) (x : List Int × EF) (f : Nat) (hf : 3 * (n - p) + 2 ≤ f) (c0 : Int) (hc : σ 9 0 5 = c0) (hc0 : 0 ≤ c0) (hcp : 2 * c0 ≤ 3 * p) (hd : σ 13 0 0 = 3) : CSv G (MX3_term 9 195 0 0) h m A B D [.ref m] (fun σ' => FE σ σ' ∧ σ' 13 0 0 = 3 ∧ PEr (pE f 1 t 3 p x) σ σ' c0 3 p n) := by
  refine CT.of rfl hG (Nat.le_of_ble_eq_true rfl) rfl (fun E hQ => ?_)
  have hM := hM.1.f
  have hx := hT.1
  have hn8 := hx.2.1
  obtain ⟨g, rfl⟩ : ∃ g, f = g + 1 := ⟨f - 1, by omega⟩
  refine ww_aload_n 0 dX3_term_0 rfl ?_
  refine cr_sv hM (cr_V (ct_X3_factor3 hG hM hT p hp hp0 hp1 hg hL x g (by omega) c0 hc hc0 hcp hd) sv_X3_146 rfl dX3_term_1 hM.obj rfl rfl rfl rfl ⟨by decide, by decide⟩ (Nat.le_of_ble_eq_true rfl) (Nat.le_of_ble_eq_true rfl) (Nat.le_of_ble_eq_true rfl)) (fun σ_1 hh hM hp_1 => ?_)
  obtain ⟨hfe_1, h13_1, hc_1⟩ := hp_1
  rcases hc_1 with ⟨c, o, hpe, hce, h5, h6⟩ | ⟨y, p1, hpy, hy⟩
  · have hpr : pE (g + 1) 1 t 3 p x = .error (c, o) := by rw [pE1, hpe]
    have hfr := hfe_1
    have h13r := h13_1
    refine ww_aload_n 0 dX3_term_4 rfl ?_
    refine cr_pi (cr_V (ct_X3_isGood hG hM) sv_X3_85 rfl dX3_term_5 hM.obj rfl rfl rfl rfl ⟨by decide, by decide⟩ (Nat.le_of_ble_eq_true rfl) (Nat.le_of_ble_eq_true rfl) (Nat.le_of_ble_eq_true rfl)) ?_
    refine ww_ifb_eq 74 dX3_term_8 (by decide) (fun c_8 => ?_) (fun c_8 => ?_)
    · exact ww_vret hQ dX3_term_74 rfl (Nat.le_of_ble_eq_true rfl) (Nat.le_of_ble_eq_true rfl) ⟨rfl, _, hM, hfr, h13r, Or.inl ⟨c, o, hpr, hce, h5, h6⟩⟩
    · exact absurd (h5.symm.trans c_8) hce
  · have hpt : pE (g + 1) 1 t 3 p x = pE g 2 t 3 p1 y := by rw [pE1, hpy]
    have loop_4 : ∀ (e : Nat) (u : Nat) (z : List Int × EF) (q : Int) (τ : MS) (hx1 : AH), (MWF G h hx1 m A B D τ) → (FE σ τ) → (ExO σ τ c0 3 p n z q) → (pE (g + 1) 1 t 3 p x = pE u 2 t 3 q z) → (3 * (n - q) + 2 ≤ u) → (n - q < e) → WW G E (MX3_term 9 195 0 0) hx1 0 0 4 [(0, .ref m)] [] := by
      intro e
      induction e with
      | zero => intro u z q τ hx1 hM hfe hy hpt hu he; exact absurd he (by have := hy.2.2.2.1; omega)
      | succ e ie =>
        intro u z q τ hx1 hM hfe hy hpt hu he
        have hq2 := hy.2.2.2.1
        have hq1 := hy.2.2.1
        obtain ⟨v, rfl⟩ : ∃ v, u = v + 1 := ⟨u - 1, by omega⟩
        have hT := hT.of (hfe 1 (by decide) (by decide) (by decide) (by decide) (by decide) (by decide)) (hfe 3 (by decide) (by decide) (by decide) (by decide) (by decide) (by decide))
        have hkq := hx.k1 hq2
        have h13 := hy.2.2.2.2.1
        have h95 := hy.2.2.2.2.2.1
        have h29 := hy.2.2.2.2.2.2.2.2.1
        have hrx := hx.rg (q := sk t q) (by omega)
        refine ww_aload_n 0 dX3_term_4 rfl ?_
        refine cr_pi (cr_V (ct_X3_isGood hG hM) sv_X3_85 rfl dX3_term_5 hM.obj rfl rfl rfl rfl ⟨by decide, by decide⟩ (Nat.le_of_ble_eq_true rfl) (Nat.le_of_ble_eq_true rfl) (Nat.le_of_ble_eq_true rfl)) ?_
        refine ww_ifb_eq 74 dX3_term_8 (by decide) (fun c_8 => ?_) (fun c_8 => ?_)
        · exact absurd hy.1 c_8
        · refine ww_aload_n 0 dX3_term_11 rfl ?_
          refine cr_si hM (cr_V (ct_X3_next hG hM hT q hy.2.1 (by omega) hq2) sv_X3_89 rfl dX3_term_12 hM.obj rfl rfl rfl rfl ⟨by decide, by decide⟩ (Nat.le_of_ble_eq_true rfl) (Nat.le_of_ble_eq_true rfl) (Nat.le_of_ble_eq_true rfl)) (fun r_12 σ_12 hh hM hp_12 => ?_)
          obtain ⟨rfl, rfl⟩ := hp_12
          try rw [su_su] at hM
          refine ww_bipush dX3_term_15 (by decide) ?_
          refine ww_icmp_eq 29 dX3_term_17 (by decide) (inI.mk (by omega) (by omega)) (inI.mk (by decide) (by decide)) (fun c_17 => ?_) (fun c_17 => ?_)
          · have hsn : sk t q ≠ n := fun e => by rw [e, hx.2.2.1 n (Int.le_refl _)] at c_17; cases c_17
            refine ww_aload_n 0 dX3_term_29 rfl ?_
            refine cr_si hM (cr_V (ct_X3_next hG hM (hT.mv hM (by decide) (by decide)) (sk t q) su_s (by omega) hkq.2.1) sv_X3_89 rfl dX3_term_30 hM.obj rfl rfl rfl rfl ⟨by decide, by decide⟩ (Nat.le_of_ble_eq_true rfl) (Nat.le_of_ble_eq_true rfl) (Nat.le_of_ble_eq_true rfl)) (fun r_30 σ_30 hh hM hp_30 => ?_)
            obtain ⟨rfl, rfl⟩ := hp_30
            try rw [su_su] at hM
            rw [hx.kk hq2] at hM
            rw [hx.kk hq2]
            refine ww_bipush dX3_term_33 (by decide) ?_
            refine ww_icmp_ne 42 dX3_term_35 (by decide) (inI.mk (by omega) (by omega)) (inI.mk (by decide) (by decide)) (fun c_35 => ?_) (fun c_35 => ?_)
            · exact absurd c_17 c_35
            · refine ww_iconst dX3_term_38 ?_
              refine ww_goto 43 dX3_term_39 (by decide) ?_
              refine ww_istore_n [(1, _), (0, _)] dX3_term_43 (by decide) rfl ?_
              refine ww_aload_n 1 dX3_term_44 rfl ?_
              refine ww_dup dX3_term_45 rfl ?_
              refine ww_getf gf_X3_68 rfl dX3_term_46 hM.obj rfl ?_
              rw [su_s]
              refine ww_iconst dX3_term_49 ?_
              refine ww_iadd dX3_term_50 ?_
              refine mw_put pf_X3_68 rfl dX3_term_51 hM rfl (inI.mk (by omega) (by omega)) (fun hh hM => ?_)
              rw [su_su] at hM
              refine ww_aload_n 1 dX3_term_54 rfl ?_
              refine cr_sv hM (cr_V (ct_X3_factor3 hG hM (hT.mv hM (by decide) (by decide)) (sk t q + 1) su_s (by omega) (by omega) (by rw [su_off (by decide)]; exact hy.1) (hL.fr hM) z v (by omega) (c0 + z.1.length) (by rw [su_off (by decide)]; exact h95) (by omega) (by omega) (by rw [su_off (by decide)]; exact h13)) sv_X3_146 rfl dX3_term_55 hM.obj rfl rfl rfl rfl ⟨by decide, by decide⟩ (Nat.le_of_ble_eq_true rfl) (Nat.le_of_ble_eq_true rfl) (Nat.le_of_ble_eq_true rfl)) (fun σ_55 hh hM hp_55 => ?_)
              obtain ⟨hfe_55, h13_55, hc_55⟩ := hp_55
              have hfr : FE σ σ_55 := fun j a b c d e f => by rw [hfe_55 j a b c d e f, su_off a, hfe j a b c d e f]
              rcases hc_55 with ⟨c, o, hpe, hce, h5, h6⟩ | ⟨y, q2, hpy, hy2⟩
              · have hpr : pE (g + 1) 1 t 3 p x = .error (c, o) := by rw [hpt, pE2, if_pos (Or.inl c_17), hpe]
                have h13r := h13_55
                refine ww_aload_n 1 dX3_term_58 rfl ?_
                refine ww_iload_n 0 dX3_term_59 rfl ?_
                refine ww_if_eq 67 dX3_term_60 (by decide) (inI.mk (by decide) (by decide)) (fun c_60 => ?_) (fun c_60 => ?_)
                · exact absurd c_60 (by decide)
                · refine ww_iconst dX3_term_63 ?_
                  refine ww_goto 68 dX3_term_64 (by decide) ?_
                  refine cr_pv (cr_V (ct_X3_emitB hG hM (fun e => hce (h5.symm.trans e)) _) sv_X3_143 rfl dX3_term_68 hM.obj rfl rfl rfl rfl ⟨by decide, by decide⟩ (Nat.le_of_ble_eq_true rfl) (Nat.le_of_ble_eq_true rfl) (Nat.le_of_ble_eq_true rfl)) ?_
                  refine ww_goto 4 dX3_term_71 (by decide) ?_
                  refine ww_aload_n 1 dX3_term_4 rfl ?_
                  refine cr_pi (cr_V (ct_X3_isGood hG hM) sv_X3_85 rfl dX3_term_5 hM.obj rfl rfl rfl rfl ⟨by decide, by decide⟩ (Nat.le_of_ble_eq_true rfl) (Nat.le_of_ble_eq_true rfl) (Nat.le_of_ble_eq_true rfl)) ?_
                  refine ww_ifb_eq 74 dX3_term_8 (by decide) (fun c_8 => ?_) (fun c_8 => ?_)
                  · exact ww_vret hQ dX3_term_74 rfl (Nat.le_of_ble_eq_true rfl) (Nat.le_of_ble_eq_true rfl) ⟨rfl, _, hM, hfr, h13r, Or.inl ⟨c, o, hpr, hce, h5, h6⟩⟩
                  · exact absurd (h5.symm.trans c_8) hce
              · have h95b := hy2.2.2.2.2.2.1
                have h29b := hy2.2.2.2.2.2.2.2.2.1
                have hq22 := hy2.2.2.2.1
                have hq23 := hy2.2.2.1
                refine ww_aload_n 1 dX3_term_58 rfl ?_
                refine ww_iload_n 0 dX3_term_59 rfl ?_
                refine ww_if_eq 67 dX3_term_60 (by decide) (inI.mk (by decide) (by decide)) (fun c_60 => ?_) (fun c_60 => ?_)
                · exact absurd c_60 (by decide)
                · refine ww_iconst dX3_term_63 ?_
                  refine ww_goto 68 dX3_term_64 (by decide) ?_
                  refine cr_sv hM (cr_V (ct_X3_emit hG hM hy2.1 _ (inI.mk (by decide) (by decide)) (by omega) (by omega)) sv_X3_143 rfl dX3_term_68 hM.obj rfl rfl rfl rfl ⟨by decide, by decide⟩ (Nat.le_of_ble_eq_true rfl) (Nat.le_of_ble_eq_true rfl) (Nat.le_of_ble_eq_true rfl)) (fun σ_68 hh hM hp_68 => ?_)
                  have hy3 := emitO (op := 4) hy (su_off (by decide)) (su_off (by decide)) rfl (by omega) hy2 hp_68 hc0 (by decide) (by decide)
                  have hpt3 : pE (g + 1) 1 t 3 p x = pE v 2 t 3 q2 (cmb 4 z y) := by rw [hpt, pE2, if_pos (Or.inl c_17), hpy]; simp only; rw [if_pos c_17]
                  have hfe3 : FE σ σ_68 := fun j a b c d e f => by rw [← hp_68, su_off d, su_off d]; exact hfr j a b c d e f
                  refine ww_goto 4 dX3_term_71 (by decide) ?_
                  refine ww_sub [1] rfl ?_
                  exact ie v _ _ _ _ hM hfe3 hy3 hpt3 (by omega) (by omega)
          · refine ww_aload_n 0 dX3_term_20 rfl ?_
            refine cr_si hM (cr_V (ct_X3_next hG hM (hT.mv hM (by decide) (by decide)) (sk t q) su_s (by omega) hkq.2.1) sv_X3_89 rfl dX3_term_21 hM.obj rfl rfl rfl rfl ⟨by decide, by decide⟩ (Nat.le_of_ble_eq_true rfl) (Nat.le_of_ble_eq_true rfl) (Nat.le_of_ble_eq_true rfl)) (fun r_21 σ_21 hh hM hp_21 => ?_)
            obtain ⟨rfl, rfl⟩ := hp_21
            try rw [su_su] at hM
            rw [hx.kk hq2] at hM
            rw [hx.kk hq2]
            refine ww_bipush dX3_term_24 (by decide) ?_
            refine ww_icmp_ne 74 dX3_term_26 (by decide) (inI.mk (by omega) (by omega)) (inI.mk (by decide) (by decide)) (fun c_26 => ?_) (fun c_26 => ?_)
            · exact ww_vret hQ dX3_term_74 rfl (Nat.le_of_ble_eq_true rfl) (Nat.le_of_ble_eq_true rfl) ⟨rfl, _, hM, fun j a b c d e f => by rw [su_off a]; exact hfe j a b c d e f, (by rw [su_off (by decide)]; exact h13), Or.inr ⟨z, sk t q, by rw [hpt, pE2, if_neg (fun x => x.elim c_17 c_26)], hy.of rfl (su_off (by decide)) rfl (su_off (by decide)) (by rw [su_off (by decide)]; exact hy.1) su_s (Int.le_refl _) (by omega) (by omega) (by rw [su_off (by decide)]; exact h13)⟩⟩
            · have hsn : sk t q ≠ n := fun e => by rw [e, hx.2.2.1 n (Int.le_refl _)] at c_26; cases c_26
              refine ww_aload_n 0 dX3_term_29 rfl ?_
              refine cr_si hM (cr_V (ct_X3_next hG hM (hT.mv hM (by decide) (by decide)) (sk t q) su_s (by omega) hkq.2.1) sv_X3_89 rfl dX3_term_30 hM.obj rfl rfl rfl rfl ⟨by decide, by decide⟩ (Nat.le_of_ble_eq_true rfl) (Nat.le_of_ble_eq_true rfl) (Nat.le_of_ble_eq_true rfl)) (fun r_30 σ_30 hh hM hp_30 => ?_)
              obtain ⟨rfl, rfl⟩ := hp_30
              try rw [su_su] at hM
              rw [hx.kk hq2] at hM
              rw [hx.kk hq2]
              refine ww_bipush dX3_term_33 (by decide) ?_
              refine ww_icmp_ne 42 dX3_term_35 (by decide) (inI.mk (by omega) (by omega)) (inI.mk (by decide) (by decide)) (fun c_35 => ?_) (fun c_35 => ?_)
              · refine ww_iconst dX3_term_42 ?_
                refine ww_istore_n [(1, _), (0, _)] dX3_term_43 (by decide) rfl ?_
                refine ww_aload_n 1 dX3_term_44 rfl ?_
                refine ww_dup dX3_term_45 rfl ?_
                refine ww_getf gf_X3_68 rfl dX3_term_46 hM.obj rfl ?_
                rw [su_s]
                refine ww_iconst dX3_term_49 ?_
                refine ww_iadd dX3_term_50 ?_
                refine mw_put pf_X3_68 rfl dX3_term_51 hM rfl (inI.mk (by omega) (by omega)) (fun hh hM => ?_)
                rw [su_su] at hM
                refine ww_aload_n 1 dX3_term_54 rfl ?_
                refine cr_sv hM (cr_V (ct_X3_factor3 hG hM (hT.mv hM (by decide) (by decide)) (sk t q + 1) su_s (by omega) (by omega) (by rw [su_off (by decide)]; exact hy.1) (hL.fr hM) z v (by omega) (c0 + z.1.length) (by rw [su_off (by decide)]; exact h95) (by omega) (by omega) (by rw [su_off (by decide)]; exact h13)) sv_X3_146 rfl dX3_term_55 hM.obj rfl rfl rfl rfl ⟨by decide, by decide⟩ (Nat.le_of_ble_eq_true rfl) (Nat.le_of_ble_eq_true rfl) (Nat.le_of_ble_eq_true rfl)) (fun σ_55 hh hM hp_55 => ?_)
                obtain ⟨hfe_55, h13_55, hc_55⟩ := hp_55
                have hfr : FE σ σ_55 := fun j a b c d e f => by rw [hfe_55 j a b c d e f, su_off a, hfe j a b c d e f]
                rcases hc_55 with ⟨c, o, hpe, hce, h5, h6⟩ | ⟨y, q2, hpy, hy2⟩
                · have hpr : pE (g + 1) 1 t 3 p x = .error (c, o) := by rw [hpt, pE2, if_pos (Or.inr c_26), hpe]
                  have h13r := h13_55
                  refine ww_aload_n 1 dX3_term_58 rfl ?_
                  refine ww_iload_n 0 dX3_term_59 rfl ?_
                  refine ww_if_eq 67 dX3_term_60 (by decide) (inI.mk (by decide) (by decide)) (fun c_60 => ?_) (fun c_60 => ?_)
                  · refine ww_iconst dX3_term_67 ?_
                    refine cr_pv (cr_V (ct_X3_emitB hG hM (fun e => hce (h5.symm.trans e)) _) sv_X3_143 rfl dX3_term_68 hM.obj rfl rfl rfl rfl ⟨by decide, by decide⟩ (Nat.le_of_ble_eq_true rfl) (Nat.le_of_ble_eq_true rfl) (Nat.le_of_ble_eq_true rfl)) ?_
                    refine ww_goto 4 dX3_term_71 (by decide) ?_
                    refine ww_aload_n 1 dX3_term_4 rfl ?_
                    refine cr_pi (cr_V (ct_X3_isGood hG hM) sv_X3_85 rfl dX3_term_5 hM.obj rfl rfl rfl rfl ⟨by decide, by decide⟩ (Nat.le_of_ble_eq_true rfl) (Nat.le_of_ble_eq_true rfl) (Nat.le_of_ble_eq_true rfl)) ?_
                    refine ww_ifb_eq 74 dX3_term_8 (by decide) (fun c_8 => ?_) (fun c_8 => ?_)
                    · exact ww_vret hQ dX3_term_74 rfl (Nat.le_of_ble_eq_true rfl) (Nat.le_of_ble_eq_true rfl) ⟨rfl, _, hM, hfr, h13r, Or.inl ⟨c, o, hpr, hce, h5, h6⟩⟩
                    · exact absurd (h5.symm.trans c_8) hce
                  · exact absurd c_60 (by decide)
                · have h95b := hy2.2.2.2.2.2.1
                  have h29b := hy2.2.2.2.2.2.2.2.2.1
                  have hq22 := hy2.2.2.2.1
                  have hq23 := hy2.2.2.1
                  refine ww_aload_n 1 dX3_term_58 rfl ?_
                  refine ww_iload_n 0 dX3_term_59 rfl ?_
                  refine ww_if_eq 67 dX3_term_60 (by decide) (inI.mk (by decide) (by decide)) (fun c_60 => ?_) (fun c_60 => ?_)
                  · refine ww_iconst dX3_term_67 ?_
                    refine cr_sv hM (cr_V (ct_X3_emit hG hM hy2.1 _ (inI.mk (by decide) (by decide)) (by omega) (by omega)) sv_X3_143 rfl dX3_term_68 hM.obj rfl rfl rfl rfl ⟨by decide, by decide⟩ (Nat.le_of_ble_eq_true rfl) (Nat.le_of_ble_eq_true rfl) (Nat.le_of_ble_eq_true rfl)) (fun σ_68 hh hM hp_68 => ?_)
                    have hy3 := emitO (op := 5) hy (su_off (by decide)) (su_off (by decide)) rfl (by omega) hy2 hp_68 hc0 (by decide) (by decide)
                    have hpt3 : pE (g + 1) 1 t 3 p x = pE v 2 t 3 q2 (cmb 5 z y) := by rw [hpt, pE2, if_pos (Or.inr c_26), hpy]; simp only; rw [if_neg c_17]
                    have hfe3 : FE σ σ_68 := fun j a b c d e f => by rw [← hp_68, su_off d, su_off d]; exact hfr j a b c d e f
                    refine ww_goto 4 dX3_term_71 (by decide) ?_
                    refine ww_sub [1] rfl ?_
                    exact ie v _ _ _ _ hM hfe3 hy3 hpt3 (by omega) (by omega)
                  · exact absurd c_60 (by decide)
              · exact absurd c_35 c_17
    refine ww_sub [0] rfl ?_
    exact loop_4 801 g y p1 _ _ hM hfe_1 hy hpt (by have := hy.2.2.1; have := hy.2.2.2.1; omega) (by have := hy.2.2.1; omega)

set_option maxHeartbeats 4000000 in
theorem ct_X3_sum3 {G : GT} {h0 h : AH} {m : Nat} {A : Nat → Nat} {B : Nat → Int → Nat} {D : Int → Int} {σ : MS} (hG : GOK G) (hM : MWF G h0 h m A B D σ) {t : Int → Int} {n : Int} (hT : TX σ t n) (p : Int) (hp : σ 4 0 0 = p) (hp0 : 0 ≤ p) (hp1 : p ≤ n) (hg : σ 5 0 0 = 0) (hL : LitM G h) (x : List Int × EF) (f : Nat) (hf : 3 * (n - p) + 3 ≤ f) (c0 : Int) (hc : σ 9 0 5 = c0) (hc0 : 0 ≤ c0) (hcp : 2 * c0 ≤ 3 * p) (hd : σ 13 0 0 = 3) : CSv G (MX3_sum 10 216 0 0) h m A B D [.ref m] (fun σ' => FE σ σ' ∧ σ' 13 0 0 = 3 ∧ PEr (pE f 3 t 3 p x) σ σ' c0 3 p n) := by
  refine CT.of rfl hG (Nat.le_of_ble_eq_true rfl) rfl (fun E hQ => ?_)
  have hM := hM.1.f
  have hx := hT.1
  have hn8 := hx.2.1
  obtain ⟨g, rfl⟩ : ∃ g, f = g + 1 := ⟨f - 1, by omega⟩
  refine ww_aload_n 0 dX3_sum_0 rfl ?_
  refine cr_sv hM (cr_V (ct_X3_term3 hG hM hT p hp hp0 hp1 hg hL x g (by omega) c0 hc hc0 hcp hd) sv_X3_149 rfl dX3_sum_1 hM.obj rfl rfl rfl rfl ⟨by decide, by decide⟩ (Nat.le_of_ble_eq_true rfl) (Nat.le_of_ble_eq_true rfl) (Nat.le_of_ble_eq_true rfl)) (fun σ_1 hh hM hp_1 => ?_)
  obtain ⟨hfe_1, h13_1, hc_1⟩ := hp_1
  rcases hc_1 with ⟨c, o, hpe, hce, h5, h6⟩ | ⟨y, p1, hpy, hy⟩
  · have hpr : pE (g + 1) 3 t 3 p x = .error (c, o) := by rw [pE3, hpe]
    have hfr := hfe_1
    have h13r := h13_1
    refine ww_aload_n 0 dX3_sum_4 rfl ?_
    refine cr_pi (cr_V (ct_X3_isGood hG hM) sv_X3_85 rfl dX3_sum_5 hM.obj rfl rfl rfl rfl ⟨by decide, by decide⟩ (Nat.le_of_ble_eq_true rfl) (Nat.le_of_ble_eq_true rfl) (Nat.le_of_ble_eq_true rfl)) ?_
    refine ww_ifb_eq 74 dX3_sum_8 (by decide) (fun c_8 => ?_) (fun c_8 => ?_)
    · exact ww_vret hQ dX3_sum_74 rfl (Nat.le_of_ble_eq_true rfl) (Nat.le_of_ble_eq_true rfl) ⟨rfl, _, hM, hfr, h13r, Or.inl ⟨c, o, hpr, hce, h5, h6⟩⟩
    · exact absurd (h5.symm.trans c_8) hce
  · have hpt : pE (g + 1) 3 t 3 p x = pE g 4 t 3 p1 y := by rw [pE3, hpy]
    have loop_4 : ∀ (e : Nat) (u : Nat) (z : List Int × EF) (q : Int) (τ : MS) (hx1 : AH), (MWF G h hx1 m A B D τ) → (FE σ τ) → (ExO σ τ c0 3 p n z q) → (pE (g + 1) 3 t 3 p x = pE u 4 t 3 q z) → (3 * (n - q) + 2 ≤ u) → (n - q < e) → WW G E (MX3_sum 10 216 0 0) hx1 0 0 4 [(0, .ref m)] [] := by
      intro e
      induction e with
      | zero => intro u z q τ hx1 hM hfe hy hpt hu he; exact absurd he (by have := hy.2.2.2.1; omega)
      | succ e ie =>
        intro u z q τ hx1 hM hfe hy hpt hu he
        have hq2 := hy.2.2.2.1
        have hq1 := hy.2.2.1
        obtain ⟨v, rfl⟩ : ∃ v, u = v + 1 := ⟨u - 1, by omega⟩
        have hT := hT.of (hfe 1 (by decide) (by decide) (by decide) (by decide) (by decide) (by decide)) (hfe 3 (by decide) (by decide) (by decide) (by decide) (by decide) (by decide))
        have hkq := hx.k1 hq2
        have h13 := hy.2.2.2.2.1
        have h95 := hy.2.2.2.2.2.1
        have h29 := hy.2.2.2.2.2.2.2.2.1
        have hrx := hx.rg (q := sk t q) (by omega)
        refine ww_aload_n 0 dX3_sum_4 rfl ?_
        refine cr_pi (cr_V (ct_X3_isGood hG hM) sv_X3_85 rfl dX3_sum_5 hM.obj rfl rfl rfl rfl ⟨by decide, by decide⟩ (Nat.le_of_ble_eq_true rfl) (Nat.le_of_ble_eq_true rfl) (Nat.le_of_ble_eq_true rfl)) ?_
        refine ww_ifb_eq 74 dX3_sum_8 (by decide) (fun c_8 => ?_) (fun c_8 => ?_)
        · exact absurd hy.1 c_8
        · refine ww_aload_n 0 dX3_sum_11 rfl ?_
          refine cr_si hM (cr_V (ct_X3_next hG hM hT q hy.2.1 (by omega) hq2) sv_X3_89 rfl dX3_sum_12 hM.obj rfl rfl rfl rfl ⟨by decide, by decide⟩ (Nat.le_of_ble_eq_true rfl) (Nat.le_of_ble_eq_true rfl) (Nat.le_of_ble_eq_true rfl)) (fun r_12 σ_12 hh hM hp_12 => ?_)
          obtain ⟨rfl, rfl⟩ := hp_12
          try rw [su_su] at hM
          refine ww_bipush dX3_sum_15 (by decide) ?_
          refine ww_icmp_eq 29 dX3_sum_17 (by decide) (inI.mk (by omega) (by omega)) (inI.mk (by decide) (by decide)) (fun c_17 => ?_) (fun c_17 => ?_)
          · have hsn : sk t q ≠ n := fun e => by rw [e, hx.2.2.1 n (Int.le_refl _)] at c_17; cases c_17
            refine ww_aload_n 0 dX3_sum_29 rfl ?_
            refine cr_si hM (cr_V (ct_X3_next hG hM (hT.mv hM (by decide) (by decide)) (sk t q) su_s (by omega) hkq.2.1) sv_X3_89 rfl dX3_sum_30 hM.obj rfl rfl rfl rfl ⟨by decide, by decide⟩ (Nat.le_of_ble_eq_true rfl) (Nat.le_of_ble_eq_true rfl) (Nat.le_of_ble_eq_true rfl)) (fun r_30 σ_30 hh hM hp_30 => ?_)
            obtain ⟨rfl, rfl⟩ := hp_30
            try rw [su_su] at hM
            rw [hx.kk hq2] at hM
            rw [hx.kk hq2]
            refine ww_bipush dX3_sum_33 (by decide) ?_
            refine ww_icmp_ne 42 dX3_sum_35 (by decide) (inI.mk (by omega) (by omega)) (inI.mk (by decide) (by decide)) (fun c_35 => ?_) (fun c_35 => ?_)
            · exact absurd c_17 c_35
            · refine ww_iconst dX3_sum_38 ?_
              refine ww_goto 43 dX3_sum_39 (by decide) ?_
              refine ww_istore_n [(1, _), (0, _)] dX3_sum_43 (by decide) rfl ?_
              refine ww_aload_n 1 dX3_sum_44 rfl ?_
              refine ww_dup dX3_sum_45 rfl ?_
              refine ww_getf gf_X3_68 rfl dX3_sum_46 hM.obj rfl ?_
              rw [su_s]
              refine ww_iconst dX3_sum_49 ?_
              refine ww_iadd dX3_sum_50 ?_
              refine mw_put pf_X3_68 rfl dX3_sum_51 hM rfl (inI.mk (by omega) (by omega)) (fun hh hM => ?_)
              rw [su_su] at hM
              refine ww_aload_n 1 dX3_sum_54 rfl ?_
              refine cr_sv hM (cr_V (ct_X3_term3 hG hM (hT.mv hM (by decide) (by decide)) (sk t q + 1) su_s (by omega) (by omega) (by rw [su_off (by decide)]; exact hy.1) (hL.fr hM) z v (by omega) (c0 + z.1.length) (by rw [su_off (by decide)]; exact h95) (by omega) (by omega) (by rw [su_off (by decide)]; exact h13)) sv_X3_149 rfl dX3_sum_55 hM.obj rfl rfl rfl rfl ⟨by decide, by decide⟩ (Nat.le_of_ble_eq_true rfl) (Nat.le_of_ble_eq_true rfl) (Nat.le_of_ble_eq_true rfl)) (fun σ_55 hh hM hp_55 => ?_)
              obtain ⟨hfe_55, h13_55, hc_55⟩ := hp_55
              have hfr : FE σ σ_55 := fun j a b c d e f => by rw [hfe_55 j a b c d e f, su_off a, hfe j a b c d e f]
              rcases hc_55 with ⟨c, o, hpe, hce, h5, h6⟩ | ⟨y, q2, hpy, hy2⟩
              · have hpr : pE (g + 1) 3 t 3 p x = .error (c, o) := by rw [hpt, pE4, if_pos (Or.inl c_17), hpe]
                have h13r := h13_55
                refine ww_aload_n 1 dX3_sum_58 rfl ?_
                refine ww_iload_n 0 dX3_sum_59 rfl ?_
                refine ww_if_eq 67 dX3_sum_60 (by decide) (inI.mk (by decide) (by decide)) (fun c_60 => ?_) (fun c_60 => ?_)
                · exact absurd c_60 (by decide)
                · refine ww_iconst dX3_sum_63 ?_
                  refine ww_goto 68 dX3_sum_64 (by decide) ?_
                  refine cr_pv (cr_V (ct_X3_emitB hG hM (fun e => hce (h5.symm.trans e)) _) sv_X3_143 rfl dX3_sum_68 hM.obj rfl rfl rfl rfl ⟨by decide, by decide⟩ (Nat.le_of_ble_eq_true rfl) (Nat.le_of_ble_eq_true rfl) (Nat.le_of_ble_eq_true rfl)) ?_
                  refine ww_goto 4 dX3_sum_71 (by decide) ?_
                  refine ww_aload_n 1 dX3_sum_4 rfl ?_
                  refine cr_pi (cr_V (ct_X3_isGood hG hM) sv_X3_85 rfl dX3_sum_5 hM.obj rfl rfl rfl rfl ⟨by decide, by decide⟩ (Nat.le_of_ble_eq_true rfl) (Nat.le_of_ble_eq_true rfl) (Nat.le_of_ble_eq_true rfl)) ?_
                  refine ww_ifb_eq 74 dX3_sum_8 (by decide) (fun c_8 => ?_) (fun c_8 => ?_)
                  · exact ww_vret hQ dX3_sum_74 rfl (Nat.le_of_ble_eq_true rfl) (Nat.le_of_ble_eq_true rfl) ⟨rfl, _, hM, hfr, h13r, Or.inl ⟨c, o, hpr, hce, h5, h6⟩⟩
                  · exact absurd (h5.symm.trans c_8) hce
              · have h95b := hy2.2.2.2.2.2.1
                have h29b := hy2.2.2.2.2.2.2.2.2.1
                have hq22 := hy2.2.2.2.1
                have hq23 := hy2.2.2.1
                refine ww_aload_n 1 dX3_sum_58 rfl ?_
                refine ww_iload_n 0 dX3_sum_59 rfl ?_
                refine ww_if_eq 67 dX3_sum_60 (by decide) (inI.mk (by decide) (by decide)) (fun c_60 => ?_) (fun c_60 => ?_)
                · exact absurd c_60 (by decide)
                · refine ww_iconst dX3_sum_63 ?_
                  refine ww_goto 68 dX3_sum_64 (by decide) ?_
                  refine cr_sv hM (cr_V (ct_X3_emit hG hM hy2.1 _ (inI.mk (by decide) (by decide)) (by omega) (by omega)) sv_X3_143 rfl dX3_sum_68 hM.obj rfl rfl rfl rfl ⟨by decide, by decide⟩ (Nat.le_of_ble_eq_true rfl) (Nat.le_of_ble_eq_true rfl) (Nat.le_of_ble_eq_true rfl)) (fun σ_68 hh hM hp_68 => ?_)
                  have hy3 := emitO (op := 2) hy (su_off (by decide)) (su_off (by decide)) rfl (by omega) hy2 hp_68 hc0 (by decide) (by decide)
                  have hpt3 : pE (g + 1) 3 t 3 p x = pE v 4 t 3 q2 (cmb 2 z y) := by rw [hpt, pE4, if_pos (Or.inl c_17), hpy]; simp only; rw [if_pos c_17]
                  have hfe3 : FE σ σ_68 := fun j a b c d e f => by rw [← hp_68, su_off d, su_off d]; exact hfr j a b c d e f
                  refine ww_goto 4 dX3_sum_71 (by decide) ?_
                  refine ww_sub [1] rfl ?_
                  exact ie v _ _ _ _ hM hfe3 hy3 hpt3 (by omega) (by omega)
          · refine ww_aload_n 0 dX3_sum_20 rfl ?_
            refine cr_si hM (cr_V (ct_X3_next hG hM (hT.mv hM (by decide) (by decide)) (sk t q) su_s (by omega) hkq.2.1) sv_X3_89 rfl dX3_sum_21 hM.obj rfl rfl rfl rfl ⟨by decide, by decide⟩ (Nat.le_of_ble_eq_true rfl) (Nat.le_of_ble_eq_true rfl) (Nat.le_of_ble_eq_true rfl)) (fun r_21 σ_21 hh hM hp_21 => ?_)
            obtain ⟨rfl, rfl⟩ := hp_21
            try rw [su_su] at hM
            rw [hx.kk hq2] at hM
            rw [hx.kk hq2]
            refine ww_bipush dX3_sum_24 (by decide) ?_
            refine ww_icmp_ne 74 dX3_sum_26 (by decide) (inI.mk (by omega) (by omega)) (inI.mk (by decide) (by decide)) (fun c_26 => ?_) (fun c_26 => ?_)
            · exact ww_vret hQ dX3_sum_74 rfl (Nat.le_of_ble_eq_true rfl) (Nat.le_of_ble_eq_true rfl) ⟨rfl, _, hM, fun j a b c d e f => by rw [su_off a]; exact hfe j a b c d e f, (by rw [su_off (by decide)]; exact h13), Or.inr ⟨z, sk t q, by rw [hpt, pE4, if_neg (fun x => x.elim c_17 c_26)], hy.of rfl (su_off (by decide)) rfl (su_off (by decide)) (by rw [su_off (by decide)]; exact hy.1) su_s (Int.le_refl _) (by omega) (by omega) (by rw [su_off (by decide)]; exact h13)⟩⟩
            · have hsn : sk t q ≠ n := fun e => by rw [e, hx.2.2.1 n (Int.le_refl _)] at c_26; cases c_26
              refine ww_aload_n 0 dX3_sum_29 rfl ?_
              refine cr_si hM (cr_V (ct_X3_next hG hM (hT.mv hM (by decide) (by decide)) (sk t q) su_s (by omega) hkq.2.1) sv_X3_89 rfl dX3_sum_30 hM.obj rfl rfl rfl rfl ⟨by decide, by decide⟩ (Nat.le_of_ble_eq_true rfl) (Nat.le_of_ble_eq_true rfl) (Nat.le_of_ble_eq_true rfl)) (fun r_30 σ_30 hh hM hp_30 => ?_)
              obtain ⟨rfl, rfl⟩ := hp_30
              try rw [su_su] at hM
              rw [hx.kk hq2] at hM
              rw [hx.kk hq2]
              refine ww_bipush dX3_sum_33 (by decide) ?_
              refine ww_icmp_ne 42 dX3_sum_35 (by decide) (inI.mk (by omega) (by omega)) (inI.mk (by decide) (by decide)) (fun c_35 => ?_) (fun c_35 => ?_)
              · refine ww_iconst dX3_sum_42 ?_
                refine ww_istore_n [(1, _), (0, _)] dX3_sum_43 (by decide) rfl ?_
                refine ww_aload_n 1 dX3_sum_44 rfl ?_
                refine ww_dup dX3_sum_45 rfl ?_
                refine ww_getf gf_X3_68 rfl dX3_sum_46 hM.obj rfl ?_
                rw [su_s]
                refine ww_iconst dX3_sum_49 ?_
                refine ww_iadd dX3_sum_50 ?_
                refine mw_put pf_X3_68 rfl dX3_sum_51 hM rfl (inI.mk (by omega) (by omega)) (fun hh hM => ?_)
                rw [su_su] at hM
                refine ww_aload_n 1 dX3_sum_54 rfl ?_
                refine cr_sv hM (cr_V (ct_X3_term3 hG hM (hT.mv hM (by decide) (by decide)) (sk t q + 1) su_s (by omega) (by omega) (by rw [su_off (by decide)]; exact hy.1) (hL.fr hM) z v (by omega) (c0 + z.1.length) (by rw [su_off (by decide)]; exact h95) (by omega) (by omega) (by rw [su_off (by decide)]; exact h13)) sv_X3_149 rfl dX3_sum_55 hM.obj rfl rfl rfl rfl ⟨by decide, by decide⟩ (Nat.le_of_ble_eq_true rfl) (Nat.le_of_ble_eq_true rfl) (Nat.le_of_ble_eq_true rfl)) (fun σ_55 hh hM hp_55 => ?_)
                obtain ⟨hfe_55, h13_55, hc_55⟩ := hp_55
                have hfr : FE σ σ_55 := fun j a b c d e f => by rw [hfe_55 j a b c d e f, su_off a, hfe j a b c d e f]
                rcases hc_55 with ⟨c, o, hpe, hce, h5, h6⟩ | ⟨y, q2, hpy, hy2⟩
                · have hpr : pE (g + 1) 3 t 3 p x = .error (c, o) := by rw [hpt, pE4, if_pos (Or.inr c_26), hpe]
                  have h13r := h13_55
                  refine ww_aload_n 1 dX3_sum_58 rfl ?_
                  refine ww_iload_n 0 dX3_sum_59 rfl ?_
                  refine ww_if_eq 67 dX3_sum_60 (by decide) (inI.mk (by decide) (by decide)) (fun c_60 => ?_) (fun c_60 => ?_)
                  · refine ww_iconst dX3_sum_67 ?_
                    refine cr_pv (cr_V (ct_X3_emitB hG hM (fun e => hce (h5.symm.trans e)) _) sv_X3_143 rfl dX3_sum_68 hM.obj rfl rfl rfl rfl ⟨by decide, by decide⟩ (Nat.le_of_ble_eq_true rfl) (Nat.le_of_ble_eq_true rfl) (Nat.le_of_ble_eq_true rfl)) ?_
                    refine ww_goto 4 dX3_sum_71 (by decide) ?_
                    refine ww_aload_n 1 dX3_sum_4 rfl ?_
                    refine cr_pi (cr_V (ct_X3_isGood hG hM) sv_X3_85 rfl dX3_sum_5 hM.obj rfl rfl rfl rfl ⟨by decide, by decide⟩ (Nat.le_of_ble_eq_true rfl) (Nat.le_of_ble_eq_true rfl) (Nat.le_of_ble_eq_true rfl)) ?_
                    refine ww_ifb_eq 74 dX3_sum_8 (by decide) (fun c_8 => ?_) (fun c_8 => ?_)
                    · exact ww_vret hQ dX3_sum_74 rfl (Nat.le_of_ble_eq_true rfl) (Nat.le_of_ble_eq_true rfl) ⟨rfl, _, hM, hfr, h13r, Or.inl ⟨c, o, hpr, hce, h5, h6⟩⟩
                    · exact absurd (h5.symm.trans c_8) hce
                  · exact absurd c_60 (by decide)
                · have h95b := hy2.2.2.2.2.2.1
                  have h29b := hy2.2.2.2.2.2.2.2.2.1
                  have hq22 := hy2.2.2.2.1
                  have hq23 := hy2.2.2.1
                  refine ww_aload_n 1 dX3_sum_58 rfl ?_
                  refine ww_iload_n 0 dX3_sum_59 rfl ?_
                  refine ww_if_eq 67 dX3_sum_60 (by decide) (inI.mk (by decide) (by decide)) (fun c_60 => ?_) (fun c_60 => ?_)
                  · refine ww_iconst dX3_sum_67 ?_
                    refine cr_sv hM (cr_V (ct_X3_emit hG hM hy2.1 _ (inI.mk (by decide) (by decide)) (by omega) (by omega)) sv_X3_143 rfl dX3_sum_68 hM.obj rfl rfl rfl rfl ⟨by decide, by decide⟩ (Nat.le_of_ble_eq_true rfl) (Nat.le_of_ble_eq_true rfl) (Nat.le_of_ble_eq_true rfl)) (fun σ_68 hh hM hp_68 => ?_)
                    have hy3 := emitO (op := 3) hy (su_off (by decide)) (su_off (by decide)) rfl (by omega) hy2 hp_68 hc0 (by decide) (by decide)
                    have hpt3 : pE (g + 1) 3 t 3 p x = pE v 4 t 3 q2 (cmb 3 z y) := by rw [hpt, pE4, if_pos (Or.inr c_26), hpy]; simp only; rw [if_neg c_17]
                    have hfe3 : FE σ σ_68 := fun j a b c d e f => by rw [← hp_68, su_off d, su_off d]; exact hfr j a b c d e f
                    refine ww_goto 4 dX3_sum_71 (by decide) ?_
                    refine ww_sub [1] rfl ?_
                    exact ie v _ _ _ _ hM hfe3 hy3 hpt3 (by omega) (by omega)
                  · exact absurd c_60 (by decide)
              · exact absurd c_35 c_17
    refine ww_sub [0] rfl ?_
    exact loop_4 801 g y p1 _ _ hM hfe_1 hy hpt (by have := hy.2.2.1; have := hy.2.2.2.1; omega) (by have := hy.2.2.1; omega)

set_option maxHeartbeats 4000000 in
theorem ct_X3_factor2 {G : GT} {h0 h : AH} {m : Nat} {A : Nat → Nat} {B : Nat → Int → Nat} {D : Int → Int} {σ : MS} (hG : GOK G) (hM : MWF G h0 h m A B D σ) {t : Int → Int} {n : Int} (hT : TX σ t n) (p : Int) (hp : σ 4 0 0 = p) (hp0 : 0 ≤ p) (hp1 : p ≤ n) (hg : σ 5 0 0 = 0) (hL : LitM G h) (x : List Int × EF) (f : Nat) (hf : 3 * (n - p) + 1 ≤ f) (c0 : Int) (hc : σ 9 0 5 = c0) (hc0 : 0 ≤ c0) (hcp : 2 * c0 ≤ 3 * p) (hd : σ 13 0 0 = 2) : CSv G (MX3_factor 11 237 0 0) h m A B D [.ref m] (fun σ' => FE σ σ' ∧ σ' 13 0 0 = 2 ∧ PEr (pE f 0 t 2 p x) σ σ' c0 2 p n) := by
  refine CT.of rfl hG (Nat.le_of_ble_eq_true rfl) rfl (fun E hQ => ?_)
  have hM := hM.1.f
  have hx := hT.1
  have hn8 := hx.2.1
  obtain ⟨g, rfl⟩ : ∃ g, f = g + 1 := ⟨f - 1, by omega⟩
  refine ww_aload_n 0 dX3_factor_0 rfl ?_
  refine cr_pi (cr_V (ct_X3_isGood hG hM) sv_X3_85 rfl dX3_factor_1 hM.obj rfl rfl rfl rfl ⟨by decide, by decide⟩ (Nat.le_of_ble_eq_true rfl) (Nat.le_of_ble_eq_true rfl) (Nat.le_of_ble_eq_true rfl)) ?_
  refine ww_ifb_ne 8 dX3_factor_4 (by decide) (fun c_4 => ?_) (fun c_4 => ?_)
  · refine ww_aload_n 0 dX3_factor_8 rfl ?_
    refine cr_si hM (cr_V (ct_X3_next hG hM hT _ (by first | exact hp | exact su_s | rfl) (by omega) (by omega)) sv_X3_89 rfl dX3_factor_9 hM.obj rfl rfl rfl rfl ⟨by decide, by decide⟩ (Nat.le_of_ble_eq_true rfl) (Nat.le_of_ble_eq_true rfl) (Nat.le_of_ble_eq_true rfl)) (fun r_9 σ_9 hh hM hp_9 => ?_)
    obtain ⟨rfl, rfl⟩ := hp_9
    try rw [su_su] at hM
    have hk := hx.k1 hp1
    have hT := hT.mv hM (by decide) (by decide)
    have hrk := hx.rg (q := sk t p) (by omega)
    refine ww_istore_n [(1, _), (0, _)] dX3_factor_12 (by decide) rfl ?_
    refine ww_iload_n 0 dX3_factor_13 rfl ?_
    refine ww_bipush dX3_factor_14 (by decide) ?_
    refine ww_icmp_ne 78 dX3_factor_16 (by decide) (inI.mk (by omega) (by omega)) (inI.mk (by decide) (by decide)) (fun c_16 => ?_) (fun c_16 => ?_)
    · refine ww_iload_n 0 dX3_factor_78 rfl ?_
      refine cr_pi (cr_S (ct_X3_isDigit hG _ (inI.mk (by omega) (by omega))) ss_X3_106 rfl dX3_factor_79 rfl rfl ⟨by decide, by decide⟩ (Nat.le_of_ble_eq_true rfl) (Nat.le_of_ble_eq_true rfl) (Nat.le_of_ble_eq_true rfl)) ?_
      refine ww_ifb_eq 89 dX3_factor_82 (by decide) (fun c_82 => ?_) (fun c_82 => ?_)
      · refine ww_aload_n 1 dX3_factor_89 rfl ?_
        obtain ⟨a_90, tx_90, hz_90, hS_90⟩ := (hL.fr hM) 128 kwTrust (by decide)
        refine ww_ldcS hz_90 dX3_factor_90 ?_
        refine cr_si hM (cr_V (ct_X3_takeWord hG hM hT (sk t p) su_s (by omega) hk.2.1 (by rw [su_off (by decide)]; exact hg) hS_90 (fun e => hM.1.1 e.symm)) sv_X3_130 rfl dX3_factor_92 hM.obj rfl rfl rfl rfl ⟨by decide, by decide⟩ (Nat.le_of_ble_eq_true rfl) (Nat.le_of_ble_eq_true rfl) (Nat.le_of_ble_eq_true rfl)) (fun r_92 σ_92 hh hM hp_92 => ?_)
        rcases hp_92 with ⟨c0_92, rfl, rfl⟩ | ⟨c0_92, rfl, rfl⟩
        · rw [hx.kk hp1] at hM c0_92
          rw [su_su] at hM
          refine ww_if_eq 102 dX3_factor_95 (by decide) (inI.mk (by decide) (by decide)) (fun c_95 => ?_) (fun c_95 => ?_)
          · exact absurd c_95 (by decide)
          · refine ww_iconst dX3_factor_98 ?_
            refine ww_goto 142 dX3_factor_99 (by decide) ?_
            refine ww_istore_n [(2, _), (1, _), (0, _)] dX3_factor_142 (by decide) rfl ?_
            refine ww_iload_n 0 dX3_factor_143 rfl ?_
            refine ww_if_ge 158 dX3_factor_144 (by decide) (inI.mk (by decide) (by decide)) (fun c_144 => ?_) (fun c_144 => ?_)
            · refine ww_iload_n 0 dX3_factor_158 rfl ?_
              refine ww_istore_n [(3, _), (2, _), (1, _), (0, _)] dX3_factor_159 (by decide) rfl ?_
              refine ww_aload_n 3 dX3_factor_160 rfl ?_
              refine ww_iload_n 1 dX3_factor_161 rfl ?_
              refine ww_if_ge 169 dX3_factor_162 (by decide) (inI.mk (by decide) (by decide)) (fun c_162 => ?_) (fun c_162 => ?_)
              · refine ww_iconst dX3_factor_169 ?_
                have hwg := we_gt (show pw t p = kwTrust from c0_92)
                have hww := hx.w1 hk.2.1
                have hc9 : su σ 4 0 0 (we t (sk t p)) 9 0 5 = c0 := by rw [su_off (by decide)]; exact hc
                refine cr_sv hM (cr_V (ct_X3_emit hG hM (by rw [su_off (by decide)]; exact hg) _ (inI.mk (by decide) (by decide)) (by omega) (by omega)) sv_X3_143 rfl dX3_factor_170 hM.obj rfl rfl rfl rfl ⟨by decide, by decide⟩ (Nat.le_of_ble_eq_true rfl) (Nat.le_of_ble_eq_true rfl) (Nat.le_of_ble_eq_true rfl)) (fun σ_170 hh hM hp_170 => ?_)
                have h5e : σ_170 5 0 0 = 0 := by rw [← hp_170, su_off (by decide), su_off (by decide), su_off (by decide)]; exact hg
                have hc9e : σ_170 9 0 5 = c0 + 1 := by rw [← hp_170, su_s, hc9]
                refine ww_aload_n 3 dX3_factor_173 rfl ?_
                refine ww_iload_n 0 dX3_factor_174 rfl ?_
                refine cr_sv hM (cr_V (ct_X3_emit hG hM h5e _ (inI.mk (by decide) (by decide)) (by omega) (by omega)) sv_X3_143 rfl dX3_factor_175 hM.obj rfl rfl rfl rfl ⟨by decide, by decide⟩ (Nat.le_of_ble_eq_true rfl) (Nat.le_of_ble_eq_true rfl) (Nat.le_of_ble_eq_true rfl)) (fun σ_175 hh hM hp_175 => ?_)
                obtain ⟨q1, q2⟩ := emit2 (σ := σ) (d := 2) (n := n) (p := p) hp_170 hp_175 (su_off (by decide)) hc hc0 (by rw [su_off (by decide)]; exact hg) su_s (by rw [su_off (by decide)]; exact hd) (su_off (by decide)) (by omega) hww.2.1 Cd_0
                exact ww_vret hQ dX3_factor_178 rfl (Nat.le_of_ble_eq_true rfl) (Nat.le_of_ble_eq_true rfl) ⟨rfl, _, hM, fun j a b c d e f => by rw [q2 j d, su_off a], q1.2.2.2.2.1, Or.inr ⟨_, _, by rw [pE0_kw c_16 c_82, if_pos (show pw t p = kwTrust from c0_92)], q1⟩⟩
              · exact absurd c_162 (by decide)
            · exact absurd c_144 (by decide)
        · rw [hx.kk hp1] at hM c0_92
          rw [su_su] at hM
          refine ww_if_eq 102 dX3_factor_95 (by decide) (inI.mk (by decide) (by decide)) (fun c_95 => ?_) (fun c_95 => ?_)
          · refine ww_aload_n 1 dX3_factor_102 rfl ?_
            obtain ⟨a_103, tx_103, hz_103, hS_103⟩ := (hL.fr hM) 134 kwRank (by decide)
            refine ww_ldcS hz_103 dX3_factor_103 ?_
            refine cr_si hM (cr_V (ct_X3_takeWord hG hM hT (sk t p) su_s (by omega) hk.2.1 (by rw [su_off (by decide)]; exact hg) hS_103 (fun e => hM.1.1 e.symm)) sv_X3_130 rfl dX3_factor_105 hM.obj rfl rfl rfl rfl ⟨by decide, by decide⟩ (Nat.le_of_ble_eq_true rfl) (Nat.le_of_ble_eq_true rfl) (Nat.le_of_ble_eq_true rfl)) (fun r_105 σ_105 hh hM hp_105 => ?_)
            rcases hp_105 with ⟨c0_105, rfl, rfl⟩ | ⟨c0_105, rfl, rfl⟩
            · rw [hx.kk hp1] at hM c0_105
              rw [su_su] at hM
              refine ww_if_eq 115 dX3_factor_108 (by decide) (inI.mk (by decide) (by decide)) (fun c_108 => ?_) (fun c_108 => ?_)
              · exact absurd c_108 (by decide)
              · refine ww_iconst dX3_factor_111 ?_
                refine ww_goto 142 dX3_factor_112 (by decide) ?_
                refine ww_istore_n [(2, _), (1, _), (0, _)] dX3_factor_142 (by decide) rfl ?_
                refine ww_iload_n 0 dX3_factor_143 rfl ?_
                refine ww_if_ge 158 dX3_factor_144 (by decide) (inI.mk (by decide) (by decide)) (fun c_144 => ?_) (fun c_144 => ?_)
                · refine ww_iload_n 0 dX3_factor_158 rfl ?_
                  refine ww_istore_n [(3, _), (2, _), (1, _), (0, _)] dX3_factor_159 (by decide) rfl ?_
                  refine ww_aload_n 3 dX3_factor_160 rfl ?_
                  refine ww_iload_n 1 dX3_factor_161 rfl ?_
                  refine ww_if_ge 169 dX3_factor_162 (by decide) (inI.mk (by decide) (by decide)) (fun c_162 => ?_) (fun c_162 => ?_)
                  · refine ww_iconst dX3_factor_169 ?_
                    have hwg := we_gt (show pw t p = kwRank from c0_105)
                    have hww := hx.w1 hk.2.1
                    have hc9 : su σ 4 0 0 (we t (sk t p)) 9 0 5 = c0 := by rw [su_off (by decide)]; exact hc
                    refine cr_sv hM (cr_V (ct_X3_emit hG hM (by rw [su_off (by decide)]; exact hg) _ (inI.mk (by decide) (by decide)) (by omega) (by omega)) sv_X3_143 rfl dX3_factor_170 hM.obj rfl rfl rfl rfl ⟨by decide, by decide⟩ (Nat.le_of_ble_eq_true rfl) (Nat.le_of_ble_eq_true rfl) (Nat.le_of_ble_eq_true rfl)) (fun σ_170 hh hM hp_170 => ?_)
                    have h5e : σ_170 5 0 0 = 0 := by rw [← hp_170, su_off (by decide), su_off (by decide), su_off (by decide)]; exact hg
                    have hc9e : σ_170 9 0 5 = c0 + 1 := by rw [← hp_170, su_s, hc9]
                    refine ww_aload_n 3 dX3_factor_173 rfl ?_
                    refine ww_iload_n 0 dX3_factor_174 rfl ?_
                    refine cr_sv hM (cr_V (ct_X3_emit hG hM h5e _ (inI.mk (by decide) (by decide)) (by omega) (by omega)) sv_X3_143 rfl dX3_factor_175 hM.obj rfl rfl rfl rfl ⟨by decide, by decide⟩ (Nat.le_of_ble_eq_true rfl) (Nat.le_of_ble_eq_true rfl) (Nat.le_of_ble_eq_true rfl)) (fun σ_175 hh hM hp_175 => ?_)
                    obtain ⟨q1, q2⟩ := emit2 (σ := σ) (d := 2) (n := n) (p := p) hp_170 hp_175 (su_off (by decide)) hc hc0 (by rw [su_off (by decide)]; exact hg) su_s (by rw [su_off (by decide)]; exact hd) (su_off (by decide)) (by omega) hww.2.1 Cd_1
                    exact ww_vret hQ dX3_factor_178 rfl (Nat.le_of_ble_eq_true rfl) (Nat.le_of_ble_eq_true rfl) ⟨rfl, _, hM, fun j a b c d e f => by rw [q2 j d, su_off a], q1.2.2.2.2.1, Or.inr ⟨_, _, by rw [pE0_kw c_16 c_82, if_neg (show ¬ pw t p = kwTrust from c0_92), if_pos (show pw t p = kwRank from c0_105)], q1⟩⟩
                  · exact absurd c_162 (by decide)
                · exact absurd c_144 (by decide)
            · rw [hx.kk hp1] at hM c0_105
              rw [su_su] at hM
              refine ww_if_eq 115 dX3_factor_108 (by decide) (inI.mk (by decide) (by decide)) (fun c_108 => ?_) (fun c_108 => ?_)
              · refine ww_aload_n 1 dX3_factor_115 rfl ?_
                obtain ⟨a_116, tx_116, hz_116, hS_116⟩ := (hL.fr hM) 136 kwOffers (by decide)
                refine ww_ldcS hz_116 dX3_factor_116 ?_
                refine cr_si hM (cr_V (ct_X3_takeWord hG hM hT (sk t p) su_s (by omega) hk.2.1 (by rw [su_off (by decide)]; exact hg) hS_116 (fun e => hM.1.1 e.symm)) sv_X3_130 rfl dX3_factor_118 hM.obj rfl rfl rfl rfl ⟨by decide, by decide⟩ (Nat.le_of_ble_eq_true rfl) (Nat.le_of_ble_eq_true rfl) (Nat.le_of_ble_eq_true rfl)) (fun r_118 σ_118 hh hM hp_118 => ?_)
                rcases hp_118 with ⟨c0_118, rfl, rfl⟩ | ⟨c0_118, rfl, rfl⟩
                · rw [hx.kk hp1] at hM c0_118
                  rw [su_su] at hM
                  refine ww_if_eq 128 dX3_factor_121 (by decide) (inI.mk (by decide) (by decide)) (fun c_121 => ?_) (fun c_121 => ?_)
                  · exact absurd c_121 (by decide)
                  · refine ww_iconst dX3_factor_124 ?_
                    refine ww_goto 142 dX3_factor_125 (by decide) ?_
                    refine ww_istore_n [(2, _), (1, _), (0, _)] dX3_factor_142 (by decide) rfl ?_
                    refine ww_iload_n 0 dX3_factor_143 rfl ?_
                    refine ww_if_ge 158 dX3_factor_144 (by decide) (inI.mk (by decide) (by decide)) (fun c_144 => ?_) (fun c_144 => ?_)
                    · refine ww_iload_n 0 dX3_factor_158 rfl ?_
                      refine ww_istore_n [(3, _), (2, _), (1, _), (0, _)] dX3_factor_159 (by decide) rfl ?_
                      refine ww_aload_n 3 dX3_factor_160 rfl ?_
                      refine ww_iload_n 1 dX3_factor_161 rfl ?_
                      refine ww_if_ge 169 dX3_factor_162 (by decide) (inI.mk (by decide) (by decide)) (fun c_162 => ?_) (fun c_162 => ?_)
                      · refine ww_iconst dX3_factor_169 ?_
                        have hwg := we_gt (show pw t p = kwOffers from c0_118)
                        have hww := hx.w1 hk.2.1
                        have hc9 : su σ 4 0 0 (we t (sk t p)) 9 0 5 = c0 := by rw [su_off (by decide)]; exact hc
                        refine cr_sv hM (cr_V (ct_X3_emit hG hM (by rw [su_off (by decide)]; exact hg) _ (inI.mk (by decide) (by decide)) (by omega) (by omega)) sv_X3_143 rfl dX3_factor_170 hM.obj rfl rfl rfl rfl ⟨by decide, by decide⟩ (Nat.le_of_ble_eq_true rfl) (Nat.le_of_ble_eq_true rfl) (Nat.le_of_ble_eq_true rfl)) (fun σ_170 hh hM hp_170 => ?_)
                        have h5e : σ_170 5 0 0 = 0 := by rw [← hp_170, su_off (by decide), su_off (by decide), su_off (by decide)]; exact hg
                        have hc9e : σ_170 9 0 5 = c0 + 1 := by rw [← hp_170, su_s, hc9]
                        refine ww_aload_n 3 dX3_factor_173 rfl ?_
                        refine ww_iload_n 0 dX3_factor_174 rfl ?_
                        refine cr_sv hM (cr_V (ct_X3_emit hG hM h5e _ (inI.mk (by decide) (by decide)) (by omega) (by omega)) sv_X3_143 rfl dX3_factor_175 hM.obj rfl rfl rfl rfl ⟨by decide, by decide⟩ (Nat.le_of_ble_eq_true rfl) (Nat.le_of_ble_eq_true rfl) (Nat.le_of_ble_eq_true rfl)) (fun σ_175 hh hM hp_175 => ?_)
                        obtain ⟨q1, q2⟩ := emit2 (σ := σ) (d := 2) (n := n) (p := p) hp_170 hp_175 (su_off (by decide)) hc hc0 (by rw [su_off (by decide)]; exact hg) su_s (by rw [su_off (by decide)]; exact hd) (su_off (by decide)) (by omega) hww.2.1 Cd_2
                        exact ww_vret hQ dX3_factor_178 rfl (Nat.le_of_ble_eq_true rfl) (Nat.le_of_ble_eq_true rfl) ⟨rfl, _, hM, fun j a b c d e f => by rw [q2 j d, su_off a], q1.2.2.2.2.1, Or.inr ⟨_, _, by rw [pE0_kw c_16 c_82, if_neg (show ¬ pw t p = kwTrust from c0_92), if_neg (show ¬ pw t p = kwRank from c0_105), if_pos (show pw t p = kwOffers from c0_118)], q1⟩⟩
                      · exact absurd c_162 (by decide)
                    · exact absurd c_144 (by decide)
                · rw [hx.kk hp1] at hM c0_118
                  rw [su_su] at hM
                  refine ww_if_eq 128 dX3_factor_121 (by decide) (inI.mk (by decide) (by decide)) (fun c_121 => ?_) (fun c_121 => ?_)
                  · refine ww_aload_n 1 dX3_factor_128 rfl ?_
                    obtain ⟨a_129, tx_129, hz_129, hS_129⟩ := (hL.fr hM) 138 kwFriends (by decide)
                    refine ww_ldcS hz_129 dX3_factor_129 ?_
                    refine cr_si hM (cr_V (ct_X3_takeWord hG hM hT (sk t p) su_s (by omega) hk.2.1 (by rw [su_off (by decide)]; exact hg) hS_129 (fun e => hM.1.1 e.symm)) sv_X3_130 rfl dX3_factor_131 hM.obj rfl rfl rfl rfl ⟨by decide, by decide⟩ (Nat.le_of_ble_eq_true rfl) (Nat.le_of_ble_eq_true rfl) (Nat.le_of_ble_eq_true rfl)) (fun r_131 σ_131 hh hM hp_131 => ?_)
                    rcases hp_131 with ⟨c0_131, rfl, rfl⟩ | ⟨c0_131, rfl, rfl⟩
                    · rw [hx.kk hp1] at hM c0_131
                      rw [su_su] at hM
                      refine ww_if_eq 141 dX3_factor_134 (by decide) (inI.mk (by decide) (by decide)) (fun c_134 => ?_) (fun c_134 => ?_)
                      · exact absurd c_134 (by decide)
                      · refine ww_iconst dX3_factor_137 ?_
                        refine ww_goto 142 dX3_factor_138 (by decide) ?_
                        refine ww_istore_n [(2, _), (1, _), (0, _)] dX3_factor_142 (by decide) rfl ?_
                        refine ww_iload_n 0 dX3_factor_143 rfl ?_
                        refine ww_if_ge 158 dX3_factor_144 (by decide) (inI.mk (by decide) (by decide)) (fun c_144 => ?_) (fun c_144 => ?_)
                        · refine ww_iload_n 0 dX3_factor_158 rfl ?_
                          refine ww_istore_n [(3, _), (2, _), (1, _), (0, _)] dX3_factor_159 (by decide) rfl ?_
                          refine ww_aload_n 3 dX3_factor_160 rfl ?_
                          refine ww_iload_n 1 dX3_factor_161 rfl ?_
                          refine ww_if_ge 169 dX3_factor_162 (by decide) (inI.mk (by decide) (by decide)) (fun c_162 => ?_) (fun c_162 => ?_)
                          · refine ww_iconst dX3_factor_169 ?_
                            have hwg := we_gt (show pw t p = kwFriends from c0_131)
                            have hww := hx.w1 hk.2.1
                            have hc9 : su σ 4 0 0 (we t (sk t p)) 9 0 5 = c0 := by rw [su_off (by decide)]; exact hc
                            refine cr_sv hM (cr_V (ct_X3_emit hG hM (by rw [su_off (by decide)]; exact hg) _ (inI.mk (by decide) (by decide)) (by omega) (by omega)) sv_X3_143 rfl dX3_factor_170 hM.obj rfl rfl rfl rfl ⟨by decide, by decide⟩ (Nat.le_of_ble_eq_true rfl) (Nat.le_of_ble_eq_true rfl) (Nat.le_of_ble_eq_true rfl)) (fun σ_170 hh hM hp_170 => ?_)
                            have h5e : σ_170 5 0 0 = 0 := by rw [← hp_170, su_off (by decide), su_off (by decide), su_off (by decide)]; exact hg
                            have hc9e : σ_170 9 0 5 = c0 + 1 := by rw [← hp_170, su_s, hc9]
                            refine ww_aload_n 3 dX3_factor_173 rfl ?_
                            refine ww_iload_n 0 dX3_factor_174 rfl ?_
                            refine cr_sv hM (cr_V (ct_X3_emit hG hM h5e _ (inI.mk (by decide) (by decide)) (by omega) (by omega)) sv_X3_143 rfl dX3_factor_175 hM.obj rfl rfl rfl rfl ⟨by decide, by decide⟩ (Nat.le_of_ble_eq_true rfl) (Nat.le_of_ble_eq_true rfl) (Nat.le_of_ble_eq_true rfl)) (fun σ_175 hh hM hp_175 => ?_)
                            obtain ⟨q1, q2⟩ := emit2 (σ := σ) (d := 2) (n := n) (p := p) hp_170 hp_175 (su_off (by decide)) hc hc0 (by rw [su_off (by decide)]; exact hg) su_s (by rw [su_off (by decide)]; exact hd) (su_off (by decide)) (by omega) hww.2.1 Cd_3
                            exact ww_vret hQ dX3_factor_178 rfl (Nat.le_of_ble_eq_true rfl) (Nat.le_of_ble_eq_true rfl) ⟨rfl, _, hM, fun j a b c d e f => by rw [q2 j d, su_off a], q1.2.2.2.2.1, Or.inr ⟨_, _, by rw [pE0_kw c_16 c_82, if_neg (show ¬ pw t p = kwTrust from c0_92), if_neg (show ¬ pw t p = kwRank from c0_105), if_neg (show ¬ pw t p = kwOffers from c0_118), if_pos (show pw t p = kwFriends from c0_131)], q1⟩⟩
                          · exact absurd c_162 (by decide)
                        · exact absurd c_144 (by decide)
                    · rw [hx.kk hp1] at hM c0_131
                      rw [su_su] at hM
                      refine ww_if_eq 141 dX3_factor_134 (by decide) (inI.mk (by decide) (by decide)) (fun c_134 => ?_) (fun c_134 => ?_)
                      · refine ww_iconst dX3_factor_141 ?_
                        refine ww_istore_n [(2, _), (1, _), (0, _)] dX3_factor_142 (by decide) rfl ?_
                        refine ww_iload_n 0 dX3_factor_143 rfl ?_
                        refine ww_if_ge 158 dX3_factor_144 (by decide) (inI.mk (by decide) (by decide)) (fun c_144 => ?_) (fun c_144 => ?_)
                        · exact absurd c_144 (by decide)
                        · refine ww_aload_n 2 dX3_factor_147 rfl ?_
                          refine ww_iconst dX3_factor_148 ?_
                          refine ww_sipush dX3_factor_149 (by decide) ?_
                          refine cr_si hM (cr_V (ct_X3_number hG hM hT (sk t p) su_s (by omega) hk.2.1 (by rw [su_off (by decide)]; exact hg) 0 9999 (inI.mk (by decide) (by decide)) (inI.mk (by decide) (by decide))) sv_X3_140 rfl dX3_factor_152 hM.obj rfl rfl rfl rfl ⟨by decide, by decide⟩ (Nat.le_of_ble_eq_true rfl) (Nat.le_of_ble_eq_true rfl) (Nat.le_of_ble_eq_true rfl)) (fun r_152 σ_152 hh hM hp_152 => ?_)
                          obtain ⟨hk_152, hr_152, hc_152⟩ := hp_152
                          rw [pnum_kk hx hp1] at hc_152
                          have hf2 : FE σ σ_152 := fun j a b c d e f => by rw [hk_152 j a b c e, su_off a]
                          have h13n : σ_152 13 0 0 = 2 := by rw [hk_152 13 (by decide) (by decide) (by decide) (by decide), su_off (by decide)]; exact hd
                          have h9n : σ_152 9 = σ 9 := by rw [hk_152 9 (by decide) (by decide) (by decide) (by decide), su_off (by decide)]
                          rcases hc_152 with ⟨c, o, hpe, hce, h5, h6⟩ | ⟨v, e3, hpn, h5n, h4n, rfl, f1, f2, f3, f4, f6⟩
                          · refine ww_goto 159 dX3_factor_155 (by decide) ?_
                            refine ww_istore_n [(3, _), (2, _), (1, _), (0, _)] dX3_factor_159 (by decide) rfl ?_
                            refine ww_aload_n 3 dX3_factor_160 rfl ?_
                            refine ww_iload_n 1 dX3_factor_161 rfl ?_
                            refine ww_if_ge 169 dX3_factor_162 (by decide) (inI.mk (by decide) (by decide)) (fun c_162 => ?_) (fun c_162 => ?_)
                            · exact absurd c_162 (by decide)
                            · refine ww_iconst dX3_factor_165 ?_
                              refine ww_goto 170 dX3_factor_166 (by decide) ?_
                              refine cr_pv (cr_V (ct_X3_emitB hG hM (fun e => hce (h5.symm.trans e)) _) sv_X3_143 rfl dX3_factor_170 hM.obj rfl rfl rfl rfl ⟨by decide, by decide⟩ (Nat.le_of_ble_eq_true rfl) (Nat.le_of_ble_eq_true rfl) (Nat.le_of_ble_eq_true rfl)) ?_
                              refine ww_aload_n 3 dX3_factor_173 rfl ?_
                              refine ww_iload_n 0 dX3_factor_174 rfl ?_
                              refine cr_pv (cr_V (ct_X3_emitB hG hM (fun e => hce (h5.symm.trans e)) _) sv_X3_143 rfl dX3_factor_175 hM.obj rfl rfl rfl rfl ⟨by decide, by decide⟩ (Nat.le_of_ble_eq_true rfl) (Nat.le_of_ble_eq_true rfl) (Nat.le_of_ble_eq_true rfl)) ?_
                              exact ww_vret hQ dX3_factor_178 rfl (Nat.le_of_ble_eq_true rfl) (Nat.le_of_ble_eq_true rfl) ⟨rfl, _, hM, hf2, h13n, Or.inl ⟨c, o, by rw [pE0_kw c_16 c_82, if_neg (show ¬ pw t p = kwTrust from c0_92), if_neg (show ¬ pw t p = kwRank from c0_105), if_neg (show ¬ pw t p = kwOffers from c0_118), if_neg (show ¬ pw t p = kwFriends from c0_131)]; unfold pnum at hpe; rw [if_neg c_82] at hpe; cases hpe; rfl, hce, h5, h6⟩⟩
                          · exact absurd hpn (by unfold pnum; rw [if_neg c_82]; intro e; cases e)
                      · exact absurd c_134 (by decide)
                  · exact absurd c_121 (by decide)
              · exact absurd c_108 (by decide)
          · exact absurd c_95 (by decide)
      · refine ww_iconst dX3_factor_85 ?_
        refine ww_goto 142 dX3_factor_86 (by decide) ?_
        refine ww_istore_n [(2, _), (1, _), (0, _)] dX3_factor_142 (by decide) rfl ?_
        refine ww_iload_n 0 dX3_factor_143 rfl ?_
        refine ww_if_ge 158 dX3_factor_144 (by decide) (inI.mk (by decide) (by decide)) (fun c_144 => ?_) (fun c_144 => ?_)
        · exact absurd c_144 (by decide)
        · refine ww_aload_n 2 dX3_factor_147 rfl ?_
          refine ww_iconst dX3_factor_148 ?_
          refine ww_sipush dX3_factor_149 (by decide) ?_
          refine cr_si hM (cr_V (ct_X3_number hG hM hT (sk t p) su_s (by omega) hk.2.1 (by rw [su_off (by decide)]; exact hg) 0 9999 (inI.mk (by decide) (by decide)) (inI.mk (by decide) (by decide))) sv_X3_140 rfl dX3_factor_152 hM.obj rfl rfl rfl rfl ⟨by decide, by decide⟩ (Nat.le_of_ble_eq_true rfl) (Nat.le_of_ble_eq_true rfl) (Nat.le_of_ble_eq_true rfl)) (fun r_152 σ_152 hh hM hp_152 => ?_)
          obtain ⟨hk_152, hr_152, hc_152⟩ := hp_152
          rw [pnum_kk hx hp1] at hc_152
          have hf2 : FE σ σ_152 := fun j a b c d e f => by rw [hk_152 j a b c e, su_off a]
          have h13n : σ_152 13 0 0 = 2 := by rw [hk_152 13 (by decide) (by decide) (by decide) (by decide), su_off (by decide)]; exact hd
          have h9n : σ_152 9 = σ 9 := by rw [hk_152 9 (by decide) (by decide) (by decide) (by decide), su_off (by decide)]
          rcases hc_152 with ⟨c, o, hpe, hce, h5, h6⟩ | ⟨v, e3, hpn, h5n, h4n, rfl, f1, f2, f3, f4, f6⟩
          · refine ww_goto 159 dX3_factor_155 (by decide) ?_
            refine ww_istore_n [(3, _), (2, _), (1, _), (0, _)] dX3_factor_159 (by decide) rfl ?_
            refine ww_aload_n 3 dX3_factor_160 rfl ?_
            refine ww_iload_n 1 dX3_factor_161 rfl ?_
            refine ww_if_ge 169 dX3_factor_162 (by decide) (inI.mk (by decide) (by decide)) (fun c_162 => ?_) (fun c_162 => ?_)
            · exact absurd c_162 (by decide)
            · refine ww_iconst dX3_factor_165 ?_
              refine ww_goto 170 dX3_factor_166 (by decide) ?_
              refine cr_pv (cr_V (ct_X3_emitB hG hM (fun e => hce (h5.symm.trans e)) _) sv_X3_143 rfl dX3_factor_170 hM.obj rfl rfl rfl rfl ⟨by decide, by decide⟩ (Nat.le_of_ble_eq_true rfl) (Nat.le_of_ble_eq_true rfl) (Nat.le_of_ble_eq_true rfl)) ?_
              refine ww_aload_n 3 dX3_factor_173 rfl ?_
              refine ww_iload_n 0 dX3_factor_174 rfl ?_
              refine cr_pv (cr_V (ct_X3_emitB hG hM (fun e => hce (h5.symm.trans e)) _) sv_X3_143 rfl dX3_factor_175 hM.obj rfl rfl rfl rfl ⟨by decide, by decide⟩ (Nat.le_of_ble_eq_true rfl) (Nat.le_of_ble_eq_true rfl) (Nat.le_of_ble_eq_true rfl)) ?_
              exact ww_vret hQ dX3_factor_178 rfl (Nat.le_of_ble_eq_true rfl) (Nat.le_of_ble_eq_true rfl) ⟨rfl, _, hM, hf2, h13n, Or.inl ⟨c, o, by rw [pE0_num c_16 c_82, hpe], hce, h5, h6⟩⟩
          · have hc9 : σ_152 9 0 5 = c0 := by rw [h9n]; exact hc
            refine ww_goto 159 dX3_factor_155 (by decide) ?_
            refine ww_istore_n [(3, _), (2, _), (1, _), (0, _)] dX3_factor_159 (by decide) rfl ?_
            refine ww_aload_n 3 dX3_factor_160 rfl ?_
            refine ww_iload_n 1 dX3_factor_161 rfl ?_
            refine ww_if_ge 169 dX3_factor_162 (by decide) (inI.mk (by decide) (by decide)) (fun c_162 => ?_) (fun c_162 => ?_)
            · exact absurd c_162 (by decide)
            · refine ww_iconst dX3_factor_165 ?_
              refine ww_goto 170 dX3_factor_166 (by decide) ?_
              refine cr_sv hM (cr_V (ct_X3_emit hG hM h5n _ (inI.mk (by decide) (by decide)) (by omega) (by omega)) sv_X3_143 rfl dX3_factor_170 hM.obj rfl rfl rfl rfl ⟨by decide, by decide⟩ (Nat.le_of_ble_eq_true rfl) (Nat.le_of_ble_eq_true rfl) (Nat.le_of_ble_eq_true rfl)) (fun σ_170 hh hM hp_170 => ?_)
              have h5e : σ_170 5 0 0 = 0 := by rw [← hp_170, su_off (by decide), su_off (by decide)]; exact h5n
              have hc9e : σ_170 9 0 5 = c0 + 1 := by rw [← hp_170, su_s, hc9]
              refine ww_aload_n 3 dX3_factor_173 rfl ?_
              refine ww_iload_n 0 dX3_factor_174 rfl ?_
              refine cr_sv hM (cr_V (ct_X3_emit hG hM h5e _ (inI.mk (by omega) (by omega)) (by omega) (by omega)) sv_X3_143 rfl dX3_factor_175 hM.obj rfl rfl rfl rfl ⟨by decide, by decide⟩ (Nat.le_of_ble_eq_true rfl) (Nat.le_of_ble_eq_true rfl) (Nat.le_of_ble_eq_true rfl)) (fun σ_175 hh hM hp_175 => ?_)
              obtain ⟨q1, q2⟩ := emit2 (n := n) (p := p) hp_170 hp_175 h9n hc hc0 h5n h4n h13n (by rw [f6, su_off (by decide)]) (by have := pnum_gt hx hp0 hp1 hpn; omega) (by omega) (Cd_n f3 f4)
              exact ww_vret hQ dX3_factor_178 rfl (Nat.le_of_ble_eq_true rfl) (Nat.le_of_ble_eq_true rfl) ⟨rfl, _, hM, fun j a b c d e f => by rw [q2 j d]; exact hf2 j a b c d e f, q1.2.2.2.2.1, Or.inr ⟨_, _, by rw [pE0_num c_16 c_82, hpn], q1⟩⟩
    · have hsn : sk t p ≠ n := fun e => by rw [e, hx.2.2.1 n (Int.le_refl _)] at c_16; cases c_16
      refine ww_aload_n 1 dX3_factor_19 rfl ?_
      refine ww_getf gf_X3_118 rfl dX3_factor_20 hM.obj rfl ?_
      rw [su_off (by decide), hd]
      refine ww_iconst dX3_factor_23 ?_
      refine ww_icmp_ne 37 dX3_factor_24 (by decide) (inI.mk (by decide) (by decide)) (inI.mk (by decide) (by decide)) (fun c_24 => ?_) (fun c_24 => ?_)
      · refine ww_aload_n 1 dX3_factor_37 rfl ?_
        refine ww_dup dX3_factor_38 rfl ?_
        refine ww_getf gf_X3_68 rfl dX3_factor_39 hM.obj rfl ?_
        rw [su_s]
        refine ww_iconst dX3_factor_42 ?_
        refine ww_iadd dX3_factor_43 ?_
        refine mw_put pf_X3_68 rfl dX3_factor_44 hM rfl (inI.mk (by omega) (by omega)) (fun hh hM => ?_)
        rw [su_su] at hM
        refine ww_aload_n 1 dX3_factor_47 rfl ?_
        refine ww_dup dX3_factor_48 rfl ?_
        refine ww_getf gf_X3_118 rfl dX3_factor_49 hM.obj rfl ?_
        rw [su_off (by decide), hd]
        refine ww_iconst dX3_factor_52 ?_
        refine ww_iadd dX3_factor_53 ?_
        refine mw_put pf_X3_118 rfl dX3_factor_54 hM rfl (inI.mk (by decide) (by decide)) (fun hh hM => ?_)
        refine ww_aload_n 1 dX3_factor_57 rfl ?_
        refine cr_sv hM (cr_V (ct_X3_sum3 hG hM (TX.of (σ' := su (su σ 4 0 0 (sk t p + 1)) 13 0 0 (2 + 1)) hT (by rw [su_off (by decide), su_off (by decide), su_off (by decide)]) (by rw [su_off (by decide), su_off (by decide), su_off (by decide)])) (sk t p + 1) (by rw [su_off (by decide), su_s]) (by omega) (by omega) (by rw [su_off (by decide), su_off (by decide)]; exact hg) (hL.fr hM) x g (by omega) c0 (by rw [su_off (by decide), su_off (by decide)]; exact hc) hc0 (by omega) su_s) sv_X3_121 rfl dX3_factor_58 hM.obj rfl rfl rfl rfl ⟨by decide, by decide⟩ (Nat.le_of_ble_eq_true rfl) (Nat.le_of_ble_eq_true rfl) (Nat.le_of_ble_eq_true rfl)) (fun σ_58 hh hM hp_58 => ?_)
        obtain ⟨hfe_58, h13_58, hc_58⟩ := hp_58
        rcases hc_58 with ⟨c, o, hpe, hce, h5, h6⟩ | ⟨y, p1, hpy, hy⟩
        · refine ww_aload_n 1 dX3_factor_61 rfl ?_
          refine ww_bipush dX3_factor_62 (by decide) ?_
          refine cr_pv (cr_V (ct_X3_expectB hG hM (fun e => hce (h5.symm.trans e)) _) sv_X3_124 rfl dX3_factor_64 hM.obj rfl rfl rfl rfl ⟨by decide, by decide⟩ (Nat.le_of_ble_eq_true rfl) (Nat.le_of_ble_eq_true rfl) (Nat.le_of_ble_eq_true rfl)) ?_
          refine ww_aload_n 1 dX3_factor_67 rfl ?_
          refine ww_dup dX3_factor_68 rfl ?_
          refine ww_getf gf_X3_118 rfl dX3_factor_69 hM.obj rfl ?_
          rw [h13_58]
          refine ww_iconst dX3_factor_72 ?_
          refine ww_isub dX3_factor_73 ?_
          refine mw_put pf_X3_118 rfl dX3_factor_74 hM rfl (inI.mk (by decide) (by decide)) (fun hh hM => ?_)
          exact ww_vret hQ dX3_factor_77 rfl (Nat.le_of_ble_eq_true rfl) (Nat.le_of_ble_eq_true rfl) ⟨rfl, _, hM, fun j a b c d e f => by rw [su_off f, hfe_58 j a b c d e f, su_off f, su_off a], su_s, Or.inl ⟨c, o, by rw [pE0_par c_16 (by decide)]; rw [show (2 : Int) + 1 = 3 from rfl, hpe], hce, by rw [su_off (by decide)]; exact h5, by rw [su_off (by decide)]; exact h6⟩⟩
        · have hT3 := hT.of (σ' := σ_58) (by rw [hfe_58 1 (by decide) (by decide) (by decide) (by decide) (by decide) (by decide), su_off (by decide), su_off (by decide), su_off (by decide)]) (by rw [hfe_58 3 (by decide) (by decide) (by decide) (by decide) (by decide) (by decide), su_off (by decide), su_off (by decide), su_off (by decide)])
          have hyp := hy.2.2.1
          have hyn := hy.2.2.2.1
          have hk1 := hx.k1 hyn
          refine ww_aload_n 1 dX3_factor_61 rfl ?_
          refine ww_bipush dX3_factor_62 (by decide) ?_
          refine cr_sv hM (cr_V (ct_X3_expect hG hM hT3 p1 hy.2.1 (by omega) hyn hy.1 41 (inI.mk (by decide) (by decide))) sv_X3_124 rfl dX3_factor_64 hM.obj rfl rfl rfl rfl ⟨by decide, by decide⟩ (Nat.le_of_ble_eq_true rfl) (Nat.le_of_ble_eq_true rfl) (Nat.le_of_ble_eq_true rfl)) (fun σ_64 hh hM hp_64 => ?_)
          rcases hp_64 with ⟨c41, rfl⟩ | ⟨c41, rfl⟩
          · have hsn1 : sk t p1 ≠ n := fun e => by rw [e, hx.2.2.1 n (Int.le_refl _)] at c41; cases c41
            refine ww_aload_n 1 dX3_factor_67 rfl ?_
            refine ww_dup dX3_factor_68 rfl ?_
            refine ww_getf gf_X3_118 rfl dX3_factor_69 hM.obj rfl ?_
            rw [su_off (by decide), h13_58]
            refine ww_iconst dX3_factor_72 ?_
            refine ww_isub dX3_factor_73 ?_
            refine mw_put pf_X3_118 rfl dX3_factor_74 hM rfl (inI.mk (by decide) (by decide)) (fun hh hM => ?_)
            exact ww_vret hQ dX3_factor_77 rfl (Nat.le_of_ble_eq_true rfl) (Nat.le_of_ble_eq_true rfl) ⟨rfl, _, hM, fun j a b c d e f => by rw [su_off f, su_off a, hfe_58 j a b c d e f, su_off f, su_off a], su_s, Or.inr ⟨y, sk t p1 + 1, by rw [pE0_par c_16 (by decide)]; rw [show (2 : Int) + 1 = 3 from rfl, hpy]; simp only; rw [if_pos c41], hy.of (by rw [su_off (by decide), su_off (by decide)]) (by rw [su_off (by decide), su_off (by decide)]) (by rw [su_off (by decide), su_off (by decide)]) (by rw [su_off (by decide), su_off (by decide)]) (by rw [su_off (by decide), su_off (by decide)]; exact hy.1) (by rw [su_off (by decide), su_s]) (by omega) (by omega) (by omega) su_s⟩⟩
          · refine ww_aload_n 1 dX3_factor_67 rfl ?_
            refine ww_dup dX3_factor_68 rfl ?_
            refine ww_getf gf_X3_118 rfl dX3_factor_69 hM.obj rfl ?_
            rw [su_off (by decide), su_off (by decide), su_off (by decide), h13_58]
            refine ww_iconst dX3_factor_72 ?_
            refine ww_isub dX3_factor_73 ?_
            refine mw_put pf_X3_118 rfl dX3_factor_74 hM rfl (inI.mk (by decide) (by decide)) (fun hh hM => ?_)
            exact ww_vret hQ dX3_factor_77 rfl (Nat.le_of_ble_eq_true rfl) (Nat.le_of_ble_eq_true rfl) ⟨rfl, _, hM, fun j a b c d e f => by rw [su_off f, su_off c, su_off b, su_off a, hfe_58 j a b c d e f, su_off f, su_off a], su_s, Or.inl ⟨-2, sk t p1, by rw [pE0_par c_16 (by decide)]; rw [show (2 : Int) + 1 = 3 from rfl, hpy]; simp only; rw [if_neg c41], by decide, by rw [su_off (by decide), su_off (by decide), su_s], by rw [su_off (by decide), su_s]⟩⟩
      · exact absurd c_24 (by decide)
  · exact absurd hg c_4

set_option maxHeartbeats 4000000 in
theorem ct_X3_term2 {G : GT} {h0 h : AH} {m : Nat} {A : Nat → Nat} {B : Nat → Int → Nat} {D : Int → Int} {σ : MS} (hG : GOK G) (hM : MWF G h0 h m A B D σ) {t : Int → Int} {n : Int} (hT : TX σ t n) (p : Int) (hp : σ 4 0 0 = p) (hp0 : 0 ≤ p) (hp1 : p ≤ n) (hg : σ 5 0 0 = 0) (hL : LitM G h) (x : List Int × EF) (f : Nat) (hf : 3 * (n - p) + 2 ≤ f) (c0 : Int) (hc : σ 9 0 5 = c0) (hc0 : 0 ≤ c0) (hcp : 2 * c0 ≤ 3 * p) (hd : σ 13 0 0 = 2) : CSv G (MX3_term 12 260 0 0) h m A B D [.ref m] (fun σ' => FE σ σ' ∧ σ' 13 0 0 = 2 ∧ PEr (pE f 1 t 2 p x) σ σ' c0 2 p n) := by
  refine CT.of rfl hG (Nat.le_of_ble_eq_true rfl) rfl (fun E hQ => ?_)
  have hM := hM.1.f
  have hx := hT.1
  have hn8 := hx.2.1
  obtain ⟨g, rfl⟩ : ∃ g, f = g + 1 := ⟨f - 1, by omega⟩
  refine ww_aload_n 0 dX3_term_0 rfl ?_
  refine cr_sv hM (cr_V (ct_X3_factor2 hG hM hT p hp hp0 hp1 hg hL x g (by omega) c0 hc hc0 hcp hd) sv_X3_146 rfl dX3_term_1 hM.obj rfl rfl rfl rfl ⟨by decide, by decide⟩ (Nat.le_of_ble_eq_true rfl) (Nat.le_of_ble_eq_true rfl) (Nat.le_of_ble_eq_true rfl)) (fun σ_1 hh hM hp_1 => ?_)
  obtain ⟨hfe_1, h13_1, hc_1⟩ := hp_1
  rcases hc_1 with ⟨c, o, hpe, hce, h5, h6⟩ | ⟨y, p1, hpy, hy⟩
  · have hpr : pE (g + 1) 1 t 2 p x = .error (c, o) := by rw [pE1, hpe]
    have hfr := hfe_1
    have h13r := h13_1
    refine ww_aload_n 0 dX3_term_4 rfl ?_
    refine cr_pi (cr_V (ct_X3_isGood hG hM) sv_X3_85 rfl dX3_term_5 hM.obj rfl rfl rfl rfl ⟨by decide, by decide⟩ (Nat.le_of_ble_eq_true rfl) (Nat.le_of_ble_eq_true rfl) (Nat.le_of_ble_eq_true rfl)) ?_
    refine ww_ifb_eq 74 dX3_term_8 (by decide) (fun c_8 => ?_) (fun c_8 => ?_)
    · exact ww_vret hQ dX3_term_74 rfl (Nat.le_of_ble_eq_true rfl) (Nat.le_of_ble_eq_true rfl) ⟨rfl, _, hM, hfr, h13r, Or.inl ⟨c, o, hpr, hce, h5, h6⟩⟩
    · exact absurd (h5.symm.trans c_8) hce
  · have hpt : pE (g + 1) 1 t 2 p x = pE g 2 t 2 p1 y := by rw [pE1, hpy]
    have loop_4 : ∀ (e : Nat) (u : Nat) (z : List Int × EF) (q : Int) (τ : MS) (hx1 : AH), (MWF G h hx1 m A B D τ) → (FE σ τ) → (ExO σ τ c0 2 p n z q) → (pE (g + 1) 1 t 2 p x = pE u 2 t 2 q z) → (3 * (n - q) + 2 ≤ u) → (n - q < e) → WW G E (MX3_term 12 260 0 0) hx1 0 0 4 [(0, .ref m)] [] := by
      intro e
      induction e with
      | zero => intro u z q τ hx1 hM hfe hy hpt hu he; exact absurd he (by have := hy.2.2.2.1; omega)
      | succ e ie =>
        intro u z q τ hx1 hM hfe hy hpt hu he
        have hq2 := hy.2.2.2.1
        have hq1 := hy.2.2.1
        obtain ⟨v, rfl⟩ : ∃ v, u = v + 1 := ⟨u - 1, by omega⟩
        have hT := hT.of (hfe 1 (by decide) (by decide) (by decide) (by decide) (by decide) (by decide)) (hfe 3 (by decide) (by decide) (by decide) (by decide) (by decide) (by decide))
        have hkq := hx.k1 hq2
        have h13 := hy.2.2.2.2.1
        have h95 := hy.2.2.2.2.2.1
        have h29 := hy.2.2.2.2.2.2.2.2.1
        have hrx := hx.rg (q := sk t q) (by omega)
        refine ww_aload_n 0 dX3_term_4 rfl ?_
        refine cr_pi (cr_V (ct_X3_isGood hG hM) sv_X3_85 rfl dX3_term_5 hM.obj rfl rfl rfl rfl ⟨by decide, by decide⟩ (Nat.le_of_ble_eq_true rfl) (Nat.le_of_ble_eq_true rfl) (Nat.le_of_ble_eq_true rfl)) ?_
        refine ww_ifb_eq 74 dX3_term_8 (by decide) (fun c_8 => ?_) (fun c_8 => ?_)
        · exact absurd hy.1 c_8
        · refine ww_aload_n 0 dX3_term_11 rfl ?_
          refine cr_si hM (cr_V (ct_X3_next hG hM hT q hy.2.1 (by omega) hq2) sv_X3_89 rfl dX3_term_12 hM.obj rfl rfl rfl rfl ⟨by decide, by decide⟩ (Nat.le_of_ble_eq_true rfl) (Nat.le_of_ble_eq_true rfl) (Nat.le_of_ble_eq_true rfl)) (fun r_12 σ_12 hh hM hp_12 => ?_)
          obtain ⟨rfl, rfl⟩ := hp_12
          try rw [su_su] at hM
          refine ww_bipush dX3_term_15 (by decide) ?_
          refine ww_icmp_eq 29 dX3_term_17 (by decide) (inI.mk (by omega) (by omega)) (inI.mk (by decide) (by decide)) (fun c_17 => ?_) (fun c_17 => ?_)
          · have hsn : sk t q ≠ n := fun e => by rw [e, hx.2.2.1 n (Int.le_refl _)] at c_17; cases c_17
            refine ww_aload_n 0 dX3_term_29 rfl ?_
            refine cr_si hM (cr_V (ct_X3_next hG hM (hT.mv hM (by decide) (by decide)) (sk t q) su_s (by omega) hkq.2.1) sv_X3_89 rfl dX3_term_30 hM.obj rfl rfl rfl rfl ⟨by decide, by decide⟩ (Nat.le_of_ble_eq_true rfl) (Nat.le_of_ble_eq_true rfl) (Nat.le_of_ble_eq_true rfl)) (fun r_30 σ_30 hh hM hp_30 => ?_)
            obtain ⟨rfl, rfl⟩ := hp_30
            try rw [su_su] at hM
            rw [hx.kk hq2] at hM
            rw [hx.kk hq2]
            refine ww_bipush dX3_term_33 (by decide) ?_
            refine ww_icmp_ne 42 dX3_term_35 (by decide) (inI.mk (by omega) (by omega)) (inI.mk (by decide) (by decide)) (fun c_35 => ?_) (fun c_35 => ?_)
            · exact absurd c_17 c_35
            · refine ww_iconst dX3_term_38 ?_
              refine ww_goto 43 dX3_term_39 (by decide) ?_
              refine ww_istore_n [(1, _), (0, _)] dX3_term_43 (by decide) rfl ?_
              refine ww_aload_n 1 dX3_term_44 rfl ?_
              refine ww_dup dX3_term_45 rfl ?_
              refine ww_getf gf_X3_68 rfl dX3_term_46 hM.obj rfl ?_
              rw [su_s]
              refine ww_iconst dX3_term_49 ?_
              refine ww_iadd dX3_term_50 ?_
              refine mw_put pf_X3_68 rfl dX3_term_51 hM rfl (inI.mk (by omega) (by omega)) (fun hh hM => ?_)
              rw [su_su] at hM
              refine ww_aload_n 1 dX3_term_54 rfl ?_
              refine cr_sv hM (cr_V (ct_X3_factor2 hG hM (hT.mv hM (by decide) (by decide)) (sk t q + 1) su_s (by omega) (by omega) (by rw [su_off (by decide)]; exact hy.1) (hL.fr hM) z v (by omega) (c0 + z.1.length) (by rw [su_off (by decide)]; exact h95) (by omega) (by omega) (by rw [su_off (by decide)]; exact h13)) sv_X3_146 rfl dX3_term_55 hM.obj rfl rfl rfl rfl ⟨by decide, by decide⟩ (Nat.le_of_ble_eq_true rfl) (Nat.le_of_ble_eq_true rfl) (Nat.le_of_ble_eq_true rfl)) (fun σ_55 hh hM hp_55 => ?_)
              obtain ⟨hfe_55, h13_55, hc_55⟩ := hp_55
              have hfr : FE σ σ_55 := fun j a b c d e f => by rw [hfe_55 j a b c d e f, su_off a, hfe j a b c d e f]
              rcases hc_55 with ⟨c, o, hpe, hce, h5, h6⟩ | ⟨y, q2, hpy, hy2⟩
              · have hpr : pE (g + 1) 1 t 2 p x = .error (c, o) := by rw [hpt, pE2, if_pos (Or.inl c_17), hpe]
                have h13r := h13_55
                refine ww_aload_n 1 dX3_term_58 rfl ?_
                refine ww_iload_n 0 dX3_term_59 rfl ?_
                refine ww_if_eq 67 dX3_term_60 (by decide) (inI.mk (by decide) (by decide)) (fun c_60 => ?_) (fun c_60 => ?_)
                · exact absurd c_60 (by decide)
                · refine ww_iconst dX3_term_63 ?_
                  refine ww_goto 68 dX3_term_64 (by decide) ?_
                  refine cr_pv (cr_V (ct_X3_emitB hG hM (fun e => hce (h5.symm.trans e)) _) sv_X3_143 rfl dX3_term_68 hM.obj rfl rfl rfl rfl ⟨by decide, by decide⟩ (Nat.le_of_ble_eq_true rfl) (Nat.le_of_ble_eq_true rfl) (Nat.le_of_ble_eq_true rfl)) ?_
                  refine ww_goto 4 dX3_term_71 (by decide) ?_
                  refine ww_aload_n 1 dX3_term_4 rfl ?_
                  refine cr_pi (cr_V (ct_X3_isGood hG hM) sv_X3_85 rfl dX3_term_5 hM.obj rfl rfl rfl rfl ⟨by decide, by decide⟩ (Nat.le_of_ble_eq_true rfl) (Nat.le_of_ble_eq_true rfl) (Nat.le_of_ble_eq_true rfl)) ?_
                  refine ww_ifb_eq 74 dX3_term_8 (by decide) (fun c_8 => ?_) (fun c_8 => ?_)
                  · exact ww_vret hQ dX3_term_74 rfl (Nat.le_of_ble_eq_true rfl) (Nat.le_of_ble_eq_true rfl) ⟨rfl, _, hM, hfr, h13r, Or.inl ⟨c, o, hpr, hce, h5, h6⟩⟩
                  · exact absurd (h5.symm.trans c_8) hce
              · have h95b := hy2.2.2.2.2.2.1
                have h29b := hy2.2.2.2.2.2.2.2.2.1
                have hq22 := hy2.2.2.2.1
                have hq23 := hy2.2.2.1
                refine ww_aload_n 1 dX3_term_58 rfl ?_
                refine ww_iload_n 0 dX3_term_59 rfl ?_
                refine ww_if_eq 67 dX3_term_60 (by decide) (inI.mk (by decide) (by decide)) (fun c_60 => ?_) (fun c_60 => ?_)
                · exact absurd c_60 (by decide)
                · refine ww_iconst dX3_term_63 ?_
                  refine ww_goto 68 dX3_term_64 (by decide) ?_
                  refine cr_sv hM (cr_V (ct_X3_emit hG hM hy2.1 _ (inI.mk (by decide) (by decide)) (by omega) (by omega)) sv_X3_143 rfl dX3_term_68 hM.obj rfl rfl rfl rfl ⟨by decide, by decide⟩ (Nat.le_of_ble_eq_true rfl) (Nat.le_of_ble_eq_true rfl) (Nat.le_of_ble_eq_true rfl)) (fun σ_68 hh hM hp_68 => ?_)
                  have hy3 := emitO (op := 4) hy (su_off (by decide)) (su_off (by decide)) rfl (by omega) hy2 hp_68 hc0 (by decide) (by decide)
                  have hpt3 : pE (g + 1) 1 t 2 p x = pE v 2 t 2 q2 (cmb 4 z y) := by rw [hpt, pE2, if_pos (Or.inl c_17), hpy]; simp only; rw [if_pos c_17]
                  have hfe3 : FE σ σ_68 := fun j a b c d e f => by rw [← hp_68, su_off d, su_off d]; exact hfr j a b c d e f
                  refine ww_goto 4 dX3_term_71 (by decide) ?_
                  refine ww_sub [1] rfl ?_
                  exact ie v _ _ _ _ hM hfe3 hy3 hpt3 (by omega) (by omega)
          · refine ww_aload_n 0 dX3_term_20 rfl ?_
            refine cr_si hM (cr_V (ct_X3_next hG hM (hT.mv hM (by decide) (by decide)) (sk t q) su_s (by omega) hkq.2.1) sv_X3_89 rfl dX3_term_21 hM.obj rfl rfl rfl rfl ⟨by decide, by decide⟩ (Nat.le_of_ble_eq_true rfl) (Nat.le_of_ble_eq_true rfl) (Nat.le_of_ble_eq_true rfl)) (fun r_21 σ_21 hh hM hp_21 => ?_)
            obtain ⟨rfl, rfl⟩ := hp_21
            try rw [su_su] at hM
            rw [hx.kk hq2] at hM
            rw [hx.kk hq2]
            refine ww_bipush dX3_term_24 (by decide) ?_
            refine ww_icmp_ne 74 dX3_term_26 (by decide) (inI.mk (by omega) (by omega)) (inI.mk (by decide) (by decide)) (fun c_26 => ?_) (fun c_26 => ?_)
            · exact ww_vret hQ dX3_term_74 rfl (Nat.le_of_ble_eq_true rfl) (Nat.le_of_ble_eq_true rfl) ⟨rfl, _, hM, fun j a b c d e f => by rw [su_off a]; exact hfe j a b c d e f, (by rw [su_off (by decide)]; exact h13), Or.inr ⟨z, sk t q, by rw [hpt, pE2, if_neg (fun x => x.elim c_17 c_26)], hy.of rfl (su_off (by decide)) rfl (su_off (by decide)) (by rw [su_off (by decide)]; exact hy.1) su_s (Int.le_refl _) (by omega) (by omega) (by rw [su_off (by decide)]; exact h13)⟩⟩
            · have hsn : sk t q ≠ n := fun e => by rw [e, hx.2.2.1 n (Int.le_refl _)] at c_26; cases c_26
              refine ww_aload_n 0 dX3_term_29 rfl ?_
              refine cr_si hM (cr_V (ct_X3_next hG hM (hT.mv hM (by decide) (by decide)) (sk t q) su_s (by omega) hkq.2.1) sv_X3_89 rfl dX3_term_30 hM.obj rfl rfl rfl rfl ⟨by decide, by decide⟩ (Nat.le_of_ble_eq_true rfl) (Nat.le_of_ble_eq_true rfl) (Nat.le_of_ble_eq_true rfl)) (fun r_30 σ_30 hh hM hp_30 => ?_)
              obtain ⟨rfl, rfl⟩ := hp_30
              try rw [su_su] at hM
              rw [hx.kk hq2] at hM
              rw [hx.kk hq2]
              refine ww_bipush dX3_term_33 (by decide) ?_
              refine ww_icmp_ne 42 dX3_term_35 (by decide) (inI.mk (by omega) (by omega)) (inI.mk (by decide) (by decide)) (fun c_35 => ?_) (fun c_35 => ?_)
              · refine ww_iconst dX3_term_42 ?_
                refine ww_istore_n [(1, _), (0, _)] dX3_term_43 (by decide) rfl ?_
                refine ww_aload_n 1 dX3_term_44 rfl ?_
                refine ww_dup dX3_term_45 rfl ?_
                refine ww_getf gf_X3_68 rfl dX3_term_46 hM.obj rfl ?_
                rw [su_s]
                refine ww_iconst dX3_term_49 ?_
                refine ww_iadd dX3_term_50 ?_
                refine mw_put pf_X3_68 rfl dX3_term_51 hM rfl (inI.mk (by omega) (by omega)) (fun hh hM => ?_)
                rw [su_su] at hM
                refine ww_aload_n 1 dX3_term_54 rfl ?_
                refine cr_sv hM (cr_V (ct_X3_factor2 hG hM (hT.mv hM (by decide) (by decide)) (sk t q + 1) su_s (by omega) (by omega) (by rw [su_off (by decide)]; exact hy.1) (hL.fr hM) z v (by omega) (c0 + z.1.length) (by rw [su_off (by decide)]; exact h95) (by omega) (by omega) (by rw [su_off (by decide)]; exact h13)) sv_X3_146 rfl dX3_term_55 hM.obj rfl rfl rfl rfl ⟨by decide, by decide⟩ (Nat.le_of_ble_eq_true rfl) (Nat.le_of_ble_eq_true rfl) (Nat.le_of_ble_eq_true rfl)) (fun σ_55 hh hM hp_55 => ?_)
                obtain ⟨hfe_55, h13_55, hc_55⟩ := hp_55
                have hfr : FE σ σ_55 := fun j a b c d e f => by rw [hfe_55 j a b c d e f, su_off a, hfe j a b c d e f]
                rcases hc_55 with ⟨c, o, hpe, hce, h5, h6⟩ | ⟨y, q2, hpy, hy2⟩
                · have hpr : pE (g + 1) 1 t 2 p x = .error (c, o) := by rw [hpt, pE2, if_pos (Or.inr c_26), hpe]
                  have h13r := h13_55
                  refine ww_aload_n 1 dX3_term_58 rfl ?_
                  refine ww_iload_n 0 dX3_term_59 rfl ?_
                  refine ww_if_eq 67 dX3_term_60 (by decide) (inI.mk (by decide) (by decide)) (fun c_60 => ?_) (fun c_60 => ?_)
                  · refine ww_iconst dX3_term_67 ?_
                    refine cr_pv (cr_V (ct_X3_emitB hG hM (fun e => hce (h5.symm.trans e)) _) sv_X3_143 rfl dX3_term_68 hM.obj rfl rfl rfl rfl ⟨by decide, by decide⟩ (Nat.le_of_ble_eq_true rfl) (Nat.le_of_ble_eq_true rfl) (Nat.le_of_ble_eq_true rfl)) ?_
                    refine ww_goto 4 dX3_term_71 (by decide) ?_
                    refine ww_aload_n 1 dX3_term_4 rfl ?_
                    refine cr_pi (cr_V (ct_X3_isGood hG hM) sv_X3_85 rfl dX3_term_5 hM.obj rfl rfl rfl rfl ⟨by decide, by decide⟩ (Nat.le_of_ble_eq_true rfl) (Nat.le_of_ble_eq_true rfl) (Nat.le_of_ble_eq_true rfl)) ?_
                    refine ww_ifb_eq 74 dX3_term_8 (by decide) (fun c_8 => ?_) (fun c_8 => ?_)
                    · exact ww_vret hQ dX3_term_74 rfl (Nat.le_of_ble_eq_true rfl) (Nat.le_of_ble_eq_true rfl) ⟨rfl, _, hM, hfr, h13r, Or.inl ⟨c, o, hpr, hce, h5, h6⟩⟩
                    · exact absurd (h5.symm.trans c_8) hce
                  · exact absurd c_60 (by decide)
                · have h95b := hy2.2.2.2.2.2.1
                  have h29b := hy2.2.2.2.2.2.2.2.2.1
                  have hq22 := hy2.2.2.2.1
                  have hq23 := hy2.2.2.1
                  refine ww_aload_n 1 dX3_term_58 rfl ?_
                  refine ww_iload_n 0 dX3_term_59 rfl ?_
                  refine ww_if_eq 67 dX3_term_60 (by decide) (inI.mk (by decide) (by decide)) (fun c_60 => ?_) (fun c_60 => ?_)
                  · refine ww_iconst dX3_term_67 ?_
                    refine cr_sv hM (cr_V (ct_X3_emit hG hM hy2.1 _ (inI.mk (by decide) (by decide)) (by omega) (by omega)) sv_X3_143 rfl dX3_term_68 hM.obj rfl rfl rfl rfl ⟨by decide, by decide⟩ (Nat.le_of_ble_eq_true rfl) (Nat.le_of_ble_eq_true rfl) (Nat.le_of_ble_eq_true rfl)) (fun σ_68 hh hM hp_68 => ?_)
                    have hy3 := emitO (op := 5) hy (su_off (by decide)) (su_off (by decide)) rfl (by omega) hy2 hp_68 hc0 (by decide) (by decide)
                    have hpt3 : pE (g + 1) 1 t 2 p x = pE v 2 t 2 q2 (cmb 5 z y) := by rw [hpt, pE2, if_pos (Or.inr c_26), hpy]; simp only; rw [if_neg c_17]
                    have hfe3 : FE σ σ_68 := fun j a b c d e f => by rw [← hp_68, su_off d, su_off d]; exact hfr j a b c d e f
                    refine ww_goto 4 dX3_term_71 (by decide) ?_
                    refine ww_sub [1] rfl ?_
                    exact ie v _ _ _ _ hM hfe3 hy3 hpt3 (by omega) (by omega)
                  · exact absurd c_60 (by decide)
              · exact absurd c_35 c_17
    refine ww_sub [0] rfl ?_
    exact loop_4 801 g y p1 _ _ hM hfe_1 hy hpt (by have := hy.2.2.1; have := hy.2.2.2.1; omega) (by have := hy.2.2.1; omega)

set_option maxHeartbeats 4000000 in
theorem ct_X3_sum2 {G : GT} {h0 h : AH} {m : Nat} {A : Nat → Nat} {B : Nat → Int → Nat} {D : Int → Int} {σ : MS} (hG : GOK G) (hM : MWF G h0 h m A B D σ) {t : Int → Int} {n : Int} (hT : TX σ t n) (p : Int) (hp : σ 4 0 0 = p) (hp0 : 0 ≤ p) (hp1 : p ≤ n) (hg : σ 5 0 0 = 0) (hL : LitM G h) (x : List Int × EF) (f : Nat) (hf : 3 * (n - p) + 3 ≤ f) (c0 : Int) (hc : σ 9 0 5 = c0) (hc0 : 0 ≤ c0) (hcp : 2 * c0 ≤ 3 * p) (hd : σ 13 0 0 = 2) : CSv G (MX3_sum 13 281 0 0) h m A B D [.ref m] (fun σ' => FE σ σ' ∧ σ' 13 0 0 = 2 ∧ PEr (pE f 3 t 2 p x) σ σ' c0 2 p n) := by
  refine CT.of rfl hG (Nat.le_of_ble_eq_true rfl) rfl (fun E hQ => ?_)
  have hM := hM.1.f
  have hx := hT.1
  have hn8 := hx.2.1
  obtain ⟨g, rfl⟩ : ∃ g, f = g + 1 := ⟨f - 1, by omega⟩
  refine ww_aload_n 0 dX3_sum_0 rfl ?_
  refine cr_sv hM (cr_V (ct_X3_term2 hG hM hT p hp hp0 hp1 hg hL x g (by omega) c0 hc hc0 hcp hd) sv_X3_149 rfl dX3_sum_1 hM.obj rfl rfl rfl rfl ⟨by decide, by decide⟩ (Nat.le_of_ble_eq_true rfl) (Nat.le_of_ble_eq_true rfl) (Nat.le_of_ble_eq_true rfl)) (fun σ_1 hh hM hp_1 => ?_)
  obtain ⟨hfe_1, h13_1, hc_1⟩ := hp_1
  rcases hc_1 with ⟨c, o, hpe, hce, h5, h6⟩ | ⟨y, p1, hpy, hy⟩
  · have hpr : pE (g + 1) 3 t 2 p x = .error (c, o) := by rw [pE3, hpe]
    have hfr := hfe_1
    have h13r := h13_1
    refine ww_aload_n 0 dX3_sum_4 rfl ?_
    refine cr_pi (cr_V (ct_X3_isGood hG hM) sv_X3_85 rfl dX3_sum_5 hM.obj rfl rfl rfl rfl ⟨by decide, by decide⟩ (Nat.le_of_ble_eq_true rfl) (Nat.le_of_ble_eq_true rfl) (Nat.le_of_ble_eq_true rfl)) ?_
    refine ww_ifb_eq 74 dX3_sum_8 (by decide) (fun c_8 => ?_) (fun c_8 => ?_)
    · exact ww_vret hQ dX3_sum_74 rfl (Nat.le_of_ble_eq_true rfl) (Nat.le_of_ble_eq_true rfl) ⟨rfl, _, hM, hfr, h13r, Or.inl ⟨c, o, hpr, hce, h5, h6⟩⟩
    · exact absurd (h5.symm.trans c_8) hce
  · have hpt : pE (g + 1) 3 t 2 p x = pE g 4 t 2 p1 y := by rw [pE3, hpy]
    have loop_4 : ∀ (e : Nat) (u : Nat) (z : List Int × EF) (q : Int) (τ : MS) (hx1 : AH), (MWF G h hx1 m A B D τ) → (FE σ τ) → (ExO σ τ c0 2 p n z q) → (pE (g + 1) 3 t 2 p x = pE u 4 t 2 q z) → (3 * (n - q) + 2 ≤ u) → (n - q < e) → WW G E (MX3_sum 13 281 0 0) hx1 0 0 4 [(0, .ref m)] [] := by
      intro e
      induction e with
      | zero => intro u z q τ hx1 hM hfe hy hpt hu he; exact absurd he (by have := hy.2.2.2.1; omega)
      | succ e ie =>
        intro u z q τ hx1 hM hfe hy hpt hu he
        have hq2 := hy.2.2.2.1
        have hq1 := hy.2.2.1
        obtain ⟨v, rfl⟩ : ∃ v, u = v + 1 := ⟨u - 1, by omega⟩
        have hT := hT.of (hfe 1 (by decide) (by decide) (by decide) (by decide) (by decide) (by decide)) (hfe 3 (by decide) (by decide) (by decide) (by decide) (by decide) (by decide))
        have hkq := hx.k1 hq2
        have h13 := hy.2.2.2.2.1
        have h95 := hy.2.2.2.2.2.1
        have h29 := hy.2.2.2.2.2.2.2.2.1
        have hrx := hx.rg (q := sk t q) (by omega)
        refine ww_aload_n 0 dX3_sum_4 rfl ?_
        refine cr_pi (cr_V (ct_X3_isGood hG hM) sv_X3_85 rfl dX3_sum_5 hM.obj rfl rfl rfl rfl ⟨by decide, by decide⟩ (Nat.le_of_ble_eq_true rfl) (Nat.le_of_ble_eq_true rfl) (Nat.le_of_ble_eq_true rfl)) ?_
        refine ww_ifb_eq 74 dX3_sum_8 (by decide) (fun c_8 => ?_) (fun c_8 => ?_)
        · exact absurd hy.1 c_8
        · refine ww_aload_n 0 dX3_sum_11 rfl ?_
          refine cr_si hM (cr_V (ct_X3_next hG hM hT q hy.2.1 (by omega) hq2) sv_X3_89 rfl dX3_sum_12 hM.obj rfl rfl rfl rfl ⟨by decide, by decide⟩ (Nat.le_of_ble_eq_true rfl) (Nat.le_of_ble_eq_true rfl) (Nat.le_of_ble_eq_true rfl)) (fun r_12 σ_12 hh hM hp_12 => ?_)
          obtain ⟨rfl, rfl⟩ := hp_12
          try rw [su_su] at hM
          refine ww_bipush dX3_sum_15 (by decide) ?_
          refine ww_icmp_eq 29 dX3_sum_17 (by decide) (inI.mk (by omega) (by omega)) (inI.mk (by decide) (by decide)) (fun c_17 => ?_) (fun c_17 => ?_)
          · have hsn : sk t q ≠ n := fun e => by rw [e, hx.2.2.1 n (Int.le_refl _)] at c_17; cases c_17
            refine ww_aload_n 0 dX3_sum_29 rfl ?_
            refine cr_si hM (cr_V (ct_X3_next hG hM (hT.mv hM (by decide) (by decide)) (sk t q) su_s (by omega) hkq.2.1) sv_X3_89 rfl dX3_sum_30 hM.obj rfl rfl rfl rfl ⟨by decide, by decide⟩ (Nat.le_of_ble_eq_true rfl) (Nat.le_of_ble_eq_true rfl) (Nat.le_of_ble_eq_true rfl)) (fun r_30 σ_30 hh hM hp_30 => ?_)
            obtain ⟨rfl, rfl⟩ := hp_30
            try rw [su_su] at hM
            rw [hx.kk hq2] at hM
            rw [hx.kk hq2]
            refine ww_bipush dX3_sum_33 (by decide) ?_
            refine ww_icmp_ne 42 dX3_sum_35 (by decide) (inI.mk (by omega) (by omega)) (inI.mk (by decide) (by decide)) (fun c_35 => ?_) (fun c_35 => ?_)
            · exact absurd c_17 c_35
            · refine ww_iconst dX3_sum_38 ?_
              refine ww_goto 43 dX3_sum_39 (by decide) ?_
              refine ww_istore_n [(1, _), (0, _)] dX3_sum_43 (by decide) rfl ?_
              refine ww_aload_n 1 dX3_sum_44 rfl ?_
              refine ww_dup dX3_sum_45 rfl ?_
              refine ww_getf gf_X3_68 rfl dX3_sum_46 hM.obj rfl ?_
              rw [su_s]
              refine ww_iconst dX3_sum_49 ?_
              refine ww_iadd dX3_sum_50 ?_
              refine mw_put pf_X3_68 rfl dX3_sum_51 hM rfl (inI.mk (by omega) (by omega)) (fun hh hM => ?_)
              rw [su_su] at hM
              refine ww_aload_n 1 dX3_sum_54 rfl ?_
              refine cr_sv hM (cr_V (ct_X3_term2 hG hM (hT.mv hM (by decide) (by decide)) (sk t q + 1) su_s (by omega) (by omega) (by rw [su_off (by decide)]; exact hy.1) (hL.fr hM) z v (by omega) (c0 + z.1.length) (by rw [su_off (by decide)]; exact h95) (by omega) (by omega) (by rw [su_off (by decide)]; exact h13)) sv_X3_149 rfl dX3_sum_55 hM.obj rfl rfl rfl rfl ⟨by decide, by decide⟩ (Nat.le_of_ble_eq_true rfl) (Nat.le_of_ble_eq_true rfl) (Nat.le_of_ble_eq_true rfl)) (fun σ_55 hh hM hp_55 => ?_)
              obtain ⟨hfe_55, h13_55, hc_55⟩ := hp_55
              have hfr : FE σ σ_55 := fun j a b c d e f => by rw [hfe_55 j a b c d e f, su_off a, hfe j a b c d e f]
              rcases hc_55 with ⟨c, o, hpe, hce, h5, h6⟩ | ⟨y, q2, hpy, hy2⟩
              · have hpr : pE (g + 1) 3 t 2 p x = .error (c, o) := by rw [hpt, pE4, if_pos (Or.inl c_17), hpe]
                have h13r := h13_55
                refine ww_aload_n 1 dX3_sum_58 rfl ?_
                refine ww_iload_n 0 dX3_sum_59 rfl ?_
                refine ww_if_eq 67 dX3_sum_60 (by decide) (inI.mk (by decide) (by decide)) (fun c_60 => ?_) (fun c_60 => ?_)
                · exact absurd c_60 (by decide)
                · refine ww_iconst dX3_sum_63 ?_
                  refine ww_goto 68 dX3_sum_64 (by decide) ?_
                  refine cr_pv (cr_V (ct_X3_emitB hG hM (fun e => hce (h5.symm.trans e)) _) sv_X3_143 rfl dX3_sum_68 hM.obj rfl rfl rfl rfl ⟨by decide, by decide⟩ (Nat.le_of_ble_eq_true rfl) (Nat.le_of_ble_eq_true rfl) (Nat.le_of_ble_eq_true rfl)) ?_
                  refine ww_goto 4 dX3_sum_71 (by decide) ?_
                  refine ww_aload_n 1 dX3_sum_4 rfl ?_
                  refine cr_pi (cr_V (ct_X3_isGood hG hM) sv_X3_85 rfl dX3_sum_5 hM.obj rfl rfl rfl rfl ⟨by decide, by decide⟩ (Nat.le_of_ble_eq_true rfl) (Nat.le_of_ble_eq_true rfl) (Nat.le_of_ble_eq_true rfl)) ?_
                  refine ww_ifb_eq 74 dX3_sum_8 (by decide) (fun c_8 => ?_) (fun c_8 => ?_)
                  · exact ww_vret hQ dX3_sum_74 rfl (Nat.le_of_ble_eq_true rfl) (Nat.le_of_ble_eq_true rfl) ⟨rfl, _, hM, hfr, h13r, Or.inl ⟨c, o, hpr, hce, h5, h6⟩⟩
                  · exact absurd (h5.symm.trans c_8) hce
              · have h95b := hy2.2.2.2.2.2.1
                have h29b := hy2.2.2.2.2.2.2.2.2.1
                have hq22 := hy2.2.2.2.1
                have hq23 := hy2.2.2.1
                refine ww_aload_n 1 dX3_sum_58 rfl ?_
                refine ww_iload_n 0 dX3_sum_59 rfl ?_
                refine ww_if_eq 67 dX3_sum_60 (by decide) (inI.mk (by decide) (by decide)) (fun c_60 => ?_) (fun c_60 => ?_)
                · exact absurd c_60 (by decide)
                · refine ww_iconst dX3_sum_63 ?_
                  refine ww_goto 68 dX3_sum_64 (by decide) ?_
                  refine cr_sv hM (cr_V (ct_X3_emit hG hM hy2.1 _ (inI.mk (by decide) (by decide)) (by omega) (by omega)) sv_X3_143 rfl dX3_sum_68 hM.obj rfl rfl rfl rfl ⟨by decide, by decide⟩ (Nat.le_of_ble_eq_true rfl) (Nat.le_of_ble_eq_true rfl) (Nat.le_of_ble_eq_true rfl)) (fun σ_68 hh hM hp_68 => ?_)
                  have hy3 := emitO (op := 2) hy (su_off (by decide)) (su_off (by decide)) rfl (by omega) hy2 hp_68 hc0 (by decide) (by decide)
                  have hpt3 : pE (g + 1) 3 t 2 p x = pE v 4 t 2 q2 (cmb 2 z y) := by rw [hpt, pE4, if_pos (Or.inl c_17), hpy]; simp only; rw [if_pos c_17]
                  have hfe3 : FE σ σ_68 := fun j a b c d e f => by rw [← hp_68, su_off d, su_off d]; exact hfr j a b c d e f
                  refine ww_goto 4 dX3_sum_71 (by decide) ?_
                  refine ww_sub [1] rfl ?_
                  exact ie v _ _ _ _ hM hfe3 hy3 hpt3 (by omega) (by omega)
          · refine ww_aload_n 0 dX3_sum_20 rfl ?_
            refine cr_si hM (cr_V (ct_X3_next hG hM (hT.mv hM (by decide) (by decide)) (sk t q) su_s (by omega) hkq.2.1) sv_X3_89 rfl dX3_sum_21 hM.obj rfl rfl rfl rfl ⟨by decide, by decide⟩ (Nat.le_of_ble_eq_true rfl) (Nat.le_of_ble_eq_true rfl) (Nat.le_of_ble_eq_true rfl)) (fun r_21 σ_21 hh hM hp_21 => ?_)
            obtain ⟨rfl, rfl⟩ := hp_21
            try rw [su_su] at hM
            rw [hx.kk hq2] at hM
            rw [hx.kk hq2]
            refine ww_bipush dX3_sum_24 (by decide) ?_
            refine ww_icmp_ne 74 dX3_sum_26 (by decide) (inI.mk (by omega) (by omega)) (inI.mk (by decide) (by decide)) (fun c_26 => ?_) (fun c_26 => ?_)
            · exact ww_vret hQ dX3_sum_74 rfl (Nat.le_of_ble_eq_true rfl) (Nat.le_of_ble_eq_true rfl) ⟨rfl, _, hM, fun j a b c d e f => by rw [su_off a]; exact hfe j a b c d e f, (by rw [su_off (by decide)]; exact h13), Or.inr ⟨z, sk t q, by rw [hpt, pE4, if_neg (fun x => x.elim c_17 c_26)], hy.of rfl (su_off (by decide)) rfl (su_off (by decide)) (by rw [su_off (by decide)]; exact hy.1) su_s (Int.le_refl _) (by omega) (by omega) (by rw [su_off (by decide)]; exact h13)⟩⟩
            · have hsn : sk t q ≠ n := fun e => by rw [e, hx.2.2.1 n (Int.le_refl _)] at c_26; cases c_26
              refine ww_aload_n 0 dX3_sum_29 rfl ?_
              refine cr_si hM (cr_V (ct_X3_next hG hM (hT.mv hM (by decide) (by decide)) (sk t q) su_s (by omega) hkq.2.1) sv_X3_89 rfl dX3_sum_30 hM.obj rfl rfl rfl rfl ⟨by decide, by decide⟩ (Nat.le_of_ble_eq_true rfl) (Nat.le_of_ble_eq_true rfl) (Nat.le_of_ble_eq_true rfl)) (fun r_30 σ_30 hh hM hp_30 => ?_)
              obtain ⟨rfl, rfl⟩ := hp_30
              try rw [su_su] at hM
              rw [hx.kk hq2] at hM
              rw [hx.kk hq2]
              refine ww_bipush dX3_sum_33 (by decide) ?_
              refine ww_icmp_ne 42 dX3_sum_35 (by decide) (inI.mk (by omega) (by omega)) (inI.mk (by decide) (by decide)) (fun c_35 => ?_) (fun c_35 => ?_)
              · refine ww_iconst dX3_sum_42 ?_
                refine ww_istore_n [(1, _), (0, _)] dX3_sum_43 (by decide) rfl ?_
                refine ww_aload_n 1 dX3_sum_44 rfl ?_
                refine ww_dup dX3_sum_45 rfl ?_
                refine ww_getf gf_X3_68 rfl dX3_sum_46 hM.obj rfl ?_
                rw [su_s]
                refine ww_iconst dX3_sum_49 ?_
                refine ww_iadd dX3_sum_50 ?_
                refine mw_put pf_X3_68 rfl dX3_sum_51 hM rfl (inI.mk (by omega) (by omega)) (fun hh hM => ?_)
                rw [su_su] at hM
                refine ww_aload_n 1 dX3_sum_54 rfl ?_
                refine cr_sv hM (cr_V (ct_X3_term2 hG hM (hT.mv hM (by decide) (by decide)) (sk t q + 1) su_s (by omega) (by omega) (by rw [su_off (by decide)]; exact hy.1) (hL.fr hM) z v (by omega) (c0 + z.1.length) (by rw [su_off (by decide)]; exact h95) (by omega) (by omega) (by rw [su_off (by decide)]; exact h13)) sv_X3_149 rfl dX3_sum_55 hM.obj rfl rfl rfl rfl ⟨by decide, by decide⟩ (Nat.le_of_ble_eq_true rfl) (Nat.le_of_ble_eq_true rfl) (Nat.le_of_ble_eq_true rfl)) (fun σ_55 hh hM hp_55 => ?_)
                obtain ⟨hfe_55, h13_55, hc_55⟩ := hp_55
                have hfr : FE σ σ_55 := fun j a b c d e f => by rw [hfe_55 j a b c d e f, su_off a, hfe j a b c d e f]
                rcases hc_55 with ⟨c, o, hpe, hce, h5, h6⟩ | ⟨y, q2, hpy, hy2⟩
                · have hpr : pE (g + 1) 3 t 2 p x = .error (c, o) := by rw [hpt, pE4, if_pos (Or.inr c_26), hpe]
                  have h13r := h13_55
                  refine ww_aload_n 1 dX3_sum_58 rfl ?_
                  refine ww_iload_n 0 dX3_sum_59 rfl ?_
                  refine ww_if_eq 67 dX3_sum_60 (by decide) (inI.mk (by decide) (by decide)) (fun c_60 => ?_) (fun c_60 => ?_)
                  · refine ww_iconst dX3_sum_67 ?_
                    refine cr_pv (cr_V (ct_X3_emitB hG hM (fun e => hce (h5.symm.trans e)) _) sv_X3_143 rfl dX3_sum_68 hM.obj rfl rfl rfl rfl ⟨by decide, by decide⟩ (Nat.le_of_ble_eq_true rfl) (Nat.le_of_ble_eq_true rfl) (Nat.le_of_ble_eq_true rfl)) ?_
                    refine ww_goto 4 dX3_sum_71 (by decide) ?_
                    refine ww_aload_n 1 dX3_sum_4 rfl ?_
                    refine cr_pi (cr_V (ct_X3_isGood hG hM) sv_X3_85 rfl dX3_sum_5 hM.obj rfl rfl rfl rfl ⟨by decide, by decide⟩ (Nat.le_of_ble_eq_true rfl) (Nat.le_of_ble_eq_true rfl) (Nat.le_of_ble_eq_true rfl)) ?_
                    refine ww_ifb_eq 74 dX3_sum_8 (by decide) (fun c_8 => ?_) (fun c_8 => ?_)
                    · exact ww_vret hQ dX3_sum_74 rfl (Nat.le_of_ble_eq_true rfl) (Nat.le_of_ble_eq_true rfl) ⟨rfl, _, hM, hfr, h13r, Or.inl ⟨c, o, hpr, hce, h5, h6⟩⟩
                    · exact absurd (h5.symm.trans c_8) hce
                  · exact absurd c_60 (by decide)
                · have h95b := hy2.2.2.2.2.2.1
                  have h29b := hy2.2.2.2.2.2.2.2.2.1
                  have hq22 := hy2.2.2.2.1
                  have hq23 := hy2.2.2.1
                  refine ww_aload_n 1 dX3_sum_58 rfl ?_
                  refine ww_iload_n 0 dX3_sum_59 rfl ?_
                  refine ww_if_eq 67 dX3_sum_60 (by decide) (inI.mk (by decide) (by decide)) (fun c_60 => ?_) (fun c_60 => ?_)
                  · refine ww_iconst dX3_sum_67 ?_
                    refine cr_sv hM (cr_V (ct_X3_emit hG hM hy2.1 _ (inI.mk (by decide) (by decide)) (by omega) (by omega)) sv_X3_143 rfl dX3_sum_68 hM.obj rfl rfl rfl rfl ⟨by decide, by decide⟩ (Nat.le_of_ble_eq_true rfl) (Nat.le_of_ble_eq_true rfl) (Nat.le_of_ble_eq_true rfl)) (fun σ_68 hh hM hp_68 => ?_)
                    have hy3 := emitO (op := 3) hy (su_off (by decide)) (su_off (by decide)) rfl (by omega) hy2 hp_68 hc0 (by decide) (by decide)
                    have hpt3 : pE (g + 1) 3 t 2 p x = pE v 4 t 2 q2 (cmb 3 z y) := by rw [hpt, pE4, if_pos (Or.inr c_26), hpy]; simp only; rw [if_neg c_17]
                    have hfe3 : FE σ σ_68 := fun j a b c d e f => by rw [← hp_68, su_off d, su_off d]; exact hfr j a b c d e f
                    refine ww_goto 4 dX3_sum_71 (by decide) ?_
                    refine ww_sub [1] rfl ?_
                    exact ie v _ _ _ _ hM hfe3 hy3 hpt3 (by omega) (by omega)
                  · exact absurd c_60 (by decide)
              · exact absurd c_35 c_17
    refine ww_sub [0] rfl ?_
    exact loop_4 801 g y p1 _ _ hM hfe_1 hy hpt (by have := hy.2.2.1; have := hy.2.2.2.1; omega) (by have := hy.2.2.1; omega)

set_option maxHeartbeats 4000000 in
theorem ct_X3_factor1 {G : GT} {h0 h : AH} {m : Nat} {A : Nat → Nat} {B : Nat → Int → Nat} {D : Int → Int} {σ : MS} (hG : GOK G) (hM : MWF G h0 h m A B D σ) {t : Int → Int} {n : Int} (hT : TX σ t n) (p : Int) (hp : σ 4 0 0 = p) (hp0 : 0 ≤ p) (hp1 : p ≤ n) (hg : σ 5 0 0 = 0) (hL : LitM G h) (x : List Int × EF) (f : Nat) (hf : 3 * (n - p) + 1 ≤ f) (c0 : Int) (hc : σ 9 0 5 = c0) (hc0 : 0 ≤ c0) (hcp : 2 * c0 ≤ 3 * p) (hd : σ 13 0 0 = 1) : CSv G (MX3_factor 14 302 0 0) h m A B D [.ref m] (fun σ' => FE σ σ' ∧ σ' 13 0 0 = 1 ∧ PEr (pE f 0 t 1 p x) σ σ' c0 1 p n) := by
  refine CT.of rfl hG (Nat.le_of_ble_eq_true rfl) rfl (fun E hQ => ?_)
  have hM := hM.1.f
  have hx := hT.1
  have hn8 := hx.2.1
  obtain ⟨g, rfl⟩ : ∃ g, f = g + 1 := ⟨f - 1, by omega⟩
  refine ww_aload_n 0 dX3_factor_0 rfl ?_
  refine cr_pi (cr_V (ct_X3_isGood hG hM) sv_X3_85 rfl dX3_factor_1 hM.obj rfl rfl rfl rfl ⟨by decide, by decide⟩ (Nat.le_of_ble_eq_true rfl) (Nat.le_of_ble_eq_true rfl) (Nat.le_of_ble_eq_true rfl)) ?_
  refine ww_ifb_ne 8 dX3_factor_4 (by decide) (fun c_4 => ?_) (fun c_4 => ?_)
  · refine ww_aload_n 0 dX3_factor_8 rfl ?_
    refine cr_si hM (cr_V (ct_X3_next hG hM hT _ (by first | exact hp | exact su_s | rfl) (by omega) (by omega)) sv_X3_89 rfl dX3_factor_9 hM.obj rfl rfl rfl rfl ⟨by decide, by decide⟩ (Nat.le_of_ble_eq_true rfl) (Nat.le_of_ble_eq_true rfl) (Nat.le_of_ble_eq_true rfl)) (fun r_9 σ_9 hh hM hp_9 => ?_)
    obtain ⟨rfl, rfl⟩ := hp_9
    try rw [su_su] at hM
    have hk := hx.k1 hp1
    have hT := hT.mv hM (by decide) (by decide)
    have hrk := hx.rg (q := sk t p) (by omega)
    refine ww_istore_n [(1, _), (0, _)] dX3_factor_12 (by decide) rfl ?_
    refine ww_iload_n 0 dX3_factor_13 rfl ?_
    refine ww_bipush dX3_factor_14 (by decide) ?_
    refine ww_icmp_ne 78 dX3_factor_16 (by decide) (inI.mk (by omega) (by omega)) (inI.mk (by decide) (by decide)) (fun c_16 => ?_) (fun c_16 => ?_)
    · refine ww_iload_n 0 dX3_factor_78 rfl ?_
      refine cr_pi (cr_S (ct_X3_isDigit hG _ (inI.mk (by omega) (by omega))) ss_X3_106 rfl dX3_factor_79 rfl rfl ⟨by decide, by decide⟩ (Nat.le_of_ble_eq_true rfl) (Nat.le_of_ble_eq_true rfl) (Nat.le_of_ble_eq_true rfl)) ?_
      refine ww_ifb_eq 89 dX3_factor_82 (by decide) (fun c_82 => ?_) (fun c_82 => ?_)
      · refine ww_aload_n 1 dX3_factor_89 rfl ?_
        obtain ⟨a_90, tx_90, hz_90, hS_90⟩ := (hL.fr hM) 128 kwTrust (by decide)
        refine ww_ldcS hz_90 dX3_factor_90 ?_
        refine cr_si hM (cr_V (ct_X3_takeWord hG hM hT (sk t p) su_s (by omega) hk.2.1 (by rw [su_off (by decide)]; exact hg) hS_90 (fun e => hM.1.1 e.symm)) sv_X3_130 rfl dX3_factor_92 hM.obj rfl rfl rfl rfl ⟨by decide, by decide⟩ (Nat.le_of_ble_eq_true rfl) (Nat.le_of_ble_eq_true rfl) (Nat.le_of_ble_eq_true rfl)) (fun r_92 σ_92 hh hM hp_92 => ?_)
        rcases hp_92 with ⟨c0_92, rfl, rfl⟩ | ⟨c0_92, rfl, rfl⟩
        · rw [hx.kk hp1] at hM c0_92
          rw [su_su] at hM
          refine ww_if_eq 102 dX3_factor_95 (by decide) (inI.mk (by decide) (by decide)) (fun c_95 => ?_) (fun c_95 => ?_)
          · exact absurd c_95 (by decide)
          · refine ww_iconst dX3_factor_98 ?_
            refine ww_goto 142 dX3_factor_99 (by decide) ?_
            refine ww_istore_n [(2, _), (1, _), (0, _)] dX3_factor_142 (by decide) rfl ?_
            refine ww_iload_n 0 dX3_factor_143 rfl ?_
            refine ww_if_ge 158 dX3_factor_144 (by decide) (inI.mk (by decide) (by decide)) (fun c_144 => ?_) (fun c_144 => ?_)
            · refine ww_iload_n 0 dX3_factor_158 rfl ?_
              refine ww_istore_n [(3, _), (2, _), (1, _), (0, _)] dX3_factor_159 (by decide) rfl ?_
              refine ww_aload_n 3 dX3_factor_160 rfl ?_
              refine ww_iload_n 1 dX3_factor_161 rfl ?_
              refine ww_if_ge 169 dX3_factor_162 (by decide) (inI.mk (by decide) (by decide)) (fun c_162 => ?_) (fun c_162 => ?_)
              · refine ww_iconst dX3_factor_169 ?_
                have hwg := we_gt (show pw t p = kwTrust from c0_92)
                have hww := hx.w1 hk.2.1
                have hc9 : su σ 4 0 0 (we t (sk t p)) 9 0 5 = c0 := by rw [su_off (by decide)]; exact hc
                refine cr_sv hM (cr_V (ct_X3_emit hG hM (by rw [su_off (by decide)]; exact hg) _ (inI.mk (by decide) (by decide)) (by omega) (by omega)) sv_X3_143 rfl dX3_factor_170 hM.obj rfl rfl rfl rfl ⟨by decide, by decide⟩ (Nat.le_of_ble_eq_true rfl) (Nat.le_of_ble_eq_true rfl) (Nat.le_of_ble_eq_true rfl)) (fun σ_170 hh hM hp_170 => ?_)
                have h5e : σ_170 5 0 0 = 0 := by rw [← hp_170, su_off (by decide), su_off (by decide), su_off (by decide)]; exact hg
                have hc9e : σ_170 9 0 5 = c0 + 1 := by rw [← hp_170, su_s, hc9]
                refine ww_aload_n 3 dX3_factor_173 rfl ?_
                refine ww_iload_n 0 dX3_factor_174 rfl ?_
                refine cr_sv hM (cr_V (ct_X3_emit hG hM h5e _ (inI.mk (by decide) (by decide)) (by omega) (by omega)) sv_X3_143 rfl dX3_factor_175 hM.obj rfl rfl rfl rfl ⟨by decide, by decide⟩ (Nat.le_of_ble_eq_true rfl) (Nat.le_of_ble_eq_true rfl) (Nat.le_of_ble_eq_true rfl)) (fun σ_175 hh hM hp_175 => ?_)
                obtain ⟨q1, q2⟩ := emit2 (σ := σ) (d := 1) (n := n) (p := p) hp_170 hp_175 (su_off (by decide)) hc hc0 (by rw [su_off (by decide)]; exact hg) su_s (by rw [su_off (by decide)]; exact hd) (su_off (by decide)) (by omega) hww.2.1 Cd_0
                exact ww_vret hQ dX3_factor_178 rfl (Nat.le_of_ble_eq_true rfl) (Nat.le_of_ble_eq_true rfl) ⟨rfl, _, hM, fun j a b c d e f => by rw [q2 j d, su_off a], q1.2.2.2.2.1, Or.inr ⟨_, _, by rw [pE0_kw c_16 c_82, if_pos (show pw t p = kwTrust from c0_92)], q1⟩⟩
              · exact absurd c_162 (by decide)
            · exact absurd c_144 (by decide)
        · rw [hx.kk hp1] at hM c0_92
          rw [su_su] at hM
          refine ww_if_eq 102 dX3_factor_95 (by decide) (inI.mk (by decide) (by decide)) (fun c_95 => ?_) (fun c_95 => ?_)
          · refine ww_aload_n 1 dX3_factor_102 rfl ?_
            obtain ⟨a_103, tx_103, hz_103, hS_103⟩ := (hL.fr hM) 134 kwRank (by decide)
            refine ww_ldcS hz_103 dX3_factor_103 ?_
            refine cr_si hM (cr_V (ct_X3_takeWord hG hM hT (sk t p) su_s (by omega) hk.2.1 (by rw [su_off (by decide)]; exact hg) hS_103 (fun e => hM.1.1 e.symm)) sv_X3_130 rfl dX3_factor_105 hM.obj rfl rfl rfl rfl ⟨by decide, by decide⟩ (Nat.le_of_ble_eq_true rfl) (Nat.le_of_ble_eq_true rfl) (Nat.le_of_ble_eq_true rfl)) (fun r_105 σ_105 hh hM hp_105 => ?_)
            rcases hp_105 with ⟨c0_105, rfl, rfl⟩ | ⟨c0_105, rfl, rfl⟩
            · rw [hx.kk hp1] at hM c0_105
              rw [su_su] at hM
              refine ww_if_eq 115 dX3_factor_108 (by decide) (inI.mk (by decide) (by decide)) (fun c_108 => ?_) (fun c_108 => ?_)
              · exact absurd c_108 (by decide)
              · refine ww_iconst dX3_factor_111 ?_
                refine ww_goto 142 dX3_factor_112 (by decide) ?_
                refine ww_istore_n [(2, _), (1, _), (0, _)] dX3_factor_142 (by decide) rfl ?_
                refine ww_iload_n 0 dX3_factor_143 rfl ?_
                refine ww_if_ge 158 dX3_factor_144 (by decide) (inI.mk (by decide) (by decide)) (fun c_144 => ?_) (fun c_144 => ?_)
                · refine ww_iload_n 0 dX3_factor_158 rfl ?_
                  refine ww_istore_n [(3, _), (2, _), (1, _), (0, _)] dX3_factor_159 (by decide) rfl ?_
                  refine ww_aload_n 3 dX3_factor_160 rfl ?_
                  refine ww_iload_n 1 dX3_factor_161 rfl ?_
                  refine ww_if_ge 169 dX3_factor_162 (by decide) (inI.mk (by decide) (by decide)) (fun c_162 => ?_) (fun c_162 => ?_)
                  · refine ww_iconst dX3_factor_169 ?_
                    have hwg := we_gt (show pw t p = kwRank from c0_105)
                    have hww := hx.w1 hk.2.1
                    have hc9 : su σ 4 0 0 (we t (sk t p)) 9 0 5 = c0 := by rw [su_off (by decide)]; exact hc
                    refine cr_sv hM (cr_V (ct_X3_emit hG hM (by rw [su_off (by decide)]; exact hg) _ (inI.mk (by decide) (by decide)) (by omega) (by omega)) sv_X3_143 rfl dX3_factor_170 hM.obj rfl rfl rfl rfl ⟨by decide, by decide⟩ (Nat.le_of_ble_eq_true rfl) (Nat.le_of_ble_eq_true rfl) (Nat.le_of_ble_eq_true rfl)) (fun σ_170 hh hM hp_170 => ?_)
                    have h5e : σ_170 5 0 0 = 0 := by rw [← hp_170, su_off (by decide), su_off (by decide), su_off (by decide)]; exact hg
                    have hc9e : σ_170 9 0 5 = c0 + 1 := by rw [← hp_170, su_s, hc9]
                    refine ww_aload_n 3 dX3_factor_173 rfl ?_
                    refine ww_iload_n 0 dX3_factor_174 rfl ?_
                    refine cr_sv hM (cr_V (ct_X3_emit hG hM h5e _ (inI.mk (by decide) (by decide)) (by omega) (by omega)) sv_X3_143 rfl dX3_factor_175 hM.obj rfl rfl rfl rfl ⟨by decide, by decide⟩ (Nat.le_of_ble_eq_true rfl) (Nat.le_of_ble_eq_true rfl) (Nat.le_of_ble_eq_true rfl)) (fun σ_175 hh hM hp_175 => ?_)
                    obtain ⟨q1, q2⟩ := emit2 (σ := σ) (d := 1) (n := n) (p := p) hp_170 hp_175 (su_off (by decide)) hc hc0 (by rw [su_off (by decide)]; exact hg) su_s (by rw [su_off (by decide)]; exact hd) (su_off (by decide)) (by omega) hww.2.1 Cd_1
                    exact ww_vret hQ dX3_factor_178 rfl (Nat.le_of_ble_eq_true rfl) (Nat.le_of_ble_eq_true rfl) ⟨rfl, _, hM, fun j a b c d e f => by rw [q2 j d, su_off a], q1.2.2.2.2.1, Or.inr ⟨_, _, by rw [pE0_kw c_16 c_82, if_neg (show ¬ pw t p = kwTrust from c0_92), if_pos (show pw t p = kwRank from c0_105)], q1⟩⟩
                  · exact absurd c_162 (by decide)
                · exact absurd c_144 (by decide)
            · rw [hx.kk hp1] at hM c0_105
              rw [su_su] at hM
              refine ww_if_eq 115 dX3_factor_108 (by decide) (inI.mk (by decide) (by decide)) (fun c_108 => ?_) (fun c_108 => ?_)
              · refine ww_aload_n 1 dX3_factor_115 rfl ?_
                obtain ⟨a_116, tx_116, hz_116, hS_116⟩ := (hL.fr hM) 136 kwOffers (by decide)
                refine ww_ldcS hz_116 dX3_factor_116 ?_
                refine cr_si hM (cr_V (ct_X3_takeWord hG hM hT (sk t p) su_s (by omega) hk.2.1 (by rw [su_off (by decide)]; exact hg) hS_116 (fun e => hM.1.1 e.symm)) sv_X3_130 rfl dX3_factor_118 hM.obj rfl rfl rfl rfl ⟨by decide, by decide⟩ (Nat.le_of_ble_eq_true rfl) (Nat.le_of_ble_eq_true rfl) (Nat.le_of_ble_eq_true rfl)) (fun r_118 σ_118 hh hM hp_118 => ?_)
                rcases hp_118 with ⟨c0_118, rfl, rfl⟩ | ⟨c0_118, rfl, rfl⟩
                · rw [hx.kk hp1] at hM c0_118
                  rw [su_su] at hM
                  refine ww_if_eq 128 dX3_factor_121 (by decide) (inI.mk (by decide) (by decide)) (fun c_121 => ?_) (fun c_121 => ?_)
                  · exact absurd c_121 (by decide)
                  · refine ww_iconst dX3_factor_124 ?_
                    refine ww_goto 142 dX3_factor_125 (by decide) ?_
                    refine ww_istore_n [(2, _), (1, _), (0, _)] dX3_factor_142 (by decide) rfl ?_
                    refine ww_iload_n 0 dX3_factor_143 rfl ?_
                    refine ww_if_ge 158 dX3_factor_144 (by decide) (inI.mk (by decide) (by decide)) (fun c_144 => ?_) (fun c_144 => ?_)
                    · refine ww_iload_n 0 dX3_factor_158 rfl ?_
                      refine ww_istore_n [(3, _), (2, _), (1, _), (0, _)] dX3_factor_159 (by decide) rfl ?_
                      refine ww_aload_n 3 dX3_factor_160 rfl ?_
                      refine ww_iload_n 1 dX3_factor_161 rfl ?_
                      refine ww_if_ge 169 dX3_factor_162 (by decide) (inI.mk (by decide) (by decide)) (fun c_162 => ?_) (fun c_162 => ?_)
                      · refine ww_iconst dX3_factor_169 ?_
                        have hwg := we_gt (show pw t p = kwOffers from c0_118)
                        have hww := hx.w1 hk.2.1
                        have hc9 : su σ 4 0 0 (we t (sk t p)) 9 0 5 = c0 := by rw [su_off (by decide)]; exact hc
                        refine cr_sv hM (cr_V (ct_X3_emit hG hM (by rw [su_off (by decide)]; exact hg) _ (inI.mk (by decide) (by decide)) (by omega) (by omega)) sv_X3_143 rfl dX3_factor_170 hM.obj rfl rfl rfl rfl ⟨by decide, by decide⟩ (Nat.le_of_ble_eq_true rfl) (Nat.le_of_ble_eq_true rfl) (Nat.le_of_ble_eq_true rfl)) (fun σ_170 hh hM hp_170 => ?_)
                        have h5e : σ_170 5 0 0 = 0 := by rw [← hp_170, su_off (by decide), su_off (by decide), su_off (by decide)]; exact hg
                        have hc9e : σ_170 9 0 5 = c0 + 1 := by rw [← hp_170, su_s, hc9]
                        refine ww_aload_n 3 dX3_factor_173 rfl ?_
                        refine ww_iload_n 0 dX3_factor_174 rfl ?_
                        refine cr_sv hM (cr_V (ct_X3_emit hG hM h5e _ (inI.mk (by decide) (by decide)) (by omega) (by omega)) sv_X3_143 rfl dX3_factor_175 hM.obj rfl rfl rfl rfl ⟨by decide, by decide⟩ (Nat.le_of_ble_eq_true rfl) (Nat.le_of_ble_eq_true rfl) (Nat.le_of_ble_eq_true rfl)) (fun σ_175 hh hM hp_175 => ?_)
                        obtain ⟨q1, q2⟩ := emit2 (σ := σ) (d := 1) (n := n) (p := p) hp_170 hp_175 (su_off (by decide)) hc hc0 (by rw [su_off (by decide)]; exact hg) su_s (by rw [su_off (by decide)]; exact hd) (su_off (by decide)) (by omega) hww.2.1 Cd_2
                        exact ww_vret hQ dX3_factor_178 rfl (Nat.le_of_ble_eq_true rfl) (Nat.le_of_ble_eq_true rfl) ⟨rfl, _, hM, fun j a b c d e f => by rw [q2 j d, su_off a], q1.2.2.2.2.1, Or.inr ⟨_, _, by rw [pE0_kw c_16 c_82, if_neg (show ¬ pw t p = kwTrust from c0_92), if_neg (show ¬ pw t p = kwRank from c0_105), if_pos (show pw t p = kwOffers from c0_118)], q1⟩⟩
                      · exact absurd c_162 (by decide)
                    · exact absurd c_144 (by decide)
                · rw [hx.kk hp1] at hM c0_118
                  rw [su_su] at hM
                  refine ww_if_eq 128 dX3_factor_121 (by decide) (inI.mk (by decide) (by decide)) (fun c_121 => ?_) (fun c_121 => ?_)
                  · refine ww_aload_n 1 dX3_factor_128 rfl ?_
                    obtain ⟨a_129, tx_129, hz_129, hS_129⟩ := (hL.fr hM) 138 kwFriends (by decide)
                    refine ww_ldcS hz_129 dX3_factor_129 ?_
                    refine cr_si hM (cr_V (ct_X3_takeWord hG hM hT (sk t p) su_s (by omega) hk.2.1 (by rw [su_off (by decide)]; exact hg) hS_129 (fun e => hM.1.1 e.symm)) sv_X3_130 rfl dX3_factor_131 hM.obj rfl rfl rfl rfl ⟨by decide, by decide⟩ (Nat.le_of_ble_eq_true rfl) (Nat.le_of_ble_eq_true rfl) (Nat.le_of_ble_eq_true rfl)) (fun r_131 σ_131 hh hM hp_131 => ?_)
                    rcases hp_131 with ⟨c0_131, rfl, rfl⟩ | ⟨c0_131, rfl, rfl⟩
                    · rw [hx.kk hp1] at hM c0_131
                      rw [su_su] at hM
                      refine ww_if_eq 141 dX3_factor_134 (by decide) (inI.mk (by decide) (by decide)) (fun c_134 => ?_) (fun c_134 => ?_)
                      · exact absurd c_134 (by decide)
                      · refine ww_iconst dX3_factor_137 ?_
                        refine ww_goto 142 dX3_factor_138 (by decide) ?_
                        refine ww_istore_n [(2, _), (1, _), (0, _)] dX3_factor_142 (by decide) rfl ?_
                        refine ww_iload_n 0 dX3_factor_143 rfl ?_
                        refine ww_if_ge 158 dX3_factor_144 (by decide) (inI.mk (by decide) (by decide)) (fun c_144 => ?_) (fun c_144 => ?_)
                        · refine ww_iload_n 0 dX3_factor_158 rfl ?_
                          refine ww_istore_n [(3, _), (2, _), (1, _), (0, _)] dX3_factor_159 (by decide) rfl ?_
                          refine ww_aload_n 3 dX3_factor_160 rfl ?_
                          refine ww_iload_n 1 dX3_factor_161 rfl ?_
                          refine ww_if_ge 169 dX3_factor_162 (by decide) (inI.mk (by decide) (by decide)) (fun c_162 => ?_) (fun c_162 => ?_)
                          · refine ww_iconst dX3_factor_169 ?_
                            have hwg := we_gt (show pw t p = kwFriends from c0_131)
                            have hww := hx.w1 hk.2.1
                            have hc9 : su σ 4 0 0 (we t (sk t p)) 9 0 5 = c0 := by rw [su_off (by decide)]; exact hc
                            refine cr_sv hM (cr_V (ct_X3_emit hG hM (by rw [su_off (by decide)]; exact hg) _ (inI.mk (by decide) (by decide)) (by omega) (by omega)) sv_X3_143 rfl dX3_factor_170 hM.obj rfl rfl rfl rfl ⟨by decide, by decide⟩ (Nat.le_of_ble_eq_true rfl) (Nat.le_of_ble_eq_true rfl) (Nat.le_of_ble_eq_true rfl)) (fun σ_170 hh hM hp_170 => ?_)
                            have h5e : σ_170 5 0 0 = 0 := by rw [← hp_170, su_off (by decide), su_off (by decide), su_off (by decide)]; exact hg
                            have hc9e : σ_170 9 0 5 = c0 + 1 := by rw [← hp_170, su_s, hc9]
                            refine ww_aload_n 3 dX3_factor_173 rfl ?_
                            refine ww_iload_n 0 dX3_factor_174 rfl ?_
                            refine cr_sv hM (cr_V (ct_X3_emit hG hM h5e _ (inI.mk (by decide) (by decide)) (by omega) (by omega)) sv_X3_143 rfl dX3_factor_175 hM.obj rfl rfl rfl rfl ⟨by decide, by decide⟩ (Nat.le_of_ble_eq_true rfl) (Nat.le_of_ble_eq_true rfl) (Nat.le_of_ble_eq_true rfl)) (fun σ_175 hh hM hp_175 => ?_)
                            obtain ⟨q1, q2⟩ := emit2 (σ := σ) (d := 1) (n := n) (p := p) hp_170 hp_175 (su_off (by decide)) hc hc0 (by rw [su_off (by decide)]; exact hg) su_s (by rw [su_off (by decide)]; exact hd) (su_off (by decide)) (by omega) hww.2.1 Cd_3
                            exact ww_vret hQ dX3_factor_178 rfl (Nat.le_of_ble_eq_true rfl) (Nat.le_of_ble_eq_true rfl) ⟨rfl, _, hM, fun j a b c d e f => by rw [q2 j d, su_off a], q1.2.2.2.2.1, Or.inr ⟨_, _, by rw [pE0_kw c_16 c_82, if_neg (show ¬ pw t p = kwTrust from c0_92), if_neg (show ¬ pw t p = kwRank from c0_105), if_neg (show ¬ pw t p = kwOffers from c0_118), if_pos (show pw t p = kwFriends from c0_131)], q1⟩⟩
                          · exact absurd c_162 (by decide)
                        · exact absurd c_144 (by decide)
                    · rw [hx.kk hp1] at hM c0_131
                      rw [su_su] at hM
                      refine ww_if_eq 141 dX3_factor_134 (by decide) (inI.mk (by decide) (by decide)) (fun c_134 => ?_) (fun c_134 => ?_)
                      · refine ww_iconst dX3_factor_141 ?_
                        refine ww_istore_n [(2, _), (1, _), (0, _)] dX3_factor_142 (by decide) rfl ?_
                        refine ww_iload_n 0 dX3_factor_143 rfl ?_
                        refine ww_if_ge 158 dX3_factor_144 (by decide) (inI.mk (by decide) (by decide)) (fun c_144 => ?_) (fun c_144 => ?_)
                        · exact absurd c_144 (by decide)
                        · refine ww_aload_n 2 dX3_factor_147 rfl ?_
                          refine ww_iconst dX3_factor_148 ?_
                          refine ww_sipush dX3_factor_149 (by decide) ?_
                          refine cr_si hM (cr_V (ct_X3_number hG hM hT (sk t p) su_s (by omega) hk.2.1 (by rw [su_off (by decide)]; exact hg) 0 9999 (inI.mk (by decide) (by decide)) (inI.mk (by decide) (by decide))) sv_X3_140 rfl dX3_factor_152 hM.obj rfl rfl rfl rfl ⟨by decide, by decide⟩ (Nat.le_of_ble_eq_true rfl) (Nat.le_of_ble_eq_true rfl) (Nat.le_of_ble_eq_true rfl)) (fun r_152 σ_152 hh hM hp_152 => ?_)
                          obtain ⟨hk_152, hr_152, hc_152⟩ := hp_152
                          rw [pnum_kk hx hp1] at hc_152
                          have hf2 : FE σ σ_152 := fun j a b c d e f => by rw [hk_152 j a b c e, su_off a]
                          have h13n : σ_152 13 0 0 = 1 := by rw [hk_152 13 (by decide) (by decide) (by decide) (by decide), su_off (by decide)]; exact hd
                          have h9n : σ_152 9 = σ 9 := by rw [hk_152 9 (by decide) (by decide) (by decide) (by decide), su_off (by decide)]
                          rcases hc_152 with ⟨c, o, hpe, hce, h5, h6⟩ | ⟨v, e3, hpn, h5n, h4n, rfl, f1, f2, f3, f4, f6⟩
                          · refine ww_goto 159 dX3_factor_155 (by decide) ?_
                            refine ww_istore_n [(3, _), (2, _), (1, _), (0, _)] dX3_factor_159 (by decide) rfl ?_
                            refine ww_aload_n 3 dX3_factor_160 rfl ?_
                            refine ww_iload_n 1 dX3_factor_161 rfl ?_
                            refine ww_if_ge 169 dX3_factor_162 (by decide) (inI.mk (by decide) (by decide)) (fun c_162 => ?_) (fun c_162 => ?_)
                            · exact absurd c_162 (by decide)
                            · refine ww_iconst dX3_factor_165 ?_
                              refine ww_goto 170 dX3_factor_166 (by decide) ?_
                              refine cr_pv (cr_V (ct_X3_emitB hG hM (fun e => hce (h5.symm.trans e)) _) sv_X3_143 rfl dX3_factor_170 hM.obj rfl rfl rfl rfl ⟨by decide, by decide⟩ (Nat.le_of_ble_eq_true rfl) (Nat.le_of_ble_eq_true rfl) (Nat.le_of_ble_eq_true rfl)) ?_
                              refine ww_aload_n 3 dX3_factor_173 rfl ?_
                              refine ww_iload_n 0 dX3_factor_174 rfl ?_
                              refine cr_pv (cr_V (ct_X3_emitB hG hM (fun e => hce (h5.symm.trans e)) _) sv_X3_143 rfl dX3_factor_175 hM.obj rfl rfl rfl rfl ⟨by decide, by decide⟩ (Nat.le_of_ble_eq_true rfl) (Nat.le_of_ble_eq_true rfl) (Nat.le_of_ble_eq_true rfl)) ?_
                              exact ww_vret hQ dX3_factor_178 rfl (Nat.le_of_ble_eq_true rfl) (Nat.le_of_ble_eq_true rfl) ⟨rfl, _, hM, hf2, h13n, Or.inl ⟨c, o, by rw [pE0_kw c_16 c_82, if_neg (show ¬ pw t p = kwTrust from c0_92), if_neg (show ¬ pw t p = kwRank from c0_105), if_neg (show ¬ pw t p = kwOffers from c0_118), if_neg (show ¬ pw t p = kwFriends from c0_131)]; unfold pnum at hpe; rw [if_neg c_82] at hpe; cases hpe; rfl, hce, h5, h6⟩⟩
                          · exact absurd hpn (by unfold pnum; rw [if_neg c_82]; intro e; cases e)
                      · exact absurd c_134 (by decide)
                  · exact absurd c_121 (by decide)
              · exact absurd c_108 (by decide)
          · exact absurd c_95 (by decide)
      · refine ww_iconst dX3_factor_85 ?_
        refine ww_goto 142 dX3_factor_86 (by decide) ?_
        refine ww_istore_n [(2, _), (1, _), (0, _)] dX3_factor_142 (by decide) rfl ?_
        refine ww_iload_n 0 dX3_factor_143 rfl ?_
        refine ww_if_ge 158 dX3_factor_144 (by decide) (inI.mk (by decide) (by decide)) (fun c_144 => ?_) (fun c_144 => ?_)
        · exact absurd c_144 (by decide)
        · refine ww_aload_n 2 dX3_factor_147 rfl ?_
          refine ww_iconst dX3_factor_148 ?_
          refine ww_sipush dX3_factor_149 (by decide) ?_
          refine cr_si hM (cr_V (ct_X3_number hG hM hT (sk t p) su_s (by omega) hk.2.1 (by rw [su_off (by decide)]; exact hg) 0 9999 (inI.mk (by decide) (by decide)) (inI.mk (by decide) (by decide))) sv_X3_140 rfl dX3_factor_152 hM.obj rfl rfl rfl rfl ⟨by decide, by decide⟩ (Nat.le_of_ble_eq_true rfl) (Nat.le_of_ble_eq_true rfl) (Nat.le_of_ble_eq_true rfl)) (fun r_152 σ_152 hh hM hp_152 => ?_)
          obtain ⟨hk_152, hr_152, hc_152⟩ := hp_152
          rw [pnum_kk hx hp1] at hc_152
          have hf2 : FE σ σ_152 := fun j a b c d e f => by rw [hk_152 j a b c e, su_off a]
          have h13n : σ_152 13 0 0 = 1 := by rw [hk_152 13 (by decide) (by decide) (by decide) (by decide), su_off (by decide)]; exact hd
          have h9n : σ_152 9 = σ 9 := by rw [hk_152 9 (by decide) (by decide) (by decide) (by decide), su_off (by decide)]
          rcases hc_152 with ⟨c, o, hpe, hce, h5, h6⟩ | ⟨v, e3, hpn, h5n, h4n, rfl, f1, f2, f3, f4, f6⟩
          · refine ww_goto 159 dX3_factor_155 (by decide) ?_
            refine ww_istore_n [(3, _), (2, _), (1, _), (0, _)] dX3_factor_159 (by decide) rfl ?_
            refine ww_aload_n 3 dX3_factor_160 rfl ?_
            refine ww_iload_n 1 dX3_factor_161 rfl ?_
            refine ww_if_ge 169 dX3_factor_162 (by decide) (inI.mk (by decide) (by decide)) (fun c_162 => ?_) (fun c_162 => ?_)
            · exact absurd c_162 (by decide)
            · refine ww_iconst dX3_factor_165 ?_
              refine ww_goto 170 dX3_factor_166 (by decide) ?_
              refine cr_pv (cr_V (ct_X3_emitB hG hM (fun e => hce (h5.symm.trans e)) _) sv_X3_143 rfl dX3_factor_170 hM.obj rfl rfl rfl rfl ⟨by decide, by decide⟩ (Nat.le_of_ble_eq_true rfl) (Nat.le_of_ble_eq_true rfl) (Nat.le_of_ble_eq_true rfl)) ?_
              refine ww_aload_n 3 dX3_factor_173 rfl ?_
              refine ww_iload_n 0 dX3_factor_174 rfl ?_
              refine cr_pv (cr_V (ct_X3_emitB hG hM (fun e => hce (h5.symm.trans e)) _) sv_X3_143 rfl dX3_factor_175 hM.obj rfl rfl rfl rfl ⟨by decide, by decide⟩ (Nat.le_of_ble_eq_true rfl) (Nat.le_of_ble_eq_true rfl) (Nat.le_of_ble_eq_true rfl)) ?_
              exact ww_vret hQ dX3_factor_178 rfl (Nat.le_of_ble_eq_true rfl) (Nat.le_of_ble_eq_true rfl) ⟨rfl, _, hM, hf2, h13n, Or.inl ⟨c, o, by rw [pE0_num c_16 c_82, hpe], hce, h5, h6⟩⟩
          · have hc9 : σ_152 9 0 5 = c0 := by rw [h9n]; exact hc
            refine ww_goto 159 dX3_factor_155 (by decide) ?_
            refine ww_istore_n [(3, _), (2, _), (1, _), (0, _)] dX3_factor_159 (by decide) rfl ?_
            refine ww_aload_n 3 dX3_factor_160 rfl ?_
            refine ww_iload_n 1 dX3_factor_161 rfl ?_
            refine ww_if_ge 169 dX3_factor_162 (by decide) (inI.mk (by decide) (by decide)) (fun c_162 => ?_) (fun c_162 => ?_)
            · exact absurd c_162 (by decide)
            · refine ww_iconst dX3_factor_165 ?_
              refine ww_goto 170 dX3_factor_166 (by decide) ?_
              refine cr_sv hM (cr_V (ct_X3_emit hG hM h5n _ (inI.mk (by decide) (by decide)) (by omega) (by omega)) sv_X3_143 rfl dX3_factor_170 hM.obj rfl rfl rfl rfl ⟨by decide, by decide⟩ (Nat.le_of_ble_eq_true rfl) (Nat.le_of_ble_eq_true rfl) (Nat.le_of_ble_eq_true rfl)) (fun σ_170 hh hM hp_170 => ?_)
              have h5e : σ_170 5 0 0 = 0 := by rw [← hp_170, su_off (by decide), su_off (by decide)]; exact h5n
              have hc9e : σ_170 9 0 5 = c0 + 1 := by rw [← hp_170, su_s, hc9]
              refine ww_aload_n 3 dX3_factor_173 rfl ?_
              refine ww_iload_n 0 dX3_factor_174 rfl ?_
              refine cr_sv hM (cr_V (ct_X3_emit hG hM h5e _ (inI.mk (by omega) (by omega)) (by omega) (by omega)) sv_X3_143 rfl dX3_factor_175 hM.obj rfl rfl rfl rfl ⟨by decide, by decide⟩ (Nat.le_of_ble_eq_true rfl) (Nat.le_of_ble_eq_true rfl) (Nat.le_of_ble_eq_true rfl)) (fun σ_175 hh hM hp_175 => ?_)
              obtain ⟨q1, q2⟩ := emit2 (n := n) (p := p) hp_170 hp_175 h9n hc hc0 h5n h4n h13n (by rw [f6, su_off (by decide)]) (by have := pnum_gt hx hp0 hp1 hpn; omega) (by omega) (Cd_n f3 f4)
              exact ww_vret hQ dX3_factor_178 rfl (Nat.le_of_ble_eq_true rfl) (Nat.le_of_ble_eq_true rfl) ⟨rfl, _, hM, fun j a b c d e f => by rw [q2 j d]; exact hf2 j a b c d e f, q1.2.2.2.2.1, Or.inr ⟨_, _, by rw [pE0_num c_16 c_82, hpn], q1⟩⟩
    · have hsn : sk t p ≠ n := fun e => by rw [e, hx.2.2.1 n (Int.le_refl _)] at c_16; cases c_16
      refine ww_aload_n 1 dX3_factor_19 rfl ?_
      refine ww_getf gf_X3_118 rfl dX3_factor_20 hM.obj rfl ?_
      rw [su_off (by decide), hd]
      refine ww_iconst dX3_factor_23 ?_
      refine ww_icmp_ne 37 dX3_factor_24 (by decide) (inI.mk (by decide) (by decide)) (inI.mk (by decide) (by decide)) (fun c_24 => ?_) (fun c_24 => ?_)
      · refine ww_aload_n 1 dX3_factor_37 rfl ?_
        refine ww_dup dX3_factor_38 rfl ?_
        refine ww_getf gf_X3_68 rfl dX3_factor_39 hM.obj rfl ?_
        rw [su_s]
        refine ww_iconst dX3_factor_42 ?_
        refine ww_iadd dX3_factor_43 ?_
        refine mw_put pf_X3_68 rfl dX3_factor_44 hM rfl (inI.mk (by omega) (by omega)) (fun hh hM => ?_)
        rw [su_su] at hM
        refine ww_aload_n 1 dX3_factor_47 rfl ?_
        refine ww_dup dX3_factor_48 rfl ?_
        refine ww_getf gf_X3_118 rfl dX3_factor_49 hM.obj rfl ?_
        rw [su_off (by decide), hd]
        refine ww_iconst dX3_factor_52 ?_
        refine ww_iadd dX3_factor_53 ?_
        refine mw_put pf_X3_118 rfl dX3_factor_54 hM rfl (inI.mk (by decide) (by decide)) (fun hh hM => ?_)
        refine ww_aload_n 1 dX3_factor_57 rfl ?_
        refine cr_sv hM (cr_V (ct_X3_sum2 hG hM (TX.of (σ' := su (su σ 4 0 0 (sk t p + 1)) 13 0 0 (1 + 1)) hT (by rw [su_off (by decide), su_off (by decide), su_off (by decide)]) (by rw [su_off (by decide), su_off (by decide), su_off (by decide)])) (sk t p + 1) (by rw [su_off (by decide), su_s]) (by omega) (by omega) (by rw [su_off (by decide), su_off (by decide)]; exact hg) (hL.fr hM) x g (by omega) c0 (by rw [su_off (by decide), su_off (by decide)]; exact hc) hc0 (by omega) su_s) sv_X3_121 rfl dX3_factor_58 hM.obj rfl rfl rfl rfl ⟨by decide, by decide⟩ (Nat.le_of_ble_eq_true rfl) (Nat.le_of_ble_eq_true rfl) (Nat.le_of_ble_eq_true rfl)) (fun σ_58 hh hM hp_58 => ?_)
        obtain ⟨hfe_58, h13_58, hc_58⟩ := hp_58
        rcases hc_58 with ⟨c, o, hpe, hce, h5, h6⟩ | ⟨y, p1, hpy, hy⟩
        · refine ww_aload_n 1 dX3_factor_61 rfl ?_
          refine ww_bipush dX3_factor_62 (by decide) ?_
          refine cr_pv (cr_V (ct_X3_expectB hG hM (fun e => hce (h5.symm.trans e)) _) sv_X3_124 rfl dX3_factor_64 hM.obj rfl rfl rfl rfl ⟨by decide, by decide⟩ (Nat.le_of_ble_eq_true rfl) (Nat.le_of_ble_eq_true rfl) (Nat.le_of_ble_eq_true rfl)) ?_
          refine ww_aload_n 1 dX3_factor_67 rfl ?_
          refine ww_dup dX3_factor_68 rfl ?_
          refine ww_getf gf_X3_118 rfl dX3_factor_69 hM.obj rfl ?_
          rw [h13_58]
          refine ww_iconst dX3_factor_72 ?_
          refine ww_isub dX3_factor_73 ?_
          refine mw_put pf_X3_118 rfl dX3_factor_74 hM rfl (inI.mk (by decide) (by decide)) (fun hh hM => ?_)
          exact ww_vret hQ dX3_factor_77 rfl (Nat.le_of_ble_eq_true rfl) (Nat.le_of_ble_eq_true rfl) ⟨rfl, _, hM, fun j a b c d e f => by rw [su_off f, hfe_58 j a b c d e f, su_off f, su_off a], su_s, Or.inl ⟨c, o, by rw [pE0_par c_16 (by decide)]; rw [show (1 : Int) + 1 = 2 from rfl, hpe], hce, by rw [su_off (by decide)]; exact h5, by rw [su_off (by decide)]; exact h6⟩⟩
        · have hT3 := hT.of (σ' := σ_58) (by rw [hfe_58 1 (by decide) (by decide) (by decide) (by decide) (by decide) (by decide), su_off (by decide), su_off (by decide), su_off (by decide)]) (by rw [hfe_58 3 (by decide) (by decide) (by decide) (by decide) (by decide) (by decide), su_off (by decide), su_off (by decide), su_off (by decide)])
          have hyp := hy.2.2.1
          have hyn := hy.2.2.2.1
          have hk1 := hx.k1 hyn
          refine ww_aload_n 1 dX3_factor_61 rfl ?_
          refine ww_bipush dX3_factor_62 (by decide) ?_
          refine cr_sv hM (cr_V (ct_X3_expect hG hM hT3 p1 hy.2.1 (by omega) hyn hy.1 41 (inI.mk (by decide) (by decide))) sv_X3_124 rfl dX3_factor_64 hM.obj rfl rfl rfl rfl ⟨by decide, by decide⟩ (Nat.le_of_ble_eq_true rfl) (Nat.le_of_ble_eq_true rfl) (Nat.le_of_ble_eq_true rfl)) (fun σ_64 hh hM hp_64 => ?_)
          rcases hp_64 with ⟨c41, rfl⟩ | ⟨c41, rfl⟩
          · have hsn1 : sk t p1 ≠ n := fun e => by rw [e, hx.2.2.1 n (Int.le_refl _)] at c41; cases c41
            refine ww_aload_n 1 dX3_factor_67 rfl ?_
            refine ww_dup dX3_factor_68 rfl ?_
            refine ww_getf gf_X3_118 rfl dX3_factor_69 hM.obj rfl ?_
            rw [su_off (by decide), h13_58]
            refine ww_iconst dX3_factor_72 ?_
            refine ww_isub dX3_factor_73 ?_
            refine mw_put pf_X3_118 rfl dX3_factor_74 hM rfl (inI.mk (by decide) (by decide)) (fun hh hM => ?_)
            exact ww_vret hQ dX3_factor_77 rfl (Nat.le_of_ble_eq_true rfl) (Nat.le_of_ble_eq_true rfl) ⟨rfl, _, hM, fun j a b c d e f => by rw [su_off f, su_off a, hfe_58 j a b c d e f, su_off f, su_off a], su_s, Or.inr ⟨y, sk t p1 + 1, by rw [pE0_par c_16 (by decide)]; rw [show (1 : Int) + 1 = 2 from rfl, hpy]; simp only; rw [if_pos c41], hy.of (by rw [su_off (by decide), su_off (by decide)]) (by rw [su_off (by decide), su_off (by decide)]) (by rw [su_off (by decide), su_off (by decide)]) (by rw [su_off (by decide), su_off (by decide)]) (by rw [su_off (by decide), su_off (by decide)]; exact hy.1) (by rw [su_off (by decide), su_s]) (by omega) (by omega) (by omega) su_s⟩⟩
          · refine ww_aload_n 1 dX3_factor_67 rfl ?_
            refine ww_dup dX3_factor_68 rfl ?_
            refine ww_getf gf_X3_118 rfl dX3_factor_69 hM.obj rfl ?_
            rw [su_off (by decide), su_off (by decide), su_off (by decide), h13_58]
            refine ww_iconst dX3_factor_72 ?_
            refine ww_isub dX3_factor_73 ?_
            refine mw_put pf_X3_118 rfl dX3_factor_74 hM rfl (inI.mk (by decide) (by decide)) (fun hh hM => ?_)
            exact ww_vret hQ dX3_factor_77 rfl (Nat.le_of_ble_eq_true rfl) (Nat.le_of_ble_eq_true rfl) ⟨rfl, _, hM, fun j a b c d e f => by rw [su_off f, su_off c, su_off b, su_off a, hfe_58 j a b c d e f, su_off f, su_off a], su_s, Or.inl ⟨-2, sk t p1, by rw [pE0_par c_16 (by decide)]; rw [show (1 : Int) + 1 = 2 from rfl, hpy]; simp only; rw [if_neg c41], by decide, by rw [su_off (by decide), su_off (by decide), su_s], by rw [su_off (by decide), su_s]⟩⟩
      · exact absurd c_24 (by decide)
  · exact absurd hg c_4

set_option maxHeartbeats 4000000 in
theorem ct_X3_term1 {G : GT} {h0 h : AH} {m : Nat} {A : Nat → Nat} {B : Nat → Int → Nat} {D : Int → Int} {σ : MS} (hG : GOK G) (hM : MWF G h0 h m A B D σ) {t : Int → Int} {n : Int} (hT : TX σ t n) (p : Int) (hp : σ 4 0 0 = p) (hp0 : 0 ≤ p) (hp1 : p ≤ n) (hg : σ 5 0 0 = 0) (hL : LitM G h) (x : List Int × EF) (f : Nat) (hf : 3 * (n - p) + 2 ≤ f) (c0 : Int) (hc : σ 9 0 5 = c0) (hc0 : 0 ≤ c0) (hcp : 2 * c0 ≤ 3 * p) (hd : σ 13 0 0 = 1) : CSv G (MX3_term 15 325 0 0) h m A B D [.ref m] (fun σ' => FE σ σ' ∧ σ' 13 0 0 = 1 ∧ PEr (pE f 1 t 1 p x) σ σ' c0 1 p n) := by
  refine CT.of rfl hG (Nat.le_of_ble_eq_true rfl) rfl (fun E hQ => ?_)
  have hM := hM.1.f
  have hx := hT.1
  have hn8 := hx.2.1
  obtain ⟨g, rfl⟩ : ∃ g, f = g + 1 := ⟨f - 1, by omega⟩
  refine ww_aload_n 0 dX3_term_0 rfl ?_
  refine cr_sv hM (cr_V (ct_X3_factor1 hG hM hT p hp hp0 hp1 hg hL x g (by omega) c0 hc hc0 hcp hd) sv_X3_146 rfl dX3_term_1 hM.obj rfl rfl rfl rfl ⟨by decide, by decide⟩ (Nat.le_of_ble_eq_true rfl) (Nat.le_of_ble_eq_true rfl) (Nat.le_of_ble_eq_true rfl)) (fun σ_1 hh hM hp_1 => ?_)
  obtain ⟨hfe_1, h13_1, hc_1⟩ := hp_1
  rcases hc_1 with ⟨c, o, hpe, hce, h5, h6⟩ | ⟨y, p1, hpy, hy⟩
  · have hpr : pE (g + 1) 1 t 1 p x = .error (c, o) := by rw [pE1, hpe]
    have hfr := hfe_1
    have h13r := h13_1
    refine ww_aload_n 0 dX3_term_4 rfl ?_
    refine cr_pi (cr_V (ct_X3_isGood hG hM) sv_X3_85 rfl dX3_term_5 hM.obj rfl rfl rfl rfl ⟨by decide, by decide⟩ (Nat.le_of_ble_eq_true rfl) (Nat.le_of_ble_eq_true rfl) (Nat.le_of_ble_eq_true rfl)) ?_
    refine ww_ifb_eq 74 dX3_term_8 (by decide) (fun c_8 => ?_) (fun c_8 => ?_)
    · exact ww_vret hQ dX3_term_74 rfl (Nat.le_of_ble_eq_true rfl) (Nat.le_of_ble_eq_true rfl) ⟨rfl, _, hM, hfr, h13r, Or.inl ⟨c, o, hpr, hce, h5, h6⟩⟩
    · exact absurd (h5.symm.trans c_8) hce
  · have hpt : pE (g + 1) 1 t 1 p x = pE g 2 t 1 p1 y := by rw [pE1, hpy]
    have loop_4 : ∀ (e : Nat) (u : Nat) (z : List Int × EF) (q : Int) (τ : MS) (hx1 : AH), (MWF G h hx1 m A B D τ) → (FE σ τ) → (ExO σ τ c0 1 p n z q) → (pE (g + 1) 1 t 1 p x = pE u 2 t 1 q z) → (3 * (n - q) + 2 ≤ u) → (n - q < e) → WW G E (MX3_term 15 325 0 0) hx1 0 0 4 [(0, .ref m)] [] := by
      intro e
      induction e with
      | zero => intro u z q τ hx1 hM hfe hy hpt hu he; exact absurd he (by have := hy.2.2.2.1; omega)
      | succ e ie =>
        intro u z q τ hx1 hM hfe hy hpt hu he
        have hq2 := hy.2.2.2.1
        have hq1 := hy.2.2.1
        obtain ⟨v, rfl⟩ : ∃ v, u = v + 1 := ⟨u - 1, by omega⟩
        have hT := hT.of (hfe 1 (by decide) (by decide) (by decide) (by decide) (by decide) (by decide)) (hfe 3 (by decide) (by decide) (by decide) (by decide) (by decide) (by decide))
        have hkq := hx.k1 hq2
        have h13 := hy.2.2.2.2.1
        have h95 := hy.2.2.2.2.2.1
        have h29 := hy.2.2.2.2.2.2.2.2.1
        have hrx := hx.rg (q := sk t q) (by omega)
        refine ww_aload_n 0 dX3_term_4 rfl ?_
        refine cr_pi (cr_V (ct_X3_isGood hG hM) sv_X3_85 rfl dX3_term_5 hM.obj rfl rfl rfl rfl ⟨by decide, by decide⟩ (Nat.le_of_ble_eq_true rfl) (Nat.le_of_ble_eq_true rfl) (Nat.le_of_ble_eq_true rfl)) ?_
        refine ww_ifb_eq 74 dX3_term_8 (by decide) (fun c_8 => ?_) (fun c_8 => ?_)
        · exact absurd hy.1 c_8
        · refine ww_aload_n 0 dX3_term_11 rfl ?_
          refine cr_si hM (cr_V (ct_X3_next hG hM hT q hy.2.1 (by omega) hq2) sv_X3_89 rfl dX3_term_12 hM.obj rfl rfl rfl rfl ⟨by decide, by decide⟩ (Nat.le_of_ble_eq_true rfl) (Nat.le_of_ble_eq_true rfl) (Nat.le_of_ble_eq_true rfl)) (fun r_12 σ_12 hh hM hp_12 => ?_)
          obtain ⟨rfl, rfl⟩ := hp_12
          try rw [su_su] at hM
          refine ww_bipush dX3_term_15 (by decide) ?_
          refine ww_icmp_eq 29 dX3_term_17 (by decide) (inI.mk (by omega) (by omega)) (inI.mk (by decide) (by decide)) (fun c_17 => ?_) (fun c_17 => ?_)
          · have hsn : sk t q ≠ n := fun e => by rw [e, hx.2.2.1 n (Int.le_refl _)] at c_17; cases c_17
            refine ww_aload_n 0 dX3_term_29 rfl ?_
            refine cr_si hM (cr_V (ct_X3_next hG hM (hT.mv hM (by decide) (by decide)) (sk t q) su_s (by omega) hkq.2.1) sv_X3_89 rfl dX3_term_30 hM.obj rfl rfl rfl rfl ⟨by decide, by decide⟩ (Nat.le_of_ble_eq_true rfl) (Nat.le_of_ble_eq_true rfl) (Nat.le_of_ble_eq_true rfl)) (fun r_30 σ_30 hh hM hp_30 => ?_)
            obtain ⟨rfl, rfl⟩ := hp_30
            try rw [su_su] at hM
            rw [hx.kk hq2] at hM
            rw [hx.kk hq2]
            refine ww_bipush dX3_term_33 (by decide) ?_
            refine ww_icmp_ne 42 dX3_term_35 (by decide) (inI.mk (by omega) (by omega)) (inI.mk (by decide) (by decide)) (fun c_35 => ?_) (fun c_35 => ?_)
            · exact absurd c_17 c_35
            · refine ww_iconst dX3_term_38 ?_
              refine ww_goto 43 dX3_term_39 (by decide) ?_
              refine ww_istore_n [(1, _), (0, _)] dX3_term_43 (by decide) rfl ?_
              refine ww_aload_n 1 dX3_term_44 rfl ?_
              refine ww_dup dX3_term_45 rfl ?_
              refine ww_getf gf_X3_68 rfl dX3_term_46 hM.obj rfl ?_
              rw [su_s]
              refine ww_iconst dX3_term_49 ?_
              refine ww_iadd dX3_term_50 ?_
              refine mw_put pf_X3_68 rfl dX3_term_51 hM rfl (inI.mk (by omega) (by omega)) (fun hh hM => ?_)
              rw [su_su] at hM
              refine ww_aload_n 1 dX3_term_54 rfl ?_
              refine cr_sv hM (cr_V (ct_X3_factor1 hG hM (hT.mv hM (by decide) (by decide)) (sk t q + 1) su_s (by omega) (by omega) (by rw [su_off (by decide)]; exact hy.1) (hL.fr hM) z v (by omega) (c0 + z.1.length) (by rw [su_off (by decide)]; exact h95) (by omega) (by omega) (by rw [su_off (by decide)]; exact h13)) sv_X3_146 rfl dX3_term_55 hM.obj rfl rfl rfl rfl ⟨by decide, by decide⟩ (Nat.le_of_ble_eq_true rfl) (Nat.le_of_ble_eq_true rfl) (Nat.le_of_ble_eq_true rfl)) (fun σ_55 hh hM hp_55 => ?_)
              obtain ⟨hfe_55, h13_55, hc_55⟩ := hp_55
              have hfr : FE σ σ_55 := fun j a b c d e f => by rw [hfe_55 j a b c d e f, su_off a, hfe j a b c d e f]
              rcases hc_55 with ⟨c, o, hpe, hce, h5, h6⟩ | ⟨y, q2, hpy, hy2⟩
              · have hpr : pE (g + 1) 1 t 1 p x = .error (c, o) := by rw [hpt, pE2, if_pos (Or.inl c_17), hpe]
                have h13r := h13_55
                refine ww_aload_n 1 dX3_term_58 rfl ?_
                refine ww_iload_n 0 dX3_term_59 rfl ?_
                refine ww_if_eq 67 dX3_term_60 (by decide) (inI.mk (by decide) (by decide)) (fun c_60 => ?_) (fun c_60 => ?_)
                · exact absurd c_60 (by decide)
                · refine ww_iconst dX3_term_63 ?_
                  refine ww_goto 68 dX3_term_64 (by decide) ?_
                  refine cr_pv (cr_V (ct_X3_emitB hG hM (fun e => hce (h5.symm.trans e)) _) sv_X3_143 rfl dX3_term_68 hM.obj rfl rfl rfl rfl ⟨by decide, by decide⟩ (Nat.le_of_ble_eq_true rfl) (Nat.le_of_ble_eq_true rfl) (Nat.le_of_ble_eq_true rfl)) ?_
                  refine ww_goto 4 dX3_term_71 (by decide) ?_
                  refine ww_aload_n 1 dX3_term_4 rfl ?_
                  refine cr_pi (cr_V (ct_X3_isGood hG hM) sv_X3_85 rfl dX3_term_5 hM.obj rfl rfl rfl rfl ⟨by decide, by decide⟩ (Nat.le_of_ble_eq_true rfl) (Nat.le_of_ble_eq_true rfl) (Nat.le_of_ble_eq_true rfl)) ?_
                  refine ww_ifb_eq 74 dX3_term_8 (by decide) (fun c_8 => ?_) (fun c_8 => ?_)
                  · exact ww_vret hQ dX3_term_74 rfl (Nat.le_of_ble_eq_true rfl) (Nat.le_of_ble_eq_true rfl) ⟨rfl, _, hM, hfr, h13r, Or.inl ⟨c, o, hpr, hce, h5, h6⟩⟩
                  · exact absurd (h5.symm.trans c_8) hce
              · have h95b := hy2.2.2.2.2.2.1
                have h29b := hy2.2.2.2.2.2.2.2.2.1
                have hq22 := hy2.2.2.2.1
                have hq23 := hy2.2.2.1
                refine ww_aload_n 1 dX3_term_58 rfl ?_
                refine ww_iload_n 0 dX3_term_59 rfl ?_
                refine ww_if_eq 67 dX3_term_60 (by decide) (inI.mk (by decide) (by decide)) (fun c_60 => ?_) (fun c_60 => ?_)
                · exact absurd c_60 (by decide)
                · refine ww_iconst dX3_term_63 ?_
                  refine ww_goto 68 dX3_term_64 (by decide) ?_
                  refine cr_sv hM (cr_V (ct_X3_emit hG hM hy2.1 _ (inI.mk (by decide) (by decide)) (by omega) (by omega)) sv_X3_143 rfl dX3_term_68 hM.obj rfl rfl rfl rfl ⟨by decide, by decide⟩ (Nat.le_of_ble_eq_true rfl) (Nat.le_of_ble_eq_true rfl) (Nat.le_of_ble_eq_true rfl)) (fun σ_68 hh hM hp_68 => ?_)
                  have hy3 := emitO (op := 4) hy (su_off (by decide)) (su_off (by decide)) rfl (by omega) hy2 hp_68 hc0 (by decide) (by decide)
                  have hpt3 : pE (g + 1) 1 t 1 p x = pE v 2 t 1 q2 (cmb 4 z y) := by rw [hpt, pE2, if_pos (Or.inl c_17), hpy]; simp only; rw [if_pos c_17]
                  have hfe3 : FE σ σ_68 := fun j a b c d e f => by rw [← hp_68, su_off d, su_off d]; exact hfr j a b c d e f
                  refine ww_goto 4 dX3_term_71 (by decide) ?_
                  refine ww_sub [1] rfl ?_
                  exact ie v _ _ _ _ hM hfe3 hy3 hpt3 (by omega) (by omega)
          · refine ww_aload_n 0 dX3_term_20 rfl ?_
            refine cr_si hM (cr_V (ct_X3_next hG hM (hT.mv hM (by decide) (by decide)) (sk t q) su_s (by omega) hkq.2.1) sv_X3_89 rfl dX3_term_21 hM.obj rfl rfl rfl rfl ⟨by decide, by decide⟩ (Nat.le_of_ble_eq_true rfl) (Nat.le_of_ble_eq_true rfl) (Nat.le_of_ble_eq_true rfl)) (fun r_21 σ_21 hh hM hp_21 => ?_)
            obtain ⟨rfl, rfl⟩ := hp_21
            try rw [su_su] at hM
            rw [hx.kk hq2] at hM
            rw [hx.kk hq2]
            refine ww_bipush dX3_term_24 (by decide) ?_
            refine ww_icmp_ne 74 dX3_term_26 (by decide) (inI.mk (by omega) (by omega)) (inI.mk (by decide) (by decide)) (fun c_26 => ?_) (fun c_26 => ?_)
            · exact ww_vret hQ dX3_term_74 rfl (Nat.le_of_ble_eq_true rfl) (Nat.le_of_ble_eq_true rfl) ⟨rfl, _, hM, fun j a b c d e f => by rw [su_off a]; exact hfe j a b c d e f, (by rw [su_off (by decide)]; exact h13), Or.inr ⟨z, sk t q, by rw [hpt, pE2, if_neg (fun x => x.elim c_17 c_26)], hy.of rfl (su_off (by decide)) rfl (su_off (by decide)) (by rw [su_off (by decide)]; exact hy.1) su_s (Int.le_refl _) (by omega) (by omega) (by rw [su_off (by decide)]; exact h13)⟩⟩
            · have hsn : sk t q ≠ n := fun e => by rw [e, hx.2.2.1 n (Int.le_refl _)] at c_26; cases c_26
              refine ww_aload_n 0 dX3_term_29 rfl ?_
              refine cr_si hM (cr_V (ct_X3_next hG hM (hT.mv hM (by decide) (by decide)) (sk t q) su_s (by omega) hkq.2.1) sv_X3_89 rfl dX3_term_30 hM.obj rfl rfl rfl rfl ⟨by decide, by decide⟩ (Nat.le_of_ble_eq_true rfl) (Nat.le_of_ble_eq_true rfl) (Nat.le_of_ble_eq_true rfl)) (fun r_30 σ_30 hh hM hp_30 => ?_)
              obtain ⟨rfl, rfl⟩ := hp_30
              try rw [su_su] at hM
              rw [hx.kk hq2] at hM
              rw [hx.kk hq2]
              refine ww_bipush dX3_term_33 (by decide) ?_
              refine ww_icmp_ne 42 dX3_term_35 (by decide) (inI.mk (by omega) (by omega)) (inI.mk (by decide) (by decide)) (fun c_35 => ?_) (fun c_35 => ?_)
              · refine ww_iconst dX3_term_42 ?_
                refine ww_istore_n [(1, _), (0, _)] dX3_term_43 (by decide) rfl ?_
                refine ww_aload_n 1 dX3_term_44 rfl ?_
                refine ww_dup dX3_term_45 rfl ?_
                refine ww_getf gf_X3_68 rfl dX3_term_46 hM.obj rfl ?_
                rw [su_s]
                refine ww_iconst dX3_term_49 ?_
                refine ww_iadd dX3_term_50 ?_
                refine mw_put pf_X3_68 rfl dX3_term_51 hM rfl (inI.mk (by omega) (by omega)) (fun hh hM => ?_)
                rw [su_su] at hM
                refine ww_aload_n 1 dX3_term_54 rfl ?_
                refine cr_sv hM (cr_V (ct_X3_factor1 hG hM (hT.mv hM (by decide) (by decide)) (sk t q + 1) su_s (by omega) (by omega) (by rw [su_off (by decide)]; exact hy.1) (hL.fr hM) z v (by omega) (c0 + z.1.length) (by rw [su_off (by decide)]; exact h95) (by omega) (by omega) (by rw [su_off (by decide)]; exact h13)) sv_X3_146 rfl dX3_term_55 hM.obj rfl rfl rfl rfl ⟨by decide, by decide⟩ (Nat.le_of_ble_eq_true rfl) (Nat.le_of_ble_eq_true rfl) (Nat.le_of_ble_eq_true rfl)) (fun σ_55 hh hM hp_55 => ?_)
                obtain ⟨hfe_55, h13_55, hc_55⟩ := hp_55
                have hfr : FE σ σ_55 := fun j a b c d e f => by rw [hfe_55 j a b c d e f, su_off a, hfe j a b c d e f]
                rcases hc_55 with ⟨c, o, hpe, hce, h5, h6⟩ | ⟨y, q2, hpy, hy2⟩
                · have hpr : pE (g + 1) 1 t 1 p x = .error (c, o) := by rw [hpt, pE2, if_pos (Or.inr c_26), hpe]
                  have h13r := h13_55
                  refine ww_aload_n 1 dX3_term_58 rfl ?_
                  refine ww_iload_n 0 dX3_term_59 rfl ?_
                  refine ww_if_eq 67 dX3_term_60 (by decide) (inI.mk (by decide) (by decide)) (fun c_60 => ?_) (fun c_60 => ?_)
                  · refine ww_iconst dX3_term_67 ?_
                    refine cr_pv (cr_V (ct_X3_emitB hG hM (fun e => hce (h5.symm.trans e)) _) sv_X3_143 rfl dX3_term_68 hM.obj rfl rfl rfl rfl ⟨by decide, by decide⟩ (Nat.le_of_ble_eq_true rfl) (Nat.le_of_ble_eq_true rfl) (Nat.le_of_ble_eq_true rfl)) ?_
                    refine ww_goto 4 dX3_term_71 (by decide) ?_
                    refine ww_aload_n 1 dX3_term_4 rfl ?_
                    refine cr_pi (cr_V (ct_X3_isGood hG hM) sv_X3_85 rfl dX3_term_5 hM.obj rfl rfl rfl rfl ⟨by decide, by decide⟩ (Nat.le_of_ble_eq_true rfl) (Nat.le_of_ble_eq_true rfl) (Nat.le_of_ble_eq_true rfl)) ?_
                    refine ww_ifb_eq 74 dX3_term_8 (by decide) (fun c_8 => ?_) (fun c_8 => ?_)
                    · exact ww_vret hQ dX3_term_74 rfl (Nat.le_of_ble_eq_true rfl) (Nat.le_of_ble_eq_true rfl) ⟨rfl, _, hM, hfr, h13r, Or.inl ⟨c, o, hpr, hce, h5, h6⟩⟩
                    · exact absurd (h5.symm.trans c_8) hce
                  · exact absurd c_60 (by decide)
                · have h95b := hy2.2.2.2.2.2.1
                  have h29b := hy2.2.2.2.2.2.2.2.2.1
                  have hq22 := hy2.2.2.2.1
                  have hq23 := hy2.2.2.1
                  refine ww_aload_n 1 dX3_term_58 rfl ?_
                  refine ww_iload_n 0 dX3_term_59 rfl ?_
                  refine ww_if_eq 67 dX3_term_60 (by decide) (inI.mk (by decide) (by decide)) (fun c_60 => ?_) (fun c_60 => ?_)
                  · refine ww_iconst dX3_term_67 ?_
                    refine cr_sv hM (cr_V (ct_X3_emit hG hM hy2.1 _ (inI.mk (by decide) (by decide)) (by omega) (by omega)) sv_X3_143 rfl dX3_term_68 hM.obj rfl rfl rfl rfl ⟨by decide, by decide⟩ (Nat.le_of_ble_eq_true rfl) (Nat.le_of_ble_eq_true rfl) (Nat.le_of_ble_eq_true rfl)) (fun σ_68 hh hM hp_68 => ?_)
                    have hy3 := emitO (op := 5) hy (su_off (by decide)) (su_off (by decide)) rfl (by omega) hy2 hp_68 hc0 (by decide) (by decide)
                    have hpt3 : pE (g + 1) 1 t 1 p x = pE v 2 t 1 q2 (cmb 5 z y) := by rw [hpt, pE2, if_pos (Or.inr c_26), hpy]; simp only; rw [if_neg c_17]
                    have hfe3 : FE σ σ_68 := fun j a b c d e f => by rw [← hp_68, su_off d, su_off d]; exact hfr j a b c d e f
                    refine ww_goto 4 dX3_term_71 (by decide) ?_
                    refine ww_sub [1] rfl ?_
                    exact ie v _ _ _ _ hM hfe3 hy3 hpt3 (by omega) (by omega)
                  · exact absurd c_60 (by decide)
              · exact absurd c_35 c_17
    refine ww_sub [0] rfl ?_
    exact loop_4 801 g y p1 _ _ hM hfe_1 hy hpt (by have := hy.2.2.1; have := hy.2.2.2.1; omega) (by have := hy.2.2.1; omega)

set_option maxHeartbeats 4000000 in
theorem ct_X3_sum1 {G : GT} {h0 h : AH} {m : Nat} {A : Nat → Nat} {B : Nat → Int → Nat} {D : Int → Int} {σ : MS} (hG : GOK G) (hM : MWF G h0 h m A B D σ) {t : Int → Int} {n : Int} (hT : TX σ t n) (p : Int) (hp : σ 4 0 0 = p) (hp0 : 0 ≤ p) (hp1 : p ≤ n) (hg : σ 5 0 0 = 0) (hL : LitM G h) (x : List Int × EF) (f : Nat) (hf : 3 * (n - p) + 3 ≤ f) (c0 : Int) (hc : σ 9 0 5 = c0) (hc0 : 0 ≤ c0) (hcp : 2 * c0 ≤ 3 * p) (hd : σ 13 0 0 = 1) : CSv G (MX3_sum 16 346 0 0) h m A B D [.ref m] (fun σ' => FE σ σ' ∧ σ' 13 0 0 = 1 ∧ PEr (pE f 3 t 1 p x) σ σ' c0 1 p n) := by
  refine CT.of rfl hG (Nat.le_of_ble_eq_true rfl) rfl (fun E hQ => ?_)
  have hM := hM.1.f
  have hx := hT.1
  have hn8 := hx.2.1
  obtain ⟨g, rfl⟩ : ∃ g, f = g + 1 := ⟨f - 1, by omega⟩
  refine ww_aload_n 0 dX3_sum_0 rfl ?_
  refine cr_sv hM (cr_V (ct_X3_term1 hG hM hT p hp hp0 hp1 hg hL x g (by omega) c0 hc hc0 hcp hd) sv_X3_149 rfl dX3_sum_1 hM.obj rfl rfl rfl rfl ⟨by decide, by decide⟩ (Nat.le_of_ble_eq_true rfl) (Nat.le_of_ble_eq_true rfl) (Nat.le_of_ble_eq_true rfl)) (fun σ_1 hh hM hp_1 => ?_)
  obtain ⟨hfe_1, h13_1, hc_1⟩ := hp_1
  rcases hc_1 with ⟨c, o, hpe, hce, h5, h6⟩ | ⟨y, p1, hpy, hy⟩
  · have hpr : pE (g + 1) 3 t 1 p x = .error (c, o) := by rw [pE3, hpe]
    have hfr := hfe_1
    have h13r := h13_1
    refine ww_aload_n 0 dX3_sum_4 rfl ?_
    refine cr_pi (cr_V (ct_X3_isGood hG hM) sv_X3_85 rfl dX3_sum_5 hM.obj rfl rfl rfl rfl ⟨by decide, by decide⟩ (Nat.le_of_ble_eq_true rfl) (Nat.le_of_ble_eq_true rfl) (Nat.le_of_ble_eq_true rfl)) ?_
    refine ww_ifb_eq 74 dX3_sum_8 (by decide) (fun c_8 => ?_) (fun c_8 => ?_)
    · exact ww_vret hQ dX3_sum_74 rfl (Nat.le_of_ble_eq_true rfl) (Nat.le_of_ble_eq_true rfl) ⟨rfl, _, hM, hfr, h13r, Or.inl ⟨c, o, hpr, hce, h5, h6⟩⟩
    · exact absurd (h5.symm.trans c_8) hce
  · have hpt : pE (g + 1) 3 t 1 p x = pE g 4 t 1 p1 y := by rw [pE3, hpy]
    have loop_4 : ∀ (e : Nat) (u : Nat) (z : List Int × EF) (q : Int) (τ : MS) (hx1 : AH), (MWF G h hx1 m A B D τ) → (FE σ τ) → (ExO σ τ c0 1 p n z q) → (pE (g + 1) 3 t 1 p x = pE u 4 t 1 q z) → (3 * (n - q) + 2 ≤ u) → (n - q < e) → WW G E (MX3_sum 16 346 0 0) hx1 0 0 4 [(0, .ref m)] [] := by
      intro e
      induction e with
      | zero => intro u z q τ hx1 hM hfe hy hpt hu he; exact absurd he (by have := hy.2.2.2.1; omega)
      | succ e ie =>
        intro u z q τ hx1 hM hfe hy hpt hu he
        have hq2 := hy.2.2.2.1
        have hq1 := hy.2.2.1
        obtain ⟨v, rfl⟩ : ∃ v, u = v + 1 := ⟨u - 1, by omega⟩
        have hT := hT.of (hfe 1 (by decide) (by decide) (by decide) (by decide) (by decide) (by decide)) (hfe 3 (by decide) (by decide) (by decide) (by decide) (by decide) (by decide))
        have hkq := hx.k1 hq2
        have h13 := hy.2.2.2.2.1
        have h95 := hy.2.2.2.2.2.1
        have h29 := hy.2.2.2.2.2.2.2.2.1
        have hrx := hx.rg (q := sk t q) (by omega)
        refine ww_aload_n 0 dX3_sum_4 rfl ?_
        refine cr_pi (cr_V (ct_X3_isGood hG hM) sv_X3_85 rfl dX3_sum_5 hM.obj rfl rfl rfl rfl ⟨by decide, by decide⟩ (Nat.le_of_ble_eq_true rfl) (Nat.le_of_ble_eq_true rfl) (Nat.le_of_ble_eq_true rfl)) ?_
        refine ww_ifb_eq 74 dX3_sum_8 (by decide) (fun c_8 => ?_) (fun c_8 => ?_)
        · exact absurd hy.1 c_8
        · refine ww_aload_n 0 dX3_sum_11 rfl ?_
          refine cr_si hM (cr_V (ct_X3_next hG hM hT q hy.2.1 (by omega) hq2) sv_X3_89 rfl dX3_sum_12 hM.obj rfl rfl rfl rfl ⟨by decide, by decide⟩ (Nat.le_of_ble_eq_true rfl) (Nat.le_of_ble_eq_true rfl) (Nat.le_of_ble_eq_true rfl)) (fun r_12 σ_12 hh hM hp_12 => ?_)
          obtain ⟨rfl, rfl⟩ := hp_12
          try rw [su_su] at hM
          refine ww_bipush dX3_sum_15 (by decide) ?_
          refine ww_icmp_eq 29 dX3_sum_17 (by decide) (inI.mk (by omega) (by omega)) (inI.mk (by decide) (by decide)) (fun c_17 => ?_) (fun c_17 => ?_)
          · have hsn : sk t q ≠ n := fun e => by rw [e, hx.2.2.1 n (Int.le_refl _)] at c_17; cases c_17
            refine ww_aload_n 0 dX3_sum_29 rfl ?_
            refine cr_si hM (cr_V (ct_X3_next hG hM (hT.mv hM (by decide) (by decide)) (sk t q) su_s (by omega) hkq.2.1) sv_X3_89 rfl dX3_sum_30 hM.obj rfl rfl rfl rfl ⟨by decide, by decide⟩ (Nat.le_of_ble_eq_true rfl) (Nat.le_of_ble_eq_true rfl) (Nat.le_of_ble_eq_true rfl)) (fun r_30 σ_30 hh hM hp_30 => ?_)
            obtain ⟨rfl, rfl⟩ := hp_30
            try rw [su_su] at hM
            rw [hx.kk hq2] at hM
            rw [hx.kk hq2]
            refine ww_bipush dX3_sum_33 (by decide) ?_
            refine ww_icmp_ne 42 dX3_sum_35 (by decide) (inI.mk (by omega) (by omega)) (inI.mk (by decide) (by decide)) (fun c_35 => ?_) (fun c_35 => ?_)
            · exact absurd c_17 c_35
            · refine ww_iconst dX3_sum_38 ?_
              refine ww_goto 43 dX3_sum_39 (by decide) ?_
              refine ww_istore_n [(1, _), (0, _)] dX3_sum_43 (by decide) rfl ?_
              refine ww_aload_n 1 dX3_sum_44 rfl ?_
              refine ww_dup dX3_sum_45 rfl ?_
              refine ww_getf gf_X3_68 rfl dX3_sum_46 hM.obj rfl ?_
              rw [su_s]
              refine ww_iconst dX3_sum_49 ?_
              refine ww_iadd dX3_sum_50 ?_
              refine mw_put pf_X3_68 rfl dX3_sum_51 hM rfl (inI.mk (by omega) (by omega)) (fun hh hM => ?_)
              rw [su_su] at hM
              refine ww_aload_n 1 dX3_sum_54 rfl ?_
              refine cr_sv hM (cr_V (ct_X3_term1 hG hM (hT.mv hM (by decide) (by decide)) (sk t q + 1) su_s (by omega) (by omega) (by rw [su_off (by decide)]; exact hy.1) (hL.fr hM) z v (by omega) (c0 + z.1.length) (by rw [su_off (by decide)]; exact h95) (by omega) (by omega) (by rw [su_off (by decide)]; exact h13)) sv_X3_149 rfl dX3_sum_55 hM.obj rfl rfl rfl rfl ⟨by decide, by decide⟩ (Nat.le_of_ble_eq_true rfl) (Nat.le_of_ble_eq_true rfl) (Nat.le_of_ble_eq_true rfl)) (fun σ_55 hh hM hp_55 => ?_)
              obtain ⟨hfe_55, h13_55, hc_55⟩ := hp_55
              have hfr : FE σ σ_55 := fun j a b c d e f => by rw [hfe_55 j a b c d e f, su_off a, hfe j a b c d e f]
              rcases hc_55 with ⟨c, o, hpe, hce, h5, h6⟩ | ⟨y, q2, hpy, hy2⟩
              · have hpr : pE (g + 1) 3 t 1 p x = .error (c, o) := by rw [hpt, pE4, if_pos (Or.inl c_17), hpe]
                have h13r := h13_55
                refine ww_aload_n 1 dX3_sum_58 rfl ?_
                refine ww_iload_n 0 dX3_sum_59 rfl ?_
                refine ww_if_eq 67 dX3_sum_60 (by decide) (inI.mk (by decide) (by decide)) (fun c_60 => ?_) (fun c_60 => ?_)
                · exact absurd c_60 (by decide)
                · refine ww_iconst dX3_sum_63 ?_
                  refine ww_goto 68 dX3_sum_64 (by decide) ?_
                  refine cr_pv (cr_V (ct_X3_emitB hG hM (fun e => hce (h5.symm.trans e)) _) sv_X3_143 rfl dX3_sum_68 hM.obj rfl rfl rfl rfl ⟨by decide, by decide⟩ (Nat.le_of_ble_eq_true rfl) (Nat.le_of_ble_eq_true rfl) (Nat.le_of_ble_eq_true rfl)) ?_
                  refine ww_goto 4 dX3_sum_71 (by decide) ?_
                  refine ww_aload_n 1 dX3_sum_4 rfl ?_
                  refine cr_pi (cr_V (ct_X3_isGood hG hM) sv_X3_85 rfl dX3_sum_5 hM.obj rfl rfl rfl rfl ⟨by decide, by decide⟩ (Nat.le_of_ble_eq_true rfl) (Nat.le_of_ble_eq_true rfl) (Nat.le_of_ble_eq_true rfl)) ?_
                  refine ww_ifb_eq 74 dX3_sum_8 (by decide) (fun c_8 => ?_) (fun c_8 => ?_)
                  · exact ww_vret hQ dX3_sum_74 rfl (Nat.le_of_ble_eq_true rfl) (Nat.le_of_ble_eq_true rfl) ⟨rfl, _, hM, hfr, h13r, Or.inl ⟨c, o, hpr, hce, h5, h6⟩⟩
                  · exact absurd (h5.symm.trans c_8) hce
              · have h95b := hy2.2.2.2.2.2.1
                have h29b := hy2.2.2.2.2.2.2.2.2.1
                have hq22 := hy2.2.2.2.1
                have hq23 := hy2.2.2.1
                refine ww_aload_n 1 dX3_sum_58 rfl ?_
                refine ww_iload_n 0 dX3_sum_59 rfl ?_
                refine ww_if_eq 67 dX3_sum_60 (by decide) (inI.mk (by decide) (by decide)) (fun c_60 => ?_) (fun c_60 => ?_)
                · exact absurd c_60 (by decide)
                · refine ww_iconst dX3_sum_63 ?_
                  refine ww_goto 68 dX3_sum_64 (by decide) ?_
                  refine cr_sv hM (cr_V (ct_X3_emit hG hM hy2.1 _ (inI.mk (by decide) (by decide)) (by omega) (by omega)) sv_X3_143 rfl dX3_sum_68 hM.obj rfl rfl rfl rfl ⟨by decide, by decide⟩ (Nat.le_of_ble_eq_true rfl) (Nat.le_of_ble_eq_true rfl) (Nat.le_of_ble_eq_true rfl)) (fun σ_68 hh hM hp_68 => ?_)
                  have hy3 := emitO (op := 2) hy (su_off (by decide)) (su_off (by decide)) rfl (by omega) hy2 hp_68 hc0 (by decide) (by decide)
                  have hpt3 : pE (g + 1) 3 t 1 p x = pE v 4 t 1 q2 (cmb 2 z y) := by rw [hpt, pE4, if_pos (Or.inl c_17), hpy]; simp only; rw [if_pos c_17]
                  have hfe3 : FE σ σ_68 := fun j a b c d e f => by rw [← hp_68, su_off d, su_off d]; exact hfr j a b c d e f
                  refine ww_goto 4 dX3_sum_71 (by decide) ?_
                  refine ww_sub [1] rfl ?_
                  exact ie v _ _ _ _ hM hfe3 hy3 hpt3 (by omega) (by omega)
          · refine ww_aload_n 0 dX3_sum_20 rfl ?_
            refine cr_si hM (cr_V (ct_X3_next hG hM (hT.mv hM (by decide) (by decide)) (sk t q) su_s (by omega) hkq.2.1) sv_X3_89 rfl dX3_sum_21 hM.obj rfl rfl rfl rfl ⟨by decide, by decide⟩ (Nat.le_of_ble_eq_true rfl) (Nat.le_of_ble_eq_true rfl) (Nat.le_of_ble_eq_true rfl)) (fun r_21 σ_21 hh hM hp_21 => ?_)
            obtain ⟨rfl, rfl⟩ := hp_21
            try rw [su_su] at hM
            rw [hx.kk hq2] at hM
            rw [hx.kk hq2]
            refine ww_bipush dX3_sum_24 (by decide) ?_
            refine ww_icmp_ne 74 dX3_sum_26 (by decide) (inI.mk (by omega) (by omega)) (inI.mk (by decide) (by decide)) (fun c_26 => ?_) (fun c_26 => ?_)
            · exact ww_vret hQ dX3_sum_74 rfl (Nat.le_of_ble_eq_true rfl) (Nat.le_of_ble_eq_true rfl) ⟨rfl, _, hM, fun j a b c d e f => by rw [su_off a]; exact hfe j a b c d e f, (by rw [su_off (by decide)]; exact h13), Or.inr ⟨z, sk t q, by rw [hpt, pE4, if_neg (fun x => x.elim c_17 c_26)], hy.of rfl (su_off (by decide)) rfl (su_off (by decide)) (by rw [su_off (by decide)]; exact hy.1) su_s (Int.le_refl _) (by omega) (by omega) (by rw [su_off (by decide)]; exact h13)⟩⟩
            · have hsn : sk t q ≠ n := fun e => by rw [e, hx.2.2.1 n (Int.le_refl _)] at c_26; cases c_26
              refine ww_aload_n 0 dX3_sum_29 rfl ?_
              refine cr_si hM (cr_V (ct_X3_next hG hM (hT.mv hM (by decide) (by decide)) (sk t q) su_s (by omega) hkq.2.1) sv_X3_89 rfl dX3_sum_30 hM.obj rfl rfl rfl rfl ⟨by decide, by decide⟩ (Nat.le_of_ble_eq_true rfl) (Nat.le_of_ble_eq_true rfl) (Nat.le_of_ble_eq_true rfl)) (fun r_30 σ_30 hh hM hp_30 => ?_)
              obtain ⟨rfl, rfl⟩ := hp_30
              try rw [su_su] at hM
              rw [hx.kk hq2] at hM
              rw [hx.kk hq2]
              refine ww_bipush dX3_sum_33 (by decide) ?_
              refine ww_icmp_ne 42 dX3_sum_35 (by decide) (inI.mk (by omega) (by omega)) (inI.mk (by decide) (by decide)) (fun c_35 => ?_) (fun c_35 => ?_)
              · refine ww_iconst dX3_sum_42 ?_
                refine ww_istore_n [(1, _), (0, _)] dX3_sum_43 (by decide) rfl ?_
                refine ww_aload_n 1 dX3_sum_44 rfl ?_
                refine ww_dup dX3_sum_45 rfl ?_
                refine ww_getf gf_X3_68 rfl dX3_sum_46 hM.obj rfl ?_
                rw [su_s]
                refine ww_iconst dX3_sum_49 ?_
                refine ww_iadd dX3_sum_50 ?_
                refine mw_put pf_X3_68 rfl dX3_sum_51 hM rfl (inI.mk (by omega) (by omega)) (fun hh hM => ?_)
                rw [su_su] at hM
                refine ww_aload_n 1 dX3_sum_54 rfl ?_
                refine cr_sv hM (cr_V (ct_X3_term1 hG hM (hT.mv hM (by decide) (by decide)) (sk t q + 1) su_s (by omega) (by omega) (by rw [su_off (by decide)]; exact hy.1) (hL.fr hM) z v (by omega) (c0 + z.1.length) (by rw [su_off (by decide)]; exact h95) (by omega) (by omega) (by rw [su_off (by decide)]; exact h13)) sv_X3_149 rfl dX3_sum_55 hM.obj rfl rfl rfl rfl ⟨by decide, by decide⟩ (Nat.le_of_ble_eq_true rfl) (Nat.le_of_ble_eq_true rfl) (Nat.le_of_ble_eq_true rfl)) (fun σ_55 hh hM hp_55 => ?_)
                obtain ⟨hfe_55, h13_55, hc_55⟩ := hp_55
                have hfr : FE σ σ_55 := fun j a b c d e f => by rw [hfe_55 j a b c d e f, su_off a, hfe j a b c d e f]
                rcases hc_55 with ⟨c, o, hpe, hce, h5, h6⟩ | ⟨y, q2, hpy, hy2⟩
                · have hpr : pE (g + 1) 3 t 1 p x = .error (c, o) := by rw [hpt, pE4, if_pos (Or.inr c_26), hpe]
                  have h13r := h13_55
                  refine ww_aload_n 1 dX3_sum_58 rfl ?_
                  refine ww_iload_n 0 dX3_sum_59 rfl ?_
                  refine ww_if_eq 67 dX3_sum_60 (by decide) (inI.mk (by decide) (by decide)) (fun c_60 => ?_) (fun c_60 => ?_)
                  · refine ww_iconst dX3_sum_67 ?_
                    refine cr_pv (cr_V (ct_X3_emitB hG hM (fun e => hce (h5.symm.trans e)) _) sv_X3_143 rfl dX3_sum_68 hM.obj rfl rfl rfl rfl ⟨by decide, by decide⟩ (Nat.le_of_ble_eq_true rfl) (Nat.le_of_ble_eq_true rfl) (Nat.le_of_ble_eq_true rfl)) ?_
                    refine ww_goto 4 dX3_sum_71 (by decide) ?_
                    refine ww_aload_n 1 dX3_sum_4 rfl ?_
                    refine cr_pi (cr_V (ct_X3_isGood hG hM) sv_X3_85 rfl dX3_sum_5 hM.obj rfl rfl rfl rfl ⟨by decide, by decide⟩ (Nat.le_of_ble_eq_true rfl) (Nat.le_of_ble_eq_true rfl) (Nat.le_of_ble_eq_true rfl)) ?_
                    refine ww_ifb_eq 74 dX3_sum_8 (by decide) (fun c_8 => ?_) (fun c_8 => ?_)
                    · exact ww_vret hQ dX3_sum_74 rfl (Nat.le_of_ble_eq_true rfl) (Nat.le_of_ble_eq_true rfl) ⟨rfl, _, hM, hfr, h13r, Or.inl ⟨c, o, hpr, hce, h5, h6⟩⟩
                    · exact absurd (h5.symm.trans c_8) hce
                  · exact absurd c_60 (by decide)
                · have h95b := hy2.2.2.2.2.2.1
                  have h29b := hy2.2.2.2.2.2.2.2.2.1
                  have hq22 := hy2.2.2.2.1
                  have hq23 := hy2.2.2.1
                  refine ww_aload_n 1 dX3_sum_58 rfl ?_
                  refine ww_iload_n 0 dX3_sum_59 rfl ?_
                  refine ww_if_eq 67 dX3_sum_60 (by decide) (inI.mk (by decide) (by decide)) (fun c_60 => ?_) (fun c_60 => ?_)
                  · refine ww_iconst dX3_sum_67 ?_
                    refine cr_sv hM (cr_V (ct_X3_emit hG hM hy2.1 _ (inI.mk (by decide) (by decide)) (by omega) (by omega)) sv_X3_143 rfl dX3_sum_68 hM.obj rfl rfl rfl rfl ⟨by decide, by decide⟩ (Nat.le_of_ble_eq_true rfl) (Nat.le_of_ble_eq_true rfl) (Nat.le_of_ble_eq_true rfl)) (fun σ_68 hh hM hp_68 => ?_)
                    have hy3 := emitO (op := 3) hy (su_off (by decide)) (su_off (by decide)) rfl (by omega) hy2 hp_68 hc0 (by decide) (by decide)
                    have hpt3 : pE (g + 1) 3 t 1 p x = pE v 4 t 1 q2 (cmb 3 z y) := by rw [hpt, pE4, if_pos (Or.inr c_26), hpy]; simp only; rw [if_neg c_17]
                    have hfe3 : FE σ σ_68 := fun j a b c d e f => by rw [← hp_68, su_off d, su_off d]; exact hfr j a b c d e f
                    refine ww_goto 4 dX3_sum_71 (by decide) ?_
                    refine ww_sub [1] rfl ?_
                    exact ie v _ _ _ _ hM hfe3 hy3 hpt3 (by omega) (by omega)
                  · exact absurd c_60 (by decide)
              · exact absurd c_35 c_17
    refine ww_sub [0] rfl ?_
    exact loop_4 801 g y p1 _ _ hM hfe_1 hy hpt (by have := hy.2.2.1; have := hy.2.2.2.1; omega) (by have := hy.2.2.1; omega)

set_option maxHeartbeats 4000000 in
theorem ct_X3_factor0 {G : GT} {h0 h : AH} {m : Nat} {A : Nat → Nat} {B : Nat → Int → Nat} {D : Int → Int} {σ : MS} (hG : GOK G) (hM : MWF G h0 h m A B D σ) {t : Int → Int} {n : Int} (hT : TX σ t n) (p : Int) (hp : σ 4 0 0 = p) (hp0 : 0 ≤ p) (hp1 : p ≤ n) (hg : σ 5 0 0 = 0) (hL : LitM G h) (x : List Int × EF) (f : Nat) (hf : 3 * (n - p) + 1 ≤ f) (c0 : Int) (hc : σ 9 0 5 = c0) (hc0 : 0 ≤ c0) (hcp : 2 * c0 ≤ 3 * p) (hd : σ 13 0 0 = 0) : CSv G (MX3_factor 17 367 0 0) h m A B D [.ref m] (fun σ' => FE σ σ' ∧ σ' 13 0 0 = 0 ∧ PEr (pE f 0 t 0 p x) σ σ' c0 0 p n) := by
  refine CT.of rfl hG (Nat.le_of_ble_eq_true rfl) rfl (fun E hQ => ?_)
  have hM := hM.1.f
  have hx := hT.1
  have hn8 := hx.2.1
  obtain ⟨g, rfl⟩ : ∃ g, f = g + 1 := ⟨f - 1, by omega⟩
  refine ww_aload_n 0 dX3_factor_0 rfl ?_
  refine cr_pi (cr_V (ct_X3_isGood hG hM) sv_X3_85 rfl dX3_factor_1 hM.obj rfl rfl rfl rfl ⟨by decide, by decide⟩ (Nat.le_of_ble_eq_true rfl) (Nat.le_of_ble_eq_true rfl) (Nat.le_of_ble_eq_true rfl)) ?_
  refine ww_ifb_ne 8 dX3_factor_4 (by decide) (fun c_4 => ?_) (fun c_4 => ?_)
  · refine ww_aload_n 0 dX3_factor_8 rfl ?_
    refine cr_si hM (cr_V (ct_X3_next hG hM hT _ (by first | exact hp | exact su_s | rfl) (by omega) (by omega)) sv_X3_89 rfl dX3_factor_9 hM.obj rfl rfl rfl rfl ⟨by decide, by decide⟩ (Nat.le_of_ble_eq_true rfl) (Nat.le_of_ble_eq_true rfl) (Nat.le_of_ble_eq_true rfl)) (fun r_9 σ_9 hh hM hp_9 => ?_)
    obtain ⟨rfl, rfl⟩ := hp_9
    try rw [su_su] at hM
    have hk := hx.k1 hp1
    have hT := hT.mv hM (by decide) (by decide)
    have hrk := hx.rg (q := sk t p) (by omega)
    refine ww_istore_n [(1, _), (0, _)] dX3_factor_12 (by decide) rfl ?_
    refine ww_iload_n 0 dX3_factor_13 rfl ?_
    refine ww_bipush dX3_factor_14 (by decide) ?_
    refine ww_icmp_ne 78 dX3_factor_16 (by decide) (inI.mk (by omega) (by omega)) (inI.mk (by decide) (by decide)) (fun c_16 => ?_) (fun c_16 => ?_)
    · refine ww_iload_n 0 dX3_factor_78 rfl ?_
      refine cr_pi (cr_S (ct_X3_isDigit hG _ (inI.mk (by omega) (by omega))) ss_X3_106 rfl dX3_factor_79 rfl rfl ⟨by decide, by decide⟩ (Nat.le_of_ble_eq_true rfl) (Nat.le_of_ble_eq_true rfl) (Nat.le_of_ble_eq_true rfl)) ?_
      refine ww_ifb_eq 89 dX3_factor_82 (by decide) (fun c_82 => ?_) (fun c_82 => ?_)
      · refine ww_aload_n 1 dX3_factor_89 rfl ?_
        obtain ⟨a_90, tx_90, hz_90, hS_90⟩ := (hL.fr hM) 128 kwTrust (by decide)
        refine ww_ldcS hz_90 dX3_factor_90 ?_
        refine cr_si hM (cr_V (ct_X3_takeWord hG hM hT (sk t p) su_s (by omega) hk.2.1 (by rw [su_off (by decide)]; exact hg) hS_90 (fun e => hM.1.1 e.symm)) sv_X3_130 rfl dX3_factor_92 hM.obj rfl rfl rfl rfl ⟨by decide, by decide⟩ (Nat.le_of_ble_eq_true rfl) (Nat.le_of_ble_eq_true rfl) (Nat.le_of_ble_eq_true rfl)) (fun r_92 σ_92 hh hM hp_92 => ?_)
        rcases hp_92 with ⟨c0_92, rfl, rfl⟩ | ⟨c0_92, rfl, rfl⟩
        · rw [hx.kk hp1] at hM c0_92
          rw [su_su] at hM
          refine ww_if_eq 102 dX3_factor_95 (by decide) (inI.mk (by decide) (by decide)) (fun c_95 => ?_) (fun c_95 => ?_)
          · exact absurd c_95 (by decide)
          · refine ww_iconst dX3_factor_98 ?_
            refine ww_goto 142 dX3_factor_99 (by decide) ?_
            refine ww_istore_n [(2, _), (1, _), (0, _)] dX3_factor_142 (by decide) rfl ?_
            refine ww_iload_n 0 dX3_factor_143 rfl ?_
            refine ww_if_ge 158 dX3_factor_144 (by decide) (inI.mk (by decide) (by decide)) (fun c_144 => ?_) (fun c_144 => ?_)
            · refine ww_iload_n 0 dX3_factor_158 rfl ?_
              refine ww_istore_n [(3, _), (2, _), (1, _), (0, _)] dX3_factor_159 (by decide) rfl ?_
              refine ww_aload_n 3 dX3_factor_160 rfl ?_
              refine ww_iload_n 1 dX3_factor_161 rfl ?_
              refine ww_if_ge 169 dX3_factor_162 (by decide) (inI.mk (by decide) (by decide)) (fun c_162 => ?_) (fun c_162 => ?_)
              · refine ww_iconst dX3_factor_169 ?_
                have hwg := we_gt (show pw t p = kwTrust from c0_92)
                have hww := hx.w1 hk.2.1
                have hc9 : su σ 4 0 0 (we t (sk t p)) 9 0 5 = c0 := by rw [su_off (by decide)]; exact hc
                refine cr_sv hM (cr_V (ct_X3_emit hG hM (by rw [su_off (by decide)]; exact hg) _ (inI.mk (by decide) (by decide)) (by omega) (by omega)) sv_X3_143 rfl dX3_factor_170 hM.obj rfl rfl rfl rfl ⟨by decide, by decide⟩ (Nat.le_of_ble_eq_true rfl) (Nat.le_of_ble_eq_true rfl) (Nat.le_of_ble_eq_true rfl)) (fun σ_170 hh hM hp_170 => ?_)
                have h5e : σ_170 5 0 0 = 0 := by rw [← hp_170, su_off (by decide), su_off (by decide), su_off (by decide)]; exact hg
                have hc9e : σ_170 9 0 5 = c0 + 1 := by rw [← hp_170, su_s, hc9]
                refine ww_aload_n 3 dX3_factor_173 rfl ?_
                refine ww_iload_n 0 dX3_factor_174 rfl ?_
                refine cr_sv hM (cr_V (ct_X3_emit hG hM h5e _ (inI.mk (by decide) (by decide)) (by omega) (by omega)) sv_X3_143 rfl dX3_factor_175 hM.obj rfl rfl rfl rfl ⟨by decide, by decide⟩ (Nat.le_of_ble_eq_true rfl) (Nat.le_of_ble_eq_true rfl) (Nat.le_of_ble_eq_true rfl)) (fun σ_175 hh hM hp_175 => ?_)
                obtain ⟨q1, q2⟩ := emit2 (σ := σ) (d := 0) (n := n) (p := p) hp_170 hp_175 (su_off (by decide)) hc hc0 (by rw [su_off (by decide)]; exact hg) su_s (by rw [su_off (by decide)]; exact hd) (su_off (by decide)) (by omega) hww.2.1 Cd_0
                exact ww_vret hQ dX3_factor_178 rfl (Nat.le_of_ble_eq_true rfl) (Nat.le_of_ble_eq_true rfl) ⟨rfl, _, hM, fun j a b c d e f => by rw [q2 j d, su_off a], q1.2.2.2.2.1, Or.inr ⟨_, _, by rw [pE0_kw c_16 c_82, if_pos (show pw t p = kwTrust from c0_92)], q1⟩⟩
              · exact absurd c_162 (by decide)
            · exact absurd c_144 (by decide)
        · rw [hx.kk hp1] at hM c0_92
          rw [su_su] at hM
          refine ww_if_eq 102 dX3_factor_95 (by decide) (inI.mk (by decide) (by decide)) (fun c_95 => ?_) (fun c_95 => ?_)
          · refine ww_aload_n 1 dX3_factor_102 rfl ?_
            obtain ⟨a_103, tx_103, hz_103, hS_103⟩ := (hL.fr hM) 134 kwRank (by decide)
            refine ww_ldcS hz_103 dX3_factor_103 ?_
            refine cr_si hM (cr_V (ct_X3_takeWord hG hM hT (sk t p) su_s (by omega) hk.2.1 (by rw [su_off (by decide)]; exact hg) hS_103 (fun e => hM.1.1 e.symm)) sv_X3_130 rfl dX3_factor_105 hM.obj rfl rfl rfl rfl ⟨by decide, by decide⟩ (Nat.le_of_ble_eq_true rfl) (Nat.le_of_ble_eq_true rfl) (Nat.le_of_ble_eq_true rfl)) (fun r_105 σ_105 hh hM hp_105 => ?_)
            rcases hp_105 with ⟨c0_105, rfl, rfl⟩ | ⟨c0_105, rfl, rfl⟩
            · rw [hx.kk hp1] at hM c0_105
              rw [su_su] at hM
              refine ww_if_eq 115 dX3_factor_108 (by decide) (inI.mk (by decide) (by decide)) (fun c_108 => ?_) (fun c_108 => ?_)
              · exact absurd c_108 (by decide)
              · refine ww_iconst dX3_factor_111 ?_
                refine ww_goto 142 dX3_factor_112 (by decide) ?_
                refine ww_istore_n [(2, _), (1, _), (0, _)] dX3_factor_142 (by decide) rfl ?_
                refine ww_iload_n 0 dX3_factor_143 rfl ?_
                refine ww_if_ge 158 dX3_factor_144 (by decide) (inI.mk (by decide) (by decide)) (fun c_144 => ?_) (fun c_144 => ?_)
                · refine ww_iload_n 0 dX3_factor_158 rfl ?_
                  refine ww_istore_n [(3, _), (2, _), (1, _), (0, _)] dX3_factor_159 (by decide) rfl ?_
                  refine ww_aload_n 3 dX3_factor_160 rfl ?_
                  refine ww_iload_n 1 dX3_factor_161 rfl ?_
                  refine ww_if_ge 169 dX3_factor_162 (by decide) (inI.mk (by decide) (by decide)) (fun c_162 => ?_) (fun c_162 => ?_)
                  · refine ww_iconst dX3_factor_169 ?_
                    have hwg := we_gt (show pw t p = kwRank from c0_105)
                    have hww := hx.w1 hk.2.1
                    have hc9 : su σ 4 0 0 (we t (sk t p)) 9 0 5 = c0 := by rw [su_off (by decide)]; exact hc
                    refine cr_sv hM (cr_V (ct_X3_emit hG hM (by rw [su_off (by decide)]; exact hg) _ (inI.mk (by decide) (by decide)) (by omega) (by omega)) sv_X3_143 rfl dX3_factor_170 hM.obj rfl rfl rfl rfl ⟨by decide, by decide⟩ (Nat.le_of_ble_eq_true rfl) (Nat.le_of_ble_eq_true rfl) (Nat.le_of_ble_eq_true rfl)) (fun σ_170 hh hM hp_170 => ?_)
                    have h5e : σ_170 5 0 0 = 0 := by rw [← hp_170, su_off (by decide), su_off (by decide), su_off (by decide)]; exact hg
                    have hc9e : σ_170 9 0 5 = c0 + 1 := by rw [← hp_170, su_s, hc9]
                    refine ww_aload_n 3 dX3_factor_173 rfl ?_
                    refine ww_iload_n 0 dX3_factor_174 rfl ?_
                    refine cr_sv hM (cr_V (ct_X3_emit hG hM h5e _ (inI.mk (by decide) (by decide)) (by omega) (by omega)) sv_X3_143 rfl dX3_factor_175 hM.obj rfl rfl rfl rfl ⟨by decide, by decide⟩ (Nat.le_of_ble_eq_true rfl) (Nat.le_of_ble_eq_true rfl) (Nat.le_of_ble_eq_true rfl)) (fun σ_175 hh hM hp_175 => ?_)
                    obtain ⟨q1, q2⟩ := emit2 (σ := σ) (d := 0) (n := n) (p := p) hp_170 hp_175 (su_off (by decide)) hc hc0 (by rw [su_off (by decide)]; exact hg) su_s (by rw [su_off (by decide)]; exact hd) (su_off (by decide)) (by omega) hww.2.1 Cd_1
                    exact ww_vret hQ dX3_factor_178 rfl (Nat.le_of_ble_eq_true rfl) (Nat.le_of_ble_eq_true rfl) ⟨rfl, _, hM, fun j a b c d e f => by rw [q2 j d, su_off a], q1.2.2.2.2.1, Or.inr ⟨_, _, by rw [pE0_kw c_16 c_82, if_neg (show ¬ pw t p = kwTrust from c0_92), if_pos (show pw t p = kwRank from c0_105)], q1⟩⟩
                  · exact absurd c_162 (by decide)
                · exact absurd c_144 (by decide)
            · rw [hx.kk hp1] at hM c0_105
              rw [su_su] at hM
              refine ww_if_eq 115 dX3_factor_108 (by decide) (inI.mk (by decide) (by decide)) (fun c_108 => ?_) (fun c_108 => ?_)
              · refine ww_aload_n 1 dX3_factor_115 rfl ?_
                obtain ⟨a_116, tx_116, hz_116, hS_116⟩ := (hL.fr hM) 136 kwOffers (by decide)
                refine ww_ldcS hz_116 dX3_factor_116 ?_
                refine cr_si hM (cr_V (ct_X3_takeWord hG hM hT (sk t p) su_s (by omega) hk.2.1 (by rw [su_off (by decide)]; exact hg) hS_116 (fun e => hM.1.1 e.symm)) sv_X3_130 rfl dX3_factor_118 hM.obj rfl rfl rfl rfl ⟨by decide, by decide⟩ (Nat.le_of_ble_eq_true rfl) (Nat.le_of_ble_eq_true rfl) (Nat.le_of_ble_eq_true rfl)) (fun r_118 σ_118 hh hM hp_118 => ?_)
                rcases hp_118 with ⟨c0_118, rfl, rfl⟩ | ⟨c0_118, rfl, rfl⟩
                · rw [hx.kk hp1] at hM c0_118
                  rw [su_su] at hM
                  refine ww_if_eq 128 dX3_factor_121 (by decide) (inI.mk (by decide) (by decide)) (fun c_121 => ?_) (fun c_121 => ?_)
                  · exact absurd c_121 (by decide)
                  · refine ww_iconst dX3_factor_124 ?_
                    refine ww_goto 142 dX3_factor_125 (by decide) ?_
                    refine ww_istore_n [(2, _), (1, _), (0, _)] dX3_factor_142 (by decide) rfl ?_
                    refine ww_iload_n 0 dX3_factor_143 rfl ?_
                    refine ww_if_ge 158 dX3_factor_144 (by decide) (inI.mk (by decide) (by decide)) (fun c_144 => ?_) (fun c_144 => ?_)
                    · refine ww_iload_n 0 dX3_factor_158 rfl ?_
                      refine ww_istore_n [(3, _), (2, _), (1, _), (0, _)] dX3_factor_159 (by decide) rfl ?_
                      refine ww_aload_n 3 dX3_factor_160 rfl ?_
                      refine ww_iload_n 1 dX3_factor_161 rfl ?_
                      refine ww_if_ge 169 dX3_factor_162 (by decide) (inI.mk (by decide) (by decide)) (fun c_162 => ?_) (fun c_162 => ?_)
                      · refine ww_iconst dX3_factor_169 ?_
                        have hwg := we_gt (show pw t p = kwOffers from c0_118)
                        have hww := hx.w1 hk.2.1
                        have hc9 : su σ 4 0 0 (we t (sk t p)) 9 0 5 = c0 := by rw [su_off (by decide)]; exact hc
                        refine cr_sv hM (cr_V (ct_X3_emit hG hM (by rw [su_off (by decide)]; exact hg) _ (inI.mk (by decide) (by decide)) (by omega) (by omega)) sv_X3_143 rfl dX3_factor_170 hM.obj rfl rfl rfl rfl ⟨by decide, by decide⟩ (Nat.le_of_ble_eq_true rfl) (Nat.le_of_ble_eq_true rfl) (Nat.le_of_ble_eq_true rfl)) (fun σ_170 hh hM hp_170 => ?_)
                        have h5e : σ_170 5 0 0 = 0 := by rw [← hp_170, su_off (by decide), su_off (by decide), su_off (by decide)]; exact hg
                        have hc9e : σ_170 9 0 5 = c0 + 1 := by rw [← hp_170, su_s, hc9]
                        refine ww_aload_n 3 dX3_factor_173 rfl ?_
                        refine ww_iload_n 0 dX3_factor_174 rfl ?_
                        refine cr_sv hM (cr_V (ct_X3_emit hG hM h5e _ (inI.mk (by decide) (by decide)) (by omega) (by omega)) sv_X3_143 rfl dX3_factor_175 hM.obj rfl rfl rfl rfl ⟨by decide, by decide⟩ (Nat.le_of_ble_eq_true rfl) (Nat.le_of_ble_eq_true rfl) (Nat.le_of_ble_eq_true rfl)) (fun σ_175 hh hM hp_175 => ?_)
                        obtain ⟨q1, q2⟩ := emit2 (σ := σ) (d := 0) (n := n) (p := p) hp_170 hp_175 (su_off (by decide)) hc hc0 (by rw [su_off (by decide)]; exact hg) su_s (by rw [su_off (by decide)]; exact hd) (su_off (by decide)) (by omega) hww.2.1 Cd_2
                        exact ww_vret hQ dX3_factor_178 rfl (Nat.le_of_ble_eq_true rfl) (Nat.le_of_ble_eq_true rfl) ⟨rfl, _, hM, fun j a b c d e f => by rw [q2 j d, su_off a], q1.2.2.2.2.1, Or.inr ⟨_, _, by rw [pE0_kw c_16 c_82, if_neg (show ¬ pw t p = kwTrust from c0_92), if_neg (show ¬ pw t p = kwRank from c0_105), if_pos (show pw t p = kwOffers from c0_118)], q1⟩⟩
                      · exact absurd c_162 (by decide)
                    · exact absurd c_144 (by decide)
                · rw [hx.kk hp1] at hM c0_118
                  rw [su_su] at hM
                  refine ww_if_eq 128 dX3_factor_121 (by decide) (inI.mk (by decide) (by decide)) (fun c_121 => ?_) (fun c_121 => ?_)
                  · refine ww_aload_n 1 dX3_factor_128 rfl ?_
                    obtain ⟨a_129, tx_129, hz_129, hS_129⟩ := (hL.fr hM) 138 kwFriends (by decide)
                    refine ww_ldcS hz_129 dX3_factor_129 ?_
                    refine cr_si hM (cr_V (ct_X3_takeWord hG hM hT (sk t p) su_s (by omega) hk.2.1 (by rw [su_off (by decide)]; exact hg) hS_129 (fun e => hM.1.1 e.symm)) sv_X3_130 rfl dX3_factor_131 hM.obj rfl rfl rfl rfl ⟨by decide, by decide⟩ (Nat.le_of_ble_eq_true rfl) (Nat.le_of_ble_eq_true rfl) (Nat.le_of_ble_eq_true rfl)) (fun r_131 σ_131 hh hM hp_131 => ?_)
                    rcases hp_131 with ⟨c0_131, rfl, rfl⟩ | ⟨c0_131, rfl, rfl⟩
                    · rw [hx.kk hp1] at hM c0_131
                      rw [su_su] at hM
                      refine ww_if_eq 141 dX3_factor_134 (by decide) (inI.mk (by decide) (by decide)) (fun c_134 => ?_) (fun c_134 => ?_)
                      · exact absurd c_134 (by decide)
                      · refine ww_iconst dX3_factor_137 ?_
                        refine ww_goto 142 dX3_factor_138 (by decide) ?_
                        refine ww_istore_n [(2, _), (1, _), (0, _)] dX3_factor_142 (by decide) rfl ?_
                        refine ww_iload_n 0 dX3_factor_143 rfl ?_
                        refine ww_if_ge 158 dX3_factor_144 (by decide) (inI.mk (by decide) (by decide)) (fun c_144 => ?_) (fun c_144 => ?_)
                        · refine ww_iload_n 0 dX3_factor_158 rfl ?_
                          refine ww_istore_n [(3, _), (2, _), (1, _), (0, _)] dX3_factor_159 (by decide) rfl ?_
                          refine ww_aload_n 3 dX3_factor_160 rfl ?_
                          refine ww_iload_n 1 dX3_factor_161 rfl ?_
                          refine ww_if_ge 169 dX3_factor_162 (by decide) (inI.mk (by decide) (by decide)) (fun c_162 => ?_) (fun c_162 => ?_)
                          · refine ww_iconst dX3_factor_169 ?_
                            have hwg := we_gt (show pw t p = kwFriends from c0_131)
                            have hww := hx.w1 hk.2.1
                            have hc9 : su σ 4 0 0 (we t (sk t p)) 9 0 5 = c0 := by rw [su_off (by decide)]; exact hc
                            refine cr_sv hM (cr_V (ct_X3_emit hG hM (by rw [su_off (by decide)]; exact hg) _ (inI.mk (by decide) (by decide)) (by omega) (by omega)) sv_X3_143 rfl dX3_factor_170 hM.obj rfl rfl rfl rfl ⟨by decide, by decide⟩ (Nat.le_of_ble_eq_true rfl) (Nat.le_of_ble_eq_true rfl) (Nat.le_of_ble_eq_true rfl)) (fun σ_170 hh hM hp_170 => ?_)
                            have h5e : σ_170 5 0 0 = 0 := by rw [← hp_170, su_off (by decide), su_off (by decide), su_off (by decide)]; exact hg
                            have hc9e : σ_170 9 0 5 = c0 + 1 := by rw [← hp_170, su_s, hc9]
                            refine ww_aload_n 3 dX3_factor_173 rfl ?_
                            refine ww_iload_n 0 dX3_factor_174 rfl ?_
                            refine cr_sv hM (cr_V (ct_X3_emit hG hM h5e _ (inI.mk (by decide) (by decide)) (by omega) (by omega)) sv_X3_143 rfl dX3_factor_175 hM.obj rfl rfl rfl rfl ⟨by decide, by decide⟩ (Nat.le_of_ble_eq_true rfl) (Nat.le_of_ble_eq_true rfl) (Nat.le_of_ble_eq_true rfl)) (fun σ_175 hh hM hp_175 => ?_)
                            obtain ⟨q1, q2⟩ := emit2 (σ := σ) (d := 0) (n := n) (p := p) hp_170 hp_175 (su_off (by decide)) hc hc0 (by rw [su_off (by decide)]; exact hg) su_s (by rw [su_off (by decide)]; exact hd) (su_off (by decide)) (by omega) hww.2.1 Cd_3
                            exact ww_vret hQ dX3_factor_178 rfl (Nat.le_of_ble_eq_true rfl) (Nat.le_of_ble_eq_true rfl) ⟨rfl, _, hM, fun j a b c d e f => by rw [q2 j d, su_off a], q1.2.2.2.2.1, Or.inr ⟨_, _, by rw [pE0_kw c_16 c_82, if_neg (show ¬ pw t p = kwTrust from c0_92), if_neg (show ¬ pw t p = kwRank from c0_105), if_neg (show ¬ pw t p = kwOffers from c0_118), if_pos (show pw t p = kwFriends from c0_131)], q1⟩⟩
                          · exact absurd c_162 (by decide)
                        · exact absurd c_144 (by decide)
                    · rw [hx.kk hp1] at hM c0_131
                      rw [su_su] at hM
                      refine ww_if_eq 141 dX3_factor_134 (by decide) (inI.mk (by decide) (by decide)) (fun c_134 => ?_) (fun c_134 => ?_)
                      · refine ww_iconst dX3_factor_141 ?_
                        refine ww_istore_n [(2, _), (1, _), (0, _)] dX3_factor_142 (by decide) rfl ?_
                        refine ww_iload_n 0 dX3_factor_143 rfl ?_
                        refine ww_if_ge 158 dX3_factor_144 (by decide) (inI.mk (by decide) (by decide)) (fun c_144 => ?_) (fun c_144 => ?_)
                        · exact absurd c_144 (by decide)
                        · refine ww_aload_n 2 dX3_factor_147 rfl ?_
                          refine ww_iconst dX3_factor_148 ?_
                          refine ww_sipush dX3_factor_149 (by decide) ?_
                          refine cr_si hM (cr_V (ct_X3_number hG hM hT (sk t p) su_s (by omega) hk.2.1 (by rw [su_off (by decide)]; exact hg) 0 9999 (inI.mk (by decide) (by decide)) (inI.mk (by decide) (by decide))) sv_X3_140 rfl dX3_factor_152 hM.obj rfl rfl rfl rfl ⟨by decide, by decide⟩ (Nat.le_of_ble_eq_true rfl) (Nat.le_of_ble_eq_true rfl) (Nat.le_of_ble_eq_true rfl)) (fun r_152 σ_152 hh hM hp_152 => ?_)
                          obtain ⟨hk_152, hr_152, hc_152⟩ := hp_152
                          rw [pnum_kk hx hp1] at hc_152
                          have hf2 : FE σ σ_152 := fun j a b c d e f => by rw [hk_152 j a b c e, su_off a]
                          have h13n : σ_152 13 0 0 = 0 := by rw [hk_152 13 (by decide) (by decide) (by decide) (by decide), su_off (by decide)]; exact hd
                          have h9n : σ_152 9 = σ 9 := by rw [hk_152 9 (by decide) (by decide) (by decide) (by decide), su_off (by decide)]
                          rcases hc_152 with ⟨c, o, hpe, hce, h5, h6⟩ | ⟨v, e3, hpn, h5n, h4n, rfl, f1, f2, f3, f4, f6⟩
                          · refine ww_goto 159 dX3_factor_155 (by decide) ?_
                            refine ww_istore_n [(3, _), (2, _), (1, _), (0, _)] dX3_factor_159 (by decide) rfl ?_
                            refine ww_aload_n 3 dX3_factor_160 rfl ?_
                            refine ww_iload_n 1 dX3_factor_161 rfl ?_
                            refine ww_if_ge 169 dX3_factor_162 (by decide) (inI.mk (by decide) (by decide)) (fun c_162 => ?_) (fun c_162 => ?_)
                            · exact absurd c_162 (by decide)
                            · refine ww_iconst dX3_factor_165 ?_
                              refine ww_goto 170 dX3_factor_166 (by decide) ?_
                              refine cr_pv (cr_V (ct_X3_emitB hG hM (fun e => hce (h5.symm.trans e)) _) sv_X3_143 rfl dX3_factor_170 hM.obj rfl rfl rfl rfl ⟨by decide, by decide⟩ (Nat.le_of_ble_eq_true rfl) (Nat.le_of_ble_eq_true rfl) (Nat.le_of_ble_eq_true rfl)) ?_
                              refine ww_aload_n 3 dX3_factor_173 rfl ?_
                              refine ww_iload_n 0 dX3_factor_174 rfl ?_
                              refine cr_pv (cr_V (ct_X3_emitB hG hM (fun e => hce (h5.symm.trans e)) _) sv_X3_143 rfl dX3_factor_175 hM.obj rfl rfl rfl rfl ⟨by decide, by decide⟩ (Nat.le_of_ble_eq_true rfl) (Nat.le_of_ble_eq_true rfl) (Nat.le_of_ble_eq_true rfl)) ?_
                              exact ww_vret hQ dX3_factor_178 rfl (Nat.le_of_ble_eq_true rfl) (Nat.le_of_ble_eq_true rfl) ⟨rfl, _, hM, hf2, h13n, Or.inl ⟨c, o, by rw [pE0_kw c_16 c_82, if_neg (show ¬ pw t p = kwTrust from c0_92), if_neg (show ¬ pw t p = kwRank from c0_105), if_neg (show ¬ pw t p = kwOffers from c0_118), if_neg (show ¬ pw t p = kwFriends from c0_131)]; unfold pnum at hpe; rw [if_neg c_82] at hpe; cases hpe; rfl, hce, h5, h6⟩⟩
                          · exact absurd hpn (by unfold pnum; rw [if_neg c_82]; intro e; cases e)
                      · exact absurd c_134 (by decide)
                  · exact absurd c_121 (by decide)
              · exact absurd c_108 (by decide)
          · exact absurd c_95 (by decide)
      · refine ww_iconst dX3_factor_85 ?_
        refine ww_goto 142 dX3_factor_86 (by decide) ?_
        refine ww_istore_n [(2, _), (1, _), (0, _)] dX3_factor_142 (by decide) rfl ?_
        refine ww_iload_n 0 dX3_factor_143 rfl ?_
        refine ww_if_ge 158 dX3_factor_144 (by decide) (inI.mk (by decide) (by decide)) (fun c_144 => ?_) (fun c_144 => ?_)
        · exact absurd c_144 (by decide)
        · refine ww_aload_n 2 dX3_factor_147 rfl ?_
          refine ww_iconst dX3_factor_148 ?_
          refine ww_sipush dX3_factor_149 (by decide) ?_
          refine cr_si hM (cr_V (ct_X3_number hG hM hT (sk t p) su_s (by omega) hk.2.1 (by rw [su_off (by decide)]; exact hg) 0 9999 (inI.mk (by decide) (by decide)) (inI.mk (by decide) (by decide))) sv_X3_140 rfl dX3_factor_152 hM.obj rfl rfl rfl rfl ⟨by decide, by decide⟩ (Nat.le_of_ble_eq_true rfl) (Nat.le_of_ble_eq_true rfl) (Nat.le_of_ble_eq_true rfl)) (fun r_152 σ_152 hh hM hp_152 => ?_)
          obtain ⟨hk_152, hr_152, hc_152⟩ := hp_152
          rw [pnum_kk hx hp1] at hc_152
          have hf2 : FE σ σ_152 := fun j a b c d e f => by rw [hk_152 j a b c e, su_off a]
          have h13n : σ_152 13 0 0 = 0 := by rw [hk_152 13 (by decide) (by decide) (by decide) (by decide), su_off (by decide)]; exact hd
          have h9n : σ_152 9 = σ 9 := by rw [hk_152 9 (by decide) (by decide) (by decide) (by decide), su_off (by decide)]
          rcases hc_152 with ⟨c, o, hpe, hce, h5, h6⟩ | ⟨v, e3, hpn, h5n, h4n, rfl, f1, f2, f3, f4, f6⟩
          · refine ww_goto 159 dX3_factor_155 (by decide) ?_
            refine ww_istore_n [(3, _), (2, _), (1, _), (0, _)] dX3_factor_159 (by decide) rfl ?_
            refine ww_aload_n 3 dX3_factor_160 rfl ?_
            refine ww_iload_n 1 dX3_factor_161 rfl ?_
            refine ww_if_ge 169 dX3_factor_162 (by decide) (inI.mk (by decide) (by decide)) (fun c_162 => ?_) (fun c_162 => ?_)
            · exact absurd c_162 (by decide)
            · refine ww_iconst dX3_factor_165 ?_
              refine ww_goto 170 dX3_factor_166 (by decide) ?_
              refine cr_pv (cr_V (ct_X3_emitB hG hM (fun e => hce (h5.symm.trans e)) _) sv_X3_143 rfl dX3_factor_170 hM.obj rfl rfl rfl rfl ⟨by decide, by decide⟩ (Nat.le_of_ble_eq_true rfl) (Nat.le_of_ble_eq_true rfl) (Nat.le_of_ble_eq_true rfl)) ?_
              refine ww_aload_n 3 dX3_factor_173 rfl ?_
              refine ww_iload_n 0 dX3_factor_174 rfl ?_
              refine cr_pv (cr_V (ct_X3_emitB hG hM (fun e => hce (h5.symm.trans e)) _) sv_X3_143 rfl dX3_factor_175 hM.obj rfl rfl rfl rfl ⟨by decide, by decide⟩ (Nat.le_of_ble_eq_true rfl) (Nat.le_of_ble_eq_true rfl) (Nat.le_of_ble_eq_true rfl)) ?_
              exact ww_vret hQ dX3_factor_178 rfl (Nat.le_of_ble_eq_true rfl) (Nat.le_of_ble_eq_true rfl) ⟨rfl, _, hM, hf2, h13n, Or.inl ⟨c, o, by rw [pE0_num c_16 c_82, hpe], hce, h5, h6⟩⟩
          · have hc9 : σ_152 9 0 5 = c0 := by rw [h9n]; exact hc
            refine ww_goto 159 dX3_factor_155 (by decide) ?_
            refine ww_istore_n [(3, _), (2, _), (1, _), (0, _)] dX3_factor_159 (by decide) rfl ?_
            refine ww_aload_n 3 dX3_factor_160 rfl ?_
            refine ww_iload_n 1 dX3_factor_161 rfl ?_
            refine ww_if_ge 169 dX3_factor_162 (by decide) (inI.mk (by decide) (by decide)) (fun c_162 => ?_) (fun c_162 => ?_)
            · exact absurd c_162 (by decide)
            · refine ww_iconst dX3_factor_165 ?_
              refine ww_goto 170 dX3_factor_166 (by decide) ?_
              refine cr_sv hM (cr_V (ct_X3_emit hG hM h5n _ (inI.mk (by decide) (by decide)) (by omega) (by omega)) sv_X3_143 rfl dX3_factor_170 hM.obj rfl rfl rfl rfl ⟨by decide, by decide⟩ (Nat.le_of_ble_eq_true rfl) (Nat.le_of_ble_eq_true rfl) (Nat.le_of_ble_eq_true rfl)) (fun σ_170 hh hM hp_170 => ?_)
              have h5e : σ_170 5 0 0 = 0 := by rw [← hp_170, su_off (by decide), su_off (by decide)]; exact h5n
              have hc9e : σ_170 9 0 5 = c0 + 1 := by rw [← hp_170, su_s, hc9]
              refine ww_aload_n 3 dX3_factor_173 rfl ?_
              refine ww_iload_n 0 dX3_factor_174 rfl ?_
              refine cr_sv hM (cr_V (ct_X3_emit hG hM h5e _ (inI.mk (by omega) (by omega)) (by omega) (by omega)) sv_X3_143 rfl dX3_factor_175 hM.obj rfl rfl rfl rfl ⟨by decide, by decide⟩ (Nat.le_of_ble_eq_true rfl) (Nat.le_of_ble_eq_true rfl) (Nat.le_of_ble_eq_true rfl)) (fun σ_175 hh hM hp_175 => ?_)
              obtain ⟨q1, q2⟩ := emit2 (n := n) (p := p) hp_170 hp_175 h9n hc hc0 h5n h4n h13n (by rw [f6, su_off (by decide)]) (by have := pnum_gt hx hp0 hp1 hpn; omega) (by omega) (Cd_n f3 f4)
              exact ww_vret hQ dX3_factor_178 rfl (Nat.le_of_ble_eq_true rfl) (Nat.le_of_ble_eq_true rfl) ⟨rfl, _, hM, fun j a b c d e f => by rw [q2 j d]; exact hf2 j a b c d e f, q1.2.2.2.2.1, Or.inr ⟨_, _, by rw [pE0_num c_16 c_82, hpn], q1⟩⟩
    · have hsn : sk t p ≠ n := fun e => by rw [e, hx.2.2.1 n (Int.le_refl _)] at c_16; cases c_16
      refine ww_aload_n 1 dX3_factor_19 rfl ?_
      refine ww_getf gf_X3_118 rfl dX3_factor_20 hM.obj rfl ?_
      rw [su_off (by decide), hd]
      refine ww_iconst dX3_factor_23 ?_
      refine ww_icmp_ne 37 dX3_factor_24 (by decide) (inI.mk (by decide) (by decide)) (inI.mk (by decide) (by decide)) (fun c_24 => ?_) (fun c_24 => ?_)
      · refine ww_aload_n 1 dX3_factor_37 rfl ?_
        refine ww_dup dX3_factor_38 rfl ?_
        refine ww_getf gf_X3_68 rfl dX3_factor_39 hM.obj rfl ?_
        rw [su_s]
        refine ww_iconst dX3_factor_42 ?_
        refine ww_iadd dX3_factor_43 ?_
        refine mw_put pf_X3_68 rfl dX3_factor_44 hM rfl (inI.mk (by omega) (by omega)) (fun hh hM => ?_)
        rw [su_su] at hM
        refine ww_aload_n 1 dX3_factor_47 rfl ?_
        refine ww_dup dX3_factor_48 rfl ?_
        refine ww_getf gf_X3_118 rfl dX3_factor_49 hM.obj rfl ?_
        rw [su_off (by decide), hd]
        refine ww_iconst dX3_factor_52 ?_
        refine ww_iadd dX3_factor_53 ?_
        refine mw_put pf_X3_118 rfl dX3_factor_54 hM rfl (inI.mk (by decide) (by decide)) (fun hh hM => ?_)
        refine ww_aload_n 1 dX3_factor_57 rfl ?_
        refine cr_sv hM (cr_V (ct_X3_sum1 hG hM (TX.of (σ' := su (su σ 4 0 0 (sk t p + 1)) 13 0 0 (0 + 1)) hT (by rw [su_off (by decide), su_off (by decide), su_off (by decide)]) (by rw [su_off (by decide), su_off (by decide), su_off (by decide)])) (sk t p + 1) (by rw [su_off (by decide), su_s]) (by omega) (by omega) (by rw [su_off (by decide), su_off (by decide)]; exact hg) (hL.fr hM) x g (by omega) c0 (by rw [su_off (by decide), su_off (by decide)]; exact hc) hc0 (by omega) su_s) sv_X3_121 rfl dX3_factor_58 hM.obj rfl rfl rfl rfl ⟨by decide, by decide⟩ (Nat.le_of_ble_eq_true rfl) (Nat.le_of_ble_eq_true rfl) (Nat.le_of_ble_eq_true rfl)) (fun σ_58 hh hM hp_58 => ?_)
        obtain ⟨hfe_58, h13_58, hc_58⟩ := hp_58
        rcases hc_58 with ⟨c, o, hpe, hce, h5, h6⟩ | ⟨y, p1, hpy, hy⟩
        · refine ww_aload_n 1 dX3_factor_61 rfl ?_
          refine ww_bipush dX3_factor_62 (by decide) ?_
          refine cr_pv (cr_V (ct_X3_expectB hG hM (fun e => hce (h5.symm.trans e)) _) sv_X3_124 rfl dX3_factor_64 hM.obj rfl rfl rfl rfl ⟨by decide, by decide⟩ (Nat.le_of_ble_eq_true rfl) (Nat.le_of_ble_eq_true rfl) (Nat.le_of_ble_eq_true rfl)) ?_
          refine ww_aload_n 1 dX3_factor_67 rfl ?_
          refine ww_dup dX3_factor_68 rfl ?_
          refine ww_getf gf_X3_118 rfl dX3_factor_69 hM.obj rfl ?_
          rw [h13_58]
          refine ww_iconst dX3_factor_72 ?_
          refine ww_isub dX3_factor_73 ?_
          refine mw_put pf_X3_118 rfl dX3_factor_74 hM rfl (inI.mk (by decide) (by decide)) (fun hh hM => ?_)
          exact ww_vret hQ dX3_factor_77 rfl (Nat.le_of_ble_eq_true rfl) (Nat.le_of_ble_eq_true rfl) ⟨rfl, _, hM, fun j a b c d e f => by rw [su_off f, hfe_58 j a b c d e f, su_off f, su_off a], su_s, Or.inl ⟨c, o, by rw [pE0_par c_16 (by decide)]; rw [show (0 : Int) + 1 = 1 from rfl, hpe], hce, by rw [su_off (by decide)]; exact h5, by rw [su_off (by decide)]; exact h6⟩⟩
        · have hT3 := hT.of (σ' := σ_58) (by rw [hfe_58 1 (by decide) (by decide) (by decide) (by decide) (by decide) (by decide), su_off (by decide), su_off (by decide), su_off (by decide)]) (by rw [hfe_58 3 (by decide) (by decide) (by decide) (by decide) (by decide) (by decide), su_off (by decide), su_off (by decide), su_off (by decide)])
          have hyp := hy.2.2.1
          have hyn := hy.2.2.2.1
          have hk1 := hx.k1 hyn
          refine ww_aload_n 1 dX3_factor_61 rfl ?_
          refine ww_bipush dX3_factor_62 (by decide) ?_
          refine cr_sv hM (cr_V (ct_X3_expect hG hM hT3 p1 hy.2.1 (by omega) hyn hy.1 41 (inI.mk (by decide) (by decide))) sv_X3_124 rfl dX3_factor_64 hM.obj rfl rfl rfl rfl ⟨by decide, by decide⟩ (Nat.le_of_ble_eq_true rfl) (Nat.le_of_ble_eq_true rfl) (Nat.le_of_ble_eq_true rfl)) (fun σ_64 hh hM hp_64 => ?_)
          rcases hp_64 with ⟨c41, rfl⟩ | ⟨c41, rfl⟩
          · have hsn1 : sk t p1 ≠ n := fun e => by rw [e, hx.2.2.1 n (Int.le_refl _)] at c41; cases c41
            refine ww_aload_n 1 dX3_factor_67 rfl ?_
            refine ww_dup dX3_factor_68 rfl ?_
            refine ww_getf gf_X3_118 rfl dX3_factor_69 hM.obj rfl ?_
            rw [su_off (by decide), h13_58]
            refine ww_iconst dX3_factor_72 ?_
            refine ww_isub dX3_factor_73 ?_
            refine mw_put pf_X3_118 rfl dX3_factor_74 hM rfl (inI.mk (by decide) (by decide)) (fun hh hM => ?_)
            exact ww_vret hQ dX3_factor_77 rfl (Nat.le_of_ble_eq_true rfl) (Nat.le_of_ble_eq_true rfl) ⟨rfl, _, hM, fun j a b c d e f => by rw [su_off f, su_off a, hfe_58 j a b c d e f, su_off f, su_off a], su_s, Or.inr ⟨y, sk t p1 + 1, by rw [pE0_par c_16 (by decide)]; rw [show (0 : Int) + 1 = 1 from rfl, hpy]; simp only; rw [if_pos c41], hy.of (by rw [su_off (by decide), su_off (by decide)]) (by rw [su_off (by decide), su_off (by decide)]) (by rw [su_off (by decide), su_off (by decide)]) (by rw [su_off (by decide), su_off (by decide)]) (by rw [su_off (by decide), su_off (by decide)]; exact hy.1) (by rw [su_off (by decide), su_s]) (by omega) (by omega) (by omega) su_s⟩⟩
          · refine ww_aload_n 1 dX3_factor_67 rfl ?_
            refine ww_dup dX3_factor_68 rfl ?_
            refine ww_getf gf_X3_118 rfl dX3_factor_69 hM.obj rfl ?_
            rw [su_off (by decide), su_off (by decide), su_off (by decide), h13_58]
            refine ww_iconst dX3_factor_72 ?_
            refine ww_isub dX3_factor_73 ?_
            refine mw_put pf_X3_118 rfl dX3_factor_74 hM rfl (inI.mk (by decide) (by decide)) (fun hh hM => ?_)
            exact ww_vret hQ dX3_factor_77 rfl (Nat.le_of_ble_eq_true rfl) (Nat.le_of_ble_eq_true rfl) ⟨rfl, _, hM, fun j a b c d e f => by rw [su_off f, su_off c, su_off b, su_off a, hfe_58 j a b c d e f, su_off f, su_off a], su_s, Or.inl ⟨-2, sk t p1, by rw [pE0_par c_16 (by decide)]; rw [show (0 : Int) + 1 = 1 from rfl, hpy]; simp only; rw [if_neg c41], by decide, by rw [su_off (by decide), su_off (by decide), su_s], by rw [su_off (by decide), su_s]⟩⟩
      · exact absurd c_24 (by decide)
  · exact absurd hg c_4

set_option maxHeartbeats 4000000 in
theorem ct_X3_term0 {G : GT} {h0 h : AH} {m : Nat} {A : Nat → Nat} {B : Nat → Int → Nat} {D : Int → Int} {σ : MS} (hG : GOK G) (hM : MWF G h0 h m A B D σ) {t : Int → Int} {n : Int} (hT : TX σ t n) (p : Int) (hp : σ 4 0 0 = p) (hp0 : 0 ≤ p) (hp1 : p ≤ n) (hg : σ 5 0 0 = 0) (hL : LitM G h) (x : List Int × EF) (f : Nat) (hf : 3 * (n - p) + 2 ≤ f) (c0 : Int) (hc : σ 9 0 5 = c0) (hc0 : 0 ≤ c0) (hcp : 2 * c0 ≤ 3 * p) (hd : σ 13 0 0 = 0) : CSv G (MX3_term 18 390 0 0) h m A B D [.ref m] (fun σ' => FE σ σ' ∧ σ' 13 0 0 = 0 ∧ PEr (pE f 1 t 0 p x) σ σ' c0 0 p n) := by
  refine CT.of rfl hG (Nat.le_of_ble_eq_true rfl) rfl (fun E hQ => ?_)
  have hM := hM.1.f
  have hx := hT.1
  have hn8 := hx.2.1
  obtain ⟨g, rfl⟩ : ∃ g, f = g + 1 := ⟨f - 1, by omega⟩
  refine ww_aload_n 0 dX3_term_0 rfl ?_
  refine cr_sv hM (cr_V (ct_X3_factor0 hG hM hT p hp hp0 hp1 hg hL x g (by omega) c0 hc hc0 hcp hd) sv_X3_146 rfl dX3_term_1 hM.obj rfl rfl rfl rfl ⟨by decide, by decide⟩ (Nat.le_of_ble_eq_true rfl) (Nat.le_of_ble_eq_true rfl) (Nat.le_of_ble_eq_true rfl)) (fun σ_1 hh hM hp_1 => ?_)
  obtain ⟨hfe_1, h13_1, hc_1⟩ := hp_1
  rcases hc_1 with ⟨c, o, hpe, hce, h5, h6⟩ | ⟨y, p1, hpy, hy⟩
  · have hpr : pE (g + 1) 1 t 0 p x = .error (c, o) := by rw [pE1, hpe]
    have hfr := hfe_1
    have h13r := h13_1
    refine ww_aload_n 0 dX3_term_4 rfl ?_
    refine cr_pi (cr_V (ct_X3_isGood hG hM) sv_X3_85 rfl dX3_term_5 hM.obj rfl rfl rfl rfl ⟨by decide, by decide⟩ (Nat.le_of_ble_eq_true rfl) (Nat.le_of_ble_eq_true rfl) (Nat.le_of_ble_eq_true rfl)) ?_
    refine ww_ifb_eq 74 dX3_term_8 (by decide) (fun c_8 => ?_) (fun c_8 => ?_)
    · exact ww_vret hQ dX3_term_74 rfl (Nat.le_of_ble_eq_true rfl) (Nat.le_of_ble_eq_true rfl) ⟨rfl, _, hM, hfr, h13r, Or.inl ⟨c, o, hpr, hce, h5, h6⟩⟩
    · exact absurd (h5.symm.trans c_8) hce
  · have hpt : pE (g + 1) 1 t 0 p x = pE g 2 t 0 p1 y := by rw [pE1, hpy]
    have loop_4 : ∀ (e : Nat) (u : Nat) (z : List Int × EF) (q : Int) (τ : MS) (hx1 : AH), (MWF G h hx1 m A B D τ) → (FE σ τ) → (ExO σ τ c0 0 p n z q) → (pE (g + 1) 1 t 0 p x = pE u 2 t 0 q z) → (3 * (n - q) + 2 ≤ u) → (n - q < e) → WW G E (MX3_term 18 390 0 0) hx1 0 0 4 [(0, .ref m)] [] := by
      intro e
      induction e with
      | zero => intro u z q τ hx1 hM hfe hy hpt hu he; exact absurd he (by have := hy.2.2.2.1; omega)
      | succ e ie =>
        intro u z q τ hx1 hM hfe hy hpt hu he
        have hq2 := hy.2.2.2.1
        have hq1 := hy.2.2.1
        obtain ⟨v, rfl⟩ : ∃ v, u = v + 1 := ⟨u - 1, by omega⟩
        have hT := hT.of (hfe 1 (by decide) (by decide) (by decide) (by decide) (by decide) (by decide)) (hfe 3 (by decide) (by decide) (by decide) (by decide) (by decide) (by decide))
        have hkq := hx.k1 hq2
        have h13 := hy.2.2.2.2.1
        have h95 := hy.2.2.2.2.2.1
        have h29 := hy.2.2.2.2.2.2.2.2.1
        have hrx := hx.rg (q := sk t q) (by omega)
        refine ww_aload_n 0 dX3_term_4 rfl ?_
        refine cr_pi (cr_V (ct_X3_isGood hG hM) sv_X3_85 rfl dX3_term_5 hM.obj rfl rfl rfl rfl ⟨by decide, by decide⟩ (Nat.le_of_ble_eq_true rfl) (Nat.le_of_ble_eq_true rfl) (Nat.le_of_ble_eq_true rfl)) ?_
        refine ww_ifb_eq 74 dX3_term_8 (by decide) (fun c_8 => ?_) (fun c_8 => ?_)
        · exact absurd hy.1 c_8
        · refine ww_aload_n 0 dX3_term_11 rfl ?_
          refine cr_si hM (cr_V (ct_X3_next hG hM hT q hy.2.1 (by omega) hq2) sv_X3_89 rfl dX3_term_12 hM.obj rfl rfl rfl rfl ⟨by decide, by decide⟩ (Nat.le_of_ble_eq_true rfl) (Nat.le_of_ble_eq_true rfl) (Nat.le_of_ble_eq_true rfl)) (fun r_12 σ_12 hh hM hp_12 => ?_)
          obtain ⟨rfl, rfl⟩ := hp_12
          try rw [su_su] at hM
          refine ww_bipush dX3_term_15 (by decide) ?_
          refine ww_icmp_eq 29 dX3_term_17 (by decide) (inI.mk (by omega) (by omega)) (inI.mk (by decide) (by decide)) (fun c_17 => ?_) (fun c_17 => ?_)
          · have hsn : sk t q ≠ n := fun e => by rw [e, hx.2.2.1 n (Int.le_refl _)] at c_17; cases c_17
            refine ww_aload_n 0 dX3_term_29 rfl ?_
            refine cr_si hM (cr_V (ct_X3_next hG hM (hT.mv hM (by decide) (by decide)) (sk t q) su_s (by omega) hkq.2.1) sv_X3_89 rfl dX3_term_30 hM.obj rfl rfl rfl rfl ⟨by decide, by decide⟩ (Nat.le_of_ble_eq_true rfl) (Nat.le_of_ble_eq_true rfl) (Nat.le_of_ble_eq_true rfl)) (fun r_30 σ_30 hh hM hp_30 => ?_)
            obtain ⟨rfl, rfl⟩ := hp_30
            try rw [su_su] at hM
            rw [hx.kk hq2] at hM
            rw [hx.kk hq2]
            refine ww_bipush dX3_term_33 (by decide) ?_
            refine ww_icmp_ne 42 dX3_term_35 (by decide) (inI.mk (by omega) (by omega)) (inI.mk (by decide) (by decide)) (fun c_35 => ?_) (fun c_35 => ?_)
            · exact absurd c_17 c_35
            · refine ww_iconst dX3_term_38 ?_
              refine ww_goto 43 dX3_term_39 (by decide) ?_
              refine ww_istore_n [(1, _), (0, _)] dX3_term_43 (by decide) rfl ?_
              refine ww_aload_n 1 dX3_term_44 rfl ?_
              refine ww_dup dX3_term_45 rfl ?_
              refine ww_getf gf_X3_68 rfl dX3_term_46 hM.obj rfl ?_
              rw [su_s]
              refine ww_iconst dX3_term_49 ?_
              refine ww_iadd dX3_term_50 ?_
              refine mw_put pf_X3_68 rfl dX3_term_51 hM rfl (inI.mk (by omega) (by omega)) (fun hh hM => ?_)
              rw [su_su] at hM
              refine ww_aload_n 1 dX3_term_54 rfl ?_
              refine cr_sv hM (cr_V (ct_X3_factor0 hG hM (hT.mv hM (by decide) (by decide)) (sk t q + 1) su_s (by omega) (by omega) (by rw [su_off (by decide)]; exact hy.1) (hL.fr hM) z v (by omega) (c0 + z.1.length) (by rw [su_off (by decide)]; exact h95) (by omega) (by omega) (by rw [su_off (by decide)]; exact h13)) sv_X3_146 rfl dX3_term_55 hM.obj rfl rfl rfl rfl ⟨by decide, by decide⟩ (Nat.le_of_ble_eq_true rfl) (Nat.le_of_ble_eq_true rfl) (Nat.le_of_ble_eq_true rfl)) (fun σ_55 hh hM hp_55 => ?_)
              obtain ⟨hfe_55, h13_55, hc_55⟩ := hp_55
              have hfr : FE σ σ_55 := fun j a b c d e f => by rw [hfe_55 j a b c d e f, su_off a, hfe j a b c d e f]
              rcases hc_55 with ⟨c, o, hpe, hce, h5, h6⟩ | ⟨y, q2, hpy, hy2⟩
              · have hpr : pE (g + 1) 1 t 0 p x = .error (c, o) := by rw [hpt, pE2, if_pos (Or.inl c_17), hpe]
                have h13r := h13_55
                refine ww_aload_n 1 dX3_term_58 rfl ?_
                refine ww_iload_n 0 dX3_term_59 rfl ?_
                refine ww_if_eq 67 dX3_term_60 (by decide) (inI.mk (by decide) (by decide)) (fun c_60 => ?_) (fun c_60 => ?_)
                · exact absurd c_60 (by decide)
                · refine ww_iconst dX3_term_63 ?_
                  refine ww_goto 68 dX3_term_64 (by decide) ?_
                  refine cr_pv (cr_V (ct_X3_emitB hG hM (fun e => hce (h5.symm.trans e)) _) sv_X3_143 rfl dX3_term_68 hM.obj rfl rfl rfl rfl ⟨by decide, by decide⟩ (Nat.le_of_ble_eq_true rfl) (Nat.le_of_ble_eq_true rfl) (Nat.le_of_ble_eq_true rfl)) ?_
                  refine ww_goto 4 dX3_term_71 (by decide) ?_
                  refine ww_aload_n 1 dX3_term_4 rfl ?_
                  refine cr_pi (cr_V (ct_X3_isGood hG hM) sv_X3_85 rfl dX3_term_5 hM.obj rfl rfl rfl rfl ⟨by decide, by decide⟩ (Nat.le_of_ble_eq_true rfl) (Nat.le_of_ble_eq_true rfl) (Nat.le_of_ble_eq_true rfl)) ?_
                  refine ww_ifb_eq 74 dX3_term_8 (by decide) (fun c_8 => ?_) (fun c_8 => ?_)
                  · exact ww_vret hQ dX3_term_74 rfl (Nat.le_of_ble_eq_true rfl) (Nat.le_of_ble_eq_true rfl) ⟨rfl, _, hM, hfr, h13r, Or.inl ⟨c, o, hpr, hce, h5, h6⟩⟩
                  · exact absurd (h5.symm.trans c_8) hce
              · have h95b := hy2.2.2.2.2.2.1
                have h29b := hy2.2.2.2.2.2.2.2.2.1
                have hq22 := hy2.2.2.2.1
                have hq23 := hy2.2.2.1
                refine ww_aload_n 1 dX3_term_58 rfl ?_
                refine ww_iload_n 0 dX3_term_59 rfl ?_
                refine ww_if_eq 67 dX3_term_60 (by decide) (inI.mk (by decide) (by decide)) (fun c_60 => ?_) (fun c_60 => ?_)
                · exact absurd c_60 (by decide)
                · refine ww_iconst dX3_term_63 ?_
                  refine ww_goto 68 dX3_term_64 (by decide) ?_
                  refine cr_sv hM (cr_V (ct_X3_emit hG hM hy2.1 _ (inI.mk (by decide) (by decide)) (by omega) (by omega)) sv_X3_143 rfl dX3_term_68 hM.obj rfl rfl rfl rfl ⟨by decide, by decide⟩ (Nat.le_of_ble_eq_true rfl) (Nat.le_of_ble_eq_true rfl) (Nat.le_of_ble_eq_true rfl)) (fun σ_68 hh hM hp_68 => ?_)
                  have hy3 := emitO (op := 4) hy (su_off (by decide)) (su_off (by decide)) rfl (by omega) hy2 hp_68 hc0 (by decide) (by decide)
                  have hpt3 : pE (g + 1) 1 t 0 p x = pE v 2 t 0 q2 (cmb 4 z y) := by rw [hpt, pE2, if_pos (Or.inl c_17), hpy]; simp only; rw [if_pos c_17]
                  have hfe3 : FE σ σ_68 := fun j a b c d e f => by rw [← hp_68, su_off d, su_off d]; exact hfr j a b c d e f
                  refine ww_goto 4 dX3_term_71 (by decide) ?_
                  refine ww_sub [1] rfl ?_
                  exact ie v _ _ _ _ hM hfe3 hy3 hpt3 (by omega) (by omega)
          · refine ww_aload_n 0 dX3_term_20 rfl ?_
            refine cr_si hM (cr_V (ct_X3_next hG hM (hT.mv hM (by decide) (by decide)) (sk t q) su_s (by omega) hkq.2.1) sv_X3_89 rfl dX3_term_21 hM.obj rfl rfl rfl rfl ⟨by decide, by decide⟩ (Nat.le_of_ble_eq_true rfl) (Nat.le_of_ble_eq_true rfl) (Nat.le_of_ble_eq_true rfl)) (fun r_21 σ_21 hh hM hp_21 => ?_)
            obtain ⟨rfl, rfl⟩ := hp_21
            try rw [su_su] at hM
            rw [hx.kk hq2] at hM
            rw [hx.kk hq2]
            refine ww_bipush dX3_term_24 (by decide) ?_
            refine ww_icmp_ne 74 dX3_term_26 (by decide) (inI.mk (by omega) (by omega)) (inI.mk (by decide) (by decide)) (fun c_26 => ?_) (fun c_26 => ?_)
            · exact ww_vret hQ dX3_term_74 rfl (Nat.le_of_ble_eq_true rfl) (Nat.le_of_ble_eq_true rfl) ⟨rfl, _, hM, fun j a b c d e f => by rw [su_off a]; exact hfe j a b c d e f, (by rw [su_off (by decide)]; exact h13), Or.inr ⟨z, sk t q, by rw [hpt, pE2, if_neg (fun x => x.elim c_17 c_26)], hy.of rfl (su_off (by decide)) rfl (su_off (by decide)) (by rw [su_off (by decide)]; exact hy.1) su_s (Int.le_refl _) (by omega) (by omega) (by rw [su_off (by decide)]; exact h13)⟩⟩
            · have hsn : sk t q ≠ n := fun e => by rw [e, hx.2.2.1 n (Int.le_refl _)] at c_26; cases c_26
              refine ww_aload_n 0 dX3_term_29 rfl ?_
              refine cr_si hM (cr_V (ct_X3_next hG hM (hT.mv hM (by decide) (by decide)) (sk t q) su_s (by omega) hkq.2.1) sv_X3_89 rfl dX3_term_30 hM.obj rfl rfl rfl rfl ⟨by decide, by decide⟩ (Nat.le_of_ble_eq_true rfl) (Nat.le_of_ble_eq_true rfl) (Nat.le_of_ble_eq_true rfl)) (fun r_30 σ_30 hh hM hp_30 => ?_)
              obtain ⟨rfl, rfl⟩ := hp_30
              try rw [su_su] at hM
              rw [hx.kk hq2] at hM
              rw [hx.kk hq2]
              refine ww_bipush dX3_term_33 (by decide) ?_
              refine ww_icmp_ne 42 dX3_term_35 (by decide) (inI.mk (by omega) (by omega)) (inI.mk (by decide) (by decide)) (fun c_35 => ?_) (fun c_35 => ?_)
              · refine ww_iconst dX3_term_42 ?_
                refine ww_istore_n [(1, _), (0, _)] dX3_term_43 (by decide) rfl ?_
                refine ww_aload_n 1 dX3_term_44 rfl ?_
                refine ww_dup dX3_term_45 rfl ?_
                refine ww_getf gf_X3_68 rfl dX3_term_46 hM.obj rfl ?_
                rw [su_s]
                refine ww_iconst dX3_term_49 ?_
                refine ww_iadd dX3_term_50 ?_
                refine mw_put pf_X3_68 rfl dX3_term_51 hM rfl (inI.mk (by omega) (by omega)) (fun hh hM => ?_)
                rw [su_su] at hM
                refine ww_aload_n 1 dX3_term_54 rfl ?_
                refine cr_sv hM (cr_V (ct_X3_factor0 hG hM (hT.mv hM (by decide) (by decide)) (sk t q + 1) su_s (by omega) (by omega) (by rw [su_off (by decide)]; exact hy.1) (hL.fr hM) z v (by omega) (c0 + z.1.length) (by rw [su_off (by decide)]; exact h95) (by omega) (by omega) (by rw [su_off (by decide)]; exact h13)) sv_X3_146 rfl dX3_term_55 hM.obj rfl rfl rfl rfl ⟨by decide, by decide⟩ (Nat.le_of_ble_eq_true rfl) (Nat.le_of_ble_eq_true rfl) (Nat.le_of_ble_eq_true rfl)) (fun σ_55 hh hM hp_55 => ?_)
                obtain ⟨hfe_55, h13_55, hc_55⟩ := hp_55
                have hfr : FE σ σ_55 := fun j a b c d e f => by rw [hfe_55 j a b c d e f, su_off a, hfe j a b c d e f]
                rcases hc_55 with ⟨c, o, hpe, hce, h5, h6⟩ | ⟨y, q2, hpy, hy2⟩
                · have hpr : pE (g + 1) 1 t 0 p x = .error (c, o) := by rw [hpt, pE2, if_pos (Or.inr c_26), hpe]
                  have h13r := h13_55
                  refine ww_aload_n 1 dX3_term_58 rfl ?_
                  refine ww_iload_n 0 dX3_term_59 rfl ?_
                  refine ww_if_eq 67 dX3_term_60 (by decide) (inI.mk (by decide) (by decide)) (fun c_60 => ?_) (fun c_60 => ?_)
                  · refine ww_iconst dX3_term_67 ?_
                    refine cr_pv (cr_V (ct_X3_emitB hG hM (fun e => hce (h5.symm.trans e)) _) sv_X3_143 rfl dX3_term_68 hM.obj rfl rfl rfl rfl ⟨by decide, by decide⟩ (Nat.le_of_ble_eq_true rfl) (Nat.le_of_ble_eq_true rfl) (Nat.le_of_ble_eq_true rfl)) ?_
                    refine ww_goto 4 dX3_term_71 (by decide) ?_
                    refine ww_aload_n 1 dX3_term_4 rfl ?_
                    refine cr_pi (cr_V (ct_X3_isGood hG hM) sv_X3_85 rfl dX3_term_5 hM.obj rfl rfl rfl rfl ⟨by decide, by decide⟩ (Nat.le_of_ble_eq_true rfl) (Nat.le_of_ble_eq_true rfl) (Nat.le_of_ble_eq_true rfl)) ?_
                    refine ww_ifb_eq 74 dX3_term_8 (by decide) (fun c_8 => ?_) (fun c_8 => ?_)
                    · exact ww_vret hQ dX3_term_74 rfl (Nat.le_of_ble_eq_true rfl) (Nat.le_of_ble_eq_true rfl) ⟨rfl, _, hM, hfr, h13r, Or.inl ⟨c, o, hpr, hce, h5, h6⟩⟩
                    · exact absurd (h5.symm.trans c_8) hce
                  · exact absurd c_60 (by decide)
                · have h95b := hy2.2.2.2.2.2.1
                  have h29b := hy2.2.2.2.2.2.2.2.2.1
                  have hq22 := hy2.2.2.2.1
                  have hq23 := hy2.2.2.1
                  refine ww_aload_n 1 dX3_term_58 rfl ?_
                  refine ww_iload_n 0 dX3_term_59 rfl ?_
                  refine ww_if_eq 67 dX3_term_60 (by decide) (inI.mk (by decide) (by decide)) (fun c_60 => ?_) (fun c_60 => ?_)
                  · refine ww_iconst dX3_term_67 ?_
                    refine cr_sv hM (cr_V (ct_X3_emit hG hM hy2.1 _ (inI.mk (by decide) (by decide)) (by omega) (by omega)) sv_X3_143 rfl dX3_term_68 hM.obj rfl rfl rfl rfl ⟨by decide, by decide⟩ (Nat.le_of_ble_eq_true rfl) (Nat.le_of_ble_eq_true rfl) (Nat.le_of_ble_eq_true rfl)) (fun σ_68 hh hM hp_68 => ?_)
                    have hy3 := emitO (op := 5) hy (su_off (by decide)) (su_off (by decide)) rfl (by omega) hy2 hp_68 hc0 (by decide) (by decide)
                    have hpt3 : pE (g + 1) 1 t 0 p x = pE v 2 t 0 q2 (cmb 5 z y) := by rw [hpt, pE2, if_pos (Or.inr c_26), hpy]; simp only; rw [if_neg c_17]
                    have hfe3 : FE σ σ_68 := fun j a b c d e f => by rw [← hp_68, su_off d, su_off d]; exact hfr j a b c d e f
                    refine ww_goto 4 dX3_term_71 (by decide) ?_
                    refine ww_sub [1] rfl ?_
                    exact ie v _ _ _ _ hM hfe3 hy3 hpt3 (by omega) (by omega)
                  · exact absurd c_60 (by decide)
              · exact absurd c_35 c_17
    refine ww_sub [0] rfl ?_
    exact loop_4 801 g y p1 _ _ hM hfe_1 hy hpt (by have := hy.2.2.1; have := hy.2.2.2.1; omega) (by have := hy.2.2.1; omega)

set_option maxHeartbeats 4000000 in
theorem ct_X3_sum0 {G : GT} {h0 h : AH} {m : Nat} {A : Nat → Nat} {B : Nat → Int → Nat} {D : Int → Int} {σ : MS} (hG : GOK G) (hM : MWF G h0 h m A B D σ) {t : Int → Int} {n : Int} (hT : TX σ t n) (p : Int) (hp : σ 4 0 0 = p) (hp0 : 0 ≤ p) (hp1 : p ≤ n) (hg : σ 5 0 0 = 0) (hL : LitM G h) (x : List Int × EF) (f : Nat) (hf : 3 * (n - p) + 3 ≤ f) (c0 : Int) (hc : σ 9 0 5 = c0) (hc0 : 0 ≤ c0) (hcp : 2 * c0 ≤ 3 * p) (hd : σ 13 0 0 = 0) : CSv G (MX3_sum 19 411 0 0) h m A B D [.ref m] (fun σ' => FE σ σ' ∧ σ' 13 0 0 = 0 ∧ PEr (pE f 3 t 0 p x) σ σ' c0 0 p n) := by
  refine CT.of rfl hG (Nat.le_of_ble_eq_true rfl) rfl (fun E hQ => ?_)
  have hM := hM.1.f
  have hx := hT.1
  have hn8 := hx.2.1
  obtain ⟨g, rfl⟩ : ∃ g, f = g + 1 := ⟨f - 1, by omega⟩
  refine ww_aload_n 0 dX3_sum_0 rfl ?_
  refine cr_sv hM (cr_V (ct_X3_term0 hG hM hT p hp hp0 hp1 hg hL x g (by omega) c0 hc hc0 hcp hd) sv_X3_149 rfl dX3_sum_1 hM.obj rfl rfl rfl rfl ⟨by decide, by decide⟩ (Nat.le_of_ble_eq_true rfl) (Nat.le_of_ble_eq_true rfl) (Nat.le_of_ble_eq_true rfl)) (fun σ_1 hh hM hp_1 => ?_)
  obtain ⟨hfe_1, h13_1, hc_1⟩ := hp_1
  rcases hc_1 with ⟨c, o, hpe, hce, h5, h6⟩ | ⟨y, p1, hpy, hy⟩
  · have hpr : pE (g + 1) 3 t 0 p x = .error (c, o) := by rw [pE3, hpe]
    have hfr := hfe_1
    have h13r := h13_1
    refine ww_aload_n 0 dX3_sum_4 rfl ?_
    refine cr_pi (cr_V (ct_X3_isGood hG hM) sv_X3_85 rfl dX3_sum_5 hM.obj rfl rfl rfl rfl ⟨by decide, by decide⟩ (Nat.le_of_ble_eq_true rfl) (Nat.le_of_ble_eq_true rfl) (Nat.le_of_ble_eq_true rfl)) ?_
    refine ww_ifb_eq 74 dX3_sum_8 (by decide) (fun c_8 => ?_) (fun c_8 => ?_)
    · exact ww_vret hQ dX3_sum_74 rfl (Nat.le_of_ble_eq_true rfl) (Nat.le_of_ble_eq_true rfl) ⟨rfl, _, hM, hfr, h13r, Or.inl ⟨c, o, hpr, hce, h5, h6⟩⟩
    · exact absurd (h5.symm.trans c_8) hce
  · have hpt : pE (g + 1) 3 t 0 p x = pE g 4 t 0 p1 y := by rw [pE3, hpy]
    have loop_4 : ∀ (e : Nat) (u : Nat) (z : List Int × EF) (q : Int) (τ : MS) (hx1 : AH), (MWF G h hx1 m A B D τ) → (FE σ τ) → (ExO σ τ c0 0 p n z q) → (pE (g + 1) 3 t 0 p x = pE u 4 t 0 q z) → (3 * (n - q) + 2 ≤ u) → (n - q < e) → WW G E (MX3_sum 19 411 0 0) hx1 0 0 4 [(0, .ref m)] [] := by
      intro e
      induction e with
      | zero => intro u z q τ hx1 hM hfe hy hpt hu he; exact absurd he (by have := hy.2.2.2.1; omega)
      | succ e ie =>
        intro u z q τ hx1 hM hfe hy hpt hu he
        have hq2 := hy.2.2.2.1
        have hq1 := hy.2.2.1
        obtain ⟨v, rfl⟩ : ∃ v, u = v + 1 := ⟨u - 1, by omega⟩
        have hT := hT.of (hfe 1 (by decide) (by decide) (by decide) (by decide) (by decide) (by decide)) (hfe 3 (by decide) (by decide) (by decide) (by decide) (by decide) (by decide))
        have hkq := hx.k1 hq2
        have h13 := hy.2.2.2.2.1
        have h95 := hy.2.2.2.2.2.1
        have h29 := hy.2.2.2.2.2.2.2.2.1
        have hrx := hx.rg (q := sk t q) (by omega)
        refine ww_aload_n 0 dX3_sum_4 rfl ?_
        refine cr_pi (cr_V (ct_X3_isGood hG hM) sv_X3_85 rfl dX3_sum_5 hM.obj rfl rfl rfl rfl ⟨by decide, by decide⟩ (Nat.le_of_ble_eq_true rfl) (Nat.le_of_ble_eq_true rfl) (Nat.le_of_ble_eq_true rfl)) ?_
        refine ww_ifb_eq 74 dX3_sum_8 (by decide) (fun c_8 => ?_) (fun c_8 => ?_)
        · exact absurd hy.1 c_8
        · refine ww_aload_n 0 dX3_sum_11 rfl ?_
          refine cr_si hM (cr_V (ct_X3_next hG hM hT q hy.2.1 (by omega) hq2) sv_X3_89 rfl dX3_sum_12 hM.obj rfl rfl rfl rfl ⟨by decide, by decide⟩ (Nat.le_of_ble_eq_true rfl) (Nat.le_of_ble_eq_true rfl) (Nat.le_of_ble_eq_true rfl)) (fun r_12 σ_12 hh hM hp_12 => ?_)
          obtain ⟨rfl, rfl⟩ := hp_12
          try rw [su_su] at hM
          refine ww_bipush dX3_sum_15 (by decide) ?_
          refine ww_icmp_eq 29 dX3_sum_17 (by decide) (inI.mk (by omega) (by omega)) (inI.mk (by decide) (by decide)) (fun c_17 => ?_) (fun c_17 => ?_)
          · have hsn : sk t q ≠ n := fun e => by rw [e, hx.2.2.1 n (Int.le_refl _)] at c_17; cases c_17
            refine ww_aload_n 0 dX3_sum_29 rfl ?_
            refine cr_si hM (cr_V (ct_X3_next hG hM (hT.mv hM (by decide) (by decide)) (sk t q) su_s (by omega) hkq.2.1) sv_X3_89 rfl dX3_sum_30 hM.obj rfl rfl rfl rfl ⟨by decide, by decide⟩ (Nat.le_of_ble_eq_true rfl) (Nat.le_of_ble_eq_true rfl) (Nat.le_of_ble_eq_true rfl)) (fun r_30 σ_30 hh hM hp_30 => ?_)
            obtain ⟨rfl, rfl⟩ := hp_30
            try rw [su_su] at hM
            rw [hx.kk hq2] at hM
            rw [hx.kk hq2]
            refine ww_bipush dX3_sum_33 (by decide) ?_
            refine ww_icmp_ne 42 dX3_sum_35 (by decide) (inI.mk (by omega) (by omega)) (inI.mk (by decide) (by decide)) (fun c_35 => ?_) (fun c_35 => ?_)
            · exact absurd c_17 c_35
            · refine ww_iconst dX3_sum_38 ?_
              refine ww_goto 43 dX3_sum_39 (by decide) ?_
              refine ww_istore_n [(1, _), (0, _)] dX3_sum_43 (by decide) rfl ?_
              refine ww_aload_n 1 dX3_sum_44 rfl ?_
              refine ww_dup dX3_sum_45 rfl ?_
              refine ww_getf gf_X3_68 rfl dX3_sum_46 hM.obj rfl ?_
              rw [su_s]
              refine ww_iconst dX3_sum_49 ?_
              refine ww_iadd dX3_sum_50 ?_
              refine mw_put pf_X3_68 rfl dX3_sum_51 hM rfl (inI.mk (by omega) (by omega)) (fun hh hM => ?_)
              rw [su_su] at hM
              refine ww_aload_n 1 dX3_sum_54 rfl ?_
              refine cr_sv hM (cr_V (ct_X3_term0 hG hM (hT.mv hM (by decide) (by decide)) (sk t q + 1) su_s (by omega) (by omega) (by rw [su_off (by decide)]; exact hy.1) (hL.fr hM) z v (by omega) (c0 + z.1.length) (by rw [su_off (by decide)]; exact h95) (by omega) (by omega) (by rw [su_off (by decide)]; exact h13)) sv_X3_149 rfl dX3_sum_55 hM.obj rfl rfl rfl rfl ⟨by decide, by decide⟩ (Nat.le_of_ble_eq_true rfl) (Nat.le_of_ble_eq_true rfl) (Nat.le_of_ble_eq_true rfl)) (fun σ_55 hh hM hp_55 => ?_)
              obtain ⟨hfe_55, h13_55, hc_55⟩ := hp_55
              have hfr : FE σ σ_55 := fun j a b c d e f => by rw [hfe_55 j a b c d e f, su_off a, hfe j a b c d e f]
              rcases hc_55 with ⟨c, o, hpe, hce, h5, h6⟩ | ⟨y, q2, hpy, hy2⟩
              · have hpr : pE (g + 1) 3 t 0 p x = .error (c, o) := by rw [hpt, pE4, if_pos (Or.inl c_17), hpe]
                have h13r := h13_55
                refine ww_aload_n 1 dX3_sum_58 rfl ?_
                refine ww_iload_n 0 dX3_sum_59 rfl ?_
                refine ww_if_eq 67 dX3_sum_60 (by decide) (inI.mk (by decide) (by decide)) (fun c_60 => ?_) (fun c_60 => ?_)
                · exact absurd c_60 (by decide)
                · refine ww_iconst dX3_sum_63 ?_
                  refine ww_goto 68 dX3_sum_64 (by decide) ?_
                  refine cr_pv (cr_V (ct_X3_emitB hG hM (fun e => hce (h5.symm.trans e)) _) sv_X3_143 rfl dX3_sum_68 hM.obj rfl rfl rfl rfl ⟨by decide, by decide⟩ (Nat.le_of_ble_eq_true rfl) (Nat.le_of_ble_eq_true rfl) (Nat.le_of_ble_eq_true rfl)) ?_
                  refine ww_goto 4 dX3_sum_71 (by decide) ?_
                  refine ww_aload_n 1 dX3_sum_4 rfl ?_
                  refine cr_pi (cr_V (ct_X3_isGood hG hM) sv_X3_85 rfl dX3_sum_5 hM.obj rfl rfl rfl rfl ⟨by decide, by decide⟩ (Nat.le_of_ble_eq_true rfl) (Nat.le_of_ble_eq_true rfl) (Nat.le_of_ble_eq_true rfl)) ?_
                  refine ww_ifb_eq 74 dX3_sum_8 (by decide) (fun c_8 => ?_) (fun c_8 => ?_)
                  · exact ww_vret hQ dX3_sum_74 rfl (Nat.le_of_ble_eq_true rfl) (Nat.le_of_ble_eq_true rfl) ⟨rfl, _, hM, hfr, h13r, Or.inl ⟨c, o, hpr, hce, h5, h6⟩⟩
                  · exact absurd (h5.symm.trans c_8) hce
              · have h95b := hy2.2.2.2.2.2.1
                have h29b := hy2.2.2.2.2.2.2.2.2.1
                have hq22 := hy2.2.2.2.1
                have hq23 := hy2.2.2.1
                refine ww_aload_n 1 dX3_sum_58 rfl ?_
                refine ww_iload_n 0 dX3_sum_59 rfl ?_
                refine ww_if_eq 67 dX3_sum_60 (by decide) (inI.mk (by decide) (by decide)) (fun c_60 => ?_) (fun c_60 => ?_)
                · exact absurd c_60 (by decide)
                · refine ww_iconst dX3_sum_63 ?_
                  refine ww_goto 68 dX3_sum_64 (by decide) ?_
                  refine cr_sv hM (cr_V (ct_X3_emit hG hM hy2.1 _ (inI.mk (by decide) (by decide)) (by omega) (by omega)) sv_X3_143 rfl dX3_sum_68 hM.obj rfl rfl rfl rfl ⟨by decide, by decide⟩ (Nat.le_of_ble_eq_true rfl) (Nat.le_of_ble_eq_true rfl) (Nat.le_of_ble_eq_true rfl)) (fun σ_68 hh hM hp_68 => ?_)
                  have hy3 := emitO (op := 2) hy (su_off (by decide)) (su_off (by decide)) rfl (by omega) hy2 hp_68 hc0 (by decide) (by decide)
                  have hpt3 : pE (g + 1) 3 t 0 p x = pE v 4 t 0 q2 (cmb 2 z y) := by rw [hpt, pE4, if_pos (Or.inl c_17), hpy]; simp only; rw [if_pos c_17]
                  have hfe3 : FE σ σ_68 := fun j a b c d e f => by rw [← hp_68, su_off d, su_off d]; exact hfr j a b c d e f
                  refine ww_goto 4 dX3_sum_71 (by decide) ?_
                  refine ww_sub [1] rfl ?_
                  exact ie v _ _ _ _ hM hfe3 hy3 hpt3 (by omega) (by omega)
          · refine ww_aload_n 0 dX3_sum_20 rfl ?_
            refine cr_si hM (cr_V (ct_X3_next hG hM (hT.mv hM (by decide) (by decide)) (sk t q) su_s (by omega) hkq.2.1) sv_X3_89 rfl dX3_sum_21 hM.obj rfl rfl rfl rfl ⟨by decide, by decide⟩ (Nat.le_of_ble_eq_true rfl) (Nat.le_of_ble_eq_true rfl) (Nat.le_of_ble_eq_true rfl)) (fun r_21 σ_21 hh hM hp_21 => ?_)
            obtain ⟨rfl, rfl⟩ := hp_21
            try rw [su_su] at hM
            rw [hx.kk hq2] at hM
            rw [hx.kk hq2]
            refine ww_bipush dX3_sum_24 (by decide) ?_
            refine ww_icmp_ne 74 dX3_sum_26 (by decide) (inI.mk (by omega) (by omega)) (inI.mk (by decide) (by decide)) (fun c_26 => ?_) (fun c_26 => ?_)
            · exact ww_vret hQ dX3_sum_74 rfl (Nat.le_of_ble_eq_true rfl) (Nat.le_of_ble_eq_true rfl) ⟨rfl, _, hM, fun j a b c d e f => by rw [su_off a]; exact hfe j a b c d e f, (by rw [su_off (by decide)]; exact h13), Or.inr ⟨z, sk t q, by rw [hpt, pE4, if_neg (fun x => x.elim c_17 c_26)], hy.of rfl (su_off (by decide)) rfl (su_off (by decide)) (by rw [su_off (by decide)]; exact hy.1) su_s (Int.le_refl _) (by omega) (by omega) (by rw [su_off (by decide)]; exact h13)⟩⟩
            · have hsn : sk t q ≠ n := fun e => by rw [e, hx.2.2.1 n (Int.le_refl _)] at c_26; cases c_26
              refine ww_aload_n 0 dX3_sum_29 rfl ?_
              refine cr_si hM (cr_V (ct_X3_next hG hM (hT.mv hM (by decide) (by decide)) (sk t q) su_s (by omega) hkq.2.1) sv_X3_89 rfl dX3_sum_30 hM.obj rfl rfl rfl rfl ⟨by decide, by decide⟩ (Nat.le_of_ble_eq_true rfl) (Nat.le_of_ble_eq_true rfl) (Nat.le_of_ble_eq_true rfl)) (fun r_30 σ_30 hh hM hp_30 => ?_)
              obtain ⟨rfl, rfl⟩ := hp_30
              try rw [su_su] at hM
              rw [hx.kk hq2] at hM
              rw [hx.kk hq2]
              refine ww_bipush dX3_sum_33 (by decide) ?_
              refine ww_icmp_ne 42 dX3_sum_35 (by decide) (inI.mk (by omega) (by omega)) (inI.mk (by decide) (by decide)) (fun c_35 => ?_) (fun c_35 => ?_)
              · refine ww_iconst dX3_sum_42 ?_
                refine ww_istore_n [(1, _), (0, _)] dX3_sum_43 (by decide) rfl ?_
                refine ww_aload_n 1 dX3_sum_44 rfl ?_
                refine ww_dup dX3_sum_45 rfl ?_
                refine ww_getf gf_X3_68 rfl dX3_sum_46 hM.obj rfl ?_
                rw [su_s]
                refine ww_iconst dX3_sum_49 ?_
                refine ww_iadd dX3_sum_50 ?_
                refine mw_put pf_X3_68 rfl dX3_sum_51 hM rfl (inI.mk (by omega) (by omega)) (fun hh hM => ?_)
                rw [su_su] at hM
                refine ww_aload_n 1 dX3_sum_54 rfl ?_
                refine cr_sv hM (cr_V (ct_X3_term0 hG hM (hT.mv hM (by decide) (by decide)) (sk t q + 1) su_s (by omega) (by omega) (by rw [su_off (by decide)]; exact hy.1) (hL.fr hM) z v (by omega) (c0 + z.1.length) (by rw [su_off (by decide)]; exact h95) (by omega) (by omega) (by rw [su_off (by decide)]; exact h13)) sv_X3_149 rfl dX3_sum_55 hM.obj rfl rfl rfl rfl ⟨by decide, by decide⟩ (Nat.le_of_ble_eq_true rfl) (Nat.le_of_ble_eq_true rfl) (Nat.le_of_ble_eq_true rfl)) (fun σ_55 hh hM hp_55 => ?_)
                obtain ⟨hfe_55, h13_55, hc_55⟩ := hp_55
                have hfr : FE σ σ_55 := fun j a b c d e f => by rw [hfe_55 j a b c d e f, su_off a, hfe j a b c d e f]
                rcases hc_55 with ⟨c, o, hpe, hce, h5, h6⟩ | ⟨y, q2, hpy, hy2⟩
                · have hpr : pE (g + 1) 3 t 0 p x = .error (c, o) := by rw [hpt, pE4, if_pos (Or.inr c_26), hpe]
                  have h13r := h13_55
                  refine ww_aload_n 1 dX3_sum_58 rfl ?_
                  refine ww_iload_n 0 dX3_sum_59 rfl ?_
                  refine ww_if_eq 67 dX3_sum_60 (by decide) (inI.mk (by decide) (by decide)) (fun c_60 => ?_) (fun c_60 => ?_)
                  · refine ww_iconst dX3_sum_67 ?_
                    refine cr_pv (cr_V (ct_X3_emitB hG hM (fun e => hce (h5.symm.trans e)) _) sv_X3_143 rfl dX3_sum_68 hM.obj rfl rfl rfl rfl ⟨by decide, by decide⟩ (Nat.le_of_ble_eq_true rfl) (Nat.le_of_ble_eq_true rfl) (Nat.le_of_ble_eq_true rfl)) ?_
                    refine ww_goto 4 dX3_sum_71 (by decide) ?_
                    refine ww_aload_n 1 dX3_sum_4 rfl ?_
                    refine cr_pi (cr_V (ct_X3_isGood hG hM) sv_X3_85 rfl dX3_sum_5 hM.obj rfl rfl rfl rfl ⟨by decide, by decide⟩ (Nat.le_of_ble_eq_true rfl) (Nat.le_of_ble_eq_true rfl) (Nat.le_of_ble_eq_true rfl)) ?_
                    refine ww_ifb_eq 74 dX3_sum_8 (by decide) (fun c_8 => ?_) (fun c_8 => ?_)
                    · exact ww_vret hQ dX3_sum_74 rfl (Nat.le_of_ble_eq_true rfl) (Nat.le_of_ble_eq_true rfl) ⟨rfl, _, hM, hfr, h13r, Or.inl ⟨c, o, hpr, hce, h5, h6⟩⟩
                    · exact absurd (h5.symm.trans c_8) hce
                  · exact absurd c_60 (by decide)
                · have h95b := hy2.2.2.2.2.2.1
                  have h29b := hy2.2.2.2.2.2.2.2.2.1
                  have hq22 := hy2.2.2.2.1
                  have hq23 := hy2.2.2.1
                  refine ww_aload_n 1 dX3_sum_58 rfl ?_
                  refine ww_iload_n 0 dX3_sum_59 rfl ?_
                  refine ww_if_eq 67 dX3_sum_60 (by decide) (inI.mk (by decide) (by decide)) (fun c_60 => ?_) (fun c_60 => ?_)
                  · refine ww_iconst dX3_sum_67 ?_
                    refine cr_sv hM (cr_V (ct_X3_emit hG hM hy2.1 _ (inI.mk (by decide) (by decide)) (by omega) (by omega)) sv_X3_143 rfl dX3_sum_68 hM.obj rfl rfl rfl rfl ⟨by decide, by decide⟩ (Nat.le_of_ble_eq_true rfl) (Nat.le_of_ble_eq_true rfl) (Nat.le_of_ble_eq_true rfl)) (fun σ_68 hh hM hp_68 => ?_)
                    have hy3 := emitO (op := 3) hy (su_off (by decide)) (su_off (by decide)) rfl (by omega) hy2 hp_68 hc0 (by decide) (by decide)
                    have hpt3 : pE (g + 1) 3 t 0 p x = pE v 4 t 0 q2 (cmb 3 z y) := by rw [hpt, pE4, if_pos (Or.inr c_26), hpy]; simp only; rw [if_neg c_17]
                    have hfe3 : FE σ σ_68 := fun j a b c d e f => by rw [← hp_68, su_off d, su_off d]; exact hfr j a b c d e f
                    refine ww_goto 4 dX3_sum_71 (by decide) ?_
                    refine ww_sub [1] rfl ?_
                    exact ie v _ _ _ _ hM hfe3 hy3 hpt3 (by omega) (by omega)
                  · exact absurd c_60 (by decide)
              · exact absurd c_35 c_17
    refine ww_sub [0] rfl ?_
    exact loop_4 801 g y p1 _ _ hM hfe_1 hy hpt (by have := hy.2.2.1; have := hy.2.2.2.1; omega) (by have := hy.2.2.1; omega)
