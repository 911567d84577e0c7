set_option maxRecDepth 100000
set_option maxHeartbeats 4000000 in
theorem ct_X4_factor4 {G : GT} {h : AH} (hG : GOK G) {p x a nl : Nat} {t : Int → Int} {n nx sa hs hw : Int} (hP : PB G h p x a nl t n nx sa 4 hs hw) (hL : LitC G h) (xe : List Int × EF) (f : Nat) (hf : 3 * (n - nx) + 1 ≤ f) : CX G (MX4_factor 12 3400 (rC n nx (en (pE f 0 t 4 nx xe))) (rS n nx (en (pE f 0 t 4 nx xe)))) h [.ref p] (pR (fun w h' => ∃ y q sa9, pE f 0 t 4 nx xe = .ok (y, q) ∧ nx < q ∧ q ≤ n ∧ WT G h' (q - nx).toNat w y.2 ∧ PB G h' p x a nl t n q sa9 4 hs hw ∧ PF p h h')) (XS p a h (pE f 0 t 4 nx xe)) := by
  refine CX.of rfl hG (Nat.le_of_ble_eq_true rfl) rfl (fun E hQ hT => ?_)
  have ht := hP.txt
  have h8 := ht.2.1
  have h0 := ht.1
  have hnx := hP.2.2.1
  have hk := ht.k1 hnx.2
  have hrg := ht.rg (q := sk t nx) (by omega)
  have hp0 := hP.1.1
  have hF : PF p h h := KT.rf
  obtain ⟨g, rfl⟩ : ∃ g, f = g + 1 := ⟨f - 1, by omega⟩
  refine ww_aload_n 0 dX4_factor_0 rfl ?_
  refine cr_i (cr_V (ct_X4_peek hG hP) sv_X4_55 rfl dX4_factor_1 hP.obj rfl rfl rfl rfl ⟨Nat.le_of_ble_eq_true rfl, Nat.le_of_ble_eq_true rfl⟩ (Nat.le_of_ble_eq_true rfl) (by dsimp only [mmc, MX4_factor, MX4_peek] <;> omega) (by dsimp only [mms, MX4_factor, MX4_peek] <;> omega)) (fun r_1 h_1 hp_1 => ?_)
  obtain ⟨er_1, hP, f_1⟩ := hp_1
  subst er_1
  have hF := hF.tr f_1
  have hL := hL.kt f_1 hp0
  have hP1 := hP
  refine ww_bipush dX4_factor_4 (by decide) ?_
  refine ww_icmp_ne 75 dX4_factor_6 (by decide) (inI.mk (by omega) (by omega)) (inI.mk (by omega) (by omega)) (fun c_6 => ?_) (fun c_6 => ?_)
  · refine ww_aload_n 0 dX4_factor_75 rfl ?_
    refine cr_i (cr_V (ct_X4_isDigit hG hP) sv_X4_82 rfl dX4_factor_76 hP.obj rfl rfl rfl rfl ⟨Nat.le_of_ble_eq_true rfl, Nat.le_of_ble_eq_true rfl⟩ (Nat.le_of_ble_eq_true rfl) (by dsimp only [mmc, MX4_factor, MX4_peek, MX4_isDigit] <;> omega) (by dsimp only [mms, MX4_factor, MX4_peek, MX4_isDigit] <;> omega)) (fun r_76 h_76 hp_76 => ?_)
    obtain ⟨er_76, hP, f_76⟩ := hp_76
    subst er_76
    have hF := hF.tr f_76
    have hL := hL.kt f_76 hp0
    rw [ht.kk hnx.2]
    rw [ht.kk hnx.2] at hP
    refine ww_ifb_eq 99 dX4_factor_79 (by decide) (fun c_79 => ?_) (fun c_79 => ?_)
    · obtain ⟨hcw1, hcw2⟩ := c_word (n := n) (d := 4) (x := xe) (f := g) ht hnx.1 hnx.2 c_6 c_79
      have hw1 := ht.w1 hk.2.1
      have hpl : ((pw t nx).length : Int) = we t (sk t nx) - sk t nx := by unfold pw; rw [wd_len]; omega
      have hwC : wC (we t (sk t nx) - sk t nx).toNat = 4 + (we t (sk t nx) - sk t nx).toNat := rfl
      refine ww_aload_n 0 dX4_factor_99 rfl ?_
      have hFb := hF
      have hPb := hP
      refine cr_r (cr_V (ct_X4_word hG hP) sv_X4_124 rfl dX4_factor_100 hP.obj rfl rfl rfl rfl ⟨Nat.le_of_ble_eq_true rfl, Nat.le_of_ble_eq_true rfl⟩ (Nat.le_of_ble_eq_true rfl) (by rw [ht.kk hnx.2]; dsimp only [mmc, MX4_factor, MX4_peek, MX4_require, MX4_sum, MX4_expect, MX4_isDigit, MX4_number, MX4_word, MX1_variable, MJ6_length] <;> omega) (by rw [ht.kk hnx.2]; dsimp only [mms, MX4_factor, MX4_peek, MX4_require, MX4_sum, MX4_expect, MX4_isDigit, MX4_number, MX4_word, MX1_variable, MJ6_length] <;> omega)) (fun r_100 h_100 hp_100 => ?_)
      obtain ⟨hW_100, n_100, hP, f_100⟩ := hp_100
      have hF := hF.tr f_100
      have hL := hL.kt f_100 hp0
      have n9 := hFb.nwo hPb.obj n_100
      rw [pw_kk ht hnx.2] at hW_100
      rw [ht.kk hnx.2] at hP ⊢
      obtain ⟨fsw, hwo⟩ := hW_100.obj
      refine ww_astore_n [(1, _), (0, _)] dX4_factor_103 (Nat.le_of_ble_eq_true rfl) rfl ?_
      refine ww_aload_n 0 dX4_factor_104 rfl ?_
      refine cr_o (cr_SN (ct_X1_variable hG hW_100 hL) ss_X4_127 rfl dX4_factor_105 rfl rfl ⟨Nat.le_of_ble_eq_true rfl, Nat.le_of_ble_eq_true rfl⟩ (Nat.le_of_ble_eq_true rfl) (by dsimp only [mmc, MX4_factor, MX4_peek, MX4_isDigit, MX4_word, MX1_variable] <;> omega) (by dsimp only [mms, MX4_factor, MX4_peek, MX4_isDigit, MX4_word, MX1_variable] <;> omega)) (fun r_105 h_105 hp_105 => ?_)
      obtain ⟨hV_105, hW_100, z_105⟩ := hp_105
      have hP := hP.fo z_105.fo (by omega)
      have hF := hF.no z_105.fo n9
      have hL := hL.fz z_105
      obtain ⟨fsw, hwo⟩ := hW_100.obj
      rcases hV_105 with ⟨k9, k91, k92, hk9, rfl⟩ | ⟨nA, nB, nC, nD, rfl⟩
      · refine ww_astore_n [(2, _), (1, _), (0, _)] dX4_factor_108 (Nat.le_of_ble_eq_true rfl) rfl ?_
        refine ww_aload_n 2 dX4_factor_109 rfl ?_
        refine ww_aload_n 0 dX4_factor_110 rfl ?_
        refine ww_ifnull dX4_factor_111 ?_
        refine ww_iconst dX4_factor_114 ?_
        refine ww_goto 119 dX4_factor_115 (by decide) ?_
        refine ww_bipush dX4_factor_119 (by decide) ?_
        refine ww_aload_n 2 dX4_factor_121 rfl ?_
        refine ww_getf gf_X4_35 rfl dX4_factor_122 hP.obj rfl ?_
        refine cr_pv (cr_V (ct_X4_reqT hG 1 _ _ (by decide) (inI.mk (by decide) (by decide))) sv_X4_59 rfl dX4_factor_125 hP.obj rfl rfl rfl rfl ⟨Nat.le_of_ble_eq_true rfl, Nat.le_of_ble_eq_true rfl⟩ (Nat.le_of_ble_eq_true rfl) (by dsimp only [mmc, MX4_factor, MX4_peek, MX4_isDigit, MX4_word, MX1_variable, MX4_require] <;> omega) (by dsimp only [mms, MX4_factor, MX4_peek, MX4_isDigit, MX4_word, MX1_variable, MX4_require] <;> omega)) ?_
        refine ww_aload_n 2 dX4_factor_128 rfl ?_
        refine ww_dup dX4_factor_129 rfl ?_
        refine ww_getf gf_X4_35 rfl dX4_factor_130 hP.obj rfl ?_
        refine ww_aload_n 1 dX4_factor_133 rfl ?_
        refine cr_pi (cr_V (ct_J6_length hG hW_100) sv_X4_131 rfl dX4_factor_134 hwo rfl rfl rfl rfl ⟨Nat.le_of_ble_eq_true rfl, Nat.le_of_ble_eq_true rfl⟩ (Nat.le_of_ble_eq_true rfl) (by dsimp only [mmc, MX4_factor, MX4_peek, MX4_isDigit, MX4_word, MX1_variable, MX4_require, MJ6_length] <;> omega) (by dsimp only [mms, MX4_factor, MX4_peek, MX4_isDigit, MX4_word, MX1_variable, MX4_require, MJ6_length] <;> omega)) ?_
        rw [hpl]
        refine ww_iadd dX4_factor_137 ?_
        rw [show sk t nx + (we t (sk t nx) - sk t nx) = we t (sk t nx) by omega]
        have hp := hP.obj
        refine wx_putf pf_X4_35 rfl dX4_factor_138 hp hp0 (Nat.le_of_ble_eq_true rfl) rfl rfl (fun h_138 hp f_138 => ?_)
        have hF := hF.tr f_138
        have hL := hL.kt f_138 hp0
        have hP : PB G h_138 p x a nl t n (we t (sk t nx)) sa 4 hs hw := ⟨⟨hp0, hp⟩, hP.2.1.kt f_138 (by omega), ⟨by omega, by omega⟩, hP.2.2.2⟩
        have hln : 4 ≤ we t (sk t nx) - sk t nx := by rw [← hpl, hk9]; exact vkw_len k9
        refine ww_aload_n 0 dX4_factor_141 rfl ?_
        exact ww_x hQ (ww_aret rfl dX4_factor_142 rfl rfl (by dsimp only [mmc, MX4_factor, MX4_peek, MX4_isDigit, MX4_word, MX1_variable, MX4_require, MJ6_length] <;> omega) (by dsimp only [mms, MX4_factor, MX4_peek, MX4_isDigit, MX4_word, MX1_variable, MX4_require, MJ6_length] <;> omega) ⟨_, rfl, _, we t (sk t nx), _, (pE_var c_6 c_79 hk9 k91 k92), by omega, by omega, WT.le (WT.vv hL k91 k92) (by omega), hP, hF⟩)
      · refine ww_astore_nN [(2, _), (1, _), (0, _)] dX4_factor_108 (Nat.le_of_ble_eq_true rfl) rfl ?_
        refine ww_aload_n 2 dX4_factor_109 rfl ?_
        refine ww_aload_nN 0 dX4_factor_110 rfl ?_
        refine ww_ifnullN 118 dX4_factor_111 (by decide) ?_
        refine ww_iconst dX4_factor_118 ?_
        refine ww_bipush dX4_factor_119 (by decide) ?_
        refine ww_aload_n 2 dX4_factor_121 rfl ?_
        refine ww_getf gf_X4_35 rfl dX4_factor_122 hP.obj rfl ?_
        refine cx_v (cx_V (ct_X4_reqF hG p a (-2) (sk t nx) (by omega)) sv_X4_59 rfl dX4_factor_125 hP.obj rfl rfl rfl rfl ⟨Nat.le_of_ble_eq_true rfl, Nat.le_of_ble_eq_true rfl⟩ (Nat.le_of_ble_eq_true rfl) (by dsimp only [mmc, MX4_factor, MX4_peek, MX4_isDigit, MX4_word, MX1_variable, MX4_require, MJ6_length] <;> omega) (by dsimp only [mms, MX4_factor, MX4_peek, MX4_isDigit, MX4_word, MX1_variable, MX4_require, MJ6_length] <;> omega)) (fun X_125 q_125 g_125 hx_125 => wq_out hQ hT (by dsimp only [mmc, MX4_factor, MX4_peek, MX4_require, MX4_sum, MX4_expect, MX4_isDigit, MX4_number, MX4_word, MX1_variable, MJ6_length] <;> omega) (by dsimp only [mms, MX4_factor, MX4_peek, MX4_require, MX4_sum, MX4_expect, MX4_isDigit, MX4_number, MX4_word, MX1_variable, MJ6_length] <;> omega) (hx_125.go hF.fp (fun c o e => by cases e; rw [pE0_kw c_6 c_79, if_neg nA, if_neg nB, if_neg nC, if_neg nD]))) (fun h_125 hp_125 => ?_)
        exact hp_125.elim
    · obtain ⟨hcn1, hcn2⟩ := c_num (n := n) (d := 4) (x := xe) (f := g) ht hnx.1 hnx.2 c_6 c_79
      refine ww_aload_n 0 dX4_factor_82 rfl ?_
      refine ww_iconst dX4_factor_83 ?_
      refine ww_sipush dX4_factor_84 (by decide) ?_
      refine cx_i (cx_V (ct_X4_number hG hP 0 9999 (inI.mk (by decide) (by decide)) (inI.mk (by decide) (by decide))) sv_X4_117 rfl dX4_factor_87 hP.obj rfl rfl rfl rfl ⟨Nat.le_of_ble_eq_true rfl, Nat.le_of_ble_eq_true rfl⟩ (Nat.le_of_ble_eq_true rfl) (by dsimp only [mmc, MX4_factor, MX4_peek, MX4_isDigit, MX4_word, MX1_variable, MX4_require, MJ6_length, MX4_number] <;> omega) (by dsimp only [mms, MX4_factor, MX4_peek, MX4_isDigit, MX4_word, MX1_variable, MX4_require, MJ6_length, MX4_number] <;> omega)) (fun X_87 q_87 g_87 hx_87 => wq_out hQ hT (by dsimp only [mmc, MX4_factor, MX4_peek, MX4_require, MX4_sum, MX4_expect, MX4_isDigit, MX4_number, MX4_word, MX1_variable, MJ6_length] <;> omega) (by dsimp only [mms, MX4_factor, MX4_peek, MX4_require, MX4_sum, MX4_expect, MX4_isDigit, MX4_number, MX4_word, MX1_variable, MJ6_length] <;> omega) (hx_87.go hF.fp (fun c o e => by rw [pE0_num c_6 c_79]; rw [pnum_kk ht hnx.2] at e; rw [e]))) (fun r_87 h_87 hp_87 => ?_)
      obtain ⟨e_87, hn_87, hl_87, hh_87, h0_87, hg_87, hm_87, hP, f_87⟩ := hp_87
      have hF := hF.tr f_87
      have hL := hL.kt f_87 hp0
      rw [pnum_kk ht hnx.2] at hn_87
      have hgt := pnum_gt ht hnx.1 hnx.2 hn_87
      refine ww_i2l dX4_factor_90 (inI.mk (by omega) (by omega)) ?_
      refine ww_lstore_n [(1, _), (0, _)] dX4_factor_91 (Nat.le_of_ble_eq_true rfl) rfl ?_
      refine ww_lload_n 0 dX4_factor_92 rfl ?_
      refine ww_indyM (i := 5) (vs := [.long (lI r_87)]) (by decide) (by decide) hG lfit5 rfl rfl rfl rfl dX4_factor_93 (Nat.le_of_ble_eq_true rfl) (by dsimp only [mmc, MX4_factor, MX4_peek, MX4_require, MX4_sum, MX4_expect, MX4_isDigit, MX4_number, MX4_word, MX1_variable, MJ6_length] <;> omega) (by dsimp only [mms, MX4_factor, MX4_peek, MX4_require, MX4_sum, MX4_expect, MX4_isDigit, MX4_number, MX4_word, MX1_variable, MJ6_length, List.length] <;> omega) (fun q9 h9 n9 e9 hq9 => ?_)
      have hF := hF.xe e9
      have hL := hL.ex e9
      have hP := hP.ex e9
      exact ww_x hQ (ww_aret rfl dX4_factor_98 rfl rfl (by dsimp only [mmc, MX4_factor, MX4_peek, MX4_require, MX4_sum, MX4_expect, MX4_isDigit, MX4_number, MX4_word, MX1_variable, MJ6_length] <;> omega) (by dsimp only [mms, MX4_factor, MX4_peek, MX4_require, MX4_sum, MX4_expect, MX4_isDigit, MX4_number, MX4_word, MX1_variable, MJ6_length, List.length] <;> omega) ⟨_, rfl, ([0, r_87], fun _ _ _ _ => r_87), e_87, _, by rw [pE0_num c_6 c_79, hn_87], hgt, hm_87, WT.le (d := 1) (Or.inr (Or.inl ⟨r_87, h0_87, hh_87, hq9, rfl⟩)) (by omega), hP, hF⟩)
  · have hsn : sk t nx ≠ n := fun e => by rw [e, ht.2.2.1 n (Int.le_refl _)] at c_6; cases c_6
    refine ww_aload_n 0 dX4_factor_9 rfl ?_
    refine ww_aload_n 0 dX4_factor_10 rfl ?_
    refine ww_getf gf_X4_107 rfl dX4_factor_11 hP.obj rfl ?_
    refine ww_iconst dX4_factor_14 ?_
    refine ww_icmp_ge 22 dX4_factor_15 (by decide) (inI.mk (by decide) (by decide)) (inI.mk (by decide) (by decide)) (fun c_15 => ?_) (fun c_15 => ?_)
    · obtain ⟨hcp1, hcp2⟩ := c_deep (n := n) (d := 4) (x := xe) (f := g) c_6 (by decide)
      refine ww_iconst dX4_factor_22 ?_
      refine ww_bipush dX4_factor_23 (by decide) ?_
      refine ww_aload_n 0 dX4_factor_25 rfl ?_
      refine ww_getf gf_X4_35 rfl dX4_factor_26 hP.obj rfl ?_
      refine cx_v (cx_V (ct_X4_reqF hG p a (-7) (sk t nx) (by omega)) sv_X4_59 rfl dX4_factor_29 hP.obj rfl rfl rfl rfl ⟨Nat.le_of_ble_eq_true rfl, Nat.le_of_ble_eq_true rfl⟩ (Nat.le_of_ble_eq_true rfl) (by dsimp only [mmc, MX4_factor, MX4_peek, MX4_isDigit, MX4_word, MX1_variable, MX4_require, MJ6_length, MX4_number] <;> omega) (by dsimp only [mms, MX4_factor, MX4_peek, MX4_isDigit, MX4_word, MX1_variable, MX4_require, MJ6_length, MX4_number] <;> omega)) (fun X_29 q_29 g_29 hx_29 => wq_out hQ hT (by dsimp only [mmc, MX4_factor, MX4_peek, MX4_require, MX4_sum, MX4_expect, MX4_isDigit, MX4_number, MX4_word, MX1_variable, MJ6_length] <;> omega) (by dsimp only [mms, MX4_factor, MX4_peek, MX4_require, MX4_sum, MX4_expect, MX4_isDigit, MX4_number, MX4_word, MX1_variable, MJ6_length] <;> omega) (hx_29.go hF.fp (fun c o e => by cases e; exact pE0_deep c_6 (by decide)))) (fun h_29 hp_29 => ?_)
      exact hp_29.elim
    · exact absurd (by decide) c_15

set_option maxHeartbeats 4000000 in
theorem ct_X4_term4 {G : GT} {h : AH} (hG : GOK G) {p x a nl : Nat} {t : Int → Int} {n nx sa hs hw : Int} (hP : PB G h p x a nl t n nx sa 4 hs hw) (hL : LitC G h) (xe : List Int × EF) (f : Nat) (hf : 3 * (n - nx) + 2 ≤ f) : CX G (MX4_term 13 3500 (rC n nx (en (pE f 1 t 4 nx xe))) (rS n nx (en (pE f 1 t 4 nx xe)))) h [.ref p] (pR (fun w h' => ∃ y q sa9, pE f 1 t 4 nx xe = .ok (y, q) ∧ nx < q ∧ q ≤ n ∧ WT G h' (q - nx).toNat w y.2 ∧ PB G h' p x a nl t n q sa9 4 hs hw ∧ PF p h h')) (XS p a h (pE f 1 t 4 nx xe)) := by
  refine CX.of rfl hG (Nat.le_of_ble_eq_true rfl) rfl (fun E hQ hT => ?_)
  have ht := hP.txt
  have h8 := ht.2.1
  have h0 := ht.1
  have hnx := hP.2.2.1
  have hk := ht.k1 hnx.2
  have hrg := ht.rg (q := sk t nx) (by omega)
  have hp0 := hP.1.1
  have hF : PF p h h := KT.rf
  obtain ⟨g, hfg⟩ : ∃ g, f = g + 1 := ⟨f - 1, by omega⟩
  refine ww_aload_n 0 dX4_term_0 rfl ?_
  obtain ⟨hc1, hc2⟩ := c_t1 (n := n) (d := 4) (x := xe) (f := g) ht hnx.1 hnx.2
  rw [← hfg] at hc1 hc2
  refine cx_r (cx_V (ct_X4_factor4 hG hP hL xe g (by omega)) sv_X4_104 rfl dX4_term_1 hP.obj rfl rfl rfl rfl ⟨Nat.le_of_ble_eq_true rfl, Nat.le_of_ble_eq_true rfl⟩ (Nat.le_of_ble_eq_true rfl) (by dsimp only [mmc, MX4_term, MX4_factor] <;> omega) (by dsimp only [mms, MX4_term, MX4_factor] <;> omega)) (fun X_1 q_1 g_1 hx_1 => wq_out hQ hT (by dsimp only [mmc, MX4_term, MX4_peek, MX4_factor, MX1_operation] <;> omega) (by dsimp only [mms, MX4_term, MX4_peek, MX4_factor, MX1_operation] <;> omega) (hx_1.go hF.fp (fun c o e => by rw [hfg, pE1, e]))) (fun r_1 h_1 hp_1 => ?_)
  obtain ⟨y_1, p_1, s_1, hr_1, hg_1, hm_1, hW_1, hP, f_1⟩ := hp_1
  have hF := hF.tr f_1
  have hL := hL.kt f_1 hp0
  refine ww_astore_n [(1, _), (0, _)] dX4_term_4 (Nat.le_of_ble_eq_true rfl) rfl ?_
  have loop_5 : ∀ (e : Nat) (u : Nat) (y : List Int × EF) (q sa9 : Int) (w : Nat) (h1 : AH), (PF p h h1) → (PB G h1 p x a nl t n q sa9 4 hs hw) → (LitC G h1) → (pE f 1 t 4 nx xe = pE u 2 t 4 q y) → (3 * (n - q) + 1 ≤ u) → (nx < q) → (q ≤ n) → (WT G h1 (q - nx).toNat w y.2) → (n - q < e) → WW G E (MX4_term 13 3500 (rC n nx (en (pE f 1 t 4 nx xe))) (rS n nx (en (pE f 1 t 4 nx xe)))) h1 (8 * (q - nx).toNat) (40 * (q - nx).toNat) 5 [(0, .ref p), (1, .ref w)] [] := by
    intro e
    induction e with
    | zero => intro u y q sa9 w h1 hF hP hL hpe hu hq0 hq1 hW he; exact absurd he (by omega)
    | succ e ie =>
      intro u y q sa9 w h1 hF hP hL hpe hu hq0 hq1 hW he
      have hkq := ht.k1 hq1
      have hrq := ht.rg (q := sk t q) (by omega)
      obtain ⟨v, rfl⟩ : ∃ v, u = v + 1 := ⟨u - 1, by omega⟩
      have hcq := rC_le (n := n) (p := nx) (q1 := q) (e := en (pE f 1 t 4 nx xe)) (fun q9 e9 => by obtain ⟨y9, e9⟩ := en_some e9; rw [hpe] at e9; exact (pE_mono ht _ _ _ _ _ _ _ (by omega) hq1 e9).1) hq1
      refine ww_aload_n 0 dX4_term_5 rfl ?_
      refine cr_i (cr_V (ct_X4_peek hG hP) sv_X4_55 rfl dX4_term_6 hP.obj rfl rfl rfl rfl ⟨Nat.le_of_ble_eq_true rfl, Nat.le_of_ble_eq_true rfl⟩ (Nat.le_of_ble_eq_true rfl) (by dsimp only [mmc, MX4_term, MX4_factor, MX4_peek] <;> omega) (by dsimp only [mms, MX4_term, MX4_factor, MX4_peek] <;> omega)) (fun r_6 h_6 hp_6 => ?_)
      obtain ⟨er_6, hP, f_6⟩ := hp_6
      subst er_6
      have hF := hF.tr f_6
      have hL := hL.kt f_6 hp0
      have hW := hW.fo f_6.fo hp0 (by omega)
      refine ww_bipush dX4_term_9 (by decide) ?_
      refine ww_icmp_eq 23 dX4_term_11 (by decide) (inI.mk (by omega) (by omega)) (inI.mk (by omega) (by omega)) (fun c_11 => ?_) (fun c_11 => ?_)
      · have hch := c_11
        have hop : t (sk t q) = 42 ∨ t (sk t q) = 47 := Or.inl hch
        refine ww_aload_n 0 dX4_term_23 rfl ?_
        have hsn : sk t q ≠ n := fun e => by rw [e, ht.2.2.1 n (Int.le_refl _)] at hch; cases hch
        obtain ⟨-, ⟨bf, fs, B, hx0, hx, hb, -, hB⟩, -⟩ := id hP
        have hBj := hB (sk t q) (by omega) (by omega)
        have hsg : B (sk t q) = sgn 4 := by show B (sk t q) = 42; rw [hBj.2.2] at hch; omega
        obtain ⟨hd1, hd2⟩ := c_t2 (n := n) (p := nx) (q := q) (d := 4) (x := y) (f := v) ht (by omega) (by omega) hq1 hop
        rw [← hpe] at hd1 hd2
        have hp := hP.obj
        refine ww_getf gf_X4_3 rfl dX4_term_24 hp rfl ?_
        refine ww_getf gf_X4_38 rfl dX4_term_27 hx rfl ?_
        refine ww_aload_n 0 dX4_term_30 rfl ?_
        refine ww_getf gf_X4_35 rfl dX4_term_31 hp rfl ?_
        refine ww_bald dX4_term_34 hb (by omega) (by omega) (by omega) ?_
        rw [hsg]
        refine ww_istore_n [(2, _), (0, _), (1, _)] dX4_term_35 (Nat.le_of_ble_eq_true rfl) rfl ?_
        refine ww_aload_n 1 dX4_term_36 rfl ?_
        refine ww_dup dX4_term_37 rfl ?_
        refine ww_getf gf_X4_35 rfl dX4_term_38 hp rfl ?_
        refine ww_iconst dX4_term_41 ?_
        refine ww_iadd dX4_term_42 ?_
        refine wx_putf pf_X4_35 rfl dX4_term_43 hp hp0 (Nat.le_of_ble_eq_true rfl) rfl rfl (fun h_43 hp f_43 => ?_)
        have hF := hF.tr f_43
        have hL := hL.kt f_43 hp0
        have hP : PB G h_43 p x a nl t n (sk t q + 1) sa9 4 hs hw := ⟨⟨hp0, hp⟩, hP.2.1.kt f_43 (by omega), ⟨by omega, by omega⟩, hP.2.2.2⟩
        have hW := hW.fo f_43.fo hp0 (by omega)
        refine ww_iload_n 0 dX4_term_46 rfl ?_
        refine ww_aload_n 2 dX4_term_47 rfl ?_
        refine ww_aload_n 1 dX4_term_48 rfl ?_
        refine cx_r (cx_V (ct_X4_factor4 hG hP hL y v (by omega)) sv_X4_104 rfl dX4_term_49 hP.obj rfl rfl rfl rfl ⟨Nat.le_of_ble_eq_true rfl, Nat.le_of_ble_eq_true rfl⟩ (Nat.le_of_ble_eq_true rfl) (by dsimp only [mmc, MX4_term, MX4_factor, MX4_peek] <;> omega) (by dsimp only [mms, MX4_term, MX4_factor, MX4_peek] <;> omega)) (fun X_49 q_49 g_49 hx_49 => wq_out hQ hT (by dsimp only [mmc, MX4_term, MX4_peek, MX4_factor, MX1_operation] <;> omega) (by dsimp only [mms, MX4_term, MX4_peek, MX4_factor, MX1_operation] <;> omega) (hx_49.go hF.fp (fun c o e => by rw [hpe, pE2, if_pos hop, e]))) (fun r_49 h_49 hp_49 => ?_)
        obtain ⟨y_49, p_49, s_49, hr_49, hg_49, hm_49, hW_49, hP, f_49⟩ := hp_49
        have hF := hF.tr f_49
        have hL := hL.kt f_49 hp0
        have hW := hW.fo f_49.fo hp0 (by omega)
        have hen := en_ok hr_49
        rw [hen] at hd1 hd2
        have hcq1 : rC n (sk t q + 1) (some p_49) = 8 * (p_49 - (sk t q + 1)).toNat := rfl
        have hcq2 : rS n (sk t q + 1) (some p_49) = 40 * (p_49 - (sk t q + 1)).toNat := rfl
        refine cr_r (cr_SN (ct_X1_operation hG (op := 4) (d := (p_49 - nx).toNat - 1) (by decide) (by decide) (hW.le (by omega)) (hW_49.le (by omega))) ss_X4_100 rfl dX4_term_52 rfl rfl ⟨Nat.le_of_ble_eq_true rfl, Nat.le_of_ble_eq_true rfl⟩ (Nat.le_of_ble_eq_true rfl) (by dsimp only [mmc, MX4_term, MX4_peek, MX4_factor, MX1_operation]; rw [hen]; omega) (by dsimp only [mms, MX4_term, MX4_peek, MX4_factor, MX1_operation]; rw [hen]; omega)) (fun r_52 h_52 hp_52 => ?_)
        obtain ⟨hW_52, e_52, n_52⟩ := hp_52
        have hF := hF.xe e_52
        have hL := hL.ex e_52
        refine ww_astore_n [(1, _), (2, _), (0, _)] dX4_term_55 (Nat.le_of_ble_eq_true rfl) rfl ?_
        refine ww_goto 5 dX4_term_56 (by decide) ?_
        refine ww_sub [2, 0] rfl ?_
        refine ww_widen (n' := 8 * (p_49 - nx).toNat) (k' := 40 * (p_49 - nx).toNat) (by dsimp only [mmc, MX4_term, MX4_peek, MX4_factor, MX1_operation]; rw [en_ok hr_49]; show _ + 8 * (p_49 - (sk t q + 1)).toNat + 1 ≤ _; omega) (by dsimp only [mms, MX4_term, MX4_peek, MX4_factor, MX1_operation]; rw [en_ok hr_49]; show _ + 40 * (p_49 - (sk t q + 1)).toNat + 3 ≤ _; omega) ?_
        exact ie v (cmb 4 y y_49) p_49 s_49 _ _ hF (hP.ex e_52) hL (by rw [hpe, pE2, if_pos hop, hr_49]; simp only; rw [if_pos hch]) (by omega) (by omega) hm_49 (hW_52.le (by omega)) (by omega)
      · refine ww_aload_n 0 dX4_term_14 rfl ?_
        refine cr_i (cr_V (ct_X4_peek hG hP) sv_X4_55 rfl dX4_term_15 hP.obj rfl rfl rfl rfl ⟨Nat.le_of_ble_eq_true rfl, Nat.le_of_ble_eq_true rfl⟩ (Nat.le_of_ble_eq_true rfl) (by dsimp only [mmc, MX4_term, MX4_factor, MX4_peek, MX1_operation] <;> omega) (by dsimp only [mms, MX4_term, MX4_factor, MX4_peek, MX1_operation] <;> omega)) (fun r_15 h_15 hp_15 => ?_)
        obtain ⟨er_15, hP, f_15⟩ := hp_15
        subst er_15
        have hF := hF.tr f_15
        have hL := hL.kt f_15 hp0
        rw [ht.kk hq1] at hP ⊢
        have hW := hW.fo f_15.fo hp0 (by omega)
        refine ww_bipush dX4_term_18 (by decide) ?_
        refine ww_icmp_ne 59 dX4_term_20 (by decide) (inI.mk (by omega) (by omega)) (inI.mk (by omega) (by omega)) (fun c_20 => ?_) (fun c_20 => ?_)
        · have hpo : (pE f 1 t 4 nx xe) = .ok (y, sk t q) := by rw [hpe, pE2, if_neg (by omega)]
          refine ww_aload_n 1 dX4_term_59 rfl ?_
          exact ww_x hQ (ww_aret rfl dX4_term_60 rfl rfl (by dsimp only [mmc, MX4_term, MX4_factor, MX4_peek, MX1_operation] <;> omega) (by dsimp only [mms, MX4_term, MX4_factor, MX4_peek, MX1_operation] <;> omega) ⟨_, rfl, y, sk t q, sa9, hpo, by omega, by omega, hW.le (by omega), hP, hF⟩)
        · have hch := c_20
          have hop : t (sk t q) = 42 ∨ t (sk t q) = 47 := Or.inr hch
          refine ww_aload_n 0 dX4_term_23 rfl ?_
          have hsn : sk t q ≠ n := fun e => by rw [e, ht.2.2.1 n (Int.le_refl _)] at hch; cases hch
          obtain ⟨-, ⟨bf, fs, B, hx0, hx, hb, -, hB⟩, -⟩ := id hP
          have hBj := hB (sk t q) (by omega) (by omega)
          have hsg : B (sk t q) = sgn 5 := by show B (sk t q) = 47; rw [hBj.2.2] at hch; omega
          obtain ⟨hd1, hd2⟩ := c_t2 (n := n) (p := nx) (q := q) (d := 4) (x := y) (f := v) ht (by omega) (by omega) hq1 hop
          rw [← hpe] at hd1 hd2
          have hp := hP.obj
          refine ww_getf gf_X4_3 rfl dX4_term_24 hp rfl ?_
          refine ww_getf gf_X4_38 rfl dX4_term_27 hx rfl ?_
          refine ww_aload_n 0 dX4_term_30 rfl ?_
          refine ww_getf gf_X4_35 rfl dX4_term_31 hp rfl ?_
          refine ww_bald dX4_term_34 hb (by omega) (by omega) (by omega) ?_
          rw [hsg]
          refine ww_istore_n [(2, _), (0, _), (1, _)] dX4_term_35 (Nat.le_of_ble_eq_true rfl) rfl ?_
          refine ww_aload_n 1 dX4_term_36 rfl ?_
          refine ww_dup dX4_term_37 rfl ?_
          refine ww_getf gf_X4_35 rfl dX4_term_38 hp rfl ?_
          refine ww_iconst dX4_term_41 ?_
          refine ww_iadd dX4_term_42 ?_
          refine wx_putf pf_X4_35 rfl dX4_term_43 hp hp0 (Nat.le_of_ble_eq_true rfl) rfl rfl (fun h_43 hp f_43 => ?_)
          have hF := hF.tr f_43
          have hL := hL.kt f_43 hp0
          have hP : PB G h_43 p x a nl t n (sk t q + 1) sa9 4 hs hw := ⟨⟨hp0, hp⟩, hP.2.1.kt f_43 (by omega), ⟨by omega, by omega⟩, hP.2.2.2⟩
          have hW := hW.fo f_43.fo hp0 (by omega)
          refine ww_iload_n 0 dX4_term_46 rfl ?_
          refine ww_aload_n 2 dX4_term_47 rfl ?_
          refine ww_aload_n 1 dX4_term_48 rfl ?_
          refine cx_r (cx_V (ct_X4_factor4 hG hP hL y v (by omega)) sv_X4_104 rfl dX4_term_49 hP.obj rfl rfl rfl rfl ⟨Nat.le_of_ble_eq_true rfl, Nat.le_of_ble_eq_true rfl⟩ (Nat.le_of_ble_eq_true rfl) (by dsimp only [mmc, MX4_term, MX4_factor, MX4_peek, MX1_operation] <;> omega) (by dsimp only [mms, MX4_term, MX4_factor, MX4_peek, MX1_operation] <;> omega)) (fun X_49 q_49 g_49 hx_49 => wq_out hQ hT (by dsimp only [mmc, MX4_term, MX4_peek, MX4_factor, MX1_operation] <;> omega) (by dsimp only [mms, MX4_term, MX4_peek, MX4_factor, MX1_operation] <;> omega) (hx_49.go hF.fp (fun c o e => by rw [hpe, pE2, if_pos hop, e]))) (fun r_49 h_49 hp_49 => ?_)
          obtain ⟨y_49, p_49, s_49, hr_49, hg_49, hm_49, hW_49, hP, f_49⟩ := hp_49
          have hF := hF.tr f_49
          have hL := hL.kt f_49 hp0
          have hW := hW.fo f_49.fo hp0 (by omega)
          have hen := en_ok hr_49
          rw [hen] at hd1 hd2
          have hcq1 : rC n (sk t q + 1) (some p_49) = 8 * (p_49 - (sk t q + 1)).toNat := rfl
          have hcq2 : rS n (sk t q + 1) (some p_49) = 40 * (p_49 - (sk t q + 1)).toNat := rfl
          refine cr_r (cr_SN (ct_X1_operation hG (op := 5) (d := (p_49 - nx).toNat - 1) (by decide) (by decide) (hW.le (by omega)) (hW_49.le (by omega))) ss_X4_100 rfl dX4_term_52 rfl rfl ⟨Nat.le_of_ble_eq_true rfl, Nat.le_of_ble_eq_true rfl⟩ (Nat.le_of_ble_eq_true rfl) (by dsimp only [mmc, MX4_term, MX4_peek, MX4_factor, MX1_operation]; rw [hen]; omega) (by dsimp only [mms, MX4_term, MX4_peek, MX4_factor, MX1_operation]; rw [hen]; omega)) (fun r_52 h_52 hp_52 => ?_)
          obtain ⟨hW_52, e_52, n_52⟩ := hp_52
          have hF := hF.xe e_52
          have hL := hL.ex e_52
          refine ww_astore_n [(1, _), (2, _), (0, _)] dX4_term_55 (Nat.le_of_ble_eq_true rfl) rfl ?_
          refine ww_goto 5 dX4_term_56 (by decide) ?_
          refine ww_sub [2, 0] rfl ?_
          refine ww_widen (n' := 8 * (p_49 - nx).toNat) (k' := 40 * (p_49 - nx).toNat) (by dsimp only [mmc, MX4_term, MX4_peek, MX4_factor, MX1_operation]; rw [en_ok hr_49]; show _ + 8 * (p_49 - (sk t q + 1)).toNat + 1 ≤ _; omega) (by dsimp only [mms, MX4_term, MX4_peek, MX4_factor, MX1_operation]; rw [en_ok hr_49]; show _ + 40 * (p_49 - (sk t q + 1)).toNat + 3 ≤ _; omega) ?_
          exact ie v (cmb 5 y y_49) p_49 s_49 _ _ hF (hP.ex e_52) hL (by rw [hpe, pE2, if_pos hop, hr_49]; simp only; rw [if_neg (by rw [hch]; decide)]) (by omega) (by omega) hm_49 (hW_52.le (by omega)) (by omega)
  refine ww_sub [1, 0] rfl ?_
  refine ww_widen (n' := 8 * (p_1 - nx).toNat) (k' := 40 * (p_1 - nx).toNat) (by dsimp only [mmc, MX4_term, MX4_peek, MX4_factor, MX1_operation]; rw [en_ok hr_1]; show 0 + 8 * (p_1 - nx).toNat ≤ _; omega) (by dsimp only [mms, MX4_term, MX4_peek, MX4_factor, MX1_operation]; rw [en_ok hr_1]; show 0 + 40 * (p_1 - nx).toNat ≤ _; omega) ?_
  exact loop_5 801 g y_1 p_1 s_1 _ _ hF hP hL (by rw [hfg, pE1, hr_1]) (by omega) hg_1 hm_1 hW_1 (by omega)

set_option maxHeartbeats 4000000 in
theorem ct_X4_sum4 {G : GT} {h : AH} (hG : GOK G) {p x a nl : Nat} {t : Int → Int} {n nx sa hs hw : Int} (hP : PB G h p x a nl t n nx sa 4 hs hw) (hL : LitC G h) (xe : List Int × EF) (f : Nat) (hf : 3 * (n - nx) + 3 ≤ f) : CX G (MX4_sum 14 3600 (rC n nx (en (pE f 3 t 4 nx xe))) (rS n nx (en (pE f 3 t 4 nx xe)))) h [.ref p] (pR (fun w h' => ∃ y q sa9, pE f 3 t 4 nx xe = .ok (y, q) ∧ nx < q ∧ q ≤ n ∧ WT G h' (q - nx).toNat w y.2 ∧ PB G h' p x a nl t n q sa9 4 hs hw ∧ PF p h h')) (XS p a h (pE f 3 t 4 nx xe)) := by
  refine CX.of rfl hG (Nat.le_of_ble_eq_true rfl) rfl (fun E hQ hT => ?_)
  have ht := hP.txt
  have h8 := ht.2.1
  have h0 := ht.1
  have hnx := hP.2.2.1
  have hk := ht.k1 hnx.2
  have hrg := ht.rg (q := sk t nx) (by omega)
  have hp0 := hP.1.1
  have hF : PF p h h := KT.rf
  obtain ⟨g, hfg⟩ : ∃ g, f = g + 1 := ⟨f - 1, by omega⟩
  refine ww_aload_n 0 dX4_sum_0 rfl ?_
  obtain ⟨hc1, hc2⟩ := c_s1 (n := n) (d := 4) (x := xe) (f := g) ht hnx.1 hnx.2
  rw [← hfg] at hc1 hc2
  refine cx_r (cx_V (ct_X4_term4 hG hP hL xe g (by omega)) sv_X4_96 rfl dX4_sum_1 hP.obj rfl rfl rfl rfl ⟨Nat.le_of_ble_eq_true rfl, Nat.le_of_ble_eq_true rfl⟩ (Nat.le_of_ble_eq_true rfl) (by dsimp only [mmc, MX4_sum, MX4_term] <;> omega) (by dsimp only [mms, MX4_sum, MX4_term] <;> omega)) (fun X_1 q_1 g_1 hx_1 => wq_out hQ hT (by dsimp only [mmc, MX4_sum, MX4_peek, MX4_term, MX1_operation] <;> omega) (by dsimp only [mms, MX4_sum, MX4_peek, MX4_term, MX1_operation] <;> omega) (hx_1.go hF.fp (fun c o e => by rw [hfg, pE3, e]))) (fun r_1 h_1 hp_1 => ?_)
  obtain ⟨y_1, p_1, s_1, hr_1, hg_1, hm_1, hW_1, hP, f_1⟩ := hp_1
  have hF := hF.tr f_1
  have hL := hL.kt f_1 hp0
  refine ww_astore_n [(1, _), (0, _)] dX4_sum_4 (Nat.le_of_ble_eq_true rfl) rfl ?_
  have loop_5 : ∀ (e : Nat) (u : Nat) (y : List Int × EF) (q sa9 : Int) (w : Nat) (h1 : AH), (PF p h h1) → (PB G h1 p x a nl t n q sa9 4 hs hw) → (LitC G h1) → (pE f 3 t 4 nx xe = pE u 4 t 4 q y) → (3 * (n - q) + 1 ≤ u) → (nx < q) → (q ≤ n) → (WT G h1 (q - nx).toNat w y.2) → (n - q < e) → WW G E (MX4_sum 14 3600 (rC n nx (en (pE f 3 t 4 nx xe))) (rS n nx (en (pE f 3 t 4 nx xe)))) h1 (8 * (q - nx).toNat) (40 * (q - nx).toNat) 5 [(0, .ref p), (1, .ref w)] [] := by
    intro e
    induction e with
    | zero => intro u y q sa9 w h1 hF hP hL hpe hu hq0 hq1 hW he; exact absurd he (by omega)
    | succ e ie =>
      intro u y q sa9 w h1 hF hP hL hpe hu hq0 hq1 hW he
      have hkq := ht.k1 hq1
      have hrq := ht.rg (q := sk t q) (by omega)
      obtain ⟨v, rfl⟩ : ∃ v, u = v + 1 := ⟨u - 1, by omega⟩
      have hcq := rC_le (n := n) (p := nx) (q1 := q) (e := en (pE f 3 t 4 nx xe)) (fun q9 e9 => by obtain ⟨y9, e9⟩ := en_some e9; rw [hpe] at e9; exact (pE_mono ht _ _ _ _ _ _ _ (by omega) hq1 e9).1) hq1
      refine ww_aload_n 0 dX4_sum_5 rfl ?_
      refine cr_i (cr_V (ct_X4_peek hG hP) sv_X4_55 rfl dX4_sum_6 hP.obj rfl rfl rfl rfl ⟨Nat.le_of_ble_eq_true rfl, Nat.le_of_ble_eq_true rfl⟩ (Nat.le_of_ble_eq_true rfl) (by dsimp only [mmc, MX4_sum, MX4_term, MX4_peek] <;> omega) (by dsimp only [mms, MX4_sum, MX4_term, MX4_peek] <;> omega)) (fun r_6 h_6 hp_6 => ?_)
      obtain ⟨er_6, hP, f_6⟩ := hp_6
      subst er_6
      have hF := hF.tr f_6
      have hL := hL.kt f_6 hp0
      have hW := hW.fo f_6.fo hp0 (by omega)
      refine ww_bipush dX4_sum_9 (by decide) ?_
      refine ww_icmp_eq 23 dX4_sum_11 (by decide) (inI.mk (by omega) (by omega)) (inI.mk (by omega) (by omega)) (fun c_11 => ?_) (fun c_11 => ?_)
      · have hch := c_11
        have hop : t (sk t q) = 43 ∨ t (sk t q) = 45 := Or.inl hch
        refine ww_aload_n 0 dX4_sum_23 rfl ?_
        have hsn : sk t q ≠ n := fun e => by rw [e, ht.2.2.1 n (Int.le_refl _)] at hch; cases hch
        obtain ⟨-, ⟨bf, fs, B, hx0, hx, hb, -, hB⟩, -⟩ := id hP
        have hBj := hB (sk t q) (by omega) (by omega)
        have hsg : B (sk t q) = sgn 2 := by show B (sk t q) = 43; rw [hBj.2.2] at hch; omega
        obtain ⟨hd1, hd2⟩ := c_s2 (n := n) (p := nx) (q := q) (d := 4) (x := y) (f := v) ht (by omega) (by omega) hq1 hop
        rw [← hpe] at hd1 hd2
        have hp := hP.obj
        refine ww_getf gf_X4_3 rfl dX4_sum_24 hp rfl ?_
        refine ww_getf gf_X4_38 rfl dX4_sum_27 hx rfl ?_
        refine ww_aload_n 0 dX4_sum_30 rfl ?_
        refine ww_getf gf_X4_35 rfl dX4_sum_31 hp rfl ?_
        refine ww_bald dX4_sum_34 hb (by omega) (by omega) (by omega) ?_
        rw [hsg]
        refine ww_istore_n [(2, _), (0, _), (1, _)] dX4_sum_35 (Nat.le_of_ble_eq_true rfl) rfl ?_
        refine ww_aload_n 1 dX4_sum_36 rfl ?_
        refine ww_dup dX4_sum_37 rfl ?_
        refine ww_getf gf_X4_35 rfl dX4_sum_38 hp rfl ?_
        refine ww_iconst dX4_sum_41 ?_
        refine ww_iadd dX4_sum_42 ?_
        refine wx_putf pf_X4_35 rfl dX4_sum_43 hp hp0 (Nat.le_of_ble_eq_true rfl) rfl rfl (fun h_43 hp f_43 => ?_)
        have hF := hF.tr f_43
        have hL := hL.kt f_43 hp0
        have hP : PB G h_43 p x a nl t n (sk t q + 1) sa9 4 hs hw := ⟨⟨hp0, hp⟩, hP.2.1.kt f_43 (by omega), ⟨by omega, by omega⟩, hP.2.2.2⟩
        have hW := hW.fo f_43.fo hp0 (by omega)
        refine ww_iload_n 0 dX4_sum_46 rfl ?_
        refine ww_aload_n 2 dX4_sum_47 rfl ?_
        refine ww_aload_n 1 dX4_sum_48 rfl ?_
        refine cx_r (cx_V (ct_X4_term4 hG hP hL y v (by omega)) sv_X4_96 rfl dX4_sum_49 hP.obj rfl rfl rfl rfl ⟨Nat.le_of_ble_eq_true rfl, Nat.le_of_ble_eq_true rfl⟩ (Nat.le_of_ble_eq_true rfl) (by dsimp only [mmc, MX4_sum, MX4_term, MX4_peek] <;> omega) (by dsimp only [mms, MX4_sum, MX4_term, MX4_peek] <;> omega)) (fun X_49 q_49 g_49 hx_49 => wq_out hQ hT (by dsimp only [mmc, MX4_sum, MX4_peek, MX4_term, MX1_operation] <;> omega) (by dsimp only [mms, MX4_sum, MX4_peek, MX4_term, MX1_operation] <;> omega) (hx_49.go hF.fp (fun c o e => by rw [hpe, pE4, if_pos hop, e]))) (fun r_49 h_49 hp_49 => ?_)
        obtain ⟨y_49, p_49, s_49, hr_49, hg_49, hm_49, hW_49, hP, f_49⟩ := hp_49
        have hF := hF.tr f_49
        have hL := hL.kt f_49 hp0
        have hW := hW.fo f_49.fo hp0 (by omega)
        have hen := en_ok hr_49
        rw [hen] at hd1 hd2
        have hcq1 : rC n (sk t q + 1) (some p_49) = 8 * (p_49 - (sk t q + 1)).toNat := rfl
        have hcq2 : rS n (sk t q + 1) (some p_49) = 40 * (p_49 - (sk t q + 1)).toNat := rfl
        refine cr_r (cr_SN (ct_X1_operation hG (op := 2) (d := (p_49 - nx).toNat - 1) (by decide) (by decide) (hW.le (by omega)) (hW_49.le (by omega))) ss_X4_100 rfl dX4_sum_52 rfl rfl ⟨Nat.le_of_ble_eq_true rfl, Nat.le_of_ble_eq_true rfl⟩ (Nat.le_of_ble_eq_true rfl) (by dsimp only [mmc, MX4_sum, MX4_peek, MX4_term, MX1_operation]; rw [hen]; omega) (by dsimp only [mms, MX4_sum, MX4_peek, MX4_term, MX1_operation]; rw [hen]; omega)) (fun r_52 h_52 hp_52 => ?_)
        obtain ⟨hW_52, e_52, n_52⟩ := hp_52
        have hF := hF.xe e_52
        have hL := hL.ex e_52
        refine ww_astore_n [(1, _), (2, _), (0, _)] dX4_sum_55 (Nat.le_of_ble_eq_true rfl) rfl ?_
        refine ww_goto 5 dX4_sum_56 (by decide) ?_
        refine ww_sub [2, 0] rfl ?_
        refine ww_widen (n' := 8 * (p_49 - nx).toNat) (k' := 40 * (p_49 - nx).toNat) (by dsimp only [mmc, MX4_sum, MX4_peek, MX4_term, MX1_operation]; rw [en_ok hr_49]; show _ + 8 * (p_49 - (sk t q + 1)).toNat + 1 ≤ _; omega) (by dsimp only [mms, MX4_sum, MX4_peek, MX4_term, MX1_operation]; rw [en_ok hr_49]; show _ + 40 * (p_49 - (sk t q + 1)).toNat + 3 ≤ _; omega) ?_
        exact ie v (cmb 2 y y_49) p_49 s_49 _ _ hF (hP.ex e_52) hL (by rw [hpe, pE4, if_pos hop, hr_49]; simp only; rw [if_pos hch]) (by omega) (by omega) hm_49 (hW_52.le (by omega)) (by omega)
      · refine ww_aload_n 0 dX4_sum_14 rfl ?_
        refine cr_i (cr_V (ct_X4_peek hG hP) sv_X4_55 rfl dX4_sum_15 hP.obj rfl rfl rfl rfl ⟨Nat.le_of_ble_eq_true rfl, Nat.le_of_ble_eq_true rfl⟩ (Nat.le_of_ble_eq_true rfl) (by dsimp only [mmc, MX4_sum, MX4_term, MX4_peek, MX1_operation] <;> omega) (by dsimp only [mms, MX4_sum, MX4_term, MX4_peek, MX1_operation] <;> omega)) (fun r_15 h_15 hp_15 => ?_)
        obtain ⟨er_15, hP, f_15⟩ := hp_15
        subst er_15
        have hF := hF.tr f_15
        have hL := hL.kt f_15 hp0
        rw [ht.kk hq1] at hP ⊢
        have hW := hW.fo f_15.fo hp0 (by omega)
        refine ww_bipush dX4_sum_18 (by decide) ?_
        refine ww_icmp_ne 59 dX4_sum_20 (by decide) (inI.mk (by omega) (by omega)) (inI.mk (by omega) (by omega)) (fun c_20 => ?_) (fun c_20 => ?_)
        · have hpo : (pE f 3 t 4 nx xe) = .ok (y, sk t q) := by rw [hpe, pE4, if_neg (by omega)]
          refine ww_aload_n 1 dX4_sum_59 rfl ?_
          exact ww_x hQ (ww_aret rfl dX4_sum_60 rfl rfl (by dsimp only [mmc, MX4_sum, MX4_term, MX4_peek, MX1_operation] <;> omega) (by dsimp only [mms, MX4_sum, MX4_term, MX4_peek, MX1_operation] <;> omega) ⟨_, rfl, y, sk t q, sa9, hpo, by omega, by omega, hW.le (by omega), hP, hF⟩)
        · have hch := c_20
          have hop : t (sk t q) = 43 ∨ t (sk t q) = 45 := Or.inr hch
          refine ww_aload_n 0 dX4_sum_23 rfl ?_
          have hsn : sk t q ≠ n := fun e => by rw [e, ht.2.2.1 n (Int.le_refl _)] at hch; cases hch
          obtain ⟨-, ⟨bf, fs, B, hx0, hx, hb, -, hB⟩, -⟩ := id hP
          have hBj := hB (sk t q) (by omega) (by omega)
          have hsg : B (sk t q) = sgn 3 := by show B (sk t q) = 45; rw [hBj.2.2] at hch; omega
          obtain ⟨hd1, hd2⟩ := c_s2 (n := n) (p := nx) (q := q) (d := 4) (x := y) (f := v) ht (by omega) (by omega) hq1 hop
          rw [← hpe] at hd1 hd2
          have hp := hP.obj
          refine ww_getf gf_X4_3 rfl dX4_sum_24 hp rfl ?_
          refine ww_getf gf_X4_38 rfl dX4_sum_27 hx rfl ?_
          refine ww_aload_n 0 dX4_sum_30 rfl ?_
          refine ww_getf gf_X4_35 rfl dX4_sum_31 hp rfl ?_
          refine ww_bald dX4_sum_34 hb (by omega) (by omega) (by omega) ?_
          rw [hsg]
          refine ww_istore_n [(2, _), (0, _), (1, _)] dX4_sum_35 (Nat.le_of_ble_eq_true rfl) rfl ?_
          refine ww_aload_n 1 dX4_sum_36 rfl ?_
          refine ww_dup dX4_sum_37 rfl ?_
          refine ww_getf gf_X4_35 rfl dX4_sum_38 hp rfl ?_
          refine ww_iconst dX4_sum_41 ?_
          refine ww_iadd dX4_sum_42 ?_
          refine wx_putf pf_X4_35 rfl dX4_sum_43 hp hp0 (Nat.le_of_ble_eq_true rfl) rfl rfl (fun h_43 hp f_43 => ?_)
          have hF := hF.tr f_43
          have hL := hL.kt f_43 hp0
          have hP : PB G h_43 p x a nl t n (sk t q + 1) sa9 4 hs hw := ⟨⟨hp0, hp⟩, hP.2.1.kt f_43 (by omega), ⟨by omega, by omega⟩, hP.2.2.2⟩
          have hW := hW.fo f_43.fo hp0 (by omega)
          refine ww_iload_n 0 dX4_sum_46 rfl ?_
          refine ww_aload_n 2 dX4_sum_47 rfl ?_
          refine ww_aload_n 1 dX4_sum_48 rfl ?_
          refine cx_r (cx_V (ct_X4_term4 hG hP hL y v (by omega)) sv_X4_96 rfl dX4_sum_49 hP.obj rfl rfl rfl rfl ⟨Nat.le_of_ble_eq_true rfl, Nat.le_of_ble_eq_true rfl⟩ (Nat.le_of_ble_eq_true rfl) (by dsimp only [mmc, MX4_sum, MX4_term, MX4_peek, MX1_operation] <;> omega) (by dsimp only [mms, MX4_sum, MX4_term, MX4_peek, MX1_operation] <;> omega)) (fun X_49 q_49 g_49 hx_49 => wq_out hQ hT (by dsimp only [mmc, MX4_sum, MX4_peek, MX4_term, MX1_operation] <;> omega) (by dsimp only [mms, MX4_sum, MX4_peek, MX4_term, MX1_operation] <;> omega) (hx_49.go hF.fp (fun c o e => by rw [hpe, pE4, if_pos hop, e]))) (fun r_49 h_49 hp_49 => ?_)
          obtain ⟨y_49, p_49, s_49, hr_49, hg_49, hm_49, hW_49, hP, f_49⟩ := hp_49
          have hF := hF.tr f_49
          have hL := hL.kt f_49 hp0
          have hW := hW.fo f_49.fo hp0 (by omega)
          have hen := en_ok hr_49
          rw [hen] at hd1 hd2
          have hcq1 : rC n (sk t q + 1) (some p_49) = 8 * (p_49 - (sk t q + 1)).toNat := rfl
          have hcq2 : rS n (sk t q + 1) (some p_49) = 40 * (p_49 - (sk t q + 1)).toNat := rfl
          refine cr_r (cr_SN (ct_X1_operation hG (op := 3) (d := (p_49 - nx).toNat - 1) (by decide) (by decide) (hW.le (by omega)) (hW_49.le (by omega))) ss_X4_100 rfl dX4_sum_52 rfl rfl ⟨Nat.le_of_ble_eq_true rfl, Nat.le_of_ble_eq_true rfl⟩ (Nat.le_of_ble_eq_true rfl) (by dsimp only [mmc, MX4_sum, MX4_peek, MX4_term, MX1_operation]; rw [hen]; omega) (by dsimp only [mms, MX4_sum, MX4_peek, MX4_term, MX1_operation]; rw [hen]; omega)) (fun r_52 h_52 hp_52 => ?_)
          obtain ⟨hW_52, e_52, n_52⟩ := hp_52
          have hF := hF.xe e_52
          have hL := hL.ex e_52
          refine ww_astore_n [(1, _), (2, _), (0, _)] dX4_sum_55 (Nat.le_of_ble_eq_true rfl) rfl ?_
          refine ww_goto 5 dX4_sum_56 (by decide) ?_
          refine ww_sub [2, 0] rfl ?_
          refine ww_widen (n' := 8 * (p_49 - nx).toNat) (k' := 40 * (p_49 - nx).toNat) (by dsimp only [mmc, MX4_sum, MX4_peek, MX4_term, MX1_operation]; rw [en_ok hr_49]; show _ + 8 * (p_49 - (sk t q + 1)).toNat + 1 ≤ _; omega) (by dsimp only [mms, MX4_sum, MX4_peek, MX4_term, MX1_operation]; rw [en_ok hr_49]; show _ + 40 * (p_49 - (sk t q + 1)).toNat + 3 ≤ _; omega) ?_
          exact ie v (cmb 3 y y_49) p_49 s_49 _ _ hF (hP.ex e_52) hL (by rw [hpe, pE4, if_pos hop, hr_49]; simp only; rw [if_neg (by rw [hch]; decide)]) (by omega) (by omega) hm_49 (hW_52.le (by omega)) (by omega)
  refine ww_sub [1, 0] rfl ?_
  refine ww_widen (n' := 8 * (p_1 - nx).toNat) (k' := 40 * (p_1 - nx).toNat) (by dsimp only [mmc, MX4_sum, MX4_peek, MX4_term, MX1_operation]; rw [en_ok hr_1]; show 0 + 8 * (p_1 - nx).toNat ≤ _; omega) (by dsimp only [mms, MX4_sum, MX4_peek, MX4_term, MX1_operation]; rw [en_ok hr_1]; show 0 + 40 * (p_1 - nx).toNat ≤ _; omega) ?_
  exact loop_5 801 g y_1 p_1 s_1 _ _ hF hP hL (by rw [hfg, pE3, hr_1]) (by omega) hg_1 hm_1 hW_1 (by omega)

set_option maxHeartbeats 4000000 in
theorem ct_X4_factor3 {G : GT} {h : AH} (hG : GOK G) {p x a nl : Nat} {t : Int → Int} {n nx sa hs hw : Int} (hP : PB G h p x a nl t n nx sa 3 hs hw) (hL : LitC G h) (xe : List Int × EF) (f : Nat) (hf : 3 * (n - nx) + 1 ≤ f) : CX G (MX4_factor 15 3700 (rC n nx (en (pE f 0 t 3 nx xe))) (rS n nx (en (pE f 0 t 3 nx xe)))) h [.ref p] (pR (fun w h' => ∃ y q sa9, pE f 0 t 3 nx xe = .ok (y, q) ∧ nx < q ∧ q ≤ n ∧ WT G h' (q - nx).toNat w y.2 ∧ PB G h' p x a nl t n q sa9 3 hs hw ∧ PF p h h')) (XS p a h (pE f 0 t 3 nx xe)) := by
  refine CX.of rfl hG (Nat.le_of_ble_eq_true rfl) rfl (fun E hQ hT => ?_)
  have ht := hP.txt
  have h8 := ht.2.1
  have h0 := ht.1
  have hnx := hP.2.2.1
  have hk := ht.k1 hnx.2
  have hrg := ht.rg (q := sk t nx) (by omega)
  have hp0 := hP.1.1
  have hF : PF p h h := KT.rf
  obtain ⟨g, rfl⟩ : ∃ g, f = g + 1 := ⟨f - 1, by omega⟩
  refine ww_aload_n 0 dX4_factor_0 rfl ?_
  refine cr_i (cr_V (ct_X4_peek hG hP) sv_X4_55 rfl dX4_factor_1 hP.obj rfl rfl rfl rfl ⟨Nat.le_of_ble_eq_true rfl, Nat.le_of_ble_eq_true rfl⟩ (Nat.le_of_ble_eq_true rfl) (by dsimp only [mmc, MX4_factor, MX4_peek] <;> omega) (by dsimp only [mms, MX4_factor, MX4_peek] <;> omega)) (fun r_1 h_1 hp_1 => ?_)
  obtain ⟨er_1, hP, f_1⟩ := hp_1
  subst er_1
  have hF := hF.tr f_1
  have hL := hL.kt f_1 hp0
  have hP1 := hP
  refine ww_bipush dX4_factor_4 (by decide) ?_
  refine ww_icmp_ne 75 dX4_factor_6 (by decide) (inI.mk (by omega) (by omega)) (inI.mk (by omega) (by omega)) (fun c_6 => ?_) (fun c_6 => ?_)
  · refine ww_aload_n 0 dX4_factor_75 rfl ?_
    refine cr_i (cr_V (ct_X4_isDigit hG hP) sv_X4_82 rfl dX4_factor_76 hP.obj rfl rfl rfl rfl ⟨Nat.le_of_ble_eq_true rfl, Nat.le_of_ble_eq_true rfl⟩ (Nat.le_of_ble_eq_true rfl) (by dsimp only [mmc, MX4_factor, MX4_peek, MX4_isDigit] <;> omega) (by dsimp only [mms, MX4_factor, MX4_peek, MX4_isDigit] <;> omega)) (fun r_76 h_76 hp_76 => ?_)
    obtain ⟨er_76, hP, f_76⟩ := hp_76
    subst er_76
    have hF := hF.tr f_76
    have hL := hL.kt f_76 hp0
    rw [ht.kk hnx.2]
    rw [ht.kk hnx.2] at hP
    refine ww_ifb_eq 99 dX4_factor_79 (by decide) (fun c_79 => ?_) (fun c_79 => ?_)
    · obtain ⟨hcw1, hcw2⟩ := c_word (n := n) (d := 3) (x := xe) (f := g) ht hnx.1 hnx.2 c_6 c_79
      have hw1 := ht.w1 hk.2.1
      have hpl : ((pw t nx).length : Int) = we t (sk t nx) - sk t nx := by unfold pw; rw [wd_len]; omega
      have hwC : wC (we t (sk t nx) - sk t nx).toNat = 4 + (we t (sk t nx) - sk t nx).toNat := rfl
      refine ww_aload_n 0 dX4_factor_99 rfl ?_
      have hFb := hF
      have hPb := hP
      refine cr_r (cr_V (ct_X4_word hG hP) sv_X4_124 rfl dX4_factor_100 hP.obj rfl rfl rfl rfl ⟨Nat.le_of_ble_eq_true rfl, Nat.le_of_ble_eq_true rfl⟩ (Nat.le_of_ble_eq_true rfl) (by rw [ht.kk hnx.2]; dsimp only [mmc, MX4_factor, MX4_peek, MX4_require, MX4_sum, MX4_expect, MX4_isDigit, MX4_number, MX4_word, MX1_variable, MJ6_length] <;> omega) (by rw [ht.kk hnx.2]; dsimp only [mms, MX4_factor, MX4_peek, MX4_require, MX4_sum, MX4_expect, MX4_isDigit, MX4_number, MX4_word, MX1_variable, MJ6_length] <;> omega)) (fun r_100 h_100 hp_100 => ?_)
      obtain ⟨hW_100, n_100, hP, f_100⟩ := hp_100
      have hF := hF.tr f_100
      have hL := hL.kt f_100 hp0
      have n9 := hFb.nwo hPb.obj n_100
      rw [pw_kk ht hnx.2] at hW_100
      rw [ht.kk hnx.2] at hP ⊢
      obtain ⟨fsw, hwo⟩ := hW_100.obj
      refine ww_astore_n [(1, _), (0, _)] dX4_factor_103 (Nat.le_of_ble_eq_true rfl) rfl ?_
      refine ww_aload_n 0 dX4_factor_104 rfl ?_
      refine cr_o (cr_SN (ct_X1_variable hG hW_100 hL) ss_X4_127 rfl dX4_factor_105 rfl rfl ⟨Nat.le_of_ble_eq_true rfl, Nat.le_of_ble_eq_true rfl⟩ (Nat.le_of_ble_eq_true rfl) (by dsimp only [mmc, MX4_factor, MX4_peek, MX4_isDigit, MX4_word, MX1_variable] <;> omega) (by dsimp only [mms, MX4_factor, MX4_peek, MX4_isDigit, MX4_word, MX1_variable] <;> omega)) (fun r_105 h_105 hp_105 => ?_)
      obtain ⟨hV_105, hW_100, z_105⟩ := hp_105
      have hP := hP.fo z_105.fo (by omega)
      have hF := hF.no z_105.fo n9
      have hL := hL.fz z_105
      obtain ⟨fsw, hwo⟩ := hW_100.obj
      rcases hV_105 with ⟨k9, k91, k92, hk9, rfl⟩ | ⟨nA, nB, nC, nD, rfl⟩
      · refine ww_astore_n [(2, _), (1, _), (0, _)] dX4_factor_108 (Nat.le_of_ble_eq_true rfl) rfl ?_
        refine ww_aload_n 2 dX4_factor_109 rfl ?_
        refine ww_aload_n 0 dX4_factor_110 rfl ?_
        refine ww_ifnull dX4_factor_111 ?_
        refine ww_iconst dX4_factor_114 ?_
        refine ww_goto 119 dX4_factor_115 (by decide) ?_
        refine ww_bipush dX4_factor_119 (by decide) ?_
        refine ww_aload_n 2 dX4_factor_121 rfl ?_
        refine ww_getf gf_X4_35 rfl dX4_factor_122 hP.obj rfl ?_
        refine cr_pv (cr_V (ct_X4_reqT hG 1 _ _ (by decide) (inI.mk (by decide) (by decide))) sv_X4_59 rfl dX4_factor_125 hP.obj rfl rfl rfl rfl ⟨Nat.le_of_ble_eq_true rfl, Nat.le_of_ble_eq_true rfl⟩ (Nat.le_of_ble_eq_true rfl) (by dsimp only [mmc, MX4_factor, MX4_peek, MX4_isDigit, MX4_word, MX1_variable, MX4_require] <;> omega) (by dsimp only [mms, MX4_factor, MX4_peek, MX4_isDigit, MX4_word, MX1_variable, MX4_require] <;> omega)) ?_
        refine ww_aload_n 2 dX4_factor_128 rfl ?_
        refine ww_dup dX4_factor_129 rfl ?_
        refine ww_getf gf_X4_35 rfl dX4_factor_130 hP.obj rfl ?_
        refine ww_aload_n 1 dX4_factor_133 rfl ?_
        refine cr_pi (cr_V (ct_J6_length hG hW_100) sv_X4_131 rfl dX4_factor_134 hwo rfl rfl rfl rfl ⟨Nat.le_of_ble_eq_true rfl, Nat.le_of_ble_eq_true rfl⟩ (Nat.le_of_ble_eq_true rfl) (by dsimp only [mmc, MX4_factor, MX4_peek, MX4_isDigit, MX4_word, MX1_variable, MX4_require, MJ6_length] <;> omega) (by dsimp only [mms, MX4_factor, MX4_peek, MX4_isDigit, MX4_word, MX1_variable, MX4_require, MJ6_length] <;> omega)) ?_
        rw [hpl]
        refine ww_iadd dX4_factor_137 ?_
        rw [show sk t nx + (we t (sk t nx) - sk t nx) = we t (sk t nx) by omega]
        have hp := hP.obj
        refine wx_putf pf_X4_35 rfl dX4_factor_138 hp hp0 (Nat.le_of_ble_eq_true rfl) rfl rfl (fun h_138 hp f_138 => ?_)
        have hF := hF.tr f_138
        have hL := hL.kt f_138 hp0
        have hP : PB G h_138 p x a nl t n (we t (sk t nx)) sa 3 hs hw := ⟨⟨hp0, hp⟩, hP.2.1.kt f_138 (by omega), ⟨by omega, by omega⟩, hP.2.2.2⟩
        have hln : 4 ≤ we t (sk t nx) - sk t nx := by rw [← hpl, hk9]; exact vkw_len k9
        refine ww_aload_n 0 dX4_factor_141 rfl ?_
        exact ww_x hQ (ww_aret rfl dX4_factor_142 rfl rfl (by dsimp only [mmc, MX4_factor, MX4_peek, MX4_isDigit, MX4_word, MX1_variable, MX4_require, MJ6_length] <;> omega) (by dsimp only [mms, MX4_factor, MX4_peek, MX4_isDigit, MX4_word, MX1_variable, MX4_require, MJ6_length] <;> omega) ⟨_, rfl, _, we t (sk t nx), _, (pE_var c_6 c_79 hk9 k91 k92), by omega, by omega, WT.le (WT.vv hL k91 k92) (by omega), hP, hF⟩)
      · refine ww_astore_nN [(2, _), (1, _), (0, _)] dX4_factor_108 (Nat.le_of_ble_eq_true rfl) rfl ?_
        refine ww_aload_n 2 dX4_factor_109 rfl ?_
        refine ww_aload_nN 0 dX4_factor_110 rfl ?_
        refine ww_ifnullN 118 dX4_factor_111 (by decide) ?_
        refine ww_iconst dX4_factor_118 ?_
        refine ww_bipush dX4_factor_119 (by decide) ?_
        refine ww_aload_n 2 dX4_factor_121 rfl ?_
        refine ww_getf gf_X4_35 rfl dX4_factor_122 hP.obj rfl ?_
        refine cx_v (cx_V (ct_X4_reqF hG p a (-2) (sk t nx) (by omega)) sv_X4_59 rfl dX4_factor_125 hP.obj rfl rfl rfl rfl ⟨Nat.le_of_ble_eq_true rfl, Nat.le_of_ble_eq_true rfl⟩ (Nat.le_of_ble_eq_true rfl) (by dsimp only [mmc, MX4_factor, MX4_peek, MX4_isDigit, MX4_word, MX1_variable, MX4_require, MJ6_length] <;> omega) (by dsimp only [mms, MX4_factor, MX4_peek, MX4_isDigit, MX4_word, MX1_variable, MX4_require, MJ6_length] <;> omega)) (fun X_125 q_125 g_125 hx_125 => wq_out hQ hT (by dsimp only [mmc, MX4_factor, MX4_peek, MX4_require, MX4_sum, MX4_expect, MX4_isDigit, MX4_number, MX4_word, MX1_variable, MJ6_length] <;> omega) (by dsimp only [mms, MX4_factor, MX4_peek, MX4_require, MX4_sum, MX4_expect, MX4_isDigit, MX4_number, MX4_word, MX1_variable, MJ6_length] <;> omega) (hx_125.go hF.fp (fun c o e => by cases e; rw [pE0_kw c_6 c_79, if_neg nA, if_neg nB, if_neg nC, if_neg nD]))) (fun h_125 hp_125 => ?_)
        exact hp_125.elim
    · obtain ⟨hcn1, hcn2⟩ := c_num (n := n) (d := 3) (x := xe) (f := g) ht hnx.1 hnx.2 c_6 c_79
      refine ww_aload_n 0 dX4_factor_82 rfl ?_
      refine ww_iconst dX4_factor_83 ?_
      refine ww_sipush dX4_factor_84 (by decide) ?_
      refine cx_i (cx_V (ct_X4_number hG hP 0 9999 (inI.mk (by decide) (by decide)) (inI.mk (by decide) (by decide))) sv_X4_117 rfl dX4_factor_87 hP.obj rfl rfl rfl rfl ⟨Nat.le_of_ble_eq_true rfl, Nat.le_of_ble_eq_true rfl⟩ (Nat.le_of_ble_eq_true rfl) (by dsimp only [mmc, MX4_factor, MX4_peek, MX4_isDigit, MX4_word, MX1_variable, MX4_require, MJ6_length, MX4_number] <;> omega) (by dsimp only [mms, MX4_factor, MX4_peek, MX4_isDigit, MX4_word, MX1_variable, MX4_require, MJ6_length, MX4_number] <;> omega)) (fun X_87 q_87 g_87 hx_87 => wq_out hQ hT (by dsimp only [mmc, MX4_factor, MX4_peek, MX4_require, MX4_sum, MX4_expect, MX4_isDigit, MX4_number, MX4_word, MX1_variable, MJ6_length] <;> omega) (by dsimp only [mms, MX4_factor, MX4_peek, MX4_require, MX4_sum, MX4_expect, MX4_isDigit, MX4_number, MX4_word, MX1_variable, MJ6_length] <;> omega) (hx_87.go hF.fp (fun c o e => by rw [pE0_num c_6 c_79]; rw [pnum_kk ht hnx.2] at e; rw [e]))) (fun r_87 h_87 hp_87 => ?_)
      obtain ⟨e_87, hn_87, hl_87, hh_87, h0_87, hg_87, hm_87, hP, f_87⟩ := hp_87
      have hF := hF.tr f_87
      have hL := hL.kt f_87 hp0
      rw [pnum_kk ht hnx.2] at hn_87
      have hgt := pnum_gt ht hnx.1 hnx.2 hn_87
      refine ww_i2l dX4_factor_90 (inI.mk (by omega) (by omega)) ?_
      refine ww_lstore_n [(1, _), (0, _)] dX4_factor_91 (Nat.le_of_ble_eq_true rfl) rfl ?_
      refine ww_lload_n 0 dX4_factor_92 rfl ?_
      refine ww_indyM (i := 5) (vs := [.long (lI r_87)]) (by decide) (by decide) hG lfit5 rfl rfl rfl rfl dX4_factor_93 (Nat.le_of_ble_eq_true rfl) (by dsimp only [mmc, MX4_factor, MX4_peek, MX4_require, MX4_sum, MX4_expect, MX4_isDigit, MX4_number, MX4_word, MX1_variable, MJ6_length] <;> omega) (by dsimp only [mms, MX4_factor, MX4_peek, MX4_require, MX4_sum, MX4_expect, MX4_isDigit, MX4_number, MX4_word, MX1_variable, MJ6_length, List.length] <;> omega) (fun q9 h9 n9 e9 hq9 => ?_)
      have hF := hF.xe e9
      have hL := hL.ex e9
      have hP := hP.ex e9
      exact ww_x hQ (ww_aret rfl dX4_factor_98 rfl rfl (by dsimp only [mmc, MX4_factor, MX4_peek, MX4_require, MX4_sum, MX4_expect, MX4_isDigit, MX4_number, MX4_word, MX1_variable, MJ6_length] <;> omega) (by dsimp only [mms, MX4_factor, MX4_peek, MX4_require, MX4_sum, MX4_expect, MX4_isDigit, MX4_number, MX4_word, MX1_variable, MJ6_length, List.length] <;> omega) ⟨_, rfl, ([0, r_87], fun _ _ _ _ => r_87), e_87, _, by rw [pE0_num c_6 c_79, hn_87], hgt, hm_87, WT.le (d := 1) (Or.inr (Or.inl ⟨r_87, h0_87, hh_87, hq9, rfl⟩)) (by omega), hP, hF⟩)
  · have hsn : sk t nx ≠ n := fun e => by rw [e, ht.2.2.1 n (Int.le_refl _)] at c_6; cases c_6
    refine ww_aload_n 0 dX4_factor_9 rfl ?_
    refine ww_aload_n 0 dX4_factor_10 rfl ?_
    refine ww_getf gf_X4_107 rfl dX4_factor_11 hP.obj rfl ?_
    refine ww_iconst dX4_factor_14 ?_
    refine ww_icmp_ge 22 dX4_factor_15 (by decide) (inI.mk (by decide) (by decide)) (inI.mk (by decide) (by decide)) (fun c_15 => ?_) (fun c_15 => ?_)
    · exact absurd c_15 (by decide)
    · refine ww_iconst dX4_factor_18 ?_
      refine ww_goto 23 dX4_factor_19 (by decide) ?_
      refine ww_bipush dX4_factor_23 (by decide) ?_
      refine ww_aload_n 0 dX4_factor_25 rfl ?_
      refine ww_getf gf_X4_35 rfl dX4_factor_26 hP.obj rfl ?_
      refine cr_pv (cr_V (ct_X4_reqT hG 1 _ _ (by decide) (inI.mk (by decide) (by decide))) sv_X4_59 rfl dX4_factor_29 hP.obj rfl rfl rfl rfl ⟨Nat.le_of_ble_eq_true rfl, Nat.le_of_ble_eq_true rfl⟩ (Nat.le_of_ble_eq_true rfl) (by dsimp only [mmc, MX4_factor, MX4_peek, MX4_isDigit, MX4_word, MX1_variable, MX4_require, MJ6_length, MX4_number] <;> omega) (by dsimp only [mms, MX4_factor, MX4_peek, MX4_isDigit, MX4_word, MX1_variable, MX4_require, MJ6_length, MX4_number] <;> omega)) ?_
      refine ww_aload_n 0 dX4_factor_32 rfl ?_
      refine ww_dup dX4_factor_33 rfl ?_
      refine ww_getf gf_X4_107 rfl dX4_factor_34 hP.obj rfl ?_
      refine ww_iconst dX4_factor_37 ?_
      refine ww_iadd dX4_factor_38 ?_
      have hp := hP.obj
      obtain ⟨hcp1, hcp2⟩ := c_par (n := n) (d := 3) (x := xe) (f := g) ht hnx.1 hnx.2 c_6 (by decide)
      refine wx_putf pf_X4_107 rfl dX4_factor_39 hp hp0 (Nat.le_of_ble_eq_true rfl) rfl rfl (fun h_39 hp f_39 => ?_)
      have hF := hF.tr f_39
      have hL := hL.kt f_39 hp0
      have hP : PB G h_39 p x a nl t n (sk t nx) sa (3 + 1) hs hw := ⟨⟨hp0, hp⟩, hP.2.1.kt f_39 (by omega), hP.2.2.1, hP.2.2.2.1, ⟨by decide, by decide⟩, hP.2.2.2.2.2⟩
      refine ww_aload_n 0 dX4_factor_42 rfl ?_
      refine ww_dup dX4_factor_43 rfl ?_
      refine ww_getf gf_X4_35 rfl dX4_factor_44 hP.obj rfl ?_
      refine ww_iconst dX4_factor_47 ?_
      refine ww_iadd dX4_factor_48 ?_
      have hp := hP.obj
      refine wx_putf pf_X4_35 rfl dX4_factor_49 hp hp0 (Nat.le_of_ble_eq_true rfl) rfl rfl (fun h_49 hp f_49 => ?_)
      have hF := hF.tr f_49
      have hL := hL.kt f_49 hp0
      have hP : PB G h_49 p x a nl t n (sk t nx + 1) sa (3 + 1) hs hw := ⟨⟨hp0, hp⟩, hP.2.1.kt f_49 (by omega), ⟨by omega, by omega⟩, hP.2.2.2⟩
      rw [show (3 : Int) + 1 = 4 from rfl] at hP hcp1 hcp2
      refine ww_aload_n 0 dX4_factor_52 rfl ?_
      refine cx_r (cx_V (ct_X4_sum4 hG hP hL xe g (by omega)) sv_X4_110 rfl dX4_factor_53 hP.obj rfl rfl rfl rfl ⟨Nat.le_of_ble_eq_true rfl, Nat.le_of_ble_eq_true rfl⟩ (Nat.le_of_ble_eq_true rfl) (by dsimp only [mmc, MX4_factor, MX4_peek, MX4_isDigit, MX4_word, MX1_variable, MX4_require, MJ6_length, MX4_number, MX4_sum] <;> omega) (by dsimp only [mms, MX4_factor, MX4_peek, MX4_isDigit, MX4_word, MX1_variable, MX4_require, MJ6_length, MX4_number, MX4_sum] <;> omega)) (fun X_53 q_53 g_53 hx_53 => wq_out hQ hT (by dsimp only [mmc, MX4_factor, MX4_peek, MX4_require, MX4_sum, MX4_expect, MX4_isDigit, MX4_number, MX4_word, MX1_variable, MJ6_length] <;> omega) (by dsimp only [mms, MX4_factor, MX4_peek, MX4_require, MX4_sum, MX4_expect, MX4_isDigit, MX4_number, MX4_word, MX1_variable, MJ6_length] <;> omega) (hx_53.go hF.fp (fun c o e => by rw [pE0_par c_6 (by decide), show (3 : Int) + 1 = 4 from rfl, e]))) (fun r_53 h_53 hp_53 => ?_)
      obtain ⟨y_53, p_53, s_53, hr_53, hg_53, hm_53, hW_53, hP, f_53⟩ := hp_53
      have hF := hF.tr f_53
      have hL := hL.kt f_53 hp0
      have hk5 := ht.k1 hm_53
      rw [en_ok hr_53] at hcp1 hcp2
      have hcq1 : rC n (sk t nx + 1) (some p_53) = 8 * (p_53 - (sk t nx + 1)).toNat := rfl
      have hcq2 : rS n (sk t nx + 1) (some p_53) = 40 * (p_53 - (sk t nx + 1)).toNat := rfl
      have hen := en_ok hr_53
      refine ww_astore_n [(1, _), (0, _)] dX4_factor_56 (Nat.le_of_ble_eq_true rfl) rfl ?_
      refine ww_aload_n 1 dX4_factor_57 rfl ?_
      refine ww_bipush dX4_factor_58 (by decide) ?_
      refine cx_v (cx_V (ct_X4_expect hG hP 41 (by decide) (by decide)) sv_X4_113 rfl dX4_factor_60 hP.obj rfl rfl rfl rfl ⟨Nat.le_of_ble_eq_true rfl, Nat.le_of_ble_eq_true rfl⟩ (Nat.le_of_ble_eq_true rfl) (by dsimp only [mmc, MX4_factor, MX4_peek, MX4_require, MX4_sum, MX4_expect, MX4_isDigit, MX4_number, MX4_word, MX1_variable, MJ6_length]; rw [hen]; omega) (by dsimp only [mms, MX4_factor, MX4_peek, MX4_require, MX4_sum, MX4_expect, MX4_isDigit, MX4_number, MX4_word, MX1_variable, MJ6_length]; rw [hen]; omega)) (fun X_60 q_60 g_60 hx_60 => wq_out hQ hT (by dsimp only [mmc, MX4_factor, MX4_peek, MX4_require, MX4_sum, MX4_expect, MX4_isDigit, MX4_number, MX4_word, MX1_variable, MJ6_length]; rw [hen]; omega) (by dsimp only [mms, MX4_factor, MX4_peek, MX4_require, MX4_sum, MX4_expect, MX4_isDigit, MX4_number, MX4_word, MX1_variable, MJ6_length]; rw [hen]; omega) (hx_60.go hF.fp (fun c o e => by rw [pE0_par c_6 (by decide), show (3 : Int) + 1 = 4 from rfl, hr_53]; simp only; unfold pexp at e; split at e; cases e; rename_i c9; rw [if_neg c9]; cases e; rfl))) (fun h_60 hp_60 => ?_)
      obtain ⟨hc_60, hP, f_60⟩ := hp_60
      have hF := hF.tr f_60
      have hL := hL.kt f_60 hp0
      have hsn5 : sk t p_53 ≠ n := fun e => by rw [e, ht.2.2.1 n (Int.le_refl _)] at hc_60; cases hc_60
      refine ww_aload_n 1 dX4_factor_63 rfl ?_
      refine ww_dup dX4_factor_64 rfl ?_
      refine ww_getf gf_X4_107 rfl dX4_factor_65 hP.obj rfl ?_
      refine ww_iconst dX4_factor_68 ?_
      refine ww_isub dX4_factor_69 ?_
      have hp := hP.obj
      refine wx_putf pf_X4_107 rfl dX4_factor_70 hp hp0 (Nat.le_of_ble_eq_true rfl) rfl rfl (fun h_70 hp f_70 => ?_)
      have hF := hF.tr f_70
      have hL := hL.kt f_70 hp0
      have hP : PB G h_70 p x a nl t n (sk t p_53 + 1) s_53 (4 - 1) hs hw := ⟨⟨hp0, hp⟩, hP.2.1.kt f_70 (by omega), hP.2.2.1, hP.2.2.2.1, ⟨by decide, by decide⟩, hP.2.2.2.2.2⟩
      rw [show (4 : Int) - 1 = 3 from rfl] at hP
      refine ww_aload_n 0 dX4_factor_73 rfl ?_
      exact ww_x hQ (ww_aret rfl dX4_factor_74 rfl rfl (by dsimp only [mmc, MX4_factor, MX4_peek, MX4_require, MX4_sum, MX4_expect, MX4_isDigit, MX4_number, MX4_word, MX1_variable, MJ6_length]; rw [hen]; omega) (by dsimp only [mms, MX4_factor, MX4_peek, MX4_require, MX4_sum, MX4_expect, MX4_isDigit, MX4_number, MX4_word, MX1_variable, MJ6_length]; rw [hen]; omega) ⟨_, rfl, y_53, sk t p_53 + 1, s_53, by rw [pE0_par c_6 (by decide), show (3 : Int) + 1 = 4 from rfl, hr_53]; simp only; rw [if_pos hc_60], by omega, by omega, ((hW_53.fo f_60.fo hp0 (by omega)).fo f_70.fo hp0 (by omega)).le (by omega), hP, hF⟩)

set_option maxHeartbeats 4000000 in
theorem ct_X4_term3 {G : GT} {h : AH} (hG : GOK G) {p x a nl : Nat} {t : Int → Int} {n nx sa hs hw : Int} (hP : PB G h p x a nl t n nx sa 3 hs hw) (hL : LitC G h) (xe : List Int × EF) (f : Nat) (hf : 3 * (n - nx) + 2 ≤ f) : CX G (MX4_term 16 3800 (rC n nx (en (pE f 1 t 3 nx xe))) (rS n nx (en (pE f 1 t 3 nx xe)))) h [.ref p] (pR (fun w h' => ∃ y q sa9, pE f 1 t 3 nx xe = .ok (y, q) ∧ nx < q ∧ q ≤ n ∧ WT G h' (q - nx).toNat w y.2 ∧ PB G h' p x a nl t n q sa9 3 hs hw ∧ PF p h h')) (XS p a h (pE f 1 t 3 nx xe)) := by
  refine CX.of rfl hG (Nat.le_of_ble_eq_true rfl) rfl (fun E hQ hT => ?_)
  have ht := hP.txt
  have h8 := ht.2.1
  have h0 := ht.1
  have hnx := hP.2.2.1
  have hk := ht.k1 hnx.2
  have hrg := ht.rg (q := sk t nx) (by omega)
  have hp0 := hP.1.1
  have hF : PF p h h := KT.rf
  obtain ⟨g, hfg⟩ : ∃ g, f = g + 1 := ⟨f - 1, by omega⟩
  refine ww_aload_n 0 dX4_term_0 rfl ?_
  obtain ⟨hc1, hc2⟩ := c_t1 (n := n) (d := 3) (x := xe) (f := g) ht hnx.1 hnx.2
  rw [← hfg] at hc1 hc2
  refine cx_r (cx_V (ct_X4_factor3 hG hP hL xe g (by omega)) sv_X4_104 rfl dX4_term_1 hP.obj rfl rfl rfl rfl ⟨Nat.le_of_ble_eq_true rfl, Nat.le_of_ble_eq_true rfl⟩ (Nat.le_of_ble_eq_true rfl) (by dsimp only [mmc, MX4_term, MX4_factor] <;> omega) (by dsimp only [mms, MX4_term, MX4_factor] <;> omega)) (fun X_1 q_1 g_1 hx_1 => wq_out hQ hT (by dsimp only [mmc, MX4_term, MX4_peek, MX4_factor, MX1_operation] <;> omega) (by dsimp only [mms, MX4_term, MX4_peek, MX4_factor, MX1_operation] <;> omega) (hx_1.go hF.fp (fun c o e => by rw [hfg, pE1, e]))) (fun r_1 h_1 hp_1 => ?_)
  obtain ⟨y_1, p_1, s_1, hr_1, hg_1, hm_1, hW_1, hP, f_1⟩ := hp_1
  have hF := hF.tr f_1
  have hL := hL.kt f_1 hp0
  refine ww_astore_n [(1, _), (0, _)] dX4_term_4 (Nat.le_of_ble_eq_true rfl) rfl ?_
  have loop_5 : ∀ (e : Nat) (u : Nat) (y : List Int × EF) (q sa9 : Int) (w : Nat) (h1 : AH), (PF p h h1) → (PB G h1 p x a nl t n q sa9 3 hs hw) → (LitC G h1) → (pE f 1 t 3 nx xe = pE u 2 t 3 q y) → (3 * (n - q) + 1 ≤ u) → (nx < q) → (q ≤ n) → (WT G h1 (q - nx).toNat w y.2) → (n - q < e) → WW G E (MX4_term 16 3800 (rC n nx (en (pE f 1 t 3 nx xe))) (rS n nx (en (pE f 1 t 3 nx xe)))) h1 (8 * (q - nx).toNat) (40 * (q - nx).toNat) 5 [(0, .ref p), (1, .ref w)] [] := by
    intro e
    induction e with
    | zero => intro u y q sa9 w h1 hF hP hL hpe hu hq0 hq1 hW he; exact absurd he (by omega)
    | succ e ie =>
      intro u y q sa9 w h1 hF hP hL hpe hu hq0 hq1 hW he
      have hkq := ht.k1 hq1
      have hrq := ht.rg (q := sk t q) (by omega)
      obtain ⟨v, rfl⟩ : ∃ v, u = v + 1 := ⟨u - 1, by omega⟩
      have hcq := rC_le (n := n) (p := nx) (q1 := q) (e := en (pE f 1 t 3 nx xe)) (fun q9 e9 => by obtain ⟨y9, e9⟩ := en_some e9; rw [hpe] at e9; exact (pE_mono ht _ _ _ _ _ _ _ (by omega) hq1 e9).1) hq1
      refine ww_aload_n 0 dX4_term_5 rfl ?_
      refine cr_i (cr_V (ct_X4_peek hG hP) sv_X4_55 rfl dX4_term_6 hP.obj rfl rfl rfl rfl ⟨Nat.le_of_ble_eq_true rfl, Nat.le_of_ble_eq_true rfl⟩ (Nat.le_of_ble_eq_true rfl) (by dsimp only [mmc, MX4_term, MX4_factor, MX4_peek] <;> omega) (by dsimp only [mms, MX4_term, MX4_factor, MX4_peek] <;> omega)) (fun r_6 h_6 hp_6 => ?_)
      obtain ⟨er_6, hP, f_6⟩ := hp_6
      subst er_6
      have hF := hF.tr f_6
      have hL := hL.kt f_6 hp0
      have hW := hW.fo f_6.fo hp0 (by omega)
      refine ww_bipush dX4_term_9 (by decide) ?_
      refine ww_icmp_eq 23 dX4_term_11 (by decide) (inI.mk (by omega) (by omega)) (inI.mk (by omega) (by omega)) (fun c_11 => ?_) (fun c_11 => ?_)
      · have hch := c_11
        have hop : t (sk t q) = 42 ∨ t (sk t q) = 47 := Or.inl hch
        refine ww_aload_n 0 dX4_term_23 rfl ?_
        have hsn : sk t q ≠ n := fun e => by rw [e, ht.2.2.1 n (Int.le_refl _)] at hch; cases hch
        obtain ⟨-, ⟨bf, fs, B, hx0, hx, hb, -, hB⟩, -⟩ := id hP
        have hBj := hB (sk t q) (by omega) (by omega)
        have hsg : B (sk t q) = sgn 4 := by show B (sk t q) = 42; rw [hBj.2.2] at hch; omega
        obtain ⟨hd1, hd2⟩ := c_t2 (n := n) (p := nx) (q := q) (d := 3) (x := y) (f := v) ht (by omega) (by omega) hq1 hop
        rw [← hpe] at hd1 hd2
        have hp := hP.obj
        refine ww_getf gf_X4_3 rfl dX4_term_24 hp rfl ?_
        refine ww_getf gf_X4_38 rfl dX4_term_27 hx rfl ?_
        refine ww_aload_n 0 dX4_term_30 rfl ?_
        refine ww_getf gf_X4_35 rfl dX4_term_31 hp rfl ?_
        refine ww_bald dX4_term_34 hb (by omega) (by omega) (by omega) ?_
        rw [hsg]
        refine ww_istore_n [(2, _), (0, _), (1, _)] dX4_term_35 (Nat.le_of_ble_eq_true rfl) rfl ?_
        refine ww_aload_n 1 dX4_term_36 rfl ?_
        refine ww_dup dX4_term_37 rfl ?_
        refine ww_getf gf_X4_35 rfl dX4_term_38 hp rfl ?_
        refine ww_iconst dX4_term_41 ?_
        refine ww_iadd dX4_term_42 ?_
        refine wx_putf pf_X4_35 rfl dX4_term_43 hp hp0 (Nat.le_of_ble_eq_true rfl) rfl rfl (fun h_43 hp f_43 => ?_)
        have hF := hF.tr f_43
        have hL := hL.kt f_43 hp0
        have hP : PB G h_43 p x a nl t n (sk t q + 1) sa9 3 hs hw := ⟨⟨hp0, hp⟩, hP.2.1.kt f_43 (by omega), ⟨by omega, by omega⟩, hP.2.2.2⟩
        have hW := hW.fo f_43.fo hp0 (by omega)
        refine ww_iload_n 0 dX4_term_46 rfl ?_
        refine ww_aload_n 2 dX4_term_47 rfl ?_
        refine ww_aload_n 1 dX4_term_48 rfl ?_
        refine cx_r (cx_V (ct_X4_factor3 hG hP hL y v (by omega)) sv_X4_104 rfl dX4_term_49 hP.obj rfl rfl rfl rfl ⟨Nat.le_of_ble_eq_true rfl, Nat.le_of_ble_eq_true rfl⟩ (Nat.le_of_ble_eq_true rfl) (by dsimp only [mmc, MX4_term, MX4_factor, MX4_peek] <;> omega) (by dsimp only [mms, MX4_term, MX4_factor, MX4_peek] <;> omega)) (fun X_49 q_49 g_49 hx_49 => wq_out hQ hT (by dsimp only [mmc, MX4_term, MX4_peek, MX4_factor, MX1_operation] <;> omega) (by dsimp only [mms, MX4_term, MX4_peek, MX4_factor, MX1_operation] <;> omega) (hx_49.go hF.fp (fun c o e => by rw [hpe, pE2, if_pos hop, e]))) (fun r_49 h_49 hp_49 => ?_)
        obtain ⟨y_49, p_49, s_49, hr_49, hg_49, hm_49, hW_49, hP, f_49⟩ := hp_49
        have hF := hF.tr f_49
        have hL := hL.kt f_49 hp0
        have hW := hW.fo f_49.fo hp0 (by omega)
        have hen := en_ok hr_49
        rw [hen] at hd1 hd2
        have hcq1 : rC n (sk t q + 1) (some p_49) = 8 * (p_49 - (sk t q + 1)).toNat := rfl
        have hcq2 : rS n (sk t q + 1) (some p_49) = 40 * (p_49 - (sk t q + 1)).toNat := rfl
        refine cr_r (cr_SN (ct_X1_operation hG (op := 4) (d := (p_49 - nx).toNat - 1) (by decide) (by decide) (hW.le (by omega)) (hW_49.le (by omega))) ss_X4_100 rfl dX4_term_52 rfl rfl ⟨Nat.le_of_ble_eq_true rfl, Nat.le_of_ble_eq_true rfl⟩ (Nat.le_of_ble_eq_true rfl) (by dsimp only [mmc, MX4_term, MX4_peek, MX4_factor, MX1_operation]; rw [hen]; omega) (by dsimp only [mms, MX4_term, MX4_peek, MX4_factor, MX1_operation]; rw [hen]; omega)) (fun r_52 h_52 hp_52 => ?_)
        obtain ⟨hW_52, e_52, n_52⟩ := hp_52
        have hF := hF.xe e_52
        have hL := hL.ex e_52
        refine ww_astore_n [(1, _), (2, _), (0, _)] dX4_term_55 (Nat.le_of_ble_eq_true rfl) rfl ?_
        refine ww_goto 5 dX4_term_56 (by decide) ?_
        refine ww_sub [2, 0] rfl ?_
        refine ww_widen (n' := 8 * (p_49 - nx).toNat) (k' := 40 * (p_49 - nx).toNat) (by dsimp only [mmc, MX4_term, MX4_peek, MX4_factor, MX1_operation]; rw [en_ok hr_49]; show _ + 8 * (p_49 - (sk t q + 1)).toNat + 1 ≤ _; omega) (by dsimp only [mms, MX4_term, MX4_peek, MX4_factor, MX1_operation]; rw [en_ok hr_49]; show _ + 40 * (p_49 - (sk t q + 1)).toNat + 3 ≤ _; omega) ?_
        exact ie v (cmb 4 y y_49) p_49 s_49 _ _ hF (hP.ex e_52) hL (by rw [hpe, pE2, if_pos hop, hr_49]; simp only; rw [if_pos hch]) (by omega) (by omega) hm_49 (hW_52.le (by omega)) (by omega)
      · refine ww_aload_n 0 dX4_term_14 rfl ?_
        refine cr_i (cr_V (ct_X4_peek hG hP) sv_X4_55 rfl dX4_term_15 hP.obj rfl rfl rfl rfl ⟨Nat.le_of_ble_eq_true rfl, Nat.le_of_ble_eq_true rfl⟩ (Nat.le_of_ble_eq_true rfl) (by dsimp only [mmc, MX4_term, MX4_factor, MX4_peek, MX1_operation] <;> omega) (by dsimp only [mms, MX4_term, MX4_factor, MX4_peek, MX1_operation] <;> omega)) (fun r_15 h_15 hp_15 => ?_)
        obtain ⟨er_15, hP, f_15⟩ := hp_15
        subst er_15
        have hF := hF.tr f_15
        have hL := hL.kt f_15 hp0
        rw [ht.kk hq1] at hP ⊢
        have hW := hW.fo f_15.fo hp0 (by omega)
        refine ww_bipush dX4_term_18 (by decide) ?_
        refine ww_icmp_ne 59 dX4_term_20 (by decide) (inI.mk (by omega) (by omega)) (inI.mk (by omega) (by omega)) (fun c_20 => ?_) (fun c_20 => ?_)
        · have hpo : (pE f 1 t 3 nx xe) = .ok (y, sk t q) := by rw [hpe, pE2, if_neg (by omega)]
          refine ww_aload_n 1 dX4_term_59 rfl ?_
          exact ww_x hQ (ww_aret rfl dX4_term_60 rfl rfl (by dsimp only [mmc, MX4_term, MX4_factor, MX4_peek, MX1_operation] <;> omega) (by dsimp only [mms, MX4_term, MX4_factor, MX4_peek, MX1_operation] <;> omega) ⟨_, rfl, y, sk t q, sa9, hpo, by omega, by omega, hW.le (by omega), hP, hF⟩)
        · have hch := c_20
          have hop : t (sk t q) = 42 ∨ t (sk t q) = 47 := Or.inr hch
          refine ww_aload_n 0 dX4_term_23 rfl ?_
          have hsn : sk t q ≠ n := fun e => by rw [e, ht.2.2.1 n (Int.le_refl _)] at hch; cases hch
          obtain ⟨-, ⟨bf, fs, B, hx0, hx, hb, -, hB⟩, -⟩ := id hP
          have hBj := hB (sk t q) (by omega) (by omega)
          have hsg : B (sk t q) = sgn 5 := by show B (sk t q) = 47; rw [hBj.2.2] at hch; omega
          obtain ⟨hd1, hd2⟩ := c_t2 (n := n) (p := nx) (q := q) (d := 3) (x := y) (f := v) ht (by omega) (by omega) hq1 hop
          rw [← hpe] at hd1 hd2
          have hp := hP.obj
          refine ww_getf gf_X4_3 rfl dX4_term_24 hp rfl ?_
          refine ww_getf gf_X4_38 rfl dX4_term_27 hx rfl ?_
          refine ww_aload_n 0 dX4_term_30 rfl ?_
          refine ww_getf gf_X4_35 rfl dX4_term_31 hp rfl ?_
          refine ww_bald dX4_term_34 hb (by omega) (by omega) (by omega) ?_
          rw [hsg]
          refine ww_istore_n [(2, _), (0, _), (1, _)] dX4_term_35 (Nat.le_of_ble_eq_true rfl) rfl ?_
          refine ww_aload_n 1 dX4_term_36 rfl ?_
          refine ww_dup dX4_term_37 rfl ?_
          refine ww_getf gf_X4_35 rfl dX4_term_38 hp rfl ?_
          refine ww_iconst dX4_term_41 ?_
          refine ww_iadd dX4_term_42 ?_
          refine wx_putf pf_X4_35 rfl dX4_term_43 hp hp0 (Nat.le_of_ble_eq_true rfl) rfl rfl (fun h_43 hp f_43 => ?_)
          have hF := hF.tr f_43
          have hL := hL.kt f_43 hp0
          have hP : PB G h_43 p x a nl t n (sk t q + 1) sa9 3 hs hw := ⟨⟨hp0, hp⟩, hP.2.1.kt f_43 (by omega), ⟨by omega, by omega⟩, hP.2.2.2⟩
          have hW := hW.fo f_43.fo hp0 (by omega)
          refine ww_iload_n 0 dX4_term_46 rfl ?_
          refine ww_aload_n 2 dX4_term_47 rfl ?_
          refine ww_aload_n 1 dX4_term_48 rfl ?_
          refine cx_r (cx_V (ct_X4_factor3 hG hP hL y v (by omega)) sv_X4_104 rfl dX4_term_49 hP.obj rfl rfl rfl rfl ⟨Nat.le_of_ble_eq_true rfl, Nat.le_of_ble_eq_true rfl⟩ (Nat.le_of_ble_eq_true rfl) (by dsimp only [mmc, MX4_term, MX4_factor, MX4_peek, MX1_operation] <;> omega) (by dsimp only [mms, MX4_term, MX4_factor, MX4_peek, MX1_operation] <;> omega)) (fun X_49 q_49 g_49 hx_49 => wq_out hQ hT (by dsimp only [mmc, MX4_term, MX4_peek, MX4_factor, MX1_operation] <;> omega) (by dsimp only [mms, MX4_term, MX4_peek, MX4_factor, MX1_operation] <;> omega) (hx_49.go hF.fp (fun c o e => by rw [hpe, pE2, if_pos hop, e]))) (fun r_49 h_49 hp_49 => ?_)
          obtain ⟨y_49, p_49, s_49, hr_49, hg_49, hm_49, hW_49, hP, f_49⟩ := hp_49
          have hF := hF.tr f_49
          have hL := hL.kt f_49 hp0
          have hW := hW.fo f_49.fo hp0 (by omega)
          have hen := en_ok hr_49
          rw [hen] at hd1 hd2
          have hcq1 : rC n (sk t q + 1) (some p_49) = 8 * (p_49 - (sk t q + 1)).toNat := rfl
          have hcq2 : rS n (sk t q + 1) (some p_49) = 40 * (p_49 - (sk t q + 1)).toNat := rfl
          refine cr_r (cr_SN (ct_X1_operation hG (op := 5) (d := (p_49 - nx).toNat - 1) (by decide) (by decide) (hW.le (by omega)) (hW_49.le (by omega))) ss_X4_100 rfl dX4_term_52 rfl rfl ⟨Nat.le_of_ble_eq_true rfl, Nat.le_of_ble_eq_true rfl⟩ (Nat.le_of_ble_eq_true rfl) (by dsimp only [mmc, MX4_term, MX4_peek, MX4_factor, MX1_operation]; rw [hen]; omega) (by dsimp only [mms, MX4_term, MX4_peek, MX4_factor, MX1_operation]; rw [hen]; omega)) (fun r_52 h_52 hp_52 => ?_)
          obtain ⟨hW_52, e_52, n_52⟩ := hp_52
          have hF := hF.xe e_52
          have hL := hL.ex e_52
          refine ww_astore_n [(1, _), (2, _), (0, _)] dX4_term_55 (Nat.le_of_ble_eq_true rfl) rfl ?_
          refine ww_goto 5 dX4_term_56 (by decide) ?_
          refine ww_sub [2, 0] rfl ?_
          refine ww_widen (n' := 8 * (p_49 - nx).toNat) (k' := 40 * (p_49 - nx).toNat) (by dsimp only [mmc, MX4_term, MX4_peek, MX4_factor, MX1_operation]; rw [en_ok hr_49]; show _ + 8 * (p_49 - (sk t q + 1)).toNat + 1 ≤ _; omega) (by dsimp only [mms, MX4_term, MX4_peek, MX4_factor, MX1_operation]; rw [en_ok hr_49]; show _ + 40 * (p_49 - (sk t q + 1)).toNat + 3 ≤ _; omega) ?_
          exact ie v (cmb 5 y y_49) p_49 s_49 _ _ hF (hP.ex e_52) hL (by rw [hpe, pE2, if_pos hop, hr_49]; simp only; rw [if_neg (by rw [hch]; decide)]) (by omega) (by omega) hm_49 (hW_52.le (by omega)) (by omega)
  refine ww_sub [1, 0] rfl ?_
  refine ww_widen (n' := 8 * (p_1 - nx).toNat) (k' := 40 * (p_1 - nx).toNat) (by dsimp only [mmc, MX4_term, MX4_peek, MX4_factor, MX1_operation]; rw [en_ok hr_1]; show 0 + 8 * (p_1 - nx).toNat ≤ _; omega) (by dsimp only [mms, MX4_term, MX4_peek, MX4_factor, MX1_operation]; rw [en_ok hr_1]; show 0 + 40 * (p_1 - nx).toNat ≤ _; omega) ?_
  exact loop_5 801 g y_1 p_1 s_1 _ _ hF hP hL (by rw [hfg, pE1, hr_1]) (by omega) hg_1 hm_1 hW_1 (by omega)

set_option maxHeartbeats 4000000 in
theorem ct_X4_sum3 {G : GT} {h : AH} (hG : GOK G) {p x a nl : Nat} {t : Int → Int} {n nx sa hs hw : Int} (hP : PB G h p x a nl t n nx sa 3 hs hw) (hL : LitC G h) (xe : List Int × EF) (f : Nat) (hf : 3 * (n - nx) + 3 ≤ f) : CX G (MX4_sum 17 3900 (rC n nx (en (pE f 3 t 3 nx xe))) (rS n nx (en (pE f 3 t 3 nx xe)))) h [.ref p] (pR (fun w h' => ∃ y q sa9, pE f 3 t 3 nx xe = .ok (y, q) ∧ nx < q ∧ q ≤ n ∧ WT G h' (q - nx).toNat w y.2 ∧ PB G h' p x a nl t n q sa9 3 hs hw ∧ PF p h h')) (XS p a h (pE f 3 t 3 nx xe)) := by
  refine CX.of rfl hG (Nat.le_of_ble_eq_true rfl) rfl (fun E hQ hT => ?_)
  have ht := hP.txt
  have h8 := ht.2.1
  have h0 := ht.1
  have hnx := hP.2.2.1
  have hk := ht.k1 hnx.2
  have hrg := ht.rg (q := sk t nx) (by omega)
  have hp0 := hP.1.1
  have hF : PF p h h := KT.rf
  obtain ⟨g, hfg⟩ : ∃ g, f = g + 1 := ⟨f - 1, by omega⟩
  refine ww_aload_n 0 dX4_sum_0 rfl ?_
  obtain ⟨hc1, hc2⟩ := c_s1 (n := n) (d := 3) (x := xe) (f := g) ht hnx.1 hnx.2
  rw [← hfg] at hc1 hc2
  refine cx_r (cx_V (ct_X4_term3 hG hP hL xe g (by omega)) sv_X4_96 rfl dX4_sum_1 hP.obj rfl rfl rfl rfl ⟨Nat.le_of_ble_eq_true rfl, Nat.le_of_ble_eq_true rfl⟩ (Nat.le_of_ble_eq_true rfl) (by dsimp only [mmc, MX4_sum, MX4_term] <;> omega) (by dsimp only [mms, MX4_sum, MX4_term] <;> omega)) (fun X_1 q_1 g_1 hx_1 => wq_out hQ hT (by dsimp only [mmc, MX4_sum, MX4_peek, MX4_term, MX1_operation] <;> omega) (by dsimp only [mms, MX4_sum, MX4_peek, MX4_term, MX1_operation] <;> omega) (hx_1.go hF.fp (fun c o e => by rw [hfg, pE3, e]))) (fun r_1 h_1 hp_1 => ?_)
  obtain ⟨y_1, p_1, s_1, hr_1, hg_1, hm_1, hW_1, hP, f_1⟩ := hp_1
  have hF := hF.tr f_1
  have hL := hL.kt f_1 hp0
  refine ww_astore_n [(1, _), (0, _)] dX4_sum_4 (Nat.le_of_ble_eq_true rfl) rfl ?_
  have loop_5 : ∀ (e : Nat) (u : Nat) (y : List Int × EF) (q sa9 : Int) (w : Nat) (h1 : AH), (PF p h h1) → (PB G h1 p x a nl t n q sa9 3 hs hw) → (LitC G h1) → (pE f 3 t 3 nx xe = pE u 4 t 3 q y) → (3 * (n - q) + 1 ≤ u) → (nx < q) → (q ≤ n) → (WT G h1 (q - nx).toNat w y.2) → (n - q < e) → WW G E (MX4_sum 17 3900 (rC n nx (en (pE f 3 t 3 nx xe))) (rS n nx (en (pE f 3 t 3 nx xe)))) h1 (8 * (q - nx).toNat) (40 * (q - nx).toNat) 5 [(0, .ref p), (1, .ref w)] [] := by
    intro e
    induction e with
    | zero => intro u y q sa9 w h1 hF hP hL hpe hu hq0 hq1 hW he; exact absurd he (by omega)
    | succ e ie =>
      intro u y q sa9 w h1 hF hP hL hpe hu hq0 hq1 hW he
      have hkq := ht.k1 hq1
      have hrq := ht.rg (q := sk t q) (by omega)
      obtain ⟨v, rfl⟩ : ∃ v, u = v + 1 := ⟨u - 1, by omega⟩
      have hcq := rC_le (n := n) (p := nx) (q1 := q) (e := en (pE f 3 t 3 nx xe)) (fun q9 e9 => by obtain ⟨y9, e9⟩ := en_some e9; rw [hpe] at e9; exact (pE_mono ht _ _ _ _ _ _ _ (by omega) hq1 e9).1) hq1
      refine ww_aload_n 0 dX4_sum_5 rfl ?_
      refine cr_i (cr_V (ct_X4_peek hG hP) sv_X4_55 rfl dX4_sum_6 hP.obj rfl rfl rfl rfl ⟨Nat.le_of_ble_eq_true rfl, Nat.le_of_ble_eq_true rfl⟩ (Nat.le_of_ble_eq_true rfl) (by dsimp only [mmc, MX4_sum, MX4_term, MX4_peek] <;> omega) (by dsimp only [mms, MX4_sum, MX4_term, MX4_peek] <;> omega)) (fun r_6 h_6 hp_6 => ?_)
      obtain ⟨er_6, hP, f_6⟩ := hp_6
      subst er_6
      have hF := hF.tr f_6
      have hL := hL.kt f_6 hp0
      have hW := hW.fo f_6.fo hp0 (by omega)
      refine ww_bipush dX4_sum_9 (by decide) ?_
      refine ww_icmp_eq 23 dX4_sum_11 (by decide) (inI.mk (by omega) (by omega)) (inI.mk (by omega) (by omega)) (fun c_11 => ?_) (fun c_11 => ?_)
      · have hch := c_11
        have hop : t (sk t q) = 43 ∨ t (sk t q) = 45 := Or.inl hch
        refine ww_aload_n 0 dX4_sum_23 rfl ?_
        have hsn : sk t q ≠ n := fun e => by rw [e, ht.2.2.1 n (Int.le_refl _)] at hch; cases hch
        obtain ⟨-, ⟨bf, fs, B, hx0, hx, hb, -, hB⟩, -⟩ := id hP
        have hBj := hB (sk t q) (by omega) (by omega)
        have hsg : B (sk t q) = sgn 2 := by show B (sk t q) = 43; rw [hBj.2.2] at hch; omega
        obtain ⟨hd1, hd2⟩ := c_s2 (n := n) (p := nx) (q := q) (d := 3) (x := y) (f := v) ht (by omega) (by omega) hq1 hop
        rw [← hpe] at hd1 hd2
        have hp := hP.obj
        refine ww_getf gf_X4_3 rfl dX4_sum_24 hp rfl ?_
        refine ww_getf gf_X4_38 rfl dX4_sum_27 hx rfl ?_
        refine ww_aload_n 0 dX4_sum_30 rfl ?_
        refine ww_getf gf_X4_35 rfl dX4_sum_31 hp rfl ?_
        refine ww_bald dX4_sum_34 hb (by omega) (by omega) (by omega) ?_
        rw [hsg]
        refine ww_istore_n [(2, _), (0, _), (1, _)] dX4_sum_35 (Nat.le_of_ble_eq_true rfl) rfl ?_
        refine ww_aload_n 1 dX4_sum_36 rfl ?_
        refine ww_dup dX4_sum_37 rfl ?_
        refine ww_getf gf_X4_35 rfl dX4_sum_38 hp rfl ?_
        refine ww_iconst dX4_sum_41 ?_
        refine ww_iadd dX4_sum_42 ?_
        refine wx_putf pf_X4_35 rfl dX4_sum_43 hp hp0 (Nat.le_of_ble_eq_true rfl) rfl rfl (fun h_43 hp f_43 => ?_)
        have hF := hF.tr f_43
        have hL := hL.kt f_43 hp0
        have hP : PB G h_43 p x a nl t n (sk t q + 1) sa9 3 hs hw := ⟨⟨hp0, hp⟩, hP.2.1.kt f_43 (by omega), ⟨by omega, by omega⟩, hP.2.2.2⟩
        have hW := hW.fo f_43.fo hp0 (by omega)
        refine ww_iload_n 0 dX4_sum_46 rfl ?_
        refine ww_aload_n 2 dX4_sum_47 rfl ?_
        refine ww_aload_n 1 dX4_sum_48 rfl ?_
        refine cx_r (cx_V (ct_X4_term3 hG hP hL y v (by omega)) sv_X4_96 rfl dX4_sum_49 hP.obj rfl rfl rfl rfl ⟨Nat.le_of_ble_eq_true rfl, Nat.le_of_ble_eq_true rfl⟩ (Nat.le_of_ble_eq_true rfl) (by dsimp only [mmc, MX4_sum, MX4_term, MX4_peek] <;> omega) (by dsimp only [mms, MX4_sum, MX4_term, MX4_peek] <;> omega)) (fun X_49 q_49 g_49 hx_49 => wq_out hQ hT (by dsimp only [mmc, MX4_sum, MX4_peek, MX4_term, MX1_operation] <;> omega) (by dsimp only [mms, MX4_sum, MX4_peek, MX4_term, MX1_operation] <;> omega) (hx_49.go hF.fp (fun c o e => by rw [hpe, pE4, if_pos hop, e]))) (fun r_49 h_49 hp_49 => ?_)
        obtain ⟨y_49, p_49, s_49, hr_49, hg_49, hm_49, hW_49, hP, f_49⟩ := hp_49
        have hF := hF.tr f_49
        have hL := hL.kt f_49 hp0
        have hW := hW.fo f_49.fo hp0 (by omega)
        have hen := en_ok hr_49
        rw [hen] at hd1 hd2
        have hcq1 : rC n (sk t q + 1) (some p_49) = 8 * (p_49 - (sk t q + 1)).toNat := rfl
        have hcq2 : rS n (sk t q + 1) (some p_49) = 40 * (p_49 - (sk t q + 1)).toNat := rfl
        refine cr_r (cr_SN (ct_X1_operation hG (op := 2) (d := (p_49 - nx).toNat - 1) (by decide) (by decide) (hW.le (by omega)) (hW_49.le (by omega))) ss_X4_100 rfl dX4_sum_52 rfl rfl ⟨Nat.le_of_ble_eq_true rfl, Nat.le_of_ble_eq_true rfl⟩ (Nat.le_of_ble_eq_true rfl) (by dsimp only [mmc, MX4_sum, MX4_peek, MX4_term, MX1_operation]; rw [hen]; omega) (by dsimp only [mms, MX4_sum, MX4_peek, MX4_term, MX1_operation]; rw [hen]; omega)) (fun r_52 h_52 hp_52 => ?_)
        obtain ⟨hW_52, e_52, n_52⟩ := hp_52
        have hF := hF.xe e_52
        have hL := hL.ex e_52
        refine ww_astore_n [(1, _), (2, _), (0, _)] dX4_sum_55 (Nat.le_of_ble_eq_true rfl) rfl ?_
        refine ww_goto 5 dX4_sum_56 (by decide) ?_
        refine ww_sub [2, 0] rfl ?_
        refine ww_widen (n' := 8 * (p_49 - nx).toNat) (k' := 40 * (p_49 - nx).toNat) (by dsimp only [mmc, MX4_sum, MX4_peek, MX4_term, MX1_operation]; rw [en_ok hr_49]; show _ + 8 * (p_49 - (sk t q + 1)).toNat + 1 ≤ _; omega) (by dsimp only [mms, MX4_sum, MX4_peek, MX4_term, MX1_operation]; rw [en_ok hr_49]; show _ + 40 * (p_49 - (sk t q + 1)).toNat + 3 ≤ _; omega) ?_
        exact ie v (cmb 2 y y_49) p_49 s_49 _ _ hF (hP.ex e_52) hL (by rw [hpe, pE4, if_pos hop, hr_49]; simp only; rw [if_pos hch]) (by omega) (by omega) hm_49 (hW_52.le (by omega)) (by omega)
      · refine ww_aload_n 0 dX4_sum_14 rfl ?_
        refine cr_i (cr_V (ct_X4_peek hG hP) sv_X4_55 rfl dX4_sum_15 hP.obj rfl rfl rfl rfl ⟨Nat.le_of_ble_eq_true rfl, Nat.le_of_ble_eq_true rfl⟩ (Nat.le_of_ble_eq_true rfl) (by dsimp only [mmc, MX4_sum, MX4_term, MX4_peek, MX1_operation] <;> omega) (by dsimp only [mms, MX4_sum, MX4_term, MX4_peek, MX1_operation] <;> omega)) (fun r_15 h_15 hp_15 => ?_)
        obtain ⟨er_15, hP, f_15⟩ := hp_15
        subst er_15
        have hF := hF.tr f_15
        have hL := hL.kt f_15 hp0
        rw [ht.kk hq1] at hP ⊢
        have hW := hW.fo f_15.fo hp0 (by omega)
        refine ww_bipush dX4_sum_18 (by decide) ?_
        refine ww_icmp_ne 59 dX4_sum_20 (by decide) (inI.mk (by omega) (by omega)) (inI.mk (by omega) (by omega)) (fun c_20 => ?_) (fun c_20 => ?_)
        · have hpo : (pE f 3 t 3 nx xe) = .ok (y, sk t q) := by rw [hpe, pE4, if_neg (by omega)]
          refine ww_aload_n 1 dX4_sum_59 rfl ?_
          exact ww_x hQ (ww_aret rfl dX4_sum_60 rfl rfl (by dsimp only [mmc, MX4_sum, MX4_term, MX4_peek, MX1_operation] <;> omega) (by dsimp only [mms, MX4_sum, MX4_term, MX4_peek, MX1_operation] <;> omega) ⟨_, rfl, y, sk t q, sa9, hpo, by omega, by omega, hW.le (by omega), hP, hF⟩)
        · have hch := c_20
          have hop : t (sk t q) = 43 ∨ t (sk t q) = 45 := Or.inr hch
          refine ww_aload_n 0 dX4_sum_23 rfl ?_
          have hsn : sk t q ≠ n := fun e => by rw [e, ht.2.2.1 n (Int.le_refl _)] at hch; cases hch
          obtain ⟨-, ⟨bf, fs, B, hx0, hx, hb, -, hB⟩, -⟩ := id hP
          have hBj := hB (sk t q) (by omega) (by omega)
          have hsg : B (sk t q) = sgn 3 := by show B (sk t q) = 45; rw [hBj.2.2] at hch; omega
          obtain ⟨hd1, hd2⟩ := c_s2 (n := n) (p := nx) (q := q) (d := 3) (x := y) (f := v) ht (by omega) (by omega) hq1 hop
          rw [← hpe] at hd1 hd2
          have hp := hP.obj
          refine ww_getf gf_X4_3 rfl dX4_sum_24 hp rfl ?_
          refine ww_getf gf_X4_38 rfl dX4_sum_27 hx rfl ?_
          refine ww_aload_n 0 dX4_sum_30 rfl ?_
          refine ww_getf gf_X4_35 rfl dX4_sum_31 hp rfl ?_
          refine ww_bald dX4_sum_34 hb (by omega) (by omega) (by omega) ?_
          rw [hsg]
          refine ww_istore_n [(2, _), (0, _), (1, _)] dX4_sum_35 (Nat.le_of_ble_eq_true rfl) rfl ?_
          refine ww_aload_n 1 dX4_sum_36 rfl ?_
          refine ww_dup dX4_sum_37 rfl ?_
          refine ww_getf gf_X4_35 rfl dX4_sum_38 hp rfl ?_
          refine ww_iconst dX4_sum_41 ?_
          refine ww_iadd dX4_sum_42 ?_
          refine wx_putf pf_X4_35 rfl dX4_sum_43 hp hp0 (Nat.le_of_ble_eq_true rfl) rfl rfl (fun h_43 hp f_43 => ?_)
          have hF := hF.tr f_43
          have hL := hL.kt f_43 hp0
          have hP : PB G h_43 p x a nl t n (sk t q + 1) sa9 3 hs hw := ⟨⟨hp0, hp⟩, hP.2.1.kt f_43 (by omega), ⟨by omega, by omega⟩, hP.2.2.2⟩
          have hW := hW.fo f_43.fo hp0 (by omega)
          refine ww_iload_n 0 dX4_sum_46 rfl ?_
          refine ww_aload_n 2 dX4_sum_47 rfl ?_
          refine ww_aload_n 1 dX4_sum_48 rfl ?_
          refine cx_r (cx_V (ct_X4_term3 hG hP hL y v (by omega)) sv_X4_96 rfl dX4_sum_49 hP.obj rfl rfl rfl rfl ⟨Nat.le_of_ble_eq_true rfl, Nat.le_of_ble_eq_true rfl⟩ (Nat.le_of_ble_eq_true rfl) (by dsimp only [mmc, MX4_sum, MX4_term, MX4_peek, MX1_operation] <;> omega) (by dsimp only [mms, MX4_sum, MX4_term, MX4_peek, MX1_operation] <;> omega)) (fun X_49 q_49 g_49 hx_49 => wq_out hQ hT (by dsimp only [mmc, MX4_sum, MX4_peek, MX4_term, MX1_operation] <;> omega) (by dsimp only [mms, MX4_sum, MX4_peek, MX4_term, MX1_operation] <;> omega) (hx_49.go hF.fp (fun c o e => by rw [hpe, pE4, if_pos hop, e]))) (fun r_49 h_49 hp_49 => ?_)
          obtain ⟨y_49, p_49, s_49, hr_49, hg_49, hm_49, hW_49, hP, f_49⟩ := hp_49
          have hF := hF.tr f_49
          have hL := hL.kt f_49 hp0
          have hW := hW.fo f_49.fo hp0 (by omega)
          have hen := en_ok hr_49
          rw [hen] at hd1 hd2
          have hcq1 : rC n (sk t q + 1) (some p_49) = 8 * (p_49 - (sk t q + 1)).toNat := rfl
          have hcq2 : rS n (sk t q + 1) (some p_49) = 40 * (p_49 - (sk t q + 1)).toNat := rfl
          refine cr_r (cr_SN (ct_X1_operation hG (op := 3) (d := (p_49 - nx).toNat - 1) (by decide) (by decide) (hW.le (by omega)) (hW_49.le (by omega))) ss_X4_100 rfl dX4_sum_52 rfl rfl ⟨Nat.le_of_ble_eq_true rfl, Nat.le_of_ble_eq_true rfl⟩ (Nat.le_of_ble_eq_true rfl) (by dsimp only [mmc, MX4_sum, MX4_peek, MX4_term, MX1_operation]; rw [hen]; omega) (by dsimp only [mms, MX4_sum, MX4_peek, MX4_term, MX1_operation]; rw [hen]; omega)) (fun r_52 h_52 hp_52 => ?_)
          obtain ⟨hW_52, e_52, n_52⟩ := hp_52
          have hF := hF.xe e_52
          have hL := hL.ex e_52
          refine ww_astore_n [(1, _), (2, _), (0, _)] dX4_sum_55 (Nat.le_of_ble_eq_true rfl) rfl ?_
          refine ww_goto 5 dX4_sum_56 (by decide) ?_
          refine ww_sub [2, 0] rfl ?_
          refine ww_widen (n' := 8 * (p_49 - nx).toNat) (k' := 40 * (p_49 - nx).toNat) (by dsimp only [mmc, MX4_sum, MX4_peek, MX4_term, MX1_operation]; rw [en_ok hr_49]; show _ + 8 * (p_49 - (sk t q + 1)).toNat + 1 ≤ _; omega) (by dsimp only [mms, MX4_sum, MX4_peek, MX4_term, MX1_operation]; rw [en_ok hr_49]; show _ + 40 * (p_49 - (sk t q + 1)).toNat + 3 ≤ _; omega) ?_
          exact ie v (cmb 3 y y_49) p_49 s_49 _ _ hF (hP.ex e_52) hL (by rw [hpe, pE4, if_pos hop, hr_49]; simp only; rw [if_neg (by rw [hch]; decide)]) (by omega) (by omega) hm_49 (hW_52.le (by omega)) (by omega)
  refine ww_sub [1, 0] rfl ?_
  refine ww_widen (n' := 8 * (p_1 - nx).toNat) (k' := 40 * (p_1 - nx).toNat) (by dsimp only [mmc, MX4_sum, MX4_peek, MX4_term, MX1_operation]; rw [en_ok hr_1]; show 0 + 8 * (p_1 - nx).toNat ≤ _; omega) (by dsimp only [mms, MX4_sum, MX4_peek, MX4_term, MX1_operation]; rw [en_ok hr_1]; show 0 + 40 * (p_1 - nx).toNat ≤ _; omega) ?_
  exact loop_5 801 g y_1 p_1 s_1 _ _ hF hP hL (by rw [hfg, pE3, hr_1]) (by omega) hg_1 hm_1 hW_1 (by omega)

set_option maxHeartbeats 4000000 in
theorem ct_X4_factor2 {G : GT} {h : AH} (hG : GOK G) {p x a nl : Nat} {t : Int → Int} {n nx sa hs hw : Int} (hP : PB G h p x a nl t n nx sa 2 hs hw) (hL : LitC G h) (xe : List Int × EF) (f : Nat) (hf : 3 * (n - nx) + 1 ≤ f) : CX G (MX4_factor 18 4000 (rC n nx (en (pE f 0 t 2 nx xe))) (rS n nx (en (pE f 0 t 2 nx xe)))) h [.ref p] (pR (fun w h' => ∃ y q sa9, pE f 0 t 2 nx xe = .ok (y, q) ∧ nx < q ∧ q ≤ n ∧ WT G h' (q - nx).toNat w y.2 ∧ PB G h' p x a nl t n q sa9 2 hs hw ∧ PF p h h')) (XS p a h (pE f 0 t 2 nx xe)) := by
  refine CX.of rfl hG (Nat.le_of_ble_eq_true rfl) rfl (fun E hQ hT => ?_)
  have ht := hP.txt
  have h8 := ht.2.1
  have h0 := ht.1
  have hnx := hP.2.2.1
  have hk := ht.k1 hnx.2
  have hrg := ht.rg (q := sk t nx) (by omega)
  have hp0 := hP.1.1
  have hF : PF p h h := KT.rf
  obtain ⟨g, rfl⟩ : ∃ g, f = g + 1 := ⟨f - 1, by omega⟩
  refine ww_aload_n 0 dX4_factor_0 rfl ?_
  refine cr_i (cr_V (ct_X4_peek hG hP) sv_X4_55 rfl dX4_factor_1 hP.obj rfl rfl rfl rfl ⟨Nat.le_of_ble_eq_true rfl, Nat.le_of_ble_eq_true rfl⟩ (Nat.le_of_ble_eq_true rfl) (by dsimp only [mmc, MX4_factor, MX4_peek] <;> omega) (by dsimp only [mms, MX4_factor, MX4_peek] <;> omega)) (fun r_1 h_1 hp_1 => ?_)
  obtain ⟨er_1, hP, f_1⟩ := hp_1
  subst er_1
  have hF := hF.tr f_1
  have hL := hL.kt f_1 hp0
  have hP1 := hP
  refine ww_bipush dX4_factor_4 (by decide) ?_
  refine ww_icmp_ne 75 dX4_factor_6 (by decide) (inI.mk (by omega) (by omega)) (inI.mk (by omega) (by omega)) (fun c_6 => ?_) (fun c_6 => ?_)
  · refine ww_aload_n 0 dX4_factor_75 rfl ?_
    refine cr_i (cr_V (ct_X4_isDigit hG hP) sv_X4_82 rfl dX4_factor_76 hP.obj rfl rfl rfl rfl ⟨Nat.le_of_ble_eq_true rfl, Nat.le_of_ble_eq_true rfl⟩ (Nat.le_of_ble_eq_true rfl) (by dsimp only [mmc, MX4_factor, MX4_peek, MX4_isDigit] <;> omega) (by dsimp only [mms, MX4_factor, MX4_peek, MX4_isDigit] <;> omega)) (fun r_76 h_76 hp_76 => ?_)
    obtain ⟨er_76, hP, f_76⟩ := hp_76
    subst er_76
    have hF := hF.tr f_76
    have hL := hL.kt f_76 hp0
    rw [ht.kk hnx.2]
    rw [ht.kk hnx.2] at hP
    refine ww_ifb_eq 99 dX4_factor_79 (by decide) (fun c_79 => ?_) (fun c_79 => ?_)
    · obtain ⟨hcw1, hcw2⟩ := c_word (n := n) (d := 2) (x := xe) (f := g) ht hnx.1 hnx.2 c_6 c_79
      have hw1 := ht.w1 hk.2.1
      have hpl : ((pw t nx).length : Int) = we t (sk t nx) - sk t nx := by unfold pw; rw [wd_len]; omega
      have hwC : wC (we t (sk t nx) - sk t nx).toNat = 4 + (we t (sk t nx) - sk t nx).toNat := rfl
      refine ww_aload_n 0 dX4_factor_99 rfl ?_
      have hFb := hF
      have hPb := hP
      refine cr_r (cr_V (ct_X4_word hG hP) sv_X4_124 rfl dX4_factor_100 hP.obj rfl rfl rfl rfl ⟨Nat.le_of_ble_eq_true rfl, Nat.le_of_ble_eq_true rfl⟩ (Nat.le_of_ble_eq_true rfl) (by rw [ht.kk hnx.2]; dsimp only [mmc, MX4_factor, MX4_peek, MX4_require, MX4_sum, MX4_expect, MX4_isDigit, MX4_number, MX4_word, MX1_variable, MJ6_length] <;> omega) (by rw [ht.kk hnx.2]; dsimp only [mms, MX4_factor, MX4_peek, MX4_require, MX4_sum, MX4_expect, MX4_isDigit, MX4_number, MX4_word, MX1_variable, MJ6_length] <;> omega)) (fun r_100 h_100 hp_100 => ?_)
      obtain ⟨hW_100, n_100, hP, f_100⟩ := hp_100
      have hF := hF.tr f_100
      have hL := hL.kt f_100 hp0
      have n9 := hFb.nwo hPb.obj n_100
      rw [pw_kk ht hnx.2] at hW_100
      rw [ht.kk hnx.2] at hP ⊢
      obtain ⟨fsw, hwo⟩ := hW_100.obj
      refine ww_astore_n [(1, _), (0, _)] dX4_factor_103 (Nat.le_of_ble_eq_true rfl) rfl ?_
      refine ww_aload_n 0 dX4_factor_104 rfl ?_
      refine cr_o (cr_SN (ct_X1_variable hG hW_100 hL) ss_X4_127 rfl dX4_factor_105 rfl rfl ⟨Nat.le_of_ble_eq_true rfl, Nat.le_of_ble_eq_true rfl⟩ (Nat.le_of_ble_eq_true rfl) (by dsimp only [mmc, MX4_factor, MX4_peek, MX4_isDigit, MX4_word, MX1_variable] <;> omega) (by dsimp only [mms, MX4_factor, MX4_peek, MX4_isDigit, MX4_word, MX1_variable] <;> omega)) (fun r_105 h_105 hp_105 => ?_)
      obtain ⟨hV_105, hW_100, z_105⟩ := hp_105
      have hP := hP.fo z_105.fo (by omega)
      have hF := hF.no z_105.fo n9
      have hL := hL.fz z_105
      obtain ⟨fsw, hwo⟩ := hW_100.obj
      rcases hV_105 with ⟨k9, k91, k92, hk9, rfl⟩ | ⟨nA, nB, nC, nD, rfl⟩
      · refine ww_astore_n [(2, _), (1, _), (0, _)] dX4_factor_108 (Nat.le_of_ble_eq_true rfl) rfl ?_
        refine ww_aload_n 2 dX4_factor_109 rfl ?_
        refine ww_aload_n 0 dX4_factor_110 rfl ?_
        refine ww_ifnull dX4_factor_111 ?_
        refine ww_iconst dX4_factor_114 ?_
        refine ww_goto 119 dX4_factor_115 (by decide) ?_
        refine ww_bipush dX4_factor_119 (by decide) ?_
        refine ww_aload_n 2 dX4_factor_121 rfl ?_
        refine ww_getf gf_X4_35 rfl dX4_factor_122 hP.obj rfl ?_
        refine cr_pv (cr_V (ct_X4_reqT hG 1 _ _ (by decide) (inI.mk (by decide) (by decide))) sv_X4_59 rfl dX4_factor_125 hP.obj rfl rfl rfl rfl ⟨Nat.le_of_ble_eq_true rfl, Nat.le_of_ble_eq_true rfl⟩ (Nat.le_of_ble_eq_true rfl) (by dsimp only [mmc, MX4_factor, MX4_peek, MX4_isDigit, MX4_word, MX1_variable, MX4_require] <;> omega) (by dsimp only [mms, MX4_factor, MX4_peek, MX4_isDigit, MX4_word, MX1_variable, MX4_require] <;> omega)) ?_
        refine ww_aload_n 2 dX4_factor_128 rfl ?_
        refine ww_dup dX4_factor_129 rfl ?_
        refine ww_getf gf_X4_35 rfl dX4_factor_130 hP.obj rfl ?_
        refine ww_aload_n 1 dX4_factor_133 rfl ?_
        refine cr_pi (cr_V (ct_J6_length hG hW_100) sv_X4_131 rfl dX4_factor_134 hwo rfl rfl rfl rfl ⟨Nat.le_of_ble_eq_true rfl, Nat.le_of_ble_eq_true rfl⟩ (Nat.le_of_ble_eq_true rfl) (by dsimp only [mmc, MX4_factor, MX4_peek, MX4_isDigit, MX4_word, MX1_variable, MX4_require, MJ6_length] <;> omega) (by dsimp only [mms, MX4_factor, MX4_peek, MX4_isDigit, MX4_word, MX1_variable, MX4_require, MJ6_length] <;> omega)) ?_
        rw [hpl]
        refine ww_iadd dX4_factor_137 ?_
        rw [show sk t nx + (we t (sk t nx) - sk t nx) = we t (sk t nx) by omega]
        have hp := hP.obj
        refine wx_putf pf_X4_35 rfl dX4_factor_138 hp hp0 (Nat.le_of_ble_eq_true rfl) rfl rfl (fun h_138 hp f_138 => ?_)
        have hF := hF.tr f_138
        have hL := hL.kt f_138 hp0
        have hP : PB G h_138 p x a nl t n (we t (sk t nx)) sa 2 hs hw := ⟨⟨hp0, hp⟩, hP.2.1.kt f_138 (by omega), ⟨by omega, by omega⟩, hP.2.2.2⟩
        have hln : 4 ≤ we t (sk t nx) - sk t nx := by rw [← hpl, hk9]; exact vkw_len k9
        refine ww_aload_n 0 dX4_factor_141 rfl ?_
        exact ww_x hQ (ww_aret rfl dX4_factor_142 rfl rfl (by dsimp only [mmc, MX4_factor, MX4_peek, MX4_isDigit, MX4_word, MX1_variable, MX4_require, MJ6_length] <;> omega) (by dsimp only [mms, MX4_factor, MX4_peek, MX4_isDigit, MX4_word, MX1_variable, MX4_require, MJ6_length] <;> omega) ⟨_, rfl, _, we t (sk t nx), _, (pE_var c_6 c_79 hk9 k91 k92), by omega, by omega, WT.le (WT.vv hL k91 k92) (by omega), hP, hF⟩)
      · refine ww_astore_nN [(2, _), (1, _), (0, _)] dX4_factor_108 (Nat.le_of_ble_eq_true rfl) rfl ?_
        refine ww_aload_n 2 dX4_factor_109 rfl ?_
        refine ww_aload_nN 0 dX4_factor_110 rfl ?_
        refine ww_ifnullN 118 dX4_factor_111 (by decide) ?_
        refine ww_iconst dX4_factor_118 ?_
        refine ww_bipush dX4_factor_119 (by decide) ?_
        refine ww_aload_n 2 dX4_factor_121 rfl ?_
        refine ww_getf gf_X4_35 rfl dX4_factor_122 hP.obj rfl ?_
        refine cx_v (cx_V (ct_X4_reqF hG p a (-2) (sk t nx) (by omega)) sv_X4_59 rfl dX4_factor_125 hP.obj rfl rfl rfl rfl ⟨Nat.le_of_ble_eq_true rfl, Nat.le_of_ble_eq_true rfl⟩ (Nat.le_of_ble_eq_true rfl) (by dsimp only [mmc, MX4_factor, MX4_peek, MX4_isDigit, MX4_word, MX1_variable, MX4_require, MJ6_length] <;> omega) (by dsimp only [mms, MX4_factor, MX4_peek, MX4_isDigit, MX4_word, MX1_variable, MX4_require, MJ6_length] <;> omega)) (fun X_125 q_125 g_125 hx_125 => wq_out hQ hT (by dsimp only [mmc, MX4_factor, MX4_peek, MX4_require, MX4_sum, MX4_expect, MX4_isDigit, MX4_number, MX4_word, MX1_variable, MJ6_length] <;> omega) (by dsimp only [mms, MX4_factor, MX4_peek, MX4_require, MX4_sum, MX4_expect, MX4_isDigit, MX4_number, MX4_word, MX1_variable, MJ6_length] <;> omega) (hx_125.go hF.fp (fun c o e => by cases e; rw [pE0_kw c_6 c_79, if_neg nA, if_neg nB, if_neg nC, if_neg nD]))) (fun h_125 hp_125 => ?_)
        exact hp_125.elim
    · obtain ⟨hcn1, hcn2⟩ := c_num (n := n) (d := 2) (x := xe) (f := g) ht hnx.1 hnx.2 c_6 c_79
      refine ww_aload_n 0 dX4_factor_82 rfl ?_
      refine ww_iconst dX4_factor_83 ?_
      refine ww_sipush dX4_factor_84 (by decide) ?_
      refine cx_i (cx_V (ct_X4_number hG hP 0 9999 (inI.mk (by decide) (by decide)) (inI.mk (by decide) (by decide))) sv_X4_117 rfl dX4_factor_87 hP.obj rfl rfl rfl rfl ⟨Nat.le_of_ble_eq_true rfl, Nat.le_of_ble_eq_true rfl⟩ (Nat.le_of_ble_eq_true rfl) (by dsimp only [mmc, MX4_factor, MX4_peek, MX4_isDigit, MX4_word, MX1_variable, MX4_require, MJ6_length, MX4_number] <;> omega) (by dsimp only [mms, MX4_factor, MX4_peek, MX4_isDigit, MX4_word, MX1_variable, MX4_require, MJ6_length, MX4_number] <;> omega)) (fun X_87 q_87 g_87 hx_87 => wq_out hQ hT (by dsimp only [mmc, MX4_factor, MX4_peek, MX4_require, MX4_sum, MX4_expect, MX4_isDigit, MX4_number, MX4_word, MX1_variable, MJ6_length] <;> omega) (by dsimp only [mms, MX4_factor, MX4_peek, MX4_require, MX4_sum, MX4_expect, MX4_isDigit, MX4_number, MX4_word, MX1_variable, MJ6_length] <;> omega) (hx_87.go hF.fp (fun c o e => by rw [pE0_num c_6 c_79]; rw [pnum_kk ht hnx.2] at e; rw [e]))) (fun r_87 h_87 hp_87 => ?_)
      obtain ⟨e_87, hn_87, hl_87, hh_87, h0_87, hg_87, hm_87, hP, f_87⟩ := hp_87
      have hF := hF.tr f_87
      have hL := hL.kt f_87 hp0
      rw [pnum_kk ht hnx.2] at hn_87
      have hgt := pnum_gt ht hnx.1 hnx.2 hn_87
      refine ww_i2l dX4_factor_90 (inI.mk (by omega) (by omega)) ?_
      refine ww_lstore_n [(1, _), (0, _)] dX4_factor_91 (Nat.le_of_ble_eq_true rfl) rfl ?_
      refine ww_lload_n 0 dX4_factor_92 rfl ?_
      refine ww_indyM (i := 5) (vs := [.long (lI r_87)]) (by decide) (by decide) hG lfit5 rfl rfl rfl rfl dX4_factor_93 (Nat.le_of_ble_eq_true rfl) (by dsimp only [mmc, MX4_factor, MX4_peek, MX4_require, MX4_sum, MX4_expect, MX4_isDigit, MX4_number, MX4_word, MX1_variable, MJ6_length] <;> omega) (by dsimp only [mms, MX4_factor, MX4_peek, MX4_require, MX4_sum, MX4_expect, MX4_isDigit, MX4_number, MX4_word, MX1_variable, MJ6_length, List.length] <;> omega) (fun q9 h9 n9 e9 hq9 => ?_)
      have hF := hF.xe e9
      have hL := hL.ex e9
      have hP := hP.ex e9
      exact ww_x hQ (ww_aret rfl dX4_factor_98 rfl rfl (by dsimp only [mmc, MX4_factor, MX4_peek, MX4_require, MX4_sum, MX4_expect, MX4_isDigit, MX4_number, MX4_word, MX1_variable, MJ6_length] <;> omega) (by dsimp only [mms, MX4_factor, MX4_peek, MX4_require, MX4_sum, MX4_expect, MX4_isDigit, MX4_number, MX4_word, MX1_variable, MJ6_length, List.length] <;> omega) ⟨_, rfl, ([0, r_87], fun _ _ _ _ => r_87), e_87, _, by rw [pE0_num c_6 c_79, hn_87], hgt, hm_87, WT.le (d := 1) (Or.inr (Or.inl ⟨r_87, h0_87, hh_87, hq9, rfl⟩)) (by omega), hP, hF⟩)
  · have hsn : sk t nx ≠ n := fun e => by rw [e, ht.2.2.1 n (Int.le_refl _)] at c_6; cases c_6
    refine ww_aload_n 0 dX4_factor_9 rfl ?_
    refine ww_aload_n 0 dX4_factor_10 rfl ?_
    refine ww_getf gf_X4_107 rfl dX4_factor_11 hP.obj rfl ?_
    refine ww_iconst dX4_factor_14 ?_
    refine ww_icmp_ge 22 dX4_factor_15 (by decide) (inI.mk (by decide) (by decide)) (inI.mk (by decide) (by decide)) (fun c_15 => ?_) (fun c_15 => ?_)
    · exact absurd c_15 (by decide)
    · refine ww_iconst dX4_factor_18 ?_
      refine ww_goto 23 dX4_factor_19 (by decide) ?_
      refine ww_bipush dX4_factor_23 (by decide) ?_
      refine ww_aload_n 0 dX4_factor_25 rfl ?_
      refine ww_getf gf_X4_35 rfl dX4_factor_26 hP.obj rfl ?_
      refine cr_pv (cr_V (ct_X4_reqT hG 1 _ _ (by decide) (inI.mk (by decide) (by decide))) sv_X4_59 rfl dX4_factor_29 hP.obj rfl rfl rfl rfl ⟨Nat.le_of_ble_eq_true rfl, Nat.le_of_ble_eq_true rfl⟩ (Nat.le_of_ble_eq_true rfl) (by dsimp only [mmc, MX4_factor, MX4_peek, MX4_isDigit, MX4_word, MX1_variable, MX4_require, MJ6_length, MX4_number] <;> omega) (by dsimp only [mms, MX4_factor, MX4_peek, MX4_isDigit, MX4_word, MX1_variable, MX4_require, MJ6_length, MX4_number] <;> omega)) ?_
      refine ww_aload_n 0 dX4_factor_32 rfl ?_
      refine ww_dup dX4_factor_33 rfl ?_
      refine ww_getf gf_X4_107 rfl dX4_factor_34 hP.obj rfl ?_
      refine ww_iconst dX4_factor_37 ?_
      refine ww_iadd dX4_factor_38 ?_
      have hp := hP.obj
      obtain ⟨hcp1, hcp2⟩ := c_par (n := n) (d := 2) (x := xe) (f := g) ht hnx.1 hnx.2 c_6 (by decide)
      refine wx_putf pf_X4_107 rfl dX4_factor_39 hp hp0 (Nat.le_of_ble_eq_true rfl) rfl rfl (fun h_39 hp f_39 => ?_)
      have hF := hF.tr f_39
      have hL := hL.kt f_39 hp0
      have hP : PB G h_39 p x a nl t n (sk t nx) sa (2 + 1) hs hw := ⟨⟨hp0, hp⟩, hP.2.1.kt f_39 (by omega), hP.2.2.1, hP.2.2.2.1, ⟨by decide, by decide⟩, hP.2.2.2.2.2⟩
      refine ww_aload_n 0 dX4_factor_42 rfl ?_
      refine ww_dup dX4_factor_43 rfl ?_
      refine ww_getf gf_X4_35 rfl dX4_factor_44 hP.obj rfl ?_
      refine ww_iconst dX4_factor_47 ?_
      refine ww_iadd dX4_factor_48 ?_
      have hp := hP.obj
      refine wx_putf pf_X4_35 rfl dX4_factor_49 hp hp0 (Nat.le_of_ble_eq_true rfl) rfl rfl (fun h_49 hp f_49 => ?_)
      have hF := hF.tr f_49
      have hL := hL.kt f_49 hp0
      have hP : PB G h_49 p x a nl t n (sk t nx + 1) sa (2 + 1) hs hw := ⟨⟨hp0, hp⟩, hP.2.1.kt f_49 (by omega), ⟨by omega, by omega⟩, hP.2.2.2⟩
      rw [show (2 : Int) + 1 = 3 from rfl] at hP hcp1 hcp2
      refine ww_aload_n 0 dX4_factor_52 rfl ?_
      refine cx_r (cx_V (ct_X4_sum3 hG hP hL xe g (by omega)) sv_X4_110 rfl dX4_factor_53 hP.obj rfl rfl rfl rfl ⟨Nat.le_of_ble_eq_true rfl, Nat.le_of_ble_eq_true rfl⟩ (Nat.le_of_ble_eq_true rfl) (by dsimp only [mmc, MX4_factor, MX4_peek, MX4_isDigit, MX4_word, MX1_variable, MX4_require, MJ6_length, MX4_number, MX4_sum] <;> omega) (by dsimp only [mms, MX4_factor, MX4_peek, MX4_isDigit, MX4_word, MX1_variable, MX4_require, MJ6_length, MX4_number, MX4_sum] <;> omega)) (fun X_53 q_53 g_53 hx_53 => wq_out hQ hT (by dsimp only [mmc, MX4_factor, MX4_peek, MX4_require, MX4_sum, MX4_expect, MX4_isDigit, MX4_number, MX4_word, MX1_variable, MJ6_length] <;> omega) (by dsimp only [mms, MX4_factor, MX4_peek, MX4_require, MX4_sum, MX4_expect, MX4_isDigit, MX4_number, MX4_word, MX1_variable, MJ6_length] <;> omega) (hx_53.go hF.fp (fun c o e => by rw [pE0_par c_6 (by decide), show (2 : Int) + 1 = 3 from rfl, e]))) (fun r_53 h_53 hp_53 => ?_)
      obtain ⟨y_53, p_53, s_53, hr_53, hg_53, hm_53, hW_53, hP, f_53⟩ := hp_53
      have hF := hF.tr f_53
      have hL := hL.kt f_53 hp0
      have hk5 := ht.k1 hm_53
      rw [en_ok hr_53] at hcp1 hcp2
      have hcq1 : rC n (sk t nx + 1) (some p_53) = 8 * (p_53 - (sk t nx + 1)).toNat := rfl
      have hcq2 : rS n (sk t nx + 1) (some p_53) = 40 * (p_53 - (sk t nx + 1)).toNat := rfl
      have hen := en_ok hr_53
      refine ww_astore_n [(1, _), (0, _)] dX4_factor_56 (Nat.le_of_ble_eq_true rfl) rfl ?_
      refine ww_aload_n 1 dX4_factor_57 rfl ?_
      refine ww_bipush dX4_factor_58 (by decide) ?_
      refine cx_v (cx_V (ct_X4_expect hG hP 41 (by decide) (by decide)) sv_X4_113 rfl dX4_factor_60 hP.obj rfl rfl rfl rfl ⟨Nat.le_of_ble_eq_true rfl, Nat.le_of_ble_eq_true rfl⟩ (Nat.le_of_ble_eq_true rfl) (by dsimp only [mmc, MX4_factor, MX4_peek, MX4_require, MX4_sum, MX4_expect, MX4_isDigit, MX4_number, MX4_word, MX1_variable, MJ6_length]; rw [hen]; omega) (by dsimp only [mms, MX4_factor, MX4_peek, MX4_require, MX4_sum, MX4_expect, MX4_isDigit, MX4_number, MX4_word, MX1_variable, MJ6_length]; rw [hen]; omega)) (fun X_60 q_60 g_60 hx_60 => wq_out hQ hT (by dsimp only [mmc, MX4_factor, MX4_peek, MX4_require, MX4_sum, MX4_expect, MX4_isDigit, MX4_number, MX4_word, MX1_variable, MJ6_length]; rw [hen]; omega) (by dsimp only [mms, MX4_factor, MX4_peek, MX4_require, MX4_sum, MX4_expect, MX4_isDigit, MX4_number, MX4_word, MX1_variable, MJ6_length]; rw [hen]; omega) (hx_60.go hF.fp (fun c o e => by rw [pE0_par c_6 (by decide), show (2 : Int) + 1 = 3 from rfl, hr_53]; simp only; unfold pexp at e; split at e; cases e; rename_i c9; rw [if_neg c9]; cases e; rfl))) (fun h_60 hp_60 => ?_)
      obtain ⟨hc_60, hP, f_60⟩ := hp_60
      have hF := hF.tr f_60
      have hL := hL.kt f_60 hp0
      have hsn5 : sk t p_53 ≠ n := fun e => by rw [e, ht.2.2.1 n (Int.le_refl _)] at hc_60; cases hc_60
      refine ww_aload_n 1 dX4_factor_63 rfl ?_
      refine ww_dup dX4_factor_64 rfl ?_
      refine ww_getf gf_X4_107 rfl dX4_factor_65 hP.obj rfl ?_
      refine ww_iconst dX4_factor_68 ?_
      refine ww_isub dX4_factor_69 ?_
      have hp := hP.obj
      refine wx_putf pf_X4_107 rfl dX4_factor_70 hp hp0 (Nat.le_of_ble_eq_true rfl) rfl rfl (fun h_70 hp f_70 => ?_)
      have hF := hF.tr f_70
      have hL := hL.kt f_70 hp0
      have hP : PB G h_70 p x a nl t n (sk t p_53 + 1) s_53 (3 - 1) hs hw := ⟨⟨hp0, hp⟩, hP.2.1.kt f_70 (by omega), hP.2.2.1, hP.2.2.2.1, ⟨by decide, by decide⟩, hP.2.2.2.2.2⟩
      rw [show (3 : Int) - 1 = 2 from rfl] at hP
      refine ww_aload_n 0 dX4_factor_73 rfl ?_
      exact ww_x hQ (ww_aret rfl dX4_factor_74 rfl rfl (by dsimp only [mmc, MX4_factor, MX4_peek, MX4_require, MX4_sum, MX4_expect, MX4_isDigit, MX4_number, MX4_word, MX1_variable, MJ6_length]; rw [hen]; omega) (by dsimp only [mms, MX4_factor, MX4_peek, MX4_require, MX4_sum, MX4_expect, MX4_isDigit, MX4_number, MX4_word, MX1_variable, MJ6_length]; rw [hen]; omega) ⟨_, rfl, y_53, sk t p_53 + 1, s_53, by rw [pE0_par c_6 (by decide), show (2 : Int) + 1 = 3 from rfl, hr_53]; simp only; rw [if_pos hc_60], by omega, by omega, ((hW_53.fo f_60.fo hp0 (by omega)).fo f_70.fo hp0 (by omega)).le (by omega), hP, hF⟩)

set_option maxHeartbeats 4000000 in
theorem ct_X4_term2 {G : GT} {h : AH} (hG : GOK G) {p x a nl : Nat} {t : Int → Int} {n nx sa hs hw : Int} (hP : PB G h p x a nl t n nx sa 2 hs hw) (hL : LitC G h) (xe : List Int × EF) (f : Nat) (hf : 3 * (n - nx) + 2 ≤ f) : CX G (MX4_term 19 4100 (rC n nx (en (pE f 1 t 2 nx xe))) (rS n nx (en (pE f 1 t 2 nx xe)))) h [.ref p] (pR (fun w h' => ∃ y q sa9, pE f 1 t 2 nx xe = .ok (y, q) ∧ nx < q ∧ q ≤ n ∧ WT G h' (q - nx).toNat w y.2 ∧ PB G h' p x a nl t n q sa9 2 hs hw ∧ PF p h h')) (XS p a h (pE f 1 t 2 nx xe)) := by
  refine CX.of rfl hG (Nat.le_of_ble_eq_true rfl) rfl (fun E hQ hT => ?_)
  have ht := hP.txt
  have h8 := ht.2.1
  have h0 := ht.1
  have hnx := hP.2.2.1
  have hk := ht.k1 hnx.2
  have hrg := ht.rg (q := sk t nx) (by omega)
  have hp0 := hP.1.1
  have hF : PF p h h := KT.rf
  obtain ⟨g, hfg⟩ : ∃ g, f = g + 1 := ⟨f - 1, by omega⟩
  refine ww_aload_n 0 dX4_term_0 rfl ?_
  obtain ⟨hc1, hc2⟩ := c_t1 (n := n) (d := 2) (x := xe) (f := g) ht hnx.1 hnx.2
  rw [← hfg] at hc1 hc2
  refine cx_r (cx_V (ct_X4_factor2 hG hP hL xe g (by omega)) sv_X4_104 rfl dX4_term_1 hP.obj rfl rfl rfl rfl ⟨Nat.le_of_ble_eq_true rfl, Nat.le_of_ble_eq_true rfl⟩ (Nat.le_of_ble_eq_true rfl) (by dsimp only [mmc, MX4_term, MX4_factor] <;> omega) (by dsimp only [mms, MX4_term, MX4_factor] <;> omega)) (fun X_1 q_1 g_1 hx_1 => wq_out hQ hT (by dsimp only [mmc, MX4_term, MX4_peek, MX4_factor, MX1_operation] <;> omega) (by dsimp only [mms, MX4_term, MX4_peek, MX4_factor, MX1_operation] <;> omega) (hx_1.go hF.fp (fun c o e => by rw [hfg, pE1, e]))) (fun r_1 h_1 hp_1 => ?_)
  obtain ⟨y_1, p_1, s_1, hr_1, hg_1, hm_1, hW_1, hP, f_1⟩ := hp_1
  have hF := hF.tr f_1
  have hL := hL.kt f_1 hp0
  refine ww_astore_n [(1, _), (0, _)] dX4_term_4 (Nat.le_of_ble_eq_true rfl) rfl ?_
  have loop_5 : ∀ (e : Nat) (u : Nat) (y : List Int × EF) (q sa9 : Int) (w : Nat) (h1 : AH), (PF p h h1) → (PB G h1 p x a nl t n q sa9 2 hs hw) → (LitC G h1) → (pE f 1 t 2 nx xe = pE u 2 t 2 q y) → (3 * (n - q) + 1 ≤ u) → (nx < q) → (q ≤ n) → (WT G h1 (q - nx).toNat w y.2) → (n - q < e) → WW G E (MX4_term 19 4100 (rC n nx (en (pE f 1 t 2 nx xe))) (rS n nx (en (pE f 1 t 2 nx xe)))) h1 (8 * (q - nx).toNat) (40 * (q - nx).toNat) 5 [(0, .ref p), (1, .ref w)] [] := by
    intro e
    induction e with
    | zero => intro u y q sa9 w h1 hF hP hL hpe hu hq0 hq1 hW he; exact absurd he (by omega)
    | succ e ie =>
      intro u y q sa9 w h1 hF hP hL hpe hu hq0 hq1 hW he
      have hkq := ht.k1 hq1
      have hrq := ht.rg (q := sk t q) (by omega)
      obtain ⟨v, rfl⟩ : ∃ v, u = v + 1 := ⟨u - 1, by omega⟩
      have hcq := rC_le (n := n) (p := nx) (q1 := q) (e := en (pE f 1 t 2 nx xe)) (fun q9 e9 => by obtain ⟨y9, e9⟩ := en_some e9; rw [hpe] at e9; exact (pE_mono ht _ _ _ _ _ _ _ (by omega) hq1 e9).1) hq1
      refine ww_aload_n 0 dX4_term_5 rfl ?_
      refine cr_i (cr_V (ct_X4_peek hG hP) sv_X4_55 rfl dX4_term_6 hP.obj rfl rfl rfl rfl ⟨Nat.le_of_ble_eq_true rfl, Nat.le_of_ble_eq_true rfl⟩ (Nat.le_of_ble_eq_true rfl) (by dsimp only [mmc, MX4_term, MX4_factor, MX4_peek] <;> omega) (by dsimp only [mms, MX4_term, MX4_factor, MX4_peek] <;> omega)) (fun r_6 h_6 hp_6 => ?_)
      obtain ⟨er_6, hP, f_6⟩ := hp_6
      subst er_6
      have hF := hF.tr f_6
      have hL := hL.kt f_6 hp0
      have hW := hW.fo f_6.fo hp0 (by omega)
      refine ww_bipush dX4_term_9 (by decide) ?_
      refine ww_icmp_eq 23 dX4_term_11 (by decide) (inI.mk (by omega) (by omega)) (inI.mk (by omega) (by omega)) (fun c_11 => ?_) (fun c_11 => ?_)
      · have hch := c_11
        have hop : t (sk t q) = 42 ∨ t (sk t q) = 47 := Or.inl hch
        refine ww_aload_n 0 dX4_term_23 rfl ?_
        have hsn : sk t q ≠ n := fun e => by rw [e, ht.2.2.1 n (Int.le_refl _)] at hch; cases hch
        obtain ⟨-, ⟨bf, fs, B, hx0, hx, hb, -, hB⟩, -⟩ := id hP
        have hBj := hB (sk t q) (by omega) (by omega)
        have hsg : B (sk t q) = sgn 4 := by show B (sk t q) = 42; rw [hBj.2.2] at hch; omega
        obtain ⟨hd1, hd2⟩ := c_t2 (n := n) (p := nx) (q := q) (d := 2) (x := y) (f := v) ht (by omega) (by omega) hq1 hop
        rw [← hpe] at hd1 hd2
        have hp := hP.obj
        refine ww_getf gf_X4_3 rfl dX4_term_24 hp rfl ?_
        refine ww_getf gf_X4_38 rfl dX4_term_27 hx rfl ?_
        refine ww_aload_n 0 dX4_term_30 rfl ?_
        refine ww_getf gf_X4_35 rfl dX4_term_31 hp rfl ?_
        refine ww_bald dX4_term_34 hb (by omega) (by omega) (by omega) ?_
        rw [hsg]
        refine ww_istore_n [(2, _), (0, _), (1, _)] dX4_term_35 (Nat.le_of_ble_eq_true rfl) rfl ?_
        refine ww_aload_n 1 dX4_term_36 rfl ?_
        refine ww_dup dX4_term_37 rfl ?_
        refine ww_getf gf_X4_35 rfl dX4_term_38 hp rfl ?_
        refine ww_iconst dX4_term_41 ?_
        refine ww_iadd dX4_term_42 ?_
        refine wx_putf pf_X4_35 rfl dX4_term_43 hp hp0 (Nat.le_of_ble_eq_true rfl) rfl rfl (fun h_43 hp f_43 => ?_)
        have hF := hF.tr f_43
        have hL := hL.kt f_43 hp0
        have hP : PB G h_43 p x a nl t n (sk t q + 1) sa9 2 hs hw := ⟨⟨hp0, hp⟩, hP.2.1.kt f_43 (by omega), ⟨by omega, by omega⟩, hP.2.2.2⟩
        have hW := hW.fo f_43.fo hp0 (by omega)
        refine ww_iload_n 0 dX4_term_46 rfl ?_
        refine ww_aload_n 2 dX4_term_47 rfl ?_
        refine ww_aload_n 1 dX4_term_48 rfl ?_
        refine cx_r (cx_V (ct_X4_factor2 hG hP hL y v (by omega)) sv_X4_104 rfl dX4_term_49 hP.obj rfl rfl rfl rfl ⟨Nat.le_of_ble_eq_true rfl, Nat.le_of_ble_eq_true rfl⟩ (Nat.le_of_ble_eq_true rfl) (by dsimp only [mmc, MX4_term, MX4_factor, MX4_peek] <;> omega) (by dsimp only [mms, MX4_term, MX4_factor, MX4_peek] <;> omega)) (fun X_49 q_49 g_49 hx_49 => wq_out hQ hT (by dsimp only [mmc, MX4_term, MX4_peek, MX4_factor, MX1_operation] <;> omega) (by dsimp only [mms, MX4_term, MX4_peek, MX4_factor, MX1_operation] <;> omega) (hx_49.go hF.fp (fun c o e => by rw [hpe, pE2, if_pos hop, e]))) (fun r_49 h_49 hp_49 => ?_)
        obtain ⟨y_49, p_49, s_49, hr_49, hg_49, hm_49, hW_49, hP, f_49⟩ := hp_49
        have hF := hF.tr f_49
        have hL := hL.kt f_49 hp0
        have hW := hW.fo f_49.fo hp0 (by omega)
        have hen := en_ok hr_49
        rw [hen] at hd1 hd2
        have hcq1 : rC n (sk t q + 1) (some p_49) = 8 * (p_49 - (sk t q + 1)).toNat := rfl
        have hcq2 : rS n (sk t q + 1) (some p_49) = 40 * (p_49 - (sk t q + 1)).toNat := rfl
        refine cr_r (cr_SN (ct_X1_operation hG (op := 4) (d := (p_49 - nx).toNat - 1) (by decide) (by decide) (hW.le (by omega)) (hW_49.le (by omega))) ss_X4_100 rfl dX4_term_52 rfl rfl ⟨Nat.le_of_ble_eq_true rfl, Nat.le_of_ble_eq_true rfl⟩ (Nat.le_of_ble_eq_true rfl) (by dsimp only [mmc, MX4_term, MX4_peek, MX4_factor, MX1_operation]; rw [hen]; omega) (by dsimp only [mms, MX4_term, MX4_peek, MX4_factor, MX1_operation]; rw [hen]; omega)) (fun r_52 h_52 hp_52 => ?_)
        obtain ⟨hW_52, e_52, n_52⟩ := hp_52
        have hF := hF.xe e_52
        have hL := hL.ex e_52
        refine ww_astore_n [(1, _), (2, _), (0, _)] dX4_term_55 (Nat.le_of_ble_eq_true rfl) rfl ?_
        refine ww_goto 5 dX4_term_56 (by decide) ?_
        refine ww_sub [2, 0] rfl ?_
        refine ww_widen (n' := 8 * (p_49 - nx).toNat) (k' := 40 * (p_49 - nx).toNat) (by dsimp only [mmc, MX4_term, MX4_peek, MX4_factor, MX1_operation]; rw [en_ok hr_49]; show _ + 8 * (p_49 - (sk t q + 1)).toNat + 1 ≤ _; omega) (by dsimp only [mms, MX4_term, MX4_peek, MX4_factor, MX1_operation]; rw [en_ok hr_49]; show _ + 40 * (p_49 - (sk t q + 1)).toNat + 3 ≤ _; omega) ?_
        exact ie v (cmb 4 y y_49) p_49 s_49 _ _ hF (hP.ex e_52) hL (by rw [hpe, pE2, if_pos hop, hr_49]; simp only; rw [if_pos hch]) (by omega) (by omega) hm_49 (hW_52.le (by omega)) (by omega)
      · refine ww_aload_n 0 dX4_term_14 rfl ?_
        refine cr_i (cr_V (ct_X4_peek hG hP) sv_X4_55 rfl dX4_term_15 hP.obj rfl rfl rfl rfl ⟨Nat.le_of_ble_eq_true rfl, Nat.le_of_ble_eq_true rfl⟩ (Nat.le_of_ble_eq_true rfl) (by dsimp only [mmc, MX4_term, MX4_factor, MX4_peek, MX1_operation] <;> omega) (by dsimp only [mms, MX4_term, MX4_factor, MX4_peek, MX1_operation] <;> omega)) (fun r_15 h_15 hp_15 => ?_)
        obtain ⟨er_15, hP, f_15⟩ := hp_15
        subst er_15
        have hF := hF.tr f_15
        have hL := hL.kt f_15 hp0
        rw [ht.kk hq1] at hP ⊢
        have hW := hW.fo f_15.fo hp0 (by omega)
        refine ww_bipush dX4_term_18 (by decide) ?_
        refine ww_icmp_ne 59 dX4_term_20 (by decide) (inI.mk (by omega) (by omega)) (inI.mk (by omega) (by omega)) (fun c_20 => ?_) (fun c_20 => ?_)
        · have hpo : (pE f 1 t 2 nx xe) = .ok (y, sk t q) := by rw [hpe, pE2, if_neg (by omega)]
          refine ww_aload_n 1 dX4_term_59 rfl ?_
          exact ww_x hQ (ww_aret rfl dX4_term_60 rfl rfl (by dsimp only [mmc, MX4_term, MX4_factor, MX4_peek, MX1_operation] <;> omega) (by dsimp only [mms, MX4_term, MX4_factor, MX4_peek, MX1_operation] <;> omega) ⟨_, rfl, y, sk t q, sa9, hpo, by omega, by omega, hW.le (by omega), hP, hF⟩)
        · have hch := c_20
          have hop : t (sk t q) = 42 ∨ t (sk t q) = 47 := Or.inr hch
          refine ww_aload_n 0 dX4_term_23 rfl ?_
          have hsn : sk t q ≠ n := fun e => by rw [e, ht.2.2.1 n (Int.le_refl _)] at hch; cases hch
          obtain ⟨-, ⟨bf, fs, B, hx0, hx, hb, -, hB⟩, -⟩ := id hP
          have hBj := hB (sk t q) (by omega) (by omega)
          have hsg : B (sk t q) = sgn 5 := by show B (sk t q) = 47; rw [hBj.2.2] at hch; omega
          obtain ⟨hd1, hd2⟩ := c_t2 (n := n) (p := nx) (q := q) (d := 2) (x := y) (f := v) ht (by omega) (by omega) hq1 hop
          rw [← hpe] at hd1 hd2
          have hp := hP.obj
          refine ww_getf gf_X4_3 rfl dX4_term_24 hp rfl ?_
          refine ww_getf gf_X4_38 rfl dX4_term_27 hx rfl ?_
          refine ww_aload_n 0 dX4_term_30 rfl ?_
          refine ww_getf gf_X4_35 rfl dX4_term_31 hp rfl ?_
          refine ww_bald dX4_term_34 hb (by omega) (by omega) (by omega) ?_
          rw [hsg]
          refine ww_istore_n [(2, _), (0, _), (1, _)] dX4_term_35 (Nat.le_of_ble_eq_true rfl) rfl ?_
          refine ww_aload_n 1 dX4_term_36 rfl ?_
          refine ww_dup dX4_term_37 rfl ?_
          refine ww_getf gf_X4_35 rfl dX4_term_38 hp rfl ?_
          refine ww_iconst dX4_term_41 ?_
          refine ww_iadd dX4_term_42 ?_
          refine wx_putf pf_X4_35 rfl dX4_term_43 hp hp0 (Nat.le_of_ble_eq_true rfl) rfl rfl (fun h_43 hp f_43 => ?_)
          have hF := hF.tr f_43
          have hL := hL.kt f_43 hp0
          have hP : PB G h_43 p x a nl t n (sk t q + 1) sa9 2 hs hw := ⟨⟨hp0, hp⟩, hP.2.1.kt f_43 (by omega), ⟨by omega, by omega⟩, hP.2.2.2⟩
          have hW := hW.fo f_43.fo hp0 (by omega)
          refine ww_iload_n 0 dX4_term_46 rfl ?_
          refine ww_aload_n 2 dX4_term_47 rfl ?_
          refine ww_aload_n 1 dX4_term_48 rfl ?_
          refine cx_r (cx_V (ct_X4_factor2 hG hP hL y v (by omega)) sv_X4_104 rfl dX4_term_49 hP.obj rfl rfl rfl rfl ⟨Nat.le_of_ble_eq_true rfl, Nat.le_of_ble_eq_true rfl⟩ (Nat.le_of_ble_eq_true rfl) (by dsimp only [mmc, MX4_term, MX4_factor, MX4_peek, MX1_operation] <;> omega) (by dsimp only [mms, MX4_term, MX4_factor, MX4_peek, MX1_operation] <;> omega)) (fun X_49 q_49 g_49 hx_49 => wq_out hQ hT (by dsimp only [mmc, MX4_term, MX4_peek, MX4_factor, MX1_operation] <;> omega) (by dsimp only [mms, MX4_term, MX4_peek, MX4_factor, MX1_operation] <;> omega) (hx_49.go hF.fp (fun c o e => by rw [hpe, pE2, if_pos hop, e]))) (fun r_49 h_49 hp_49 => ?_)
          obtain ⟨y_49, p_49, s_49, hr_49, hg_49, hm_49, hW_49, hP, f_49⟩ := hp_49
          have hF := hF.tr f_49
          have hL := hL.kt f_49 hp0
          have hW := hW.fo f_49.fo hp0 (by omega)
          have hen := en_ok hr_49
          rw [hen] at hd1 hd2
          have hcq1 : rC n (sk t q + 1) (some p_49) = 8 * (p_49 - (sk t q + 1)).toNat := rfl
          have hcq2 : rS n (sk t q + 1) (some p_49) = 40 * (p_49 - (sk t q + 1)).toNat := rfl
          refine cr_r (cr_SN (ct_X1_operation hG (op := 5) (d := (p_49 - nx).toNat - 1) (by decide) (by decide) (hW.le (by omega)) (hW_49.le (by omega))) ss_X4_100 rfl dX4_term_52 rfl rfl ⟨Nat.le_of_ble_eq_true rfl, Nat.le_of_ble_eq_true rfl⟩ (Nat.le_of_ble_eq_true rfl) (by dsimp only [mmc, MX4_term, MX4_peek, MX4_factor, MX1_operation]; rw [hen]; omega) (by dsimp only [mms, MX4_term, MX4_peek, MX4_factor, MX1_operation]; rw [hen]; omega)) (fun r_52 h_52 hp_52 => ?_)
          obtain ⟨hW_52, e_52, n_52⟩ := hp_52
          have hF := hF.xe e_52
          have hL := hL.ex e_52
          refine ww_astore_n [(1, _), (2, _), (0, _)] dX4_term_55 (Nat.le_of_ble_eq_true rfl) rfl ?_
          refine ww_goto 5 dX4_term_56 (by decide) ?_
          refine ww_sub [2, 0] rfl ?_
          refine ww_widen (n' := 8 * (p_49 - nx).toNat) (k' := 40 * (p_49 - nx).toNat) (by dsimp only [mmc, MX4_term, MX4_peek, MX4_factor, MX1_operation]; rw [en_ok hr_49]; show _ + 8 * (p_49 - (sk t q + 1)).toNat + 1 ≤ _; omega) (by dsimp only [mms, MX4_term, MX4_peek, MX4_factor, MX1_operation]; rw [en_ok hr_49]; show _ + 40 * (p_49 - (sk t q + 1)).toNat + 3 ≤ _; omega) ?_
          exact ie v (cmb 5 y y_49) p_49 s_49 _ _ hF (hP.ex e_52) hL (by rw [hpe, pE2, if_pos hop, hr_49]; simp only; rw [if_neg (by rw [hch]; decide)]) (by omega) (by omega) hm_49 (hW_52.le (by omega)) (by omega)
  refine ww_sub [1, 0] rfl ?_
  refine ww_widen (n' := 8 * (p_1 - nx).toNat) (k' := 40 * (p_1 - nx).toNat) (by dsimp only [mmc, MX4_term, MX4_peek, MX4_factor, MX1_operation]; rw [en_ok hr_1]; show 0 + 8 * (p_1 - nx).toNat ≤ _; omega) (by dsimp only [mms, MX4_term, MX4_peek, MX4_factor, MX1_operation]; rw [en_ok hr_1]; show 0 + 40 * (p_1 - nx).toNat ≤ _; omega) ?_
  exact loop_5 801 g y_1 p_1 s_1 _ _ hF hP hL (by rw [hfg, pE1, hr_1]) (by omega) hg_1 hm_1 hW_1 (by omega)

set_option maxHeartbeats 4000000 in
theorem ct_X4_sum2 {G : GT} {h : AH} (hG : GOK G) {p x a nl : Nat} {t : Int → Int} {n nx sa hs hw : Int} (hP : PB G h p x a nl t n nx sa 2 hs hw) (hL : LitC G h) (xe : List Int × EF) (f : Nat) (hf : 3 * (n - nx) + 3 ≤ f) : CX G (MX4_sum 20 4200 (rC n nx (en (pE f 3 t 2 nx xe))) (rS n nx (en (pE f 3 t 2 nx xe)))) h [.ref p] (pR (fun w h' => ∃ y q sa9, pE f 3 t 2 nx xe = .ok (y, q) ∧ nx < q ∧ q ≤ n ∧ WT G h' (q - nx).toNat w y.2 ∧ PB G h' p x a nl t n q sa9 2 hs hw ∧ PF p h h')) (XS p a h (pE f 3 t 2 nx xe)) := by
  refine CX.of rfl hG (Nat.le_of_ble_eq_true rfl) rfl (fun E hQ hT => ?_)
  have ht := hP.txt
  have h8 := ht.2.1
  have h0 := ht.1
  have hnx := hP.2.2.1
  have hk := ht.k1 hnx.2
  have hrg := ht.rg (q := sk t nx) (by omega)
  have hp0 := hP.1.1
  have hF : PF p h h := KT.rf
  obtain ⟨g, hfg⟩ : ∃ g, f = g + 1 := ⟨f - 1, by omega⟩
  refine ww_aload_n 0 dX4_sum_0 rfl ?_
  obtain ⟨hc1, hc2⟩ := c_s1 (n := n) (d := 2) (x := xe) (f := g) ht hnx.1 hnx.2
  rw [← hfg] at hc1 hc2
  refine cx_r (cx_V (ct_X4_term2 hG hP hL xe g (by omega)) sv_X4_96 rfl dX4_sum_1 hP.obj rfl rfl rfl rfl ⟨Nat.le_of_ble_eq_true rfl, Nat.le_of_ble_eq_true rfl⟩ (Nat.le_of_ble_eq_true rfl) (by dsimp only [mmc, MX4_sum, MX4_term] <;> omega) (by dsimp only [mms, MX4_sum, MX4_term] <;> omega)) (fun X_1 q_1 g_1 hx_1 => wq_out hQ hT (by dsimp only [mmc, MX4_sum, MX4_peek, MX4_term, MX1_operation] <;> omega) (by dsimp only [mms, MX4_sum, MX4_peek, MX4_term, MX1_operation] <;> omega) (hx_1.go hF.fp (fun c o e => by rw [hfg, pE3, e]))) (fun r_1 h_1 hp_1 => ?_)
  obtain ⟨y_1, p_1, s_1, hr_1, hg_1, hm_1, hW_1, hP, f_1⟩ := hp_1
  have hF := hF.tr f_1
  have hL := hL.kt f_1 hp0
  refine ww_astore_n [(1, _), (0, _)] dX4_sum_4 (Nat.le_of_ble_eq_true rfl) rfl ?_
  have loop_5 : ∀ (e : Nat) (u : Nat) (y : List Int × EF) (q sa9 : Int) (w : Nat) (h1 : AH), (PF p h h1) → (PB G h1 p x a nl t n q sa9 2 hs hw) → (LitC G h1) → (pE f 3 t 2 nx xe = pE u 4 t 2 q y) → (3 * (n - q) + 1 ≤ u) → (nx < q) → (q ≤ n) → (WT G h1 (q - nx).toNat w y.2) → (n - q < e) → WW G E (MX4_sum 20 4200 (rC n nx (en (pE f 3 t 2 nx xe))) (rS n nx (en (pE f 3 t 2 nx xe)))) h1 (8 * (q - nx).toNat) (40 * (q - nx).toNat) 5 [(0, .ref p), (1, .ref w)] [] := by
    intro e
    induction e with
    | zero => intro u y q sa9 w h1 hF hP hL hpe hu hq0 hq1 hW he; exact absurd he (by omega)
    | succ e ie =>
      intro u y q sa9 w h1 hF hP hL hpe hu hq0 hq1 hW he
      have hkq := ht.k1 hq1
      have hrq := ht.rg (q := sk t q) (by omega)
      obtain ⟨v, rfl⟩ : ∃ v, u = v + 1 := ⟨u - 1, by omega⟩
      have hcq := rC_le (n := n) (p := nx) (q1 := q) (e := en (pE f 3 t 2 nx xe)) (fun q9 e9 => by obtain ⟨y9, e9⟩ := en_some e9; rw [hpe] at e9; exact (pE_mono ht _ _ _ _ _ _ _ (by omega) hq1 e9).1) hq1
      refine ww_aload_n 0 dX4_sum_5 rfl ?_
      refine cr_i (cr_V (ct_X4_peek hG hP) sv_X4_55 rfl dX4_sum_6 hP.obj rfl rfl rfl rfl ⟨Nat.le_of_ble_eq_true rfl, Nat.le_of_ble_eq_true rfl⟩ (Nat.le_of_ble_eq_true rfl) (by dsimp only [mmc, MX4_sum, MX4_term, MX4_peek] <;> omega) (by dsimp only [mms, MX4_sum, MX4_term, MX4_peek] <;> omega)) (fun r_6 h_6 hp_6 => ?_)
      obtain ⟨er_6, hP, f_6⟩ := hp_6
      subst er_6
      have hF := hF.tr f_6
      have hL := hL.kt f_6 hp0
      have hW := hW.fo f_6.fo hp0 (by omega)
      refine ww_bipush dX4_sum_9 (by decide) ?_
      refine ww_icmp_eq 23 dX4_sum_11 (by decide) (inI.mk (by omega) (by omega)) (inI.mk (by omega) (by omega)) (fun c_11 => ?_) (fun c_11 => ?_)
      · have hch := c_11
        have hop : t (sk t q) = 43 ∨ t (sk t q) = 45 := Or.inl hch
        refine ww_aload_n 0 dX4_sum_23 rfl ?_
        have hsn : sk t q ≠ n := fun e => by rw [e, ht.2.2.1 n (Int.le_refl _)] at hch; cases hch
        obtain ⟨-, ⟨bf, fs, B, hx0, hx, hb, -, hB⟩, -⟩ := id hP
        have hBj := hB (sk t q) (by omega) (by omega)
        have hsg : B (sk t q) = sgn 2 := by show B (sk t q) = 43; rw [hBj.2.2] at hch; omega
        obtain ⟨hd1, hd2⟩ := c_s2 (n := n) (p := nx) (q := q) (d := 2) (x := y) (f := v) ht (by omega) (by omega) hq1 hop
        rw [← hpe] at hd1 hd2
        have hp := hP.obj
        refine ww_getf gf_X4_3 rfl dX4_sum_24 hp rfl ?_
        refine ww_getf gf_X4_38 rfl dX4_sum_27 hx rfl ?_
        refine ww_aload_n 0 dX4_sum_30 rfl ?_
        refine ww_getf gf_X4_35 rfl dX4_sum_31 hp rfl ?_
        refine ww_bald dX4_sum_34 hb (by omega) (by omega) (by omega) ?_
        rw [hsg]
        refine ww_istore_n [(2, _), (0, _), (1, _)] dX4_sum_35 (Nat.le_of_ble_eq_true rfl) rfl ?_
        refine ww_aload_n 1 dX4_sum_36 rfl ?_
        refine ww_dup dX4_sum_37 rfl ?_
        refine ww_getf gf_X4_35 rfl dX4_sum_38 hp rfl ?_
        refine ww_iconst dX4_sum_41 ?_
        refine ww_iadd dX4_sum_42 ?_
        refine wx_putf pf_X4_35 rfl dX4_sum_43 hp hp0 (Nat.le_of_ble_eq_true rfl) rfl rfl (fun h_43 hp f_43 => ?_)
        have hF := hF.tr f_43
        have hL := hL.kt f_43 hp0
        have hP : PB G h_43 p x a nl t n (sk t q + 1) sa9 2 hs hw := ⟨⟨hp0, hp⟩, hP.2.1.kt f_43 (by omega), ⟨by omega, by omega⟩, hP.2.2.2⟩
        have hW := hW.fo f_43.fo hp0 (by omega)
        refine ww_iload_n 0 dX4_sum_46 rfl ?_
        refine ww_aload_n 2 dX4_sum_47 rfl ?_
        refine ww_aload_n 1 dX4_sum_48 rfl ?_
        refine cx_r (cx_V (ct_X4_term2 hG hP hL y v (by omega)) sv_X4_96 rfl dX4_sum_49 hP.obj rfl rfl rfl rfl ⟨Nat.le_of_ble_eq_true rfl, Nat.le_of_ble_eq_true rfl⟩ (Nat.le_of_ble_eq_true rfl) (by dsimp only [mmc, MX4_sum, MX4_term, MX4_peek] <;> omega) (by dsimp only [mms, MX4_sum, MX4_term, MX4_peek] <;> omega)) (fun X_49 q_49 g_49 hx_49 => wq_out hQ hT (by dsimp only [mmc, MX4_sum, MX4_peek, MX4_term, MX1_operation] <;> omega) (by dsimp only [mms, MX4_sum, MX4_peek, MX4_term, MX1_operation] <;> omega) (hx_49.go hF.fp (fun c o e => by rw [hpe, pE4, if_pos hop, e]))) (fun r_49 h_49 hp_49 => ?_)
        obtain ⟨y_49, p_49, s_49, hr_49, hg_49, hm_49, hW_49, hP, f_49⟩ := hp_49
        have hF := hF.tr f_49
        have hL := hL.kt f_49 hp0
        have hW := hW.fo f_49.fo hp0 (by omega)
        have hen := en_ok hr_49
        rw [hen] at hd1 hd2
        have hcq1 : rC n (sk t q + 1) (some p_49) = 8 * (p_49 - (sk t q + 1)).toNat := rfl
        have hcq2 : rS n (sk t q + 1) (some p_49) = 40 * (p_49 - (sk t q + 1)).toNat := rfl
        refine cr_r (cr_SN (ct_X1_operation hG (op := 2) (d := (p_49 - nx).toNat - 1) (by decide) (by decide) (hW.le (by omega)) (hW_49.le (by omega))) ss_X4_100 rfl dX4_sum_52 rfl rfl ⟨Nat.le_of_ble_eq_true rfl, Nat.le_of_ble_eq_true rfl⟩ (Nat.le_of_ble_eq_true rfl) (by dsimp only [mmc, MX4_sum, MX4_peek, MX4_term, MX1_operation]; rw [hen]; omega) (by dsimp only [mms, MX4_sum, MX4_peek, MX4_term, MX1_operation]; rw [hen]; omega)) (fun r_52 h_52 hp_52 => ?_)
        obtain ⟨hW_52, e_52, n_52⟩ := hp_52
        have hF := hF.xe e_52
        have hL := hL.ex e_52
        refine ww_astore_n [(1, _), (2, _), (0, _)] dX4_sum_55 (Nat.le_of_ble_eq_true rfl) rfl ?_
        refine ww_goto 5 dX4_sum_56 (by decide) ?_
        refine ww_sub [2, 0] rfl ?_
        refine ww_widen (n' := 8 * (p_49 - nx).toNat) (k' := 40 * (p_49 - nx).toNat) (by dsimp only [mmc, MX4_sum, MX4_peek, MX4_term, MX1_operation]; rw [en_ok hr_49]; show _ + 8 * (p_49 - (sk t q + 1)).toNat + 1 ≤ _; omega) (by dsimp only [mms, MX4_sum, MX4_peek, MX4_term, MX1_operation]; rw [en_ok hr_49]; show _ + 40 * (p_49 - (sk t q + 1)).toNat + 3 ≤ _; omega) ?_
        exact ie v (cmb 2 y y_49) p_49 s_49 _ _ hF (hP.ex e_52) hL (by rw [hpe, pE4, if_pos hop, hr_49]; simp only; rw [if_pos hch]) (by omega) (by omega) hm_49 (hW_52.le (by omega)) (by omega)
      · refine ww_aload_n 0 dX4_sum_14 rfl ?_
        refine cr_i (cr_V (ct_X4_peek hG hP) sv_X4_55 rfl dX4_sum_15 hP.obj rfl rfl rfl rfl ⟨Nat.le_of_ble_eq_true rfl, Nat.le_of_ble_eq_true rfl⟩ (Nat.le_of_ble_eq_true rfl) (by dsimp only [mmc, MX4_sum, MX4_term, MX4_peek, MX1_operation] <;> omega) (by dsimp only [mms, MX4_sum, MX4_term, MX4_peek, MX1_operation] <;> omega)) (fun r_15 h_15 hp_15 => ?_)
        obtain ⟨er_15, hP, f_15⟩ := hp_15
        subst er_15
        have hF := hF.tr f_15
        have hL := hL.kt f_15 hp0
        rw [ht.kk hq1] at hP ⊢
        have hW := hW.fo f_15.fo hp0 (by omega)
        refine ww_bipush dX4_sum_18 (by decide) ?_
        refine ww_icmp_ne 59 dX4_sum_20 (by decide) (inI.mk (by omega) (by omega)) (inI.mk (by omega) (by omega)) (fun c_20 => ?_) (fun c_20 => ?_)
        · have hpo : (pE f 3 t 2 nx xe) = .ok (y, sk t q) := by rw [hpe, pE4, if_neg (by omega)]
          refine ww_aload_n 1 dX4_sum_59 rfl ?_
          exact ww_x hQ (ww_aret rfl dX4_sum_60 rfl rfl (by dsimp only [mmc, MX4_sum, MX4_term, MX4_peek, MX1_operation] <;> omega) (by dsimp only [mms, MX4_sum, MX4_term, MX4_peek, MX1_operation] <;> omega) ⟨_, rfl, y, sk t q, sa9, hpo, by omega, by omega, hW.le (by omega), hP, hF⟩)
        · have hch := c_20
          have hop : t (sk t q) = 43 ∨ t (sk t q) = 45 := Or.inr hch
          refine ww_aload_n 0 dX4_sum_23 rfl ?_
          have hsn : sk t q ≠ n := fun e => by rw [e, ht.2.2.1 n (Int.le_refl _)] at hch; cases hch
          obtain ⟨-, ⟨bf, fs, B, hx0, hx, hb, -, hB⟩, -⟩ := id hP
          have hBj := hB (sk t q) (by omega) (by omega)
          have hsg : B (sk t q) = sgn 3 := by show B (sk t q) = 45; rw [hBj.2.2] at hch; omega
          obtain ⟨hd1, hd2⟩ := c_s2 (n := n) (p := nx) (q := q) (d := 2) (x := y) (f := v) ht (by omega) (by omega) hq1 hop
          rw [← hpe] at hd1 hd2
          have hp := hP.obj
          refine ww_getf gf_X4_3 rfl dX4_sum_24 hp rfl ?_
          refine ww_getf gf_X4_38 rfl dX4_sum_27 hx rfl ?_
          refine ww_aload_n 0 dX4_sum_30 rfl ?_
          refine ww_getf gf_X4_35 rfl dX4_sum_31 hp rfl ?_
          refine ww_bald dX4_sum_34 hb (by omega) (by omega) (by omega) ?_
          rw [hsg]
          refine ww_istore_n [(2, _), (0, _), (1, _)] dX4_sum_35 (Nat.le_of_ble_eq_true rfl) rfl ?_
          refine ww_aload_n 1 dX4_sum_36 rfl ?_
          refine ww_dup dX4_sum_37 rfl ?_
          refine ww_getf gf_X4_35 rfl dX4_sum_38 hp rfl ?_
          refine ww_iconst dX4_sum_41 ?_
          refine ww_iadd dX4_sum_42 ?_
          refine wx_putf pf_X4_35 rfl dX4_sum_43 hp hp0 (Nat.le_of_ble_eq_true rfl) rfl rfl (fun h_43 hp f_43 => ?_)
          have hF := hF.tr f_43
          have hL := hL.kt f_43 hp0
          have hP : PB G h_43 p x a nl t n (sk t q + 1) sa9 2 hs hw := ⟨⟨hp0, hp⟩, hP.2.1.kt f_43 (by omega), ⟨by omega, by omega⟩, hP.2.2.2⟩
          have hW := hW.fo f_43.fo hp0 (by omega)
          refine ww_iload_n 0 dX4_sum_46 rfl ?_
          refine ww_aload_n 2 dX4_sum_47 rfl ?_
          refine ww_aload_n 1 dX4_sum_48 rfl ?_
          refine cx_r (cx_V (ct_X4_term2 hG hP hL y v (by omega)) sv_X4_96 rfl dX4_sum_49 hP.obj rfl rfl rfl rfl ⟨Nat.le_of_ble_eq_true rfl, Nat.le_of_ble_eq_true rfl⟩ (Nat.le_of_ble_eq_true rfl) (by dsimp only [mmc, MX4_sum, MX4_term, MX4_peek, MX1_operation] <;> omega) (by dsimp only [mms, MX4_sum, MX4_term, MX4_peek, MX1_operation] <;> omega)) (fun X_49 q_49 g_49 hx_49 => wq_out hQ hT (by dsimp only [mmc, MX4_sum, MX4_peek, MX4_term, MX1_operation] <;> omega) (by dsimp only [mms, MX4_sum, MX4_peek, MX4_term, MX1_operation] <;> omega) (hx_49.go hF.fp (fun c o e => by rw [hpe, pE4, if_pos hop, e]))) (fun r_49 h_49 hp_49 => ?_)
          obtain ⟨y_49, p_49, s_49, hr_49, hg_49, hm_49, hW_49, hP, f_49⟩ := hp_49
          have hF := hF.tr f_49
          have hL := hL.kt f_49 hp0
          have hW := hW.fo f_49.fo hp0 (by omega)
          have hen := en_ok hr_49
          rw [hen] at hd1 hd2
          have hcq1 : rC n (sk t q + 1) (some p_49) = 8 * (p_49 - (sk t q + 1)).toNat := rfl
          have hcq2 : rS n (sk t q + 1) (some p_49) = 40 * (p_49 - (sk t q + 1)).toNat := rfl
          refine cr_r (cr_SN (ct_X1_operation hG (op := 3) (d := (p_49 - nx).toNat - 1) (by decide) (by decide) (hW.le (by omega)) (hW_49.le (by omega))) ss_X4_100 rfl dX4_sum_52 rfl rfl ⟨Nat.le_of_ble_eq_true rfl, Nat.le_of_ble_eq_true rfl⟩ (Nat.le_of_ble_eq_true rfl) (by dsimp only [mmc, MX4_sum, MX4_peek, MX4_term, MX1_operation]; rw [hen]; omega) (by dsimp only [mms, MX4_sum, MX4_peek, MX4_term, MX1_operation]; rw [hen]; omega)) (fun r_52 h_52 hp_52 => ?_)
          obtain ⟨hW_52, e_52, n_52⟩ := hp_52
          have hF := hF.xe e_52
          have hL := hL.ex e_52
          refine ww_astore_n [(1, _), (2, _), (0, _)] dX4_sum_55 (Nat.le_of_ble_eq_true rfl) rfl ?_
          refine ww_goto 5 dX4_sum_56 (by decide) ?_
          refine ww_sub [2, 0] rfl ?_
          refine ww_widen (n' := 8 * (p_49 - nx).toNat) (k' := 40 * (p_49 - nx).toNat) (by dsimp only [mmc, MX4_sum, MX4_peek, MX4_term, MX1_operation]; rw [en_ok hr_49]; show _ + 8 * (p_49 - (sk t q + 1)).toNat + 1 ≤ _; omega) (by dsimp only [mms, MX4_sum, MX4_peek, MX4_term, MX1_operation]; rw [en_ok hr_49]; show _ + 40 * (p_49 - (sk t q + 1)).toNat + 3 ≤ _; omega) ?_
          exact ie v (cmb 3 y y_49) p_49 s_49 _ _ hF (hP.ex e_52) hL (by rw [hpe, pE4, if_pos hop, hr_49]; simp only; rw [if_neg (by rw [hch]; decide)]) (by omega) (by omega) hm_49 (hW_52.le (by omega)) (by omega)
  refine ww_sub [1, 0] rfl ?_
  refine ww_widen (n' := 8 * (p_1 - nx).toNat) (k' := 40 * (p_1 - nx).toNat) (by dsimp only [mmc, MX4_sum, MX4_peek, MX4_term, MX1_operation]; rw [en_ok hr_1]; show 0 + 8 * (p_1 - nx).toNat ≤ _; omega) (by dsimp only [mms, MX4_sum, MX4_peek, MX4_term, MX1_operation]; rw [en_ok hr_1]; show 0 + 40 * (p_1 - nx).toNat ≤ _; omega) ?_
  exact loop_5 801 g y_1 p_1 s_1 _ _ hF hP hL (by rw [hfg, pE3, hr_1]) (by omega) hg_1 hm_1 hW_1 (by omega)

set_option maxHeartbeats 4000000 in
theorem ct_X4_factor1 {G : GT} {h : AH} (hG : GOK G) {p x a nl : Nat} {t : Int → Int} {n nx sa hs hw : Int} (hP : PB G h p x a nl t n nx sa 1 hs hw) (hL : LitC G h) (xe : List Int × EF) (f : Nat) (hf : 3 * (n - nx) + 1 ≤ f) : CX G (MX4_factor 21 4300 (rC n nx (en (pE f 0 t 1 nx xe))) (rS n nx (en (pE f 0 t 1 nx xe)))) h [.ref p] (pR (fun w h' => ∃ y q sa9, pE f 0 t 1 nx xe = .ok (y, q) ∧ nx < q ∧ q ≤ n ∧ WT G h' (q - nx).toNat w y.2 ∧ PB G h' p x a nl t n q sa9 1 hs hw ∧ PF p h h')) (XS p a h (pE f 0 t 1 nx xe)) := by
  refine CX.of rfl hG (Nat.le_of_ble_eq_true rfl) rfl (fun E hQ hT => ?_)
  have ht := hP.txt
  have h8 := ht.2.1
  have h0 := ht.1
  have hnx := hP.2.2.1
  have hk := ht.k1 hnx.2
  have hrg := ht.rg (q := sk t nx) (by omega)
  have hp0 := hP.1.1
  have hF : PF p h h := KT.rf
  obtain ⟨g, rfl⟩ : ∃ g, f = g + 1 := ⟨f - 1, by omega⟩
  refine ww_aload_n 0 dX4_factor_0 rfl ?_
  refine cr_i (cr_V (ct_X4_peek hG hP) sv_X4_55 rfl dX4_factor_1 hP.obj rfl rfl rfl rfl ⟨Nat.le_of_ble_eq_true rfl, Nat.le_of_ble_eq_true rfl⟩ (Nat.le_of_ble_eq_true rfl) (by dsimp only [mmc, MX4_factor, MX4_peek] <;> omega) (by dsimp only [mms, MX4_factor, MX4_peek] <;> omega)) (fun r_1 h_1 hp_1 => ?_)
  obtain ⟨er_1, hP, f_1⟩ := hp_1
  subst er_1
  have hF := hF.tr f_1
  have hL := hL.kt f_1 hp0
  have hP1 := hP
  refine ww_bipush dX4_factor_4 (by decide) ?_
  refine ww_icmp_ne 75 dX4_factor_6 (by decide) (inI.mk (by omega) (by omega)) (inI.mk (by omega) (by omega)) (fun c_6 => ?_) (fun c_6 => ?_)
  · refine ww_aload_n 0 dX4_factor_75 rfl ?_
    refine cr_i (cr_V (ct_X4_isDigit hG hP) sv_X4_82 rfl dX4_factor_76 hP.obj rfl rfl rfl rfl ⟨Nat.le_of_ble_eq_true rfl, Nat.le_of_ble_eq_true rfl⟩ (Nat.le_of_ble_eq_true rfl) (by dsimp only [mmc, MX4_factor, MX4_peek, MX4_isDigit] <;> omega) (by dsimp only [mms, MX4_factor, MX4_peek, MX4_isDigit] <;> omega)) (fun r_76 h_76 hp_76 => ?_)
    obtain ⟨er_76, hP, f_76⟩ := hp_76
    subst er_76
    have hF := hF.tr f_76
    have hL := hL.kt f_76 hp0
    rw [ht.kk hnx.2]
    rw [ht.kk hnx.2] at hP
    refine ww_ifb_eq 99 dX4_factor_79 (by decide) (fun c_79 => ?_) (fun c_79 => ?_)
    · obtain ⟨hcw1, hcw2⟩ := c_word (n := n) (d := 1) (x := xe) (f := g) ht hnx.1 hnx.2 c_6 c_79
      have hw1 := ht.w1 hk.2.1
      have hpl : ((pw t nx).length : Int) = we t (sk t nx) - sk t nx := by unfold pw; rw [wd_len]; omega
      have hwC : wC (we t (sk t nx) - sk t nx).toNat = 4 + (we t (sk t nx) - sk t nx).toNat := rfl
      refine ww_aload_n 0 dX4_factor_99 rfl ?_
      have hFb := hF
      have hPb := hP
      refine cr_r (cr_V (ct_X4_word hG hP) sv_X4_124 rfl dX4_factor_100 hP.obj rfl rfl rfl rfl ⟨Nat.le_of_ble_eq_true rfl, Nat.le_of_ble_eq_true rfl⟩ (Nat.le_of_ble_eq_true rfl) (by rw [ht.kk hnx.2]; dsimp only [mmc, MX4_factor, MX4_peek, MX4_require, MX4_sum, MX4_expect, MX4_isDigit, MX4_number, MX4_word, MX1_variable, MJ6_length] <;> omega) (by rw [ht.kk hnx.2]; dsimp only [mms, MX4_factor, MX4_peek, MX4_require, MX4_sum, MX4_expect, MX4_isDigit, MX4_number, MX4_word, MX1_variable, MJ6_length] <;> omega)) (fun r_100 h_100 hp_100 => ?_)
      obtain ⟨hW_100, n_100, hP, f_100⟩ := hp_100
      have hF := hF.tr f_100
      have hL := hL.kt f_100 hp0
      have n9 := hFb.nwo hPb.obj n_100
      rw [pw_kk ht hnx.2] at hW_100
      rw [ht.kk hnx.2] at hP ⊢
      obtain ⟨fsw, hwo⟩ := hW_100.obj
      refine ww_astore_n [(1, _), (0, _)] dX4_factor_103 (Nat.le_of_ble_eq_true rfl) rfl ?_
      refine ww_aload_n 0 dX4_factor_104 rfl ?_
      refine cr_o (cr_SN (ct_X1_variable hG hW_100 hL) ss_X4_127 rfl dX4_factor_105 rfl rfl ⟨Nat.le_of_ble_eq_true rfl, Nat.le_of_ble_eq_true rfl⟩ (Nat.le_of_ble_eq_true rfl) (by dsimp only [mmc, MX4_factor, MX4_peek, MX4_isDigit, MX4_word, MX1_variable] <;> omega) (by dsimp only [mms, MX4_factor, MX4_peek, MX4_isDigit, MX4_word, MX1_variable] <;> omega)) (fun r_105 h_105 hp_105 => ?_)
      obtain ⟨hV_105, hW_100, z_105⟩ := hp_105
      have hP := hP.fo z_105.fo (by omega)
      have hF := hF.no z_105.fo n9
      have hL := hL.fz z_105
      obtain ⟨fsw, hwo⟩ := hW_100.obj
      rcases hV_105 with ⟨k9, k91, k92, hk9, rfl⟩ | ⟨nA, nB, nC, nD, rfl⟩
      · refine ww_astore_n [(2, _), (1, _), (0, _)] dX4_factor_108 (Nat.le_of_ble_eq_true rfl) rfl ?_
        refine ww_aload_n 2 dX4_factor_109 rfl ?_
        refine ww_aload_n 0 dX4_factor_110 rfl ?_
        refine ww_ifnull dX4_factor_111 ?_
        refine ww_iconst dX4_factor_114 ?_
        refine ww_goto 119 dX4_factor_115 (by decide) ?_
        refine ww_bipush dX4_factor_119 (by decide) ?_
        refine ww_aload_n 2 dX4_factor_121 rfl ?_
        refine ww_getf gf_X4_35 rfl dX4_factor_122 hP.obj rfl ?_
        refine cr_pv (cr_V (ct_X4_reqT hG 1 _ _ (by decide) (inI.mk (by decide) (by decide))) sv_X4_59 rfl dX4_factor_125 hP.obj rfl rfl rfl rfl ⟨Nat.le_of_ble_eq_true rfl, Nat.le_of_ble_eq_true rfl⟩ (Nat.le_of_ble_eq_true rfl) (by dsimp only [mmc, MX4_factor, MX4_peek, MX4_isDigit, MX4_word, MX1_variable, MX4_require] <;> omega) (by dsimp only [mms, MX4_factor, MX4_peek, MX4_isDigit, MX4_word, MX1_variable, MX4_require] <;> omega)) ?_
        refine ww_aload_n 2 dX4_factor_128 rfl ?_
        refine ww_dup dX4_factor_129 rfl ?_
        refine ww_getf gf_X4_35 rfl dX4_factor_130 hP.obj rfl ?_
        refine ww_aload_n 1 dX4_factor_133 rfl ?_
        refine cr_pi (cr_V (ct_J6_length hG hW_100) sv_X4_131 rfl dX4_factor_134 hwo rfl rfl rfl rfl ⟨Nat.le_of_ble_eq_true rfl, Nat.le_of_ble_eq_true rfl⟩ (Nat.le_of_ble_eq_true rfl) (by dsimp only [mmc, MX4_factor, MX4_peek, MX4_isDigit, MX4_word, MX1_variable, MX4_require, MJ6_length] <;> omega) (by dsimp only [mms, MX4_factor, MX4_peek, MX4_isDigit, MX4_word, MX1_variable, MX4_require, MJ6_length] <;> omega)) ?_
        rw [hpl]
        refine ww_iadd dX4_factor_137 ?_
        rw [show sk t nx + (we t (sk t nx) - sk t nx) = we t (sk t nx) by omega]
        have hp := hP.obj
        refine wx_putf pf_X4_35 rfl dX4_factor_138 hp hp0 (Nat.le_of_ble_eq_true rfl) rfl rfl (fun h_138 hp f_138 => ?_)
        have hF := hF.tr f_138
        have hL := hL.kt f_138 hp0
        have hP : PB G h_138 p x a nl t n (we t (sk t nx)) sa 1 hs hw := ⟨⟨hp0, hp⟩, hP.2.1.kt f_138 (by omega), ⟨by omega, by omega⟩, hP.2.2.2⟩
        have hln : 4 ≤ we t (sk t nx) - sk t nx := by rw [← hpl, hk9]; exact vkw_len k9
        refine ww_aload_n 0 dX4_factor_141 rfl ?_
        exact ww_x hQ (ww_aret rfl dX4_factor_142 rfl rfl (by dsimp only [mmc, MX4_factor, MX4_peek, MX4_isDigit, MX4_word, MX1_variable, MX4_require, MJ6_length] <;> omega) (by dsimp only [mms, MX4_factor, MX4_peek, MX4_isDigit, MX4_word, MX1_variable, MX4_require, MJ6_length] <;> omega) ⟨_, rfl, _, we t (sk t nx), _, (pE_var c_6 c_79 hk9 k91 k92), by omega, by omega, WT.le (WT.vv hL k91 k92) (by omega), hP, hF⟩)
      · refine ww_astore_nN [(2, _), (1, _), (0, _)] dX4_factor_108 (Nat.le_of_ble_eq_true rfl) rfl ?_
        refine ww_aload_n 2 dX4_factor_109 rfl ?_
        refine ww_aload_nN 0 dX4_factor_110 rfl ?_
        refine ww_ifnullN 118 dX4_factor_111 (by decide) ?_
        refine ww_iconst dX4_factor_118 ?_
        refine ww_bipush dX4_factor_119 (by decide) ?_
        refine ww_aload_n 2 dX4_factor_121 rfl ?_
        refine ww_getf gf_X4_35 rfl dX4_factor_122 hP.obj rfl ?_
        refine cx_v (cx_V (ct_X4_reqF hG p a (-2) (sk t nx) (by omega)) sv_X4_59 rfl dX4_factor_125 hP.obj rfl rfl rfl rfl ⟨Nat.le_of_ble_eq_true rfl, Nat.le_of_ble_eq_true rfl⟩ (Nat.le_of_ble_eq_true rfl) (by dsimp only [mmc, MX4_factor, MX4_peek, MX4_isDigit, MX4_word, MX1_variable, MX4_require, MJ6_length] <;> omega) (by dsimp only [mms, MX4_factor, MX4_peek, MX4_isDigit, MX4_word, MX1_variable, MX4_require, MJ6_length] <;> omega)) (fun X_125 q_125 g_125 hx_125 => wq_out hQ hT (by dsimp only [mmc, MX4_factor, MX4_peek, MX4_require, MX4_sum, MX4_expect, MX4_isDigit, MX4_number, MX4_word, MX1_variable, MJ6_length] <;> omega) (by dsimp only [mms, MX4_factor, MX4_peek, MX4_require, MX4_sum, MX4_expect, MX4_isDigit, MX4_number, MX4_word, MX1_variable, MJ6_length] <;> omega) (hx_125.go hF.fp (fun c o e => by cases e; rw [pE0_kw c_6 c_79, if_neg nA, if_neg nB, if_neg nC, if_neg nD]))) (fun h_125 hp_125 => ?_)
        exact hp_125.elim
    · obtain ⟨hcn1, hcn2⟩ := c_num (n := n) (d := 1) (x := xe) (f := g) ht hnx.1 hnx.2 c_6 c_79
      refine ww_aload_n 0 dX4_factor_82 rfl ?_
      refine ww_iconst dX4_factor_83 ?_
      refine ww_sipush dX4_factor_84 (by decide) ?_
      refine cx_i (cx_V (ct_X4_number hG hP 0 9999 (inI.mk (by decide) (by decide)) (inI.mk (by decide) (by decide))) sv_X4_117 rfl dX4_factor_87 hP.obj rfl rfl rfl rfl ⟨Nat.le_of_ble_eq_true rfl, Nat.le_of_ble_eq_true rfl⟩ (Nat.le_of_ble_eq_true rfl) (by dsimp only [mmc, MX4_factor, MX4_peek, MX4_isDigit, MX4_word, MX1_variable, MX4_require, MJ6_length, MX4_number] <;> omega) (by dsimp only [mms, MX4_factor, MX4_peek, MX4_isDigit, MX4_word, MX1_variable, MX4_require, MJ6_length, MX4_number] <;> omega)) (fun X_87 q_87 g_87 hx_87 => wq_out hQ hT (by dsimp only [mmc, MX4_factor, MX4_peek, MX4_require, MX4_sum, MX4_expect, MX4_isDigit, MX4_number, MX4_word, MX1_variable, MJ6_length] <;> omega) (by dsimp only [mms, MX4_factor, MX4_peek, MX4_require, MX4_sum, MX4_expect, MX4_isDigit, MX4_number, MX4_word, MX1_variable, MJ6_length] <;> omega) (hx_87.go hF.fp (fun c o e => by rw [pE0_num c_6 c_79]; rw [pnum_kk ht hnx.2] at e; rw [e]))) (fun r_87 h_87 hp_87 => ?_)
      obtain ⟨e_87, hn_87, hl_87, hh_87, h0_87, hg_87, hm_87, hP, f_87⟩ := hp_87
      have hF := hF.tr f_87
      have hL := hL.kt f_87 hp0
      rw [pnum_kk ht hnx.2] at hn_87
      have hgt := pnum_gt ht hnx.1 hnx.2 hn_87
      refine ww_i2l dX4_factor_90 (inI.mk (by omega) (by omega)) ?_
      refine ww_lstore_n [(1, _), (0, _)] dX4_factor_91 (Nat.le_of_ble_eq_true rfl) rfl ?_
      refine ww_lload_n 0 dX4_factor_92 rfl ?_
      refine ww_indyM (i := 5) (vs := [.long (lI r_87)]) (by decide) (by decide) hG lfit5 rfl rfl rfl rfl dX4_factor_93 (Nat.le_of_ble_eq_true rfl) (by dsimp only [mmc, MX4_factor, MX4_peek, MX4_require, MX4_sum, MX4_expect, MX4_isDigit, MX4_number, MX4_word, MX1_variable, MJ6_length] <;> omega) (by dsimp only [mms, MX4_factor, MX4_peek, MX4_require, MX4_sum, MX4_expect, MX4_isDigit, MX4_number, MX4_word, MX1_variable, MJ6_length, List.length] <;> omega) (fun q9 h9 n9 e9 hq9 => ?_)
      have hF := hF.xe e9
      have hL := hL.ex e9
      have hP := hP.ex e9
      exact ww_x hQ (ww_aret rfl dX4_factor_98 rfl rfl (by dsimp only [mmc, MX4_factor, MX4_peek, MX4_require, MX4_sum, MX4_expect, MX4_isDigit, MX4_number, MX4_word, MX1_variable, MJ6_length] <;> omega) (by dsimp only [mms, MX4_factor, MX4_peek, MX4_require, MX4_sum, MX4_expect, MX4_isDigit, MX4_number, MX4_word, MX1_variable, MJ6_length, List.length] <;> omega) ⟨_, rfl, ([0, r_87], fun _ _ _ _ => r_87), e_87, _, by rw [pE0_num c_6 c_79, hn_87], hgt, hm_87, WT.le (d := 1) (Or.inr (Or.inl ⟨r_87, h0_87, hh_87, hq9, rfl⟩)) (by omega), hP, hF⟩)
  · have hsn : sk t nx ≠ n := fun e => by rw [e, ht.2.2.1 n (Int.le_refl _)] at c_6; cases c_6
    refine ww_aload_n 0 dX4_factor_9 rfl ?_
    refine ww_aload_n 0 dX4_factor_10 rfl ?_
    refine ww_getf gf_X4_107 rfl dX4_factor_11 hP.obj rfl ?_
    refine ww_iconst dX4_factor_14 ?_
    refine ww_icmp_ge 22 dX4_factor_15 (by decide) (inI.mk (by decide) (by decide)) (inI.mk (by decide) (by decide)) (fun c_15 => ?_) (fun c_15 => ?_)
    · exact absurd c_15 (by decide)
    · refine ww_iconst dX4_factor_18 ?_
      refine ww_goto 23 dX4_factor_19 (by decide) ?_
      refine ww_bipush dX4_factor_23 (by decide) ?_
      refine ww_aload_n 0 dX4_factor_25 rfl ?_
      refine ww_getf gf_X4_35 rfl dX4_factor_26 hP.obj rfl ?_
      refine cr_pv (cr_V (ct_X4_reqT hG 1 _ _ (by decide) (inI.mk (by decide) (by decide))) sv_X4_59 rfl dX4_factor_29 hP.obj rfl rfl rfl rfl ⟨Nat.le_of_ble_eq_true rfl, Nat.le_of_ble_eq_true rfl⟩ (Nat.le_of_ble_eq_true rfl) (by dsimp only [mmc, MX4_factor, MX4_peek, MX4_isDigit, MX4_word, MX1_variable, MX4_require, MJ6_length, MX4_number] <;> omega) (by dsimp only [mms, MX4_factor, MX4_peek, MX4_isDigit, MX4_word, MX1_variable, MX4_require, MJ6_length, MX4_number] <;> omega)) ?_
      refine ww_aload_n 0 dX4_factor_32 rfl ?_
      refine ww_dup dX4_factor_33 rfl ?_
      refine ww_getf gf_X4_107 rfl dX4_factor_34 hP.obj rfl ?_
      refine ww_iconst dX4_factor_37 ?_
      refine ww_iadd dX4_factor_38 ?_
      have hp := hP.obj
      obtain ⟨hcp1, hcp2⟩ := c_par (n := n) (d := 1) (x := xe) (f := g) ht hnx.1 hnx.2 c_6 (by decide)
      refine wx_putf pf_X4_107 rfl dX4_factor_39 hp hp0 (Nat.le_of_ble_eq_true rfl) rfl rfl (fun h_39 hp f_39 => ?_)
      have hF := hF.tr f_39
      have hL := hL.kt f_39 hp0
      have hP : PB G h_39 p x a nl t n (sk t nx) sa (1 + 1) hs hw := ⟨⟨hp0, hp⟩, hP.2.1.kt f_39 (by omega), hP.2.2.1, hP.2.2.2.1, ⟨by decide, by decide⟩, hP.2.2.2.2.2⟩
      refine ww_aload_n 0 dX4_factor_42 rfl ?_
      refine ww_dup dX4_factor_43 rfl ?_
      refine ww_getf gf_X4_35 rfl dX4_factor_44 hP.obj rfl ?_
      refine ww_iconst dX4_factor_47 ?_
      refine ww_iadd dX4_factor_48 ?_
      have hp := hP.obj
      refine wx_putf pf_X4_35 rfl dX4_factor_49 hp hp0 (Nat.le_of_ble_eq_true rfl) rfl rfl (fun h_49 hp f_49 => ?_)
      have hF := hF.tr f_49
      have hL := hL.kt f_49 hp0
      have hP : PB G h_49 p x a nl t n (sk t nx + 1) sa (1 + 1) hs hw := ⟨⟨hp0, hp⟩, hP.2.1.kt f_49 (by omega), ⟨by omega, by omega⟩, hP.2.2.2⟩
      rw [show (1 : Int) + 1 = 2 from rfl] at hP hcp1 hcp2
      refine ww_aload_n 0 dX4_factor_52 rfl ?_
      refine cx_r (cx_V (ct_X4_sum2 hG hP hL xe g (by omega)) sv_X4_110 rfl dX4_factor_53 hP.obj rfl rfl rfl rfl ⟨Nat.le_of_ble_eq_true rfl, Nat.le_of_ble_eq_true rfl⟩ (Nat.le_of_ble_eq_true rfl) (by dsimp only [mmc, MX4_factor, MX4_peek, MX4_isDigit, MX4_word, MX1_variable, MX4_require, MJ6_length, MX4_number, MX4_sum] <;> omega) (by dsimp only [mms, MX4_factor, MX4_peek, MX4_isDigit, MX4_word, MX1_variable, MX4_require, MJ6_length, MX4_number, MX4_sum] <;> omega)) (fun X_53 q_53 g_53 hx_53 => wq_out hQ hT (by dsimp only [mmc, MX4_factor, MX4_peek, MX4_require, MX4_sum, MX4_expect, MX4_isDigit, MX4_number, MX4_word, MX1_variable, MJ6_length] <;> omega) (by dsimp only [mms, MX4_factor, MX4_peek, MX4_require, MX4_sum, MX4_expect, MX4_isDigit, MX4_number, MX4_word, MX1_variable, MJ6_length] <;> omega) (hx_53.go hF.fp (fun c o e => by rw [pE0_par c_6 (by decide), show (1 : Int) + 1 = 2 from rfl, e]))) (fun r_53 h_53 hp_53 => ?_)
      obtain ⟨y_53, p_53, s_53, hr_53, hg_53, hm_53, hW_53, hP, f_53⟩ := hp_53
      have hF := hF.tr f_53
      have hL := hL.kt f_53 hp0
      have hk5 := ht.k1 hm_53
      rw [en_ok hr_53] at hcp1 hcp2
      have hcq1 : rC n (sk t nx + 1) (some p_53) = 8 * (p_53 - (sk t nx + 1)).toNat := rfl
      have hcq2 : rS n (sk t nx + 1) (some p_53) = 40 * (p_53 - (sk t nx + 1)).toNat := rfl
      have hen := en_ok hr_53
      refine ww_astore_n [(1, _), (0, _)] dX4_factor_56 (Nat.le_of_ble_eq_true rfl) rfl ?_
      refine ww_aload_n 1 dX4_factor_57 rfl ?_
      refine ww_bipush dX4_factor_58 (by decide) ?_
      refine cx_v (cx_V (ct_X4_expect hG hP 41 (by decide) (by decide)) sv_X4_113 rfl dX4_factor_60 hP.obj rfl rfl rfl rfl ⟨Nat.le_of_ble_eq_true rfl, Nat.le_of_ble_eq_true rfl⟩ (Nat.le_of_ble_eq_true rfl) (by dsimp only [mmc, MX4_factor, MX4_peek, MX4_require, MX4_sum, MX4_expect, MX4_isDigit, MX4_number, MX4_word, MX1_variable, MJ6_length]; rw [hen]; omega) (by dsimp only [mms, MX4_factor, MX4_peek, MX4_require, MX4_sum, MX4_expect, MX4_isDigit, MX4_number, MX4_word, MX1_variable, MJ6_length]; rw [hen]; omega)) (fun X_60 q_60 g_60 hx_60 => wq_out hQ hT (by dsimp only [mmc, MX4_factor, MX4_peek, MX4_require, MX4_sum, MX4_expect, MX4_isDigit, MX4_number, MX4_word, MX1_variable, MJ6_length]; rw [hen]; omega) (by dsimp only [mms, MX4_factor, MX4_peek, MX4_require, MX4_sum, MX4_expect, MX4_isDigit, MX4_number, MX4_word, MX1_variable, MJ6_length]; rw [hen]; omega) (hx_60.go hF.fp (fun c o e => by rw [pE0_par c_6 (by decide), show (1 : Int) + 1 = 2 from rfl, hr_53]; simp only; unfold pexp at e; split at e; cases e; rename_i c9; rw [if_neg c9]; cases e; rfl))) (fun h_60 hp_60 => ?_)
      obtain ⟨hc_60, hP, f_60⟩ := hp_60
      have hF := hF.tr f_60
      have hL := hL.kt f_60 hp0
      have hsn5 : sk t p_53 ≠ n := fun e => by rw [e, ht.2.2.1 n (Int.le_refl _)] at hc_60; cases hc_60
      refine ww_aload_n 1 dX4_factor_63 rfl ?_
      refine ww_dup dX4_factor_64 rfl ?_
      refine ww_getf gf_X4_107 rfl dX4_factor_65 hP.obj rfl ?_
      refine ww_iconst dX4_factor_68 ?_
      refine ww_isub dX4_factor_69 ?_
      have hp := hP.obj
      refine wx_putf pf_X4_107 rfl dX4_factor_70 hp hp0 (Nat.le_of_ble_eq_true rfl) rfl rfl (fun h_70 hp f_70 => ?_)
      have hF := hF.tr f_70
      have hL := hL.kt f_70 hp0
      have hP : PB G h_70 p x a nl t n (sk t p_53 + 1) s_53 (2 - 1) hs hw := ⟨⟨hp0, hp⟩, hP.2.1.kt f_70 (by omega), hP.2.2.1, hP.2.2.2.1, ⟨by decide, by decide⟩, hP.2.2.2.2.2⟩
      rw [show (2 : Int) - 1 = 1 from rfl] at hP
      refine ww_aload_n 0 dX4_factor_73 rfl ?_
      exact ww_x hQ (ww_aret rfl dX4_factor_74 rfl rfl (by dsimp only [mmc, MX4_factor, MX4_peek, MX4_require, MX4_sum, MX4_expect, MX4_isDigit, MX4_number, MX4_word, MX1_variable, MJ6_length]; rw [hen]; omega) (by dsimp only [mms, MX4_factor, MX4_peek, MX4_require, MX4_sum, MX4_expect, MX4_isDigit, MX4_number, MX4_word, MX1_variable, MJ6_length]; rw [hen]; omega) ⟨_, rfl, y_53, sk t p_53 + 1, s_53, by rw [pE0_par c_6 (by decide), show (1 : Int) + 1 = 2 from rfl, hr_53]; simp only; rw [if_pos hc_60], by omega, by omega, ((hW_53.fo f_60.fo hp0 (by omega)).fo f_70.fo hp0 (by omega)).le (by omega), hP, hF⟩)

set_option maxHeartbeats 4000000 in
theorem ct_X4_term1 {G : GT} {h : AH} (hG : GOK G) {p x a nl : Nat} {t : Int → Int} {n nx sa hs hw : Int} (hP : PB G h p x a nl t n nx sa 1 hs hw) (hL : LitC G h) (xe : List Int × EF) (f : Nat) (hf : 3 * (n - nx) + 2 ≤ f) : CX G (MX4_term 22 4400 (rC n nx (en (pE f 1 t 1 nx xe))) (rS n nx (en (pE f 1 t 1 nx xe)))) h [.ref p] (pR (fun w h' => ∃ y q sa9, pE f 1 t 1 nx xe = .ok (y, q) ∧ nx < q ∧ q ≤ n ∧ WT G h' (q - nx).toNat w y.2 ∧ PB G h' p x a nl t n q sa9 1 hs hw ∧ PF p h h')) (XS p a h (pE f 1 t 1 nx xe)) := by
  refine CX.of rfl hG (Nat.le_of_ble_eq_true rfl) rfl (fun E hQ hT => ?_)
  have ht := hP.txt
  have h8 := ht.2.1
  have h0 := ht.1
  have hnx := hP.2.2.1
  have hk := ht.k1 hnx.2
  have hrg := ht.rg (q := sk t nx) (by omega)
  have hp0 := hP.1.1
  have hF : PF p h h := KT.rf
  obtain ⟨g, hfg⟩ : ∃ g, f = g + 1 := ⟨f - 1, by omega⟩
  refine ww_aload_n 0 dX4_term_0 rfl ?_
  obtain ⟨hc1, hc2⟩ := c_t1 (n := n) (d := 1) (x := xe) (f := g) ht hnx.1 hnx.2
  rw [← hfg] at hc1 hc2
  refine cx_r (cx_V (ct_X4_factor1 hG hP hL xe g (by omega)) sv_X4_104 rfl dX4_term_1 hP.obj rfl rfl rfl rfl ⟨Nat.le_of_ble_eq_true rfl, Nat.le_of_ble_eq_true rfl⟩ (Nat.le_of_ble_eq_true rfl) (by dsimp only [mmc, MX4_term, MX4_factor] <;> omega) (by dsimp only [mms, MX4_term, MX4_factor] <;> omega)) (fun X_1 q_1 g_1 hx_1 => wq_out hQ hT (by dsimp only [mmc, MX4_term, MX4_peek, MX4_factor, MX1_operation] <;> omega) (by dsimp only [mms, MX4_term, MX4_peek, MX4_factor, MX1_operation] <;> omega) (hx_1.go hF.fp (fun c o e => by rw [hfg, pE1, e]))) (fun r_1 h_1 hp_1 => ?_)
  obtain ⟨y_1, p_1, s_1, hr_1, hg_1, hm_1, hW_1, hP, f_1⟩ := hp_1
  have hF := hF.tr f_1
  have hL := hL.kt f_1 hp0
  refine ww_astore_n [(1, _), (0, _)] dX4_term_4 (Nat.le_of_ble_eq_true rfl) rfl ?_
  have loop_5 : ∀ (e : Nat) (u : Nat) (y : List Int × EF) (q sa9 : Int) (w : Nat) (h1 : AH), (PF p h h1) → (PB G h1 p x a nl t n q sa9 1 hs hw) → (LitC G h1) → (pE f 1 t 1 nx xe = pE u 2 t 1 q y) → (3 * (n - q) + 1 ≤ u) → (nx < q) → (q ≤ n) → (WT G h1 (q - nx).toNat w y.2) → (n - q < e) → WW G E (MX4_term 22 4400 (rC n nx (en (pE f 1 t 1 nx xe))) (rS n nx (en (pE f 1 t 1 nx xe)))) h1 (8 * (q - nx).toNat) (40 * (q - nx).toNat) 5 [(0, .ref p), (1, .ref w)] [] := by
    intro e
    induction e with
    | zero => intro u y q sa9 w h1 hF hP hL hpe hu hq0 hq1 hW he; exact absurd he (by omega)
    | succ e ie =>
      intro u y q sa9 w h1 hF hP hL hpe hu hq0 hq1 hW he
      have hkq := ht.k1 hq1
      have hrq := ht.rg (q := sk t q) (by omega)
      obtain ⟨v, rfl⟩ : ∃ v, u = v + 1 := ⟨u - 1, by omega⟩
      have hcq := rC_le (n := n) (p := nx) (q1 := q) (e := en (pE f 1 t 1 nx xe)) (fun q9 e9 => by obtain ⟨y9, e9⟩ := en_some e9; rw [hpe] at e9; exact (pE_mono ht _ _ _ _ _ _ _ (by omega) hq1 e9).1) hq1
      refine ww_aload_n 0 dX4_term_5 rfl ?_
      refine cr_i (cr_V (ct_X4_peek hG hP) sv_X4_55 rfl dX4_term_6 hP.obj rfl rfl rfl rfl ⟨Nat.le_of_ble_eq_true rfl, Nat.le_of_ble_eq_true rfl⟩ (Nat.le_of_ble_eq_true rfl) (by dsimp only [mmc, MX4_term, MX4_factor, MX4_peek] <;> omega) (by dsimp only [mms, MX4_term, MX4_factor, MX4_peek] <;> omega)) (fun r_6 h_6 hp_6 => ?_)
      obtain ⟨er_6, hP, f_6⟩ := hp_6
      subst er_6
      have hF := hF.tr f_6
      have hL := hL.kt f_6 hp0
      have hW := hW.fo f_6.fo hp0 (by omega)
      refine ww_bipush dX4_term_9 (by decide) ?_
      refine ww_icmp_eq 23 dX4_term_11 (by decide) (inI.mk (by omega) (by omega)) (inI.mk (by omega) (by omega)) (fun c_11 => ?_) (fun c_11 => ?_)
      · have hch := c_11
        have hop : t (sk t q) = 42 ∨ t (sk t q) = 47 := Or.inl hch
        refine ww_aload_n 0 dX4_term_23 rfl ?_
        have hsn : sk t q ≠ n := fun e => by rw [e, ht.2.2.1 n (Int.le_refl _)] at hch; cases hch
        obtain ⟨-, ⟨bf, fs, B, hx0, hx, hb, -, hB⟩, -⟩ := id hP
        have hBj := hB (sk t q) (by omega) (by omega)
        have hsg : B (sk t q) = sgn 4 := by show B (sk t q) = 42; rw [hBj.2.2] at hch; omega
        obtain ⟨hd1, hd2⟩ := c_t2 (n := n) (p := nx) (q := q) (d := 1) (x := y) (f := v) ht (by omega) (by omega) hq1 hop
        rw [← hpe] at hd1 hd2
        have hp := hP.obj
        refine ww_getf gf_X4_3 rfl dX4_term_24 hp rfl ?_
        refine ww_getf gf_X4_38 rfl dX4_term_27 hx rfl ?_
        refine ww_aload_n 0 dX4_term_30 rfl ?_
        refine ww_getf gf_X4_35 rfl dX4_term_31 hp rfl ?_
        refine ww_bald dX4_term_34 hb (by omega) (by omega) (by omega) ?_
        rw [hsg]
        refine ww_istore_n [(2, _), (0, _), (1, _)] dX4_term_35 (Nat.le_of_ble_eq_true rfl) rfl ?_
        refine ww_aload_n 1 dX4_term_36 rfl ?_
        refine ww_dup dX4_term_37 rfl ?_
        refine ww_getf gf_X4_35 rfl dX4_term_38 hp rfl ?_
        refine ww_iconst dX4_term_41 ?_
        refine ww_iadd dX4_term_42 ?_
        refine wx_putf pf_X4_35 rfl dX4_term_43 hp hp0 (Nat.le_of_ble_eq_true rfl) rfl rfl (fun h_43 hp f_43 => ?_)
        have hF := hF.tr f_43
        have hL := hL.kt f_43 hp0
        have hP : PB G h_43 p x a nl t n (sk t q + 1) sa9 1 hs hw := ⟨⟨hp0, hp⟩, hP.2.1.kt f_43 (by omega), ⟨by omega, by omega⟩, hP.2.2.2⟩
        have hW := hW.fo f_43.fo hp0 (by omega)
        refine ww_iload_n 0 dX4_term_46 rfl ?_
        refine ww_aload_n 2 dX4_term_47 rfl ?_
        refine ww_aload_n 1 dX4_term_48 rfl ?_
        refine cx_r (cx_V (ct_X4_factor1 hG hP hL y v (by omega)) sv_X4_104 rfl dX4_term_49 hP.obj rfl rfl rfl rfl ⟨Nat.le_of_ble_eq_true rfl, Nat.le_of_ble_eq_true rfl⟩ (Nat.le_of_ble_eq_true rfl) (by dsimp only [mmc, MX4_term, MX4_factor, MX4_peek] <;> omega) (by dsimp only [mms, MX4_term, MX4_factor, MX4_peek] <;> omega)) (fun X_49 q_49 g_49 hx_49 => wq_out hQ hT (by dsimp only [mmc, MX4_term, MX4_peek, MX4_factor, MX1_operation] <;> omega) (by dsimp only [mms, MX4_term, MX4_peek, MX4_factor, MX1_operation] <;> omega) (hx_49.go hF.fp (fun c o e => by rw [hpe, pE2, if_pos hop, e]))) (fun r_49 h_49 hp_49 => ?_)
        obtain ⟨y_49, p_49, s_49, hr_49, hg_49, hm_49, hW_49, hP, f_49⟩ := hp_49
        have hF := hF.tr f_49
        have hL := hL.kt f_49 hp0
        have hW := hW.fo f_49.fo hp0 (by omega)
        have hen := en_ok hr_49
        rw [hen] at hd1 hd2
        have hcq1 : rC n (sk t q + 1) (some p_49) = 8 * (p_49 - (sk t q + 1)).toNat := rfl
        have hcq2 : rS n (sk t q + 1) (some p_49) = 40 * (p_49 - (sk t q + 1)).toNat := rfl
        refine cr_r (cr_SN (ct_X1_operation hG (op := 4) (d := (p_49 - nx).toNat - 1) (by decide) (by decide) (hW.le (by omega)) (hW_49.le (by omega))) ss_X4_100 rfl dX4_term_52 rfl rfl ⟨Nat.le_of_ble_eq_true rfl, Nat.le_of_ble_eq_true rfl⟩ (Nat.le_of_ble_eq_true rfl) (by dsimp only [mmc, MX4_term, MX4_peek, MX4_factor, MX1_operation]; rw [hen]; omega) (by dsimp only [mms, MX4_term, MX4_peek, MX4_factor, MX1_operation]; rw [hen]; omega)) (fun r_52 h_52 hp_52 => ?_)
        obtain ⟨hW_52, e_52, n_52⟩ := hp_52
        have hF := hF.xe e_52
        have hL := hL.ex e_52
        refine ww_astore_n [(1, _), (2, _), (0, _)] dX4_term_55 (Nat.le_of_ble_eq_true rfl) rfl ?_
        refine ww_goto 5 dX4_term_56 (by decide) ?_
        refine ww_sub [2, 0] rfl ?_
        refine ww_widen (n' := 8 * (p_49 - nx).toNat) (k' := 40 * (p_49 - nx).toNat) (by dsimp only [mmc, MX4_term, MX4_peek, MX4_factor, MX1_operation]; rw [en_ok hr_49]; show _ + 8 * (p_49 - (sk t q + 1)).toNat + 1 ≤ _; omega) (by dsimp only [mms, MX4_term, MX4_peek, MX4_factor, MX1_operation]; rw [en_ok hr_49]; show _ + 40 * (p_49 - (sk t q + 1)).toNat + 3 ≤ _; omega) ?_
        exact ie v (cmb 4 y y_49) p_49 s_49 _ _ hF (hP.ex e_52) hL (by rw [hpe, pE2, if_pos hop, hr_49]; simp only; rw [if_pos hch]) (by omega) (by omega) hm_49 (hW_52.le (by omega)) (by omega)
      · refine ww_aload_n 0 dX4_term_14 rfl ?_
        refine cr_i (cr_V (ct_X4_peek hG hP) sv_X4_55 rfl dX4_term_15 hP.obj rfl rfl rfl rfl ⟨Nat.le_of_ble_eq_true rfl, Nat.le_of_ble_eq_true rfl⟩ (Nat.le_of_ble_eq_true rfl) (by dsimp only [mmc, MX4_term, MX4_factor, MX4_peek, MX1_operation] <;> omega) (by dsimp only [mms, MX4_term, MX4_factor, MX4_peek, MX1_operation] <;> omega)) (fun r_15 h_15 hp_15 => ?_)
        obtain ⟨er_15, hP, f_15⟩ := hp_15
        subst er_15
        have hF := hF.tr f_15
        have hL := hL.kt f_15 hp0
        rw [ht.kk hq1] at hP ⊢
        have hW := hW.fo f_15.fo hp0 (by omega)
        refine ww_bipush dX4_term_18 (by decide) ?_
        refine ww_icmp_ne 59 dX4_term_20 (by decide) (inI.mk (by omega) (by omega)) (inI.mk (by omega) (by omega)) (fun c_20 => ?_) (fun c_20 => ?_)
        · have hpo : (pE f 1 t 1 nx xe) = .ok (y, sk t q) := by rw [hpe, pE2, if_neg (by omega)]
          refine ww_aload_n 1 dX4_term_59 rfl ?_
          exact ww_x hQ (ww_aret rfl dX4_term_60 rfl rfl (by dsimp only [mmc, MX4_term, MX4_factor, MX4_peek, MX1_operation] <;> omega) (by dsimp only [mms, MX4_term, MX4_factor, MX4_peek, MX1_operation] <;> omega) ⟨_, rfl, y, sk t q, sa9, hpo, by omega, by omega, hW.le (by omega), hP, hF⟩)
        · have hch := c_20
          have hop : t (sk t q) = 42 ∨ t (sk t q) = 47 := Or.inr hch
          refine ww_aload_n 0 dX4_term_23 rfl ?_
          have hsn : sk t q ≠ n := fun e => by rw [e, ht.2.2.1 n (Int.le_refl _)] at hch; cases hch
          obtain ⟨-, ⟨bf, fs, B, hx0, hx, hb, -, hB⟩, -⟩ := id hP
          have hBj := hB (sk t q) (by omega) (by omega)
          have hsg : B (sk t q) = sgn 5 := by show B (sk t q) = 47; rw [hBj.2.2] at hch; omega
          obtain ⟨hd1, hd2⟩ := c_t2 (n := n) (p := nx) (q := q) (d := 1) (x := y) (f := v) ht (by omega) (by omega) hq1 hop
          rw [← hpe] at hd1 hd2
          have hp := hP.obj
          refine ww_getf gf_X4_3 rfl dX4_term_24 hp rfl ?_
          refine ww_getf gf_X4_38 rfl dX4_term_27 hx rfl ?_
          refine ww_aload_n 0 dX4_term_30 rfl ?_
          refine ww_getf gf_X4_35 rfl dX4_term_31 hp rfl ?_
          refine ww_bald dX4_term_34 hb (by omega) (by omega) (by omega) ?_
          rw [hsg]
          refine ww_istore_n [(2, _), (0, _), (1, _)] dX4_term_35 (Nat.le_of_ble_eq_true rfl) rfl ?_
          refine ww_aload_n 1 dX4_term_36 rfl ?_
          refine ww_dup dX4_term_37 rfl ?_
          refine ww_getf gf_X4_35 rfl dX4_term_38 hp rfl ?_
          refine ww_iconst dX4_term_41 ?_
          refine ww_iadd dX4_term_42 ?_
          refine wx_putf pf_X4_35 rfl dX4_term_43 hp hp0 (Nat.le_of_ble_eq_true rfl) rfl rfl (fun h_43 hp f_43 => ?_)
          have hF := hF.tr f_43
          have hL := hL.kt f_43 hp0
          have hP : PB G h_43 p x a nl t n (sk t q + 1) sa9 1 hs hw := ⟨⟨hp0, hp⟩, hP.2.1.kt f_43 (by omega), ⟨by omega, by omega⟩, hP.2.2.2⟩
          have hW := hW.fo f_43.fo hp0 (by omega)
          refine ww_iload_n 0 dX4_term_46 rfl ?_
          refine ww_aload_n 2 dX4_term_47 rfl ?_
          refine ww_aload_n 1 dX4_term_48 rfl ?_
          refine cx_r (cx_V (ct_X4_factor1 hG hP hL y v (by omega)) sv_X4_104 rfl dX4_term_49 hP.obj rfl rfl rfl rfl ⟨Nat.le_of_ble_eq_true rfl, Nat.le_of_ble_eq_true rfl⟩ (Nat.le_of_ble_eq_true rfl) (by dsimp only [mmc, MX4_term, MX4_factor, MX4_peek, MX1_operation] <;> omega) (by dsimp only [mms, MX4_term, MX4_factor, MX4_peek, MX1_operation] <;> omega)) (fun X_49 q_49 g_49 hx_49 => wq_out hQ hT (by dsimp only [mmc, MX4_term, MX4_peek, MX4_factor, MX1_operation] <;> omega) (by dsimp only [mms, MX4_term, MX4_peek, MX4_factor, MX1_operation] <;> omega) (hx_49.go hF.fp (fun c o e => by rw [hpe, pE2, if_pos hop, e]))) (fun r_49 h_49 hp_49 => ?_)
          obtain ⟨y_49, p_49, s_49, hr_49, hg_49, hm_49, hW_49, hP, f_49⟩ := hp_49
          have hF := hF.tr f_49
          have hL := hL.kt f_49 hp0
          have hW := hW.fo f_49.fo hp0 (by omega)
          have hen := en_ok hr_49
          rw [hen] at hd1 hd2
          have hcq1 : rC n (sk t q + 1) (some p_49) = 8 * (p_49 - (sk t q + 1)).toNat := rfl
          have hcq2 : rS n (sk t q + 1) (some p_49) = 40 * (p_49 - (sk t q + 1)).toNat := rfl
          refine cr_r (cr_SN (ct_X1_operation hG (op := 5) (d := (p_49 - nx).toNat - 1) (by decide) (by decide) (hW.le (by omega)) (hW_49.le (by omega))) ss_X4_100 rfl dX4_term_52 rfl rfl ⟨Nat.le_of_ble_eq_true rfl, Nat.le_of_ble_eq_true rfl⟩ (Nat.le_of_ble_eq_true rfl) (by dsimp only [mmc, MX4_term, MX4_peek, MX4_factor, MX1_operation]; rw [hen]; omega) (by dsimp only [mms, MX4_term, MX4_peek, MX4_factor, MX1_operation]; rw [hen]; omega)) (fun r_52 h_52 hp_52 => ?_)
          obtain ⟨hW_52, e_52, n_52⟩ := hp_52
          have hF := hF.xe e_52
          have hL := hL.ex e_52
          refine ww_astore_n [(1, _), (2, _), (0, _)] dX4_term_55 (Nat.le_of_ble_eq_true rfl) rfl ?_
          refine ww_goto 5 dX4_term_56 (by decide) ?_
          refine ww_sub [2, 0] rfl ?_
          refine ww_widen (n' := 8 * (p_49 - nx).toNat) (k' := 40 * (p_49 - nx).toNat) (by dsimp only [mmc, MX4_term, MX4_peek, MX4_factor, MX1_operation]; rw [en_ok hr_49]; show _ + 8 * (p_49 - (sk t q + 1)).toNat + 1 ≤ _; omega) (by dsimp only [mms, MX4_term, MX4_peek, MX4_factor, MX1_operation]; rw [en_ok hr_49]; show _ + 40 * (p_49 - (sk t q + 1)).toNat + 3 ≤ _; omega) ?_
          exact ie v (cmb 5 y y_49) p_49 s_49 _ _ hF (hP.ex e_52) hL (by rw [hpe, pE2, if_pos hop, hr_49]; simp only; rw [if_neg (by rw [hch]; decide)]) (by omega) (by omega) hm_49 (hW_52.le (by omega)) (by omega)
  refine ww_sub [1, 0] rfl ?_
  refine ww_widen (n' := 8 * (p_1 - nx).toNat) (k' := 40 * (p_1 - nx).toNat) (by dsimp only [mmc, MX4_term, MX4_peek, MX4_factor, MX1_operation]; rw [en_ok hr_1]; show 0 + 8 * (p_1 - nx).toNat ≤ _; omega) (by dsimp only [mms, MX4_term, MX4_peek, MX4_factor, MX1_operation]; rw [en_ok hr_1]; show 0 + 40 * (p_1 - nx).toNat ≤ _; omega) ?_
  exact loop_5 801 g y_1 p_1 s_1 _ _ hF hP hL (by rw [hfg, pE1, hr_1]) (by omega) hg_1 hm_1 hW_1 (by omega)

set_option maxHeartbeats 4000000 in
theorem ct_X4_sum1 {G : GT} {h : AH} (hG : GOK G) {p x a nl : Nat} {t : Int → Int} {n nx sa hs hw : Int} (hP : PB G h p x a nl t n nx sa 1 hs hw) (hL : LitC G h) (xe : List Int × EF) (f : Nat) (hf : 3 * (n - nx) + 3 ≤ f) : CX G (MX4_sum 23 4500 (rC n nx (en (pE f 3 t 1 nx xe))) (rS n nx (en (pE f 3 t 1 nx xe)))) h [.ref p] (pR (fun w h' => ∃ y q sa9, pE f 3 t 1 nx xe = .ok (y, q) ∧ nx < q ∧ q ≤ n ∧ WT G h' (q - nx).toNat w y.2 ∧ PB G h' p x a nl t n q sa9 1 hs hw ∧ PF p h h')) (XS p a h (pE f 3 t 1 nx xe)) := by
  refine CX.of rfl hG (Nat.le_of_ble_eq_true rfl) rfl (fun E hQ hT => ?_)
  have ht := hP.txt
  have h8 := ht.2.1
  have h0 := ht.1
  have hnx := hP.2.2.1
  have hk := ht.k1 hnx.2
  have hrg := ht.rg (q := sk t nx) (by omega)
  have hp0 := hP.1.1
  have hF : PF p h h := KT.rf
  obtain ⟨g, hfg⟩ : ∃ g, f = g + 1 := ⟨f - 1, by omega⟩
  refine ww_aload_n 0 dX4_sum_0 rfl ?_
  obtain ⟨hc1, hc2⟩ := c_s1 (n := n) (d := 1) (x := xe) (f := g) ht hnx.1 hnx.2
  rw [← hfg] at hc1 hc2
  refine cx_r (cx_V (ct_X4_term1 hG hP hL xe g (by omega)) sv_X4_96 rfl dX4_sum_1 hP.obj rfl rfl rfl rfl ⟨Nat.le_of_ble_eq_true rfl, Nat.le_of_ble_eq_true rfl⟩ (Nat.le_of_ble_eq_true rfl) (by dsimp only [mmc, MX4_sum, MX4_term] <;> omega) (by dsimp only [mms, MX4_sum, MX4_term] <;> omega)) (fun X_1 q_1 g_1 hx_1 => wq_out hQ hT (by dsimp only [mmc, MX4_sum, MX4_peek, MX4_term, MX1_operation] <;> omega) (by dsimp only [mms, MX4_sum, MX4_peek, MX4_term, MX1_operation] <;> omega) (hx_1.go hF.fp (fun c o e => by rw [hfg, pE3, e]))) (fun r_1 h_1 hp_1 => ?_)
  obtain ⟨y_1, p_1, s_1, hr_1, hg_1, hm_1, hW_1, hP, f_1⟩ := hp_1
  have hF := hF.tr f_1
  have hL := hL.kt f_1 hp0
  refine ww_astore_n [(1, _), (0, _)] dX4_sum_4 (Nat.le_of_ble_eq_true rfl) rfl ?_
  have loop_5 : ∀ (e : Nat) (u : Nat) (y : List Int × EF) (q sa9 : Int) (w : Nat) (h1 : AH), (PF p h h1) → (PB G h1 p x a nl t n q sa9 1 hs hw) → (LitC G h1) → (pE f 3 t 1 nx xe = pE u 4 t 1 q y) → (3 * (n - q) + 1 ≤ u) → (nx < q) → (q ≤ n) → (WT G h1 (q - nx).toNat w y.2) → (n - q < e) → WW G E (MX4_sum 23 4500 (rC n nx (en (pE f 3 t 1 nx xe))) (rS n nx (en (pE f 3 t 1 nx xe)))) h1 (8 * (q - nx).toNat) (40 * (q - nx).toNat) 5 [(0, .ref p), (1, .ref w)] [] := by
    intro e
    induction e with
    | zero => intro u y q sa9 w h1 hF hP hL hpe hu hq0 hq1 hW he; exact absurd he (by omega)
    | succ e ie =>
      intro u y q sa9 w h1 hF hP hL hpe hu hq0 hq1 hW he
      have hkq := ht.k1 hq1
      have hrq := ht.rg (q := sk t q) (by omega)
      obtain ⟨v, rfl⟩ : ∃ v, u = v + 1 := ⟨u - 1, by omega⟩
      have hcq := rC_le (n := n) (p := nx) (q1 := q) (e := en (pE f 3 t 1 nx xe)) (fun q9 e9 => by obtain ⟨y9, e9⟩ := en_some e9; rw [hpe] at e9; exact (pE_mono ht _ _ _ _ _ _ _ (by omega) hq1 e9).1) hq1
      refine ww_aload_n 0 dX4_sum_5 rfl ?_
      refine cr_i (cr_V (ct_X4_peek hG hP) sv_X4_55 rfl dX4_sum_6 hP.obj rfl rfl rfl rfl ⟨Nat.le_of_ble_eq_true rfl, Nat.le_of_ble_eq_true rfl⟩ (Nat.le_of_ble_eq_true rfl) (by dsimp only [mmc, MX4_sum, MX4_term, MX4_peek] <;> omega) (by dsimp only [mms, MX4_sum, MX4_term, MX4_peek] <;> omega)) (fun r_6 h_6 hp_6 => ?_)
      obtain ⟨er_6, hP, f_6⟩ := hp_6
      subst er_6
      have hF := hF.tr f_6
      have hL := hL.kt f_6 hp0
      have hW := hW.fo f_6.fo hp0 (by omega)
      refine ww_bipush dX4_sum_9 (by decide) ?_
      refine ww_icmp_eq 23 dX4_sum_11 (by decide) (inI.mk (by omega) (by omega)) (inI.mk (by omega) (by omega)) (fun c_11 => ?_) (fun c_11 => ?_)
      · have hch := c_11
        have hop : t (sk t q) = 43 ∨ t (sk t q) = 45 := Or.inl hch
        refine ww_aload_n 0 dX4_sum_23 rfl ?_
        have hsn : sk t q ≠ n := fun e => by rw [e, ht.2.2.1 n (Int.le_refl _)] at hch; cases hch
        obtain ⟨-, ⟨bf, fs, B, hx0, hx, hb, -, hB⟩, -⟩ := id hP
        have hBj := hB (sk t q) (by omega) (by omega)
        have hsg : B (sk t q) = sgn 2 := by show B (sk t q) = 43; rw [hBj.2.2] at hch; omega
        obtain ⟨hd1, hd2⟩ := c_s2 (n := n) (p := nx) (q := q) (d := 1) (x := y) (f := v) ht (by omega) (by omega) hq1 hop
        rw [← hpe] at hd1 hd2
        have hp := hP.obj
        refine ww_getf gf_X4_3 rfl dX4_sum_24 hp rfl ?_
        refine ww_getf gf_X4_38 rfl dX4_sum_27 hx rfl ?_
        refine ww_aload_n 0 dX4_sum_30 rfl ?_
        refine ww_getf gf_X4_35 rfl dX4_sum_31 hp rfl ?_
        refine ww_bald dX4_sum_34 hb (by omega) (by omega) (by omega) ?_
        rw [hsg]
        refine ww_istore_n [(2, _), (0, _), (1, _)] dX4_sum_35 (Nat.le_of_ble_eq_true rfl) rfl ?_
        refine ww_aload_n 1 dX4_sum_36 rfl ?_
        refine ww_dup dX4_sum_37 rfl ?_
        refine ww_getf gf_X4_35 rfl dX4_sum_38 hp rfl ?_
        refine ww_iconst dX4_sum_41 ?_
        refine ww_iadd dX4_sum_42 ?_
        refine wx_putf pf_X4_35 rfl dX4_sum_43 hp hp0 (Nat.le_of_ble_eq_true rfl) rfl rfl (fun h_43 hp f_43 => ?_)
        have hF := hF.tr f_43
        have hL := hL.kt f_43 hp0
        have hP : PB G h_43 p x a nl t n (sk t q + 1) sa9 1 hs hw := ⟨⟨hp0, hp⟩, hP.2.1.kt f_43 (by omega), ⟨by omega, by omega⟩, hP.2.2.2⟩
        have hW := hW.fo f_43.fo hp0 (by omega)
        refine ww_iload_n 0 dX4_sum_46 rfl ?_
        refine ww_aload_n 2 dX4_sum_47 rfl ?_
        refine ww_aload_n 1 dX4_sum_48 rfl ?_
        refine cx_r (cx_V (ct_X4_term1 hG hP hL y v (by omega)) sv_X4_96 rfl dX4_sum_49 hP.obj rfl rfl rfl rfl ⟨Nat.le_of_ble_eq_true rfl, Nat.le_of_ble_eq_true rfl⟩ (Nat.le_of_ble_eq_true rfl) (by dsimp only [mmc, MX4_sum, MX4_term, MX4_peek] <;> omega) (by dsimp only [mms, MX4_sum, MX4_term, MX4_peek] <;> omega)) (fun X_49 q_49 g_49 hx_49 => wq_out hQ hT (by dsimp only [mmc, MX4_sum, MX4_peek, MX4_term, MX1_operation] <;> omega) (by dsimp only [mms, MX4_sum, MX4_peek, MX4_term, MX1_operation] <;> omega) (hx_49.go hF.fp (fun c o e => by rw [hpe, pE4, if_pos hop, e]))) (fun r_49 h_49 hp_49 => ?_)
        obtain ⟨y_49, p_49, s_49, hr_49, hg_49, hm_49, hW_49, hP, f_49⟩ := hp_49
        have hF := hF.tr f_49
        have hL := hL.kt f_49 hp0
        have hW := hW.fo f_49.fo hp0 (by omega)
        have hen := en_ok hr_49
        rw [hen] at hd1 hd2
        have hcq1 : rC n (sk t q + 1) (some p_49) = 8 * (p_49 - (sk t q + 1)).toNat := rfl
        have hcq2 : rS n (sk t q + 1) (some p_49) = 40 * (p_49 - (sk t q + 1)).toNat := rfl
        refine cr_r (cr_SN (ct_X1_operation hG (op := 2) (d := (p_49 - nx).toNat - 1) (by decide) (by decide) (hW.le (by omega)) (hW_49.le (by omega))) ss_X4_100 rfl dX4_sum_52 rfl rfl ⟨Nat.le_of_ble_eq_true rfl, Nat.le_of_ble_eq_true rfl⟩ (Nat.le_of_ble_eq_true rfl) (by dsimp only [mmc, MX4_sum, MX4_peek, MX4_term, MX1_operation]; rw [hen]; omega) (by dsimp only [mms, MX4_sum, MX4_peek, MX4_term, MX1_operation]; rw [hen]; omega)) (fun r_52 h_52 hp_52 => ?_)
        obtain ⟨hW_52, e_52, n_52⟩ := hp_52
        have hF := hF.xe e_52
        have hL := hL.ex e_52
        refine ww_astore_n [(1, _), (2, _), (0, _)] dX4_sum_55 (Nat.le_of_ble_eq_true rfl) rfl ?_
        refine ww_goto 5 dX4_sum_56 (by decide) ?_
        refine ww_sub [2, 0] rfl ?_
        refine ww_widen (n' := 8 * (p_49 - nx).toNat) (k' := 40 * (p_49 - nx).toNat) (by dsimp only [mmc, MX4_sum, MX4_peek, MX4_term, MX1_operation]; rw [en_ok hr_49]; show _ + 8 * (p_49 - (sk t q + 1)).toNat + 1 ≤ _; omega) (by dsimp only [mms, MX4_sum, MX4_peek, MX4_term, MX1_operation]; rw [en_ok hr_49]; show _ + 40 * (p_49 - (sk t q + 1)).toNat + 3 ≤ _; omega) ?_
        exact ie v (cmb 2 y y_49) p_49 s_49 _ _ hF (hP.ex e_52) hL (by rw [hpe, pE4, if_pos hop, hr_49]; simp only; rw [if_pos hch]) (by omega) (by omega) hm_49 (hW_52.le (by omega)) (by omega)
      · refine ww_aload_n 0 dX4_sum_14 rfl ?_
        refine cr_i (cr_V (ct_X4_peek hG hP) sv_X4_55 rfl dX4_sum_15 hP.obj rfl rfl rfl rfl ⟨Nat.le_of_ble_eq_true rfl, Nat.le_of_ble_eq_true rfl⟩ (Nat.le_of_ble_eq_true rfl) (by dsimp only [mmc, MX4_sum, MX4_term, MX4_peek, MX1_operation] <;> omega) (by dsimp only [mms, MX4_sum, MX4_term, MX4_peek, MX1_operation] <;> omega)) (fun r_15 h_15 hp_15 => ?_)
        obtain ⟨er_15, hP, f_15⟩ := hp_15
        subst er_15
        have hF := hF.tr f_15
        have hL := hL.kt f_15 hp0
        rw [ht.kk hq1] at hP ⊢
        have hW := hW.fo f_15.fo hp0 (by omega)
        refine ww_bipush dX4_sum_18 (by decide) ?_
        refine ww_icmp_ne 59 dX4_sum_20 (by decide) (inI.mk (by omega) (by omega)) (inI.mk (by omega) (by omega)) (fun c_20 => ?_) (fun c_20 => ?_)
        · have hpo : (pE f 3 t 1 nx xe) = .ok (y, sk t q) := by rw [hpe, pE4, if_neg (by omega)]
          refine ww_aload_n 1 dX4_sum_59 rfl ?_
          exact ww_x hQ (ww_aret rfl dX4_sum_60 rfl rfl (by dsimp only [mmc, MX4_sum, MX4_term, MX4_peek, MX1_operation] <;> omega) (by dsimp only [mms, MX4_sum, MX4_term, MX4_peek, MX1_operation] <;> omega) ⟨_, rfl, y, sk t q, sa9, hpo, by omega, by omega, hW.le (by omega), hP, hF⟩)
        · have hch := c_20
          have hop : t (sk t q) = 43 ∨ t (sk t q) = 45 := Or.inr hch
          refine ww_aload_n 0 dX4_sum_23 rfl ?_
          have hsn : sk t q ≠ n := fun e => by rw [e, ht.2.2.1 n (Int.le_refl _)] at hch; cases hch
          obtain ⟨-, ⟨bf, fs, B, hx0, hx, hb, -, hB⟩, -⟩ := id hP
          have hBj := hB (sk t q) (by omega) (by omega)
          have hsg : B (sk t q) = sgn 3 := by show B (sk t q) = 45; rw [hBj.2.2] at hch; omega
          obtain ⟨hd1, hd2⟩ := c_s2 (n := n) (p := nx) (q := q) (d := 1) (x := y) (f := v) ht (by omega) (by omega) hq1 hop
          rw [← hpe] at hd1 hd2
          have hp := hP.obj
          refine ww_getf gf_X4_3 rfl dX4_sum_24 hp rfl ?_
          refine ww_getf gf_X4_38 rfl dX4_sum_27 hx rfl ?_
          refine ww_aload_n 0 dX4_sum_30 rfl ?_
          refine ww_getf gf_X4_35 rfl dX4_sum_31 hp rfl ?_
          refine ww_bald dX4_sum_34 hb (by omega) (by omega) (by omega) ?_
          rw [hsg]
          refine ww_istore_n [(2, _), (0, _), (1, _)] dX4_sum_35 (Nat.le_of_ble_eq_true rfl) rfl ?_
          refine ww_aload_n 1 dX4_sum_36 rfl ?_
          refine ww_dup dX4_sum_37 rfl ?_
          refine ww_getf gf_X4_35 rfl dX4_sum_38 hp rfl ?_
          refine ww_iconst dX4_sum_41 ?_
          refine ww_iadd dX4_sum_42 ?_
          refine wx_putf pf_X4_35 rfl dX4_sum_43 hp hp0 (Nat.le_of_ble_eq_true rfl) rfl rfl (fun h_43 hp f_43 => ?_)
          have hF := hF.tr f_43
          have hL := hL.kt f_43 hp0
          have hP : PB G h_43 p x a nl t n (sk t q + 1) sa9 1 hs hw := ⟨⟨hp0, hp⟩, hP.2.1.kt f_43 (by omega), ⟨by omega, by omega⟩, hP.2.2.2⟩
          have hW := hW.fo f_43.fo hp0 (by omega)
          refine ww_iload_n 0 dX4_sum_46 rfl ?_
          refine ww_aload_n 2 dX4_sum_47 rfl ?_
          refine ww_aload_n 1 dX4_sum_48 rfl ?_
          refine cx_r (cx_V (ct_X4_term1 hG hP hL y v (by omega)) sv_X4_96 rfl dX4_sum_49 hP.obj rfl rfl rfl rfl ⟨Nat.le_of_ble_eq_true rfl, Nat.le_of_ble_eq_true rfl⟩ (Nat.le_of_ble_eq_true rfl) (by dsimp only [mmc, MX4_sum, MX4_term, MX4_peek, MX1_operation] <;> omega) (by dsimp only [mms, MX4_sum, MX4_term, MX4_peek, MX1_operation] <;> omega)) (fun X_49 q_49 g_49 hx_49 => wq_out hQ hT (by dsimp only [mmc, MX4_sum, MX4_peek, MX4_term, MX1_operation] <;> omega) (by dsimp only [mms, MX4_sum, MX4_peek, MX4_term, MX1_operation] <;> omega) (hx_49.go hF.fp (fun c o e => by rw [hpe, pE4, if_pos hop, e]))) (fun r_49 h_49 hp_49 => ?_)
          obtain ⟨y_49, p_49, s_49, hr_49, hg_49, hm_49, hW_49, hP, f_49⟩ := hp_49
          have hF := hF.tr f_49
          have hL := hL.kt f_49 hp0
          have hW := hW.fo f_49.fo hp0 (by omega)
          have hen := en_ok hr_49
          rw [hen] at hd1 hd2
          have hcq1 : rC n (sk t q + 1) (some p_49) = 8 * (p_49 - (sk t q + 1)).toNat := rfl
          have hcq2 : rS n (sk t q + 1) (some p_49) = 40 * (p_49 - (sk t q + 1)).toNat := rfl
          refine cr_r (cr_SN (ct_X1_operation hG (op := 3) (d := (p_49 - nx).toNat - 1) (by decide) (by decide) (hW.le (by omega)) (hW_49.le (by omega))) ss_X4_100 rfl dX4_sum_52 rfl rfl ⟨Nat.le_of_ble_eq_true rfl, Nat.le_of_ble_eq_true rfl⟩ (Nat.le_of_ble_eq_true rfl) (by dsimp only [mmc, MX4_sum, MX4_peek, MX4_term, MX1_operation]; rw [hen]; omega) (by dsimp only [mms, MX4_sum, MX4_peek, MX4_term, MX1_operation]; rw [hen]; omega)) (fun r_52 h_52 hp_52 => ?_)
          obtain ⟨hW_52, e_52, n_52⟩ := hp_52
          have hF := hF.xe e_52
          have hL := hL.ex e_52
          refine ww_astore_n [(1, _), (2, _), (0, _)] dX4_sum_55 (Nat.le_of_ble_eq_true rfl) rfl ?_
          refine ww_goto 5 dX4_sum_56 (by decide) ?_
          refine ww_sub [2, 0] rfl ?_
          refine ww_widen (n' := 8 * (p_49 - nx).toNat) (k' := 40 * (p_49 - nx).toNat) (by dsimp only [mmc, MX4_sum, MX4_peek, MX4_term, MX1_operation]; rw [en_ok hr_49]; show _ + 8 * (p_49 - (sk t q + 1)).toNat + 1 ≤ _; omega) (by dsimp only [mms, MX4_sum, MX4_peek, MX4_term, MX1_operation]; rw [en_ok hr_49]; show _ + 40 * (p_49 - (sk t q + 1)).toNat + 3 ≤ _; omega) ?_
          exact ie v (cmb 3 y y_49) p_49 s_49 _ _ hF (hP.ex e_52) hL (by rw [hpe, pE4, if_pos hop, hr_49]; simp only; rw [if_neg (by rw [hch]; decide)]) (by omega) (by omega) hm_49 (hW_52.le (by omega)) (by omega)
  refine ww_sub [1, 0] rfl ?_
  refine ww_widen (n' := 8 * (p_1 - nx).toNat) (k' := 40 * (p_1 - nx).toNat) (by dsimp only [mmc, MX4_sum, MX4_peek, MX4_term, MX1_operation]; rw [en_ok hr_1]; show 0 + 8 * (p_1 - nx).toNat ≤ _; omega) (by dsimp only [mms, MX4_sum, MX4_peek, MX4_term, MX1_operation]; rw [en_ok hr_1]; show 0 + 40 * (p_1 - nx).toNat ≤ _; omega) ?_
  exact loop_5 801 g y_1 p_1 s_1 _ _ hF hP hL (by rw [hfg, pE3, hr_1]) (by omega) hg_1 hm_1 hW_1 (by omega)

set_option maxHeartbeats 4000000 in
theorem ct_X4_factor0 {G : GT} {h : AH} (hG : GOK G) {p x a nl : Nat} {t : Int → Int} {n nx sa hs hw : Int} (hP : PB G h p x a nl t n nx sa 0 hs hw) (hL : LitC G h) (xe : List Int × EF) (f : Nat) (hf : 3 * (n - nx) + 1 ≤ f) : CX G (MX4_factor 24 4600 (rC n nx (en (pE f 0 t 0 nx xe))) (rS n nx (en (pE f 0 t 0 nx xe)))) h [.ref p] (pR (fun w h' => ∃ y q sa9, pE f 0 t 0 nx xe = .ok (y, q) ∧ nx < q ∧ q ≤ n ∧ WT G h' (q - nx).toNat w y.2 ∧ PB G h' p x a nl t n q sa9 0 hs hw ∧ PF p h h')) (XS p a h (pE f 0 t 0 nx xe)) := by
  refine CX.of rfl hG (Nat.le_of_ble_eq_true rfl) rfl (fun E hQ hT => ?_)
  have ht := hP.txt
  have h8 := ht.2.1
  have h0 := ht.1
  have hnx := hP.2.2.1
  have hk := ht.k1 hnx.2
  have hrg := ht.rg (q := sk t nx) (by omega)
  have hp0 := hP.1.1
  have hF : PF p h h := KT.rf
  obtain ⟨g, rfl⟩ : ∃ g, f = g + 1 := ⟨f - 1, by omega⟩
  refine ww_aload_n 0 dX4_factor_0 rfl ?_
  refine cr_i (cr_V (ct_X4_peek hG hP) sv_X4_55 rfl dX4_factor_1 hP.obj rfl rfl rfl rfl ⟨Nat.le_of_ble_eq_true rfl, Nat.le_of_ble_eq_true rfl⟩ (Nat.le_of_ble_eq_true rfl) (by dsimp only [mmc, MX4_factor, MX4_peek] <;> omega) (by dsimp only [mms, MX4_factor, MX4_peek] <;> omega)) (fun r_1 h_1 hp_1 => ?_)
  obtain ⟨er_1, hP, f_1⟩ := hp_1
  subst er_1
  have hF := hF.tr f_1
  have hL := hL.kt f_1 hp0
  have hP1 := hP
  refine ww_bipush dX4_factor_4 (by decide) ?_
  refine ww_icmp_ne 75 dX4_factor_6 (by decide) (inI.mk (by omega) (by omega)) (inI.mk (by omega) (by omega)) (fun c_6 => ?_) (fun c_6 => ?_)
  · refine ww_aload_n 0 dX4_factor_75 rfl ?_
    refine cr_i (cr_V (ct_X4_isDigit hG hP) sv_X4_82 rfl dX4_factor_76 hP.obj rfl rfl rfl rfl ⟨Nat.le_of_ble_eq_true rfl, Nat.le_of_ble_eq_true rfl⟩ (Nat.le_of_ble_eq_true rfl) (by dsimp only [mmc, MX4_factor, MX4_peek, MX4_isDigit] <;> omega) (by dsimp only [mms, MX4_factor, MX4_peek, MX4_isDigit] <;> omega)) (fun r_76 h_76 hp_76 => ?_)
    obtain ⟨er_76, hP, f_76⟩ := hp_76
    subst er_76
    have hF := hF.tr f_76
    have hL := hL.kt f_76 hp0
    rw [ht.kk hnx.2]
    rw [ht.kk hnx.2] at hP
    refine ww_ifb_eq 99 dX4_factor_79 (by decide) (fun c_79 => ?_) (fun c_79 => ?_)
    · obtain ⟨hcw1, hcw2⟩ := c_word (n := n) (d := 0) (x := xe) (f := g) ht hnx.1 hnx.2 c_6 c_79
      have hw1 := ht.w1 hk.2.1
      have hpl : ((pw t nx).length : Int) = we t (sk t nx) - sk t nx := by unfold pw; rw [wd_len]; omega
      have hwC : wC (we t (sk t nx) - sk t nx).toNat = 4 + (we t (sk t nx) - sk t nx).toNat := rfl
      refine ww_aload_n 0 dX4_factor_99 rfl ?_
      have hFb := hF
      have hPb := hP
      refine cr_r (cr_V (ct_X4_word hG hP) sv_X4_124 rfl dX4_factor_100 hP.obj rfl rfl rfl rfl ⟨Nat.le_of_ble_eq_true rfl, Nat.le_of_ble_eq_true rfl⟩ (Nat.le_of_ble_eq_true rfl) (by rw [ht.kk hnx.2]; dsimp only [mmc, MX4_factor, MX4_peek, MX4_require, MX4_sum, MX4_expect, MX4_isDigit, MX4_number, MX4_word, MX1_variable, MJ6_length] <;> omega) (by rw [ht.kk hnx.2]; dsimp only [mms, MX4_factor, MX4_peek, MX4_require, MX4_sum, MX4_expect, MX4_isDigit, MX4_number, MX4_word, MX1_variable, MJ6_length] <;> omega)) (fun r_100 h_100 hp_100 => ?_)
      obtain ⟨hW_100, n_100, hP, f_100⟩ := hp_100
      have hF := hF.tr f_100
      have hL := hL.kt f_100 hp0
      have n9 := hFb.nwo hPb.obj n_100
      rw [pw_kk ht hnx.2] at hW_100
      rw [ht.kk hnx.2] at hP ⊢
      obtain ⟨fsw, hwo⟩ := hW_100.obj
      refine ww_astore_n [(1, _), (0, _)] dX4_factor_103 (Nat.le_of_ble_eq_true rfl) rfl ?_
      refine ww_aload_n 0 dX4_factor_104 rfl ?_
      refine cr_o (cr_SN (ct_X1_variable hG hW_100 hL) ss_X4_127 rfl dX4_factor_105 rfl rfl ⟨Nat.le_of_ble_eq_true rfl, Nat.le_of_ble_eq_true rfl⟩ (Nat.le_of_ble_eq_true rfl) (by dsimp only [mmc, MX4_factor, MX4_peek, MX4_isDigit, MX4_word, MX1_variable] <;> omega) (by dsimp only [mms, MX4_factor, MX4_peek, MX4_isDigit, MX4_word, MX1_variable] <;> omega)) (fun r_105 h_105 hp_105 => ?_)
      obtain ⟨hV_105, hW_100, z_105⟩ := hp_105
      have hP := hP.fo z_105.fo (by omega)
      have hF := hF.no z_105.fo n9
      have hL := hL.fz z_105
      obtain ⟨fsw, hwo⟩ := hW_100.obj
      rcases hV_105 with ⟨k9, k91, k92, hk9, rfl⟩ | ⟨nA, nB, nC, nD, rfl⟩
      · refine ww_astore_n [(2, _), (1, _), (0, _)] dX4_factor_108 (Nat.le_of_ble_eq_true rfl) rfl ?_
        refine ww_aload_n 2 dX4_factor_109 rfl ?_
        refine ww_aload_n 0 dX4_factor_110 rfl ?_
        refine ww_ifnull dX4_factor_111 ?_
        refine ww_iconst dX4_factor_114 ?_
        refine ww_goto 119 dX4_factor_115 (by decide) ?_
        refine ww_bipush dX4_factor_119 (by decide) ?_
        refine ww_aload_n 2 dX4_factor_121 rfl ?_
        refine ww_getf gf_X4_35 rfl dX4_factor_122 hP.obj rfl ?_
        refine cr_pv (cr_V (ct_X4_reqT hG 1 _ _ (by decide) (inI.mk (by decide) (by decide))) sv_X4_59 rfl dX4_factor_125 hP.obj rfl rfl rfl rfl ⟨Nat.le_of_ble_eq_true rfl, Nat.le_of_ble_eq_true rfl⟩ (Nat.le_of_ble_eq_true rfl) (by dsimp only [mmc, MX4_factor, MX4_peek, MX4_isDigit, MX4_word, MX1_variable, MX4_require] <;> omega) (by dsimp only [mms, MX4_factor, MX4_peek, MX4_isDigit, MX4_word, MX1_variable, MX4_require] <;> omega)) ?_
        refine ww_aload_n 2 dX4_factor_128 rfl ?_
        refine ww_dup dX4_factor_129 rfl ?_
        refine ww_getf gf_X4_35 rfl dX4_factor_130 hP.obj rfl ?_
        refine ww_aload_n 1 dX4_factor_133 rfl ?_
        refine cr_pi (cr_V (ct_J6_length hG hW_100) sv_X4_131 rfl dX4_factor_134 hwo rfl rfl rfl rfl ⟨Nat.le_of_ble_eq_true rfl, Nat.le_of_ble_eq_true rfl⟩ (Nat.le_of_ble_eq_true rfl) (by dsimp only [mmc, MX4_factor, MX4_peek, MX4_isDigit, MX4_word, MX1_variable, MX4_require, MJ6_length] <;> omega) (by dsimp only [mms, MX4_factor, MX4_peek, MX4_isDigit, MX4_word, MX1_variable, MX4_require, MJ6_length] <;> omega)) ?_
        rw [hpl]
        refine ww_iadd dX4_factor_137 ?_
        rw [show sk t nx + (we t (sk t nx) - sk t nx) = we t (sk t nx) by omega]
        have hp := hP.obj
        refine wx_putf pf_X4_35 rfl dX4_factor_138 hp hp0 (Nat.le_of_ble_eq_true rfl) rfl rfl (fun h_138 hp f_138 => ?_)
        have hF := hF.tr f_138
        have hL := hL.kt f_138 hp0
        have hP : PB G h_138 p x a nl t n (we t (sk t nx)) sa 0 hs hw := ⟨⟨hp0, hp⟩, hP.2.1.kt f_138 (by omega), ⟨by omega, by omega⟩, hP.2.2.2⟩
        have hln : 4 ≤ we t (sk t nx) - sk t nx := by rw [← hpl, hk9]; exact vkw_len k9
        refine ww_aload_n 0 dX4_factor_141 rfl ?_
        exact ww_x hQ (ww_aret rfl dX4_factor_142 rfl rfl (by dsimp only [mmc, MX4_factor, MX4_peek, MX4_isDigit, MX4_word, MX1_variable, MX4_require, MJ6_length] <;> omega) (by dsimp only [mms, MX4_factor, MX4_peek, MX4_isDigit, MX4_word, MX1_variable, MX4_require, MJ6_length] <;> omega) ⟨_, rfl, _, we t (sk t nx), _, (pE_var c_6 c_79 hk9 k91 k92), by omega, by omega, WT.le (WT.vv hL k91 k92) (by omega), hP, hF⟩)
      · refine ww_astore_nN [(2, _), (1, _), (0, _)] dX4_factor_108 (Nat.le_of_ble_eq_true rfl) rfl ?_
        refine ww_aload_n 2 dX4_factor_109 rfl ?_
        refine ww_aload_nN 0 dX4_factor_110 rfl ?_
        refine ww_ifnullN 118 dX4_factor_111 (by decide) ?_
        refine ww_iconst dX4_factor_118 ?_
        refine ww_bipush dX4_factor_119 (by decide) ?_
        refine ww_aload_n 2 dX4_factor_121 rfl ?_
        refine ww_getf gf_X4_35 rfl dX4_factor_122 hP.obj rfl ?_
        refine cx_v (cx_V (ct_X4_reqF hG p a (-2) (sk t nx) (by omega)) sv_X4_59 rfl dX4_factor_125 hP.obj rfl rfl rfl rfl ⟨Nat.le_of_ble_eq_true rfl, Nat.le_of_ble_eq_true rfl⟩ (Nat.le_of_ble_eq_true rfl) (by dsimp only [mmc, MX4_factor, MX4_peek, MX4_isDigit, MX4_word, MX1_variable, MX4_require, MJ6_length] <;> omega) (by dsimp only [mms, MX4_factor, MX4_peek, MX4_isDigit, MX4_word, MX1_variable, MX4_require, MJ6_length] <;> omega)) (fun X_125 q_125 g_125 hx_125 => wq_out hQ hT (by dsimp only [mmc, MX4_factor, MX4_peek, MX4_require, MX4_sum, MX4_expect, MX4_isDigit, MX4_number, MX4_word, MX1_variable, MJ6_length] <;> omega) (by dsimp only [mms, MX4_factor, MX4_peek, MX4_require, MX4_sum, MX4_expect, MX4_isDigit, MX4_number, MX4_word, MX1_variable, MJ6_length] <;> omega) (hx_125.go hF.fp (fun c o e => by cases e; rw [pE0_kw c_6 c_79, if_neg nA, if_neg nB, if_neg nC, if_neg nD]))) (fun h_125 hp_125 => ?_)
        exact hp_125.elim
    · obtain ⟨hcn1, hcn2⟩ := c_num (n := n) (d := 0) (x := xe) (f := g) ht hnx.1 hnx.2 c_6 c_79
      refine ww_aload_n 0 dX4_factor_82 rfl ?_
      refine ww_iconst dX4_factor_83 ?_
      refine ww_sipush dX4_factor_84 (by decide) ?_
      refine cx_i (cx_V (ct_X4_number hG hP 0 9999 (inI.mk (by decide) (by decide)) (inI.mk (by decide) (by decide))) sv_X4_117 rfl dX4_factor_87 hP.obj rfl rfl rfl rfl ⟨Nat.le_of_ble_eq_true rfl, Nat.le_of_ble_eq_true rfl⟩ (Nat.le_of_ble_eq_true rfl) (by dsimp only [mmc, MX4_factor, MX4_peek, MX4_isDigit, MX4_word, MX1_variable, MX4_require, MJ6_length, MX4_number] <;> omega) (by dsimp only [mms, MX4_factor, MX4_peek, MX4_isDigit, MX4_word, MX1_variable, MX4_require, MJ6_length, MX4_number] <;> omega)) (fun X_87 q_87 g_87 hx_87 => wq_out hQ hT (by dsimp only [mmc, MX4_factor, MX4_peek, MX4_require, MX4_sum, MX4_expect, MX4_isDigit, MX4_number, MX4_word, MX1_variable, MJ6_length] <;> omega) (by dsimp only [mms, MX4_factor, MX4_peek, MX4_require, MX4_sum, MX4_expect, MX4_isDigit, MX4_number, MX4_word, MX1_variable, MJ6_length] <;> omega) (hx_87.go hF.fp (fun c o e => by rw [pE0_num c_6 c_79]; rw [pnum_kk ht hnx.2] at e; rw [e]))) (fun r_87 h_87 hp_87 => ?_)
      obtain ⟨e_87, hn_87, hl_87, hh_87, h0_87, hg_87, hm_87, hP, f_87⟩ := hp_87
      have hF := hF.tr f_87
      have hL := hL.kt f_87 hp0
      rw [pnum_kk ht hnx.2] at hn_87
      have hgt := pnum_gt ht hnx.1 hnx.2 hn_87
      refine ww_i2l dX4_factor_90 (inI.mk (by omega) (by omega)) ?_
      refine ww_lstore_n [(1, _), (0, _)] dX4_factor_91 (Nat.le_of_ble_eq_true rfl) rfl ?_
      refine ww_lload_n 0 dX4_factor_92 rfl ?_
      refine ww_indyM (i := 5) (vs := [.long (lI r_87)]) (by decide) (by decide) hG lfit5 rfl rfl rfl rfl dX4_factor_93 (Nat.le_of_ble_eq_true rfl) (by dsimp only [mmc, MX4_factor, MX4_peek, MX4_require, MX4_sum, MX4_expect, MX4_isDigit, MX4_number, MX4_word, MX1_variable, MJ6_length] <;> omega) (by dsimp only [mms, MX4_factor, MX4_peek, MX4_require, MX4_sum, MX4_expect, MX4_isDigit, MX4_number, MX4_word, MX1_variable, MJ6_length, List.length] <;> omega) (fun q9 h9 n9 e9 hq9 => ?_)
      have hF := hF.xe e9
      have hL := hL.ex e9
      have hP := hP.ex e9
      exact ww_x hQ (ww_aret rfl dX4_factor_98 rfl rfl (by dsimp only [mmc, MX4_factor, MX4_peek, MX4_require, MX4_sum, MX4_expect, MX4_isDigit, MX4_number, MX4_word, MX1_variable, MJ6_length] <;> omega) (by dsimp only [mms, MX4_factor, MX4_peek, MX4_require, MX4_sum, MX4_expect, MX4_isDigit, MX4_number, MX4_word, MX1_variable, MJ6_length, List.length] <;> omega) ⟨_, rfl, ([0, r_87], fun _ _ _ _ => r_87), e_87, _, by rw [pE0_num c_6 c_79, hn_87], hgt, hm_87, WT.le (d := 1) (Or.inr (Or.inl ⟨r_87, h0_87, hh_87, hq9, rfl⟩)) (by omega), hP, hF⟩)
  · have hsn : sk t nx ≠ n := fun e => by rw [e, ht.2.2.1 n (Int.le_refl _)] at c_6; cases c_6
    refine ww_aload_n 0 dX4_factor_9 rfl ?_
    refine ww_aload_n 0 dX4_factor_10 rfl ?_
    refine ww_getf gf_X4_107 rfl dX4_factor_11 hP.obj rfl ?_
    refine ww_iconst dX4_factor_14 ?_
    refine ww_icmp_ge 22 dX4_factor_15 (by decide) (inI.mk (by decide) (by decide)) (inI.mk (by decide) (by decide)) (fun c_15 => ?_) (fun c_15 => ?_)
    · exact absurd c_15 (by decide)
    · refine ww_iconst dX4_factor_18 ?_
      refine ww_goto 23 dX4_factor_19 (by decide) ?_
      refine ww_bipush dX4_factor_23 (by decide) ?_
      refine ww_aload_n 0 dX4_factor_25 rfl ?_
      refine ww_getf gf_X4_35 rfl dX4_factor_26 hP.obj rfl ?_
      refine cr_pv (cr_V (ct_X4_reqT hG 1 _ _ (by decide) (inI.mk (by decide) (by decide))) sv_X4_59 rfl dX4_factor_29 hP.obj rfl rfl rfl rfl ⟨Nat.le_of_ble_eq_true rfl, Nat.le_of_ble_eq_true rfl⟩ (Nat.le_of_ble_eq_true rfl) (by dsimp only [mmc, MX4_factor, MX4_peek, MX4_isDigit, MX4_word, MX1_variable, MX4_require, MJ6_length, MX4_number] <;> omega) (by dsimp only [mms, MX4_factor, MX4_peek, MX4_isDigit, MX4_word, MX1_variable, MX4_require, MJ6_length, MX4_number] <;> omega)) ?_
      refine ww_aload_n 0 dX4_factor_32 rfl ?_
      refine ww_dup dX4_factor_33 rfl ?_
      refine ww_getf gf_X4_107 rfl dX4_factor_34 hP.obj rfl ?_
      refine ww_iconst dX4_factor_37 ?_
      refine ww_iadd dX4_factor_38 ?_
      have hp := hP.obj
      obtain ⟨hcp1, hcp2⟩ := c_par (n := n) (d := 0) (x := xe) (f := g) ht hnx.1 hnx.2 c_6 (by decide)
      refine wx_putf pf_X4_107 rfl dX4_factor_39 hp hp0 (Nat.le_of_ble_eq_true rfl) rfl rfl (fun h_39 hp f_39 => ?_)
      have hF := hF.tr f_39
      have hL := hL.kt f_39 hp0
      have hP : PB G h_39 p x a nl t n (sk t nx) sa (0 + 1) hs hw := ⟨⟨hp0, hp⟩, hP.2.1.kt f_39 (by omega), hP.2.2.1, hP.2.2.2.1, ⟨by decide, by decide⟩, hP.2.2.2.2.2⟩
      refine ww_aload_n 0 dX4_factor_42 rfl ?_
      refine ww_dup dX4_factor_43 rfl ?_
      refine ww_getf gf_X4_35 rfl dX4_factor_44 hP.obj rfl ?_
      refine ww_iconst dX4_factor_47 ?_
      refine ww_iadd dX4_factor_48 ?_
      have hp := hP.obj
      refine wx_putf pf_X4_35 rfl dX4_factor_49 hp hp0 (Nat.le_of_ble_eq_true rfl) rfl rfl (fun h_49 hp f_49 => ?_)
      have hF := hF.tr f_49
      have hL := hL.kt f_49 hp0
      have hP : PB G h_49 p x a nl t n (sk t nx + 1) sa (0 + 1) hs hw := ⟨⟨hp0, hp⟩, hP.2.1.kt f_49 (by omega), ⟨by omega, by omega⟩, hP.2.2.2⟩
      rw [show (0 : Int) + 1 = 1 from rfl] at hP hcp1 hcp2
      refine ww_aload_n 0 dX4_factor_52 rfl ?_
      refine cx_r (cx_V (ct_X4_sum1 hG hP hL xe g (by omega)) sv_X4_110 rfl dX4_factor_53 hP.obj rfl rfl rfl rfl ⟨Nat.le_of_ble_eq_true rfl, Nat.le_of_ble_eq_true rfl⟩ (Nat.le_of_ble_eq_true rfl) (by dsimp only [mmc, MX4_factor, MX4_peek, MX4_isDigit, MX4_word, MX1_variable, MX4_require, MJ6_length, MX4_number, MX4_sum] <;> omega) (by dsimp only [mms, MX4_factor, MX4_peek, MX4_isDigit, MX4_word, MX1_variable, MX4_require, MJ6_length, MX4_number, MX4_sum] <;> omega)) (fun X_53 q_53 g_53 hx_53 => wq_out hQ hT (by dsimp only [mmc, MX4_factor, MX4_peek, MX4_require, MX4_sum, MX4_expect, MX4_isDigit, MX4_number, MX4_word, MX1_variable, MJ6_length] <;> omega) (by dsimp only [mms, MX4_factor, MX4_peek, MX4_require, MX4_sum, MX4_expect, MX4_isDigit, MX4_number, MX4_word, MX1_variable, MJ6_length] <;> omega) (hx_53.go hF.fp (fun c o e => by rw [pE0_par c_6 (by decide), show (0 : Int) + 1 = 1 from rfl, e]))) (fun r_53 h_53 hp_53 => ?_)
      obtain ⟨y_53, p_53, s_53, hr_53, hg_53, hm_53, hW_53, hP, f_53⟩ := hp_53
      have hF := hF.tr f_53
      have hL := hL.kt f_53 hp0
      have hk5 := ht.k1 hm_53
      rw [en_ok hr_53] at hcp1 hcp2
      have hcq1 : rC n (sk t nx + 1) (some p_53) = 8 * (p_53 - (sk t nx + 1)).toNat := rfl
      have hcq2 : rS n (sk t nx + 1) (some p_53) = 40 * (p_53 - (sk t nx + 1)).toNat := rfl
      have hen := en_ok hr_53
      refine ww_astore_n [(1, _), (0, _)] dX4_factor_56 (Nat.le_of_ble_eq_true rfl) rfl ?_
      refine ww_aload_n 1 dX4_factor_57 rfl ?_
      refine ww_bipush dX4_factor_58 (by decide) ?_
      refine cx_v (cx_V (ct_X4_expect hG hP 41 (by decide) (by decide)) sv_X4_113 rfl dX4_factor_60 hP.obj rfl rfl rfl rfl ⟨Nat.le_of_ble_eq_true rfl, Nat.le_of_ble_eq_true rfl⟩ (Nat.le_of_ble_eq_true rfl) (by dsimp only [mmc, MX4_factor, MX4_peek, MX4_require, MX4_sum, MX4_expect, MX4_isDigit, MX4_number, MX4_word, MX1_variable, MJ6_length]; rw [hen]; omega) (by dsimp only [mms, MX4_factor, MX4_peek, MX4_require, MX4_sum, MX4_expect, MX4_isDigit, MX4_number, MX4_word, MX1_variable, MJ6_length]; rw [hen]; omega)) (fun X_60 q_60 g_60 hx_60 => wq_out hQ hT (by dsimp only [mmc, MX4_factor, MX4_peek, MX4_require, MX4_sum, MX4_expect, MX4_isDigit, MX4_number, MX4_word, MX1_variable, MJ6_length]; rw [hen]; omega) (by dsimp only [mms, MX4_factor, MX4_peek, MX4_require, MX4_sum, MX4_expect, MX4_isDigit, MX4_number, MX4_word, MX1_variable, MJ6_length]; rw [hen]; omega) (hx_60.go hF.fp (fun c o e => by rw [pE0_par c_6 (by decide), show (0 : Int) + 1 = 1 from rfl, hr_53]; simp only; unfold pexp at e; split at e; cases e; rename_i c9; rw [if_neg c9]; cases e; rfl))) (fun h_60 hp_60 => ?_)
      obtain ⟨hc_60, hP, f_60⟩ := hp_60
      have hF := hF.tr f_60
      have hL := hL.kt f_60 hp0
      have hsn5 : sk t p_53 ≠ n := fun e => by rw [e, ht.2.2.1 n (Int.le_refl _)] at hc_60; cases hc_60
      refine ww_aload_n 1 dX4_factor_63 rfl ?_
      refine ww_dup dX4_factor_64 rfl ?_
      refine ww_getf gf_X4_107 rfl dX4_factor_65 hP.obj rfl ?_
      refine ww_iconst dX4_factor_68 ?_
      refine ww_isub dX4_factor_69 ?_
      have hp := hP.obj
      refine wx_putf pf_X4_107 rfl dX4_factor_70 hp hp0 (Nat.le_of_ble_eq_true rfl) rfl rfl (fun h_70 hp f_70 => ?_)
      have hF := hF.tr f_70
      have hL := hL.kt f_70 hp0
      have hP : PB G h_70 p x a nl t n (sk t p_53 + 1) s_53 (1 - 1) hs hw := ⟨⟨hp0, hp⟩, hP.2.1.kt f_70 (by omega), hP.2.2.1, hP.2.2.2.1, ⟨by decide, by decide⟩, hP.2.2.2.2.2⟩
      rw [show (1 : Int) - 1 = 0 from rfl] at hP
      refine ww_aload_n 0 dX4_factor_73 rfl ?_
      exact ww_x hQ (ww_aret rfl dX4_factor_74 rfl rfl (by dsimp only [mmc, MX4_factor, MX4_peek, MX4_require, MX4_sum, MX4_expect, MX4_isDigit, MX4_number, MX4_word, MX1_variable, MJ6_length]; rw [hen]; omega) (by dsimp only [mms, MX4_factor, MX4_peek, MX4_require, MX4_sum, MX4_expect, MX4_isDigit, MX4_number, MX4_word, MX1_variable, MJ6_length]; rw [hen]; omega) ⟨_, rfl, y_53, sk t p_53 + 1, s_53, by rw [pE0_par c_6 (by decide), show (0 : Int) + 1 = 1 from rfl, hr_53]; simp only; rw [if_pos hc_60], by omega, by omega, ((hW_53.fo f_60.fo hp0 (by omega)).fo f_70.fo hp0 (by omega)).le (by omega), hP, hF⟩)

set_option maxHeartbeats 4000000 in
theorem ct_X4_term0 {G : GT} {h : AH} (hG : GOK G) {p x a nl : Nat} {t : Int → Int} {n nx sa hs hw : Int} (hP : PB G h p x a nl t n nx sa 0 hs hw) (hL : LitC G h) (xe : List Int × EF) (f : Nat) (hf : 3 * (n - nx) + 2 ≤ f) : CX G (MX4_term 25 4700 (rC n nx (en (pE f 1 t 0 nx xe))) (rS n nx (en (pE f 1 t 0 nx xe)))) h [.ref p] (pR (fun w h' => ∃ y q sa9, pE f 1 t 0 nx xe = .ok (y, q) ∧ nx < q ∧ q ≤ n ∧ WT G h' (q - nx).toNat w y.2 ∧ PB G h' p x a nl t n q sa9 0 hs hw ∧ PF p h h')) (XS p a h (pE f 1 t 0 nx xe)) := by
  refine CX.of rfl hG (Nat.le_of_ble_eq_true rfl) rfl (fun E hQ hT => ?_)
  have ht := hP.txt
  have h8 := ht.2.1
  have h0 := ht.1
  have hnx := hP.2.2.1
  have hk := ht.k1 hnx.2
  have hrg := ht.rg (q := sk t nx) (by omega)
  have hp0 := hP.1.1
  have hF : PF p h h := KT.rf
  obtain ⟨g, hfg⟩ : ∃ g, f = g + 1 := ⟨f - 1, by omega⟩
  refine ww_aload_n 0 dX4_term_0 rfl ?_
  obtain ⟨hc1, hc2⟩ := c_t1 (n := n) (d := 0) (x := xe) (f := g) ht hnx.1 hnx.2
  rw [← hfg] at hc1 hc2
  refine cx_r (cx_V (ct_X4_factor0 hG hP hL xe g (by omega)) sv_X4_104 rfl dX4_term_1 hP.obj rfl rfl rfl rfl ⟨Nat.le_of_ble_eq_true rfl, Nat.le_of_ble_eq_true rfl⟩ (Nat.le_of_ble_eq_true rfl) (by dsimp only [mmc, MX4_term, MX4_factor] <;> omega) (by dsimp only [mms, MX4_term, MX4_factor] <;> omega)) (fun X_1 q_1 g_1 hx_1 => wq_out hQ hT (by dsimp only [mmc, MX4_term, MX4_peek, MX4_factor, MX1_operation] <;> omega) (by dsimp only [mms, MX4_term, MX4_peek, MX4_factor, MX1_operation] <;> omega) (hx_1.go hF.fp (fun c o e => by rw [hfg, pE1, e]))) (fun r_1 h_1 hp_1 => ?_)
  obtain ⟨y_1, p_1, s_1, hr_1, hg_1, hm_1, hW_1, hP, f_1⟩ := hp_1
  have hF := hF.tr f_1
  have hL := hL.kt f_1 hp0
  refine ww_astore_n [(1, _), (0, _)] dX4_term_4 (Nat.le_of_ble_eq_true rfl) rfl ?_
  have loop_5 : ∀ (e : Nat) (u : Nat) (y : List Int × EF) (q sa9 : Int) (w : Nat) (h1 : AH), (PF p h h1) → (PB G h1 p x a nl t n q sa9 0 hs hw) → (LitC G h1) → (pE f 1 t 0 nx xe = pE u 2 t 0 q y) → (3 * (n - q) + 1 ≤ u) → (nx < q) → (q ≤ n) → (WT G h1 (q - nx).toNat w y.2) → (n - q < e) → WW G E (MX4_term 25 4700 (rC n nx (en (pE f 1 t 0 nx xe))) (rS n nx (en (pE f 1 t 0 nx xe)))) h1 (8 * (q - nx).toNat) (40 * (q - nx).toNat) 5 [(0, .ref p), (1, .ref w)] [] := by
    intro e
    induction e with
    | zero => intro u y q sa9 w h1 hF hP hL hpe hu hq0 hq1 hW he; exact absurd he (by omega)
    | succ e ie =>
      intro u y q sa9 w h1 hF hP hL hpe hu hq0 hq1 hW he
      have hkq := ht.k1 hq1
      have hrq := ht.rg (q := sk t q) (by omega)
      obtain ⟨v, rfl⟩ : ∃ v, u = v + 1 := ⟨u - 1, by omega⟩
      have hcq := rC_le (n := n) (p := nx) (q1 := q) (e := en (pE f 1 t 0 nx xe)) (fun q9 e9 => by obtain ⟨y9, e9⟩ := en_some e9; rw [hpe] at e9; exact (pE_mono ht _ _ _ _ _ _ _ (by omega) hq1 e9).1) hq1
      refine ww_aload_n 0 dX4_term_5 rfl ?_
      refine cr_i (cr_V (ct_X4_peek hG hP) sv_X4_55 rfl dX4_term_6 hP.obj rfl rfl rfl rfl ⟨Nat.le_of_ble_eq_true rfl, Nat.le_of_ble_eq_true rfl⟩ (Nat.le_of_ble_eq_true rfl) (by dsimp only [mmc, MX4_term, MX4_factor, MX4_peek] <;> omega) (by dsimp only [mms, MX4_term, MX4_factor, MX4_peek] <;> omega)) (fun r_6 h_6 hp_6 => ?_)
      obtain ⟨er_6, hP, f_6⟩ := hp_6
      subst er_6
      have hF := hF.tr f_6
      have hL := hL.kt f_6 hp0
      have hW := hW.fo f_6.fo hp0 (by omega)
      refine ww_bipush dX4_term_9 (by decide) ?_
      refine ww_icmp_eq 23 dX4_term_11 (by decide) (inI.mk (by omega) (by omega)) (inI.mk (by omega) (by omega)) (fun c_11 => ?_) (fun c_11 => ?_)
      · have hch := c_11
        have hop : t (sk t q) = 42 ∨ t (sk t q) = 47 := Or.inl hch
        refine ww_aload_n 0 dX4_term_23 rfl ?_
        have hsn : sk t q ≠ n := fun e => by rw [e, ht.2.2.1 n (Int.le_refl _)] at hch; cases hch
        obtain ⟨-, ⟨bf, fs, B, hx0, hx, hb, -, hB⟩, -⟩ := id hP
        have hBj := hB (sk t q) (by omega) (by omega)
        have hsg : B (sk t q) = sgn 4 := by show B (sk t q) = 42; rw [hBj.2.2] at hch; omega
        obtain ⟨hd1, hd2⟩ := c_t2 (n := n) (p := nx) (q := q) (d := 0) (x := y) (f := v) ht (by omega) (by omega) hq1 hop
        rw [← hpe] at hd1 hd2
        have hp := hP.obj
        refine ww_getf gf_X4_3 rfl dX4_term_24 hp rfl ?_
        refine ww_getf gf_X4_38 rfl dX4_term_27 hx rfl ?_
        refine ww_aload_n 0 dX4_term_30 rfl ?_
        refine ww_getf gf_X4_35 rfl dX4_term_31 hp rfl ?_
        refine ww_bald dX4_term_34 hb (by omega) (by omega) (by omega) ?_
        rw [hsg]
        refine ww_istore_n [(2, _), (0, _), (1, _)] dX4_term_35 (Nat.le_of_ble_eq_true rfl) rfl ?_
        refine ww_aload_n 1 dX4_term_36 rfl ?_
        refine ww_dup dX4_term_37 rfl ?_
        refine ww_getf gf_X4_35 rfl dX4_term_38 hp rfl ?_
        refine ww_iconst dX4_term_41 ?_
        refine ww_iadd dX4_term_42 ?_
        refine wx_putf pf_X4_35 rfl dX4_term_43 hp hp0 (Nat.le_of_ble_eq_true rfl) rfl rfl (fun h_43 hp f_43 => ?_)
        have hF := hF.tr f_43
        have hL := hL.kt f_43 hp0
        have hP : PB G h_43 p x a nl t n (sk t q + 1) sa9 0 hs hw := ⟨⟨hp0, hp⟩, hP.2.1.kt f_43 (by omega), ⟨by omega, by omega⟩, hP.2.2.2⟩
        have hW := hW.fo f_43.fo hp0 (by omega)
        refine ww_iload_n 0 dX4_term_46 rfl ?_
        refine ww_aload_n 2 dX4_term_47 rfl ?_
        refine ww_aload_n 1 dX4_term_48 rfl ?_
        refine cx_r (cx_V (ct_X4_factor0 hG hP hL y v (by omega)) sv_X4_104 rfl dX4_term_49 hP.obj rfl rfl rfl rfl ⟨Nat.le_of_ble_eq_true rfl, Nat.le_of_ble_eq_true rfl⟩ (Nat.le_of_ble_eq_true rfl) (by dsimp only [mmc, MX4_term, MX4_factor, MX4_peek] <;> omega) (by dsimp only [mms, MX4_term, MX4_factor, MX4_peek] <;> omega)) (fun X_49 q_49 g_49 hx_49 => wq_out hQ hT (by dsimp only [mmc, MX4_term, MX4_peek, MX4_factor, MX1_operation] <;> omega) (by dsimp only [mms, MX4_term, MX4_peek, MX4_factor, MX1_operation] <;> omega) (hx_49.go hF.fp (fun c o e => by rw [hpe, pE2, if_pos hop, e]))) (fun r_49 h_49 hp_49 => ?_)
        obtain ⟨y_49, p_49, s_49, hr_49, hg_49, hm_49, hW_49, hP, f_49⟩ := hp_49
        have hF := hF.tr f_49
        have hL := hL.kt f_49 hp0
        have hW := hW.fo f_49.fo hp0 (by omega)
        have hen := en_ok hr_49
        rw [hen] at hd1 hd2
        have hcq1 : rC n (sk t q + 1) (some p_49) = 8 * (p_49 - (sk t q + 1)).toNat := rfl
        have hcq2 : rS n (sk t q + 1) (some p_49) = 40 * (p_49 - (sk t q + 1)).toNat := rfl
        refine cr_r (cr_SN (ct_X1_operation hG (op := 4) (d := (p_49 - nx).toNat - 1) (by decide) (by decide) (hW.le (by omega)) (hW_49.le (by omega))) ss_X4_100 rfl dX4_term_52 rfl rfl ⟨Nat.le_of_ble_eq_true rfl, Nat.le_of_ble_eq_true rfl⟩ (Nat.le_of_ble_eq_true rfl) (by dsimp only [mmc, MX4_term, MX4_peek, MX4_factor, MX1_operation]; rw [hen]; omega) (by dsimp only [mms, MX4_term, MX4_peek, MX4_factor, MX1_operation]; rw [hen]; omega)) (fun r_52 h_52 hp_52 => ?_)
        obtain ⟨hW_52, e_52, n_52⟩ := hp_52
        have hF := hF.xe e_52
        have hL := hL.ex e_52
        refine ww_astore_n [(1, _), (2, _), (0, _)] dX4_term_55 (Nat.le_of_ble_eq_true rfl) rfl ?_
        refine ww_goto 5 dX4_term_56 (by decide) ?_
        refine ww_sub [2, 0] rfl ?_
        refine ww_widen (n' := 8 * (p_49 - nx).toNat) (k' := 40 * (p_49 - nx).toNat) (by dsimp only [mmc, MX4_term, MX4_peek, MX4_factor, MX1_operation]; rw [en_ok hr_49]; show _ + 8 * (p_49 - (sk t q + 1)).toNat + 1 ≤ _; omega) (by dsimp only [mms, MX4_term, MX4_peek, MX4_factor, MX1_operation]; rw [en_ok hr_49]; show _ + 40 * (p_49 - (sk t q + 1)).toNat + 3 ≤ _; omega) ?_
        exact ie v (cmb 4 y y_49) p_49 s_49 _ _ hF (hP.ex e_52) hL (by rw [hpe, pE2, if_pos hop, hr_49]; simp only; rw [if_pos hch]) (by omega) (by omega) hm_49 (hW_52.le (by omega)) (by omega)
      · refine ww_aload_n 0 dX4_term_14 rfl ?_
        refine cr_i (cr_V (ct_X4_peek hG hP) sv_X4_55 rfl dX4_term_15 hP.obj rfl rfl rfl rfl ⟨Nat.le_of_ble_eq_true rfl, Nat.le_of_ble_eq_true rfl⟩ (Nat.le_of_ble_eq_true rfl) (by dsimp only [mmc, MX4_term, MX4_factor, MX4_peek, MX1_operation] <;> omega) (by dsimp only [mms, MX4_term, MX4_factor, MX4_peek, MX1_operation] <;> omega)) (fun r_15 h_15 hp_15 => ?_)
        obtain ⟨er_15, hP, f_15⟩ := hp_15
        subst er_15
        have hF := hF.tr f_15
        have hL := hL.kt f_15 hp0
        rw [ht.kk hq1] at hP ⊢
        have hW := hW.fo f_15.fo hp0 (by omega)
        refine ww_bipush dX4_term_18 (by decide) ?_
        refine ww_icmp_ne 59 dX4_term_20 (by decide) (inI.mk (by omega) (by omega)) (inI.mk (by omega) (by omega)) (fun c_20 => ?_) (fun c_20 => ?_)
        · have hpo : (pE f 1 t 0 nx xe) = .ok (y, sk t q) := by rw [hpe, pE2, if_neg (by omega)]
          refine ww_aload_n 1 dX4_term_59 rfl ?_
          exact ww_x hQ (ww_aret rfl dX4_term_60 rfl rfl (by dsimp only [mmc, MX4_term, MX4_factor, MX4_peek, MX1_operation] <;> omega) (by dsimp only [mms, MX4_term, MX4_factor, MX4_peek, MX1_operation] <;> omega) ⟨_, rfl, y, sk t q, sa9, hpo, by omega, by omega, hW.le (by omega), hP, hF⟩)
        · have hch := c_20
          have hop : t (sk t q) = 42 ∨ t (sk t q) = 47 := Or.inr hch
          refine ww_aload_n 0 dX4_term_23 rfl ?_
          have hsn : sk t q ≠ n := fun e => by rw [e, ht.2.2.1 n (Int.le_refl _)] at hch; cases hch
          obtain ⟨-, ⟨bf, fs, B, hx0, hx, hb, -, hB⟩, -⟩ := id hP
          have hBj := hB (sk t q) (by omega) (by omega)
          have hsg : B (sk t q) = sgn 5 := by show B (sk t q) = 47; rw [hBj.2.2] at hch; omega
          obtain ⟨hd1, hd2⟩ := c_t2 (n := n) (p := nx) (q := q) (d := 0) (x := y) (f := v) ht (by omega) (by omega) hq1 hop
          rw [← hpe] at hd1 hd2
          have hp := hP.obj
          refine ww_getf gf_X4_3 rfl dX4_term_24 hp rfl ?_
          refine ww_getf gf_X4_38 rfl dX4_term_27 hx rfl ?_
          refine ww_aload_n 0 dX4_term_30 rfl ?_
          refine ww_getf gf_X4_35 rfl dX4_term_31 hp rfl ?_
          refine ww_bald dX4_term_34 hb (by omega) (by omega) (by omega) ?_
          rw [hsg]
          refine ww_istore_n [(2, _), (0, _), (1, _)] dX4_term_35 (Nat.le_of_ble_eq_true rfl) rfl ?_
          refine ww_aload_n 1 dX4_term_36 rfl ?_
          refine ww_dup dX4_term_37 rfl ?_
          refine ww_getf gf_X4_35 rfl dX4_term_38 hp rfl ?_
          refine ww_iconst dX4_term_41 ?_
          refine ww_iadd dX4_term_42 ?_
          refine wx_putf pf_X4_35 rfl dX4_term_43 hp hp0 (Nat.le_of_ble_eq_true rfl) rfl rfl (fun h_43 hp f_43 => ?_)
          have hF := hF.tr f_43
          have hL := hL.kt f_43 hp0
          have hP : PB G h_43 p x a nl t n (sk t q + 1) sa9 0 hs hw := ⟨⟨hp0, hp⟩, hP.2.1.kt f_43 (by omega), ⟨by omega, by omega⟩, hP.2.2.2⟩
          have hW := hW.fo f_43.fo hp0 (by omega)
          refine ww_iload_n 0 dX4_term_46 rfl ?_
          refine ww_aload_n 2 dX4_term_47 rfl ?_
          refine ww_aload_n 1 dX4_term_48 rfl ?_
          refine cx_r (cx_V (ct_X4_factor0 hG hP hL y v (by omega)) sv_X4_104 rfl dX4_term_49 hP.obj rfl rfl rfl rfl ⟨Nat.le_of_ble_eq_true rfl, Nat.le_of_ble_eq_true rfl⟩ (Nat.le_of_ble_eq_true rfl) (by dsimp only [mmc, MX4_term, MX4_factor, MX4_peek, MX1_operation] <;> omega) (by dsimp only [mms, MX4_term, MX4_factor, MX4_peek, MX1_operation] <;> omega)) (fun X_49 q_49 g_49 hx_49 => wq_out hQ hT (by dsimp only [mmc, MX4_term, MX4_peek, MX4_factor, MX1_operation] <;> omega) (by dsimp only [mms, MX4_term, MX4_peek, MX4_factor, MX1_operation] <;> omega) (hx_49.go hF.fp (fun c o e => by rw [hpe, pE2, if_pos hop, e]))) (fun r_49 h_49 hp_49 => ?_)
          obtain ⟨y_49, p_49, s_49, hr_49, hg_49, hm_49, hW_49, hP, f_49⟩ := hp_49
          have hF := hF.tr f_49
          have hL := hL.kt f_49 hp0
          have hW := hW.fo f_49.fo hp0 (by omega)
          have hen := en_ok hr_49
          rw [hen] at hd1 hd2
          have hcq1 : rC n (sk t q + 1) (some p_49) = 8 * (p_49 - (sk t q + 1)).toNat := rfl
          have hcq2 : rS n (sk t q + 1) (some p_49) = 40 * (p_49 - (sk t q + 1)).toNat := rfl
          refine cr_r (cr_SN (ct_X1_operation hG (op := 5) (d := (p_49 - nx).toNat - 1) (by decide) (by decide) (hW.le (by omega)) (hW_49.le (by omega))) ss_X4_100 rfl dX4_term_52 rfl rfl ⟨Nat.le_of_ble_eq_true rfl, Nat.le_of_ble_eq_true rfl⟩ (Nat.le_of_ble_eq_true rfl) (by dsimp only [mmc, MX4_term, MX4_peek, MX4_factor, MX1_operation]; rw [hen]; omega) (by dsimp only [mms, MX4_term, MX4_peek, MX4_factor, MX1_operation]; rw [hen]; omega)) (fun r_52 h_52 hp_52 => ?_)
          obtain ⟨hW_52, e_52, n_52⟩ := hp_52
          have hF := hF.xe e_52
          have hL := hL.ex e_52
          refine ww_astore_n [(1, _), (2, _), (0, _)] dX4_term_55 (Nat.le_of_ble_eq_true rfl) rfl ?_
          refine ww_goto 5 dX4_term_56 (by decide) ?_
          refine ww_sub [2, 0] rfl ?_
          refine ww_widen (n' := 8 * (p_49 - nx).toNat) (k' := 40 * (p_49 - nx).toNat) (by dsimp only [mmc, MX4_term, MX4_peek, MX4_factor, MX1_operation]; rw [en_ok hr_49]; show _ + 8 * (p_49 - (sk t q + 1)).toNat + 1 ≤ _; omega) (by dsimp only [mms, MX4_term, MX4_peek, MX4_factor, MX1_operation]; rw [en_ok hr_49]; show _ + 40 * (p_49 - (sk t q + 1)).toNat + 3 ≤ _; omega) ?_
          exact ie v (cmb 5 y y_49) p_49 s_49 _ _ hF (hP.ex e_52) hL (by rw [hpe, pE2, if_pos hop, hr_49]; simp only; rw [if_neg (by rw [hch]; decide)]) (by omega) (by omega) hm_49 (hW_52.le (by omega)) (by omega)
  refine ww_sub [1, 0] rfl ?_
  refine ww_widen (n' := 8 * (p_1 - nx).toNat) (k' := 40 * (p_1 - nx).toNat) (by dsimp only [mmc, MX4_term, MX4_peek, MX4_factor, MX1_operation]; rw [en_ok hr_1]; show 0 + 8 * (p_1 - nx).toNat ≤ _; omega) (by dsimp only [mms, MX4_term, MX4_peek, MX4_factor, MX1_operation]; rw [en_ok hr_1]; show 0 + 40 * (p_1 - nx).toNat ≤ _; omega) ?_
  exact loop_5 801 g y_1 p_1 s_1 _ _ hF hP hL (by rw [hfg, pE1, hr_1]) (by omega) hg_1 hm_1 hW_1 (by omega)

set_option maxHeartbeats 4000000 in
theorem ct_X4_sum0 {G : GT} {h : AH} (hG : GOK G) {p x a nl : Nat} {t : Int → Int} {n nx sa hs hw : Int} (hP : PB G h p x a nl t n nx sa 0 hs hw) (hL : LitC G h) (xe : List Int × EF) (f : Nat) (hf : 3 * (n - nx) + 3 ≤ f) : CX G (MX4_sum 26 4800 (rC n nx (en (pE f 3 t 0 nx xe))) (rS n nx (en (pE f 3 t 0 nx xe)))) h [.ref p] (pR (fun w h' => ∃ y q sa9, pE f 3 t 0 nx xe = .ok (y, q) ∧ nx < q ∧ q ≤ n ∧ WT G h' (q - nx).toNat w y.2 ∧ PB G h' p x a nl t n q sa9 0 hs hw ∧ PF p h h')) (XS p a h (pE f 3 t 0 nx xe)) := by
  refine CX.of rfl hG (Nat.le_of_ble_eq_true rfl) rfl (fun E hQ hT => ?_)
  have ht := hP.txt
  have h8 := ht.2.1
  have h0 := ht.1
  have hnx := hP.2.2.1
  have hk := ht.k1 hnx.2
  have hrg := ht.rg (q := sk t nx) (by omega)
  have hp0 := hP.1.1
  have hF : PF p h h := KT.rf
  obtain ⟨g, hfg⟩ : ∃ g, f = g + 1 := ⟨f - 1, by omega⟩
  refine ww_aload_n 0 dX4_sum_0 rfl ?_
  obtain ⟨hc1, hc2⟩ := c_s1 (n := n) (d := 0) (x := xe) (f := g) ht hnx.1 hnx.2
  rw [← hfg] at hc1 hc2
  refine cx_r (cx_V (ct_X4_term0 hG hP hL xe g (by omega)) sv_X4_96 rfl dX4_sum_1 hP.obj rfl rfl rfl rfl ⟨Nat.le_of_ble_eq_true rfl, Nat.le_of_ble_eq_true rfl⟩ (Nat.le_of_ble_eq_true rfl) (by dsimp only [mmc, MX4_sum, MX4_term] <;> omega) (by dsimp only [mms, MX4_sum, MX4_term] <;> omega)) (fun X_1 q_1 g_1 hx_1 => wq_out hQ hT (by dsimp only [mmc, MX4_sum, MX4_peek, MX4_term, MX1_operation] <;> omega) (by dsimp only [mms, MX4_sum, MX4_peek, MX4_term, MX1_operation] <;> omega) (hx_1.go hF.fp (fun c o e => by rw [hfg, pE3, e]))) (fun r_1 h_1 hp_1 => ?_)
  obtain ⟨y_1, p_1, s_1, hr_1, hg_1, hm_1, hW_1, hP, f_1⟩ := hp_1
  have hF := hF.tr f_1
  have hL := hL.kt f_1 hp0
  refine ww_astore_n [(1, _), (0, _)] dX4_sum_4 (Nat.le_of_ble_eq_true rfl) rfl ?_
  have loop_5 : ∀ (e : Nat) (u : Nat) (y : List Int × EF) (q sa9 : Int) (w : Nat) (h1 : AH), (PF p h h1) → (PB G h1 p x a nl t n q sa9 0 hs hw) → (LitC G h1) → (pE f 3 t 0 nx xe = pE u 4 t 0 q y) → (3 * (n - q) + 1 ≤ u) → (nx < q) → (q ≤ n) → (WT G h1 (q - nx).toNat w y.2) → (n - q < e) → WW G E (MX4_sum 26 4800 (rC n nx (en (pE f 3 t 0 nx xe))) (rS n nx (en (pE f 3 t 0 nx xe)))) h1 (8 * (q - nx).toNat) (40 * (q - nx).toNat) 5 [(0, .ref p), (1, .ref w)] [] := by
    intro e
    induction e with
    | zero => intro u y q sa9 w h1 hF hP hL hpe hu hq0 hq1 hW he; exact absurd he (by omega)
    | succ e ie =>
      intro u y q sa9 w h1 hF hP hL hpe hu hq0 hq1 hW he
      have hkq := ht.k1 hq1
      have hrq := ht.rg (q := sk t q) (by omega)
      obtain ⟨v, rfl⟩ : ∃ v, u = v + 1 := ⟨u - 1, by omega⟩
      have hcq := rC_le (n := n) (p := nx) (q1 := q) (e := en (pE f 3 t 0 nx xe)) (fun q9 e9 => by obtain ⟨y9, e9⟩ := en_some e9; rw [hpe] at e9; exact (pE_mono ht _ _ _ _ _ _ _ (by omega) hq1 e9).1) hq1
      refine ww_aload_n 0 dX4_sum_5 rfl ?_
      refine cr_i (cr_V (ct_X4_peek hG hP) sv_X4_55 rfl dX4_sum_6 hP.obj rfl rfl rfl rfl ⟨Nat.le_of_ble_eq_true rfl, Nat.le_of_ble_eq_true rfl⟩ (Nat.le_of_ble_eq_true rfl) (by dsimp only [mmc, MX4_sum, MX4_term, MX4_peek] <;> omega) (by dsimp only [mms, MX4_sum, MX4_term, MX4_peek] <;> omega)) (fun r_6 h_6 hp_6 => ?_)
      obtain ⟨er_6, hP, f_6⟩ := hp_6
      subst er_6
      have hF := hF.tr f_6
      have hL := hL.kt f_6 hp0
      have hW := hW.fo f_6.fo hp0 (by omega)
      refine ww_bipush dX4_sum_9 (by decide) ?_
      refine ww_icmp_eq 23 dX4_sum_11 (by decide) (inI.mk (by omega) (by omega)) (inI.mk (by omega) (by omega)) (fun c_11 => ?_) (fun c_11 => ?_)
      · have hch := c_11
        have hop : t (sk t q) = 43 ∨ t (sk t q) = 45 := Or.inl hch
        refine ww_aload_n 0 dX4_sum_23 rfl ?_
        have hsn : sk t q ≠ n := fun e => by rw [e, ht.2.2.1 n (Int.le_refl _)] at hch; cases hch
        obtain ⟨-, ⟨bf, fs, B, hx0, hx, hb, -, hB⟩, -⟩ := id hP
        have hBj := hB (sk t q) (by omega) (by omega)
        have hsg : B (sk t q) = sgn 2 := by show B (sk t q) = 43; rw [hBj.2.2] at hch; omega
        obtain ⟨hd1, hd2⟩ := c_s2 (n := n) (p := nx) (q := q) (d := 0) (x := y) (f := v) ht (by omega) (by omega) hq1 hop
        rw [← hpe] at hd1 hd2
        have hp := hP.obj
        refine ww_getf gf_X4_3 rfl dX4_sum_24 hp rfl ?_
        refine ww_getf gf_X4_38 rfl dX4_sum_27 hx rfl ?_
        refine ww_aload_n 0 dX4_sum_30 rfl ?_
        refine ww_getf gf_X4_35 rfl dX4_sum_31 hp rfl ?_
        refine ww_bald dX4_sum_34 hb (by omega) (by omega) (by omega) ?_
        rw [hsg]
        refine ww_istore_n [(2, _), (0, _), (1, _)] dX4_sum_35 (Nat.le_of_ble_eq_true rfl) rfl ?_
        refine ww_aload_n 1 dX4_sum_36 rfl ?_
        refine ww_dup dX4_sum_37 rfl ?_
        refine ww_getf gf_X4_35 rfl dX4_sum_38 hp rfl ?_
        refine ww_iconst dX4_sum_41 ?_
        refine ww_iadd dX4_sum_42 ?_
        refine wx_putf pf_X4_35 rfl dX4_sum_43 hp hp0 (Nat.le_of_ble_eq_true rfl) rfl rfl (fun h_43 hp f_43 => ?_)
        have hF := hF.tr f_43
        have hL := hL.kt f_43 hp0
        have hP : PB G h_43 p x a nl t n (sk t q + 1) sa9 0 hs hw := ⟨⟨hp0, hp⟩, hP.2.1.kt f_43 (by omega), ⟨by omega, by omega⟩, hP.2.2.2⟩
        have hW := hW.fo f_43.fo hp0 (by omega)
        refine ww_iload_n 0 dX4_sum_46 rfl ?_
        refine ww_aload_n 2 dX4_sum_47 rfl ?_
        refine ww_aload_n 1 dX4_sum_48 rfl ?_
        refine cx_r (cx_V (ct_X4_term0 hG hP hL y v (by omega)) sv_X4_96 rfl dX4_sum_49 hP.obj rfl rfl rfl rfl ⟨Nat.le_of_ble_eq_true rfl, Nat.le_of_ble_eq_true rfl⟩ (Nat.le_of_ble_eq_true rfl) (by dsimp only [mmc, MX4_sum, MX4_term, MX4_peek] <;> omega) (by dsimp only [mms, MX4_sum, MX4_term, MX4_peek] <;> omega)) (fun X_49 q_49 g_49 hx_49 => wq_out hQ hT (by dsimp only [mmc, MX4_sum, MX4_peek, MX4_term, MX1_operation] <;> omega) (by dsimp only [mms, MX4_sum, MX4_peek, MX4_term, MX1_operation] <;> omega) (hx_49.go hF.fp (fun c o e => by rw [hpe, pE4, if_pos hop, e]))) (fun r_49 h_49 hp_49 => ?_)
        obtain ⟨y_49, p_49, s_49, hr_49, hg_49, hm_49, hW_49, hP, f_49⟩ := hp_49
        have hF := hF.tr f_49
        have hL := hL.kt f_49 hp0
        have hW := hW.fo f_49.fo hp0 (by omega)
        have hen := en_ok hr_49
        rw [hen] at hd1 hd2
        have hcq1 : rC n (sk t q + 1) (some p_49) = 8 * (p_49 - (sk t q + 1)).toNat := rfl
        have hcq2 : rS n (sk t q + 1) (some p_49) = 40 * (p_49 - (sk t q + 1)).toNat := rfl
        refine cr_r (cr_SN (ct_X1_operation hG (op := 2) (d := (p_49 - nx).toNat - 1) (by decide) (by decide) (hW.le (by omega)) (hW_49.le (by omega))) ss_X4_100 rfl dX4_sum_52 rfl rfl ⟨Nat.le_of_ble_eq_true rfl, Nat.le_of_ble_eq_true rfl⟩ (Nat.le_of_ble_eq_true rfl) (by dsimp only [mmc, MX4_sum, MX4_peek, MX4_term, MX1_operation]; rw [hen]; omega) (by dsimp only [mms, MX4_sum, MX4_peek, MX4_term, MX1_operation]; rw [hen]; omega)) (fun r_52 h_52 hp_52 => ?_)
        obtain ⟨hW_52, e_52, n_52⟩ := hp_52
        have hF := hF.xe e_52
        have hL := hL.ex e_52
        refine ww_astore_n [(1, _), (2, _), (0, _)] dX4_sum_55 (Nat.le_of_ble_eq_true rfl) rfl ?_
        refine ww_goto 5 dX4_sum_56 (by decide) ?_
        refine ww_sub [2, 0] rfl ?_
        refine ww_widen (n' := 8 * (p_49 - nx).toNat) (k' := 40 * (p_49 - nx).toNat) (by dsimp only [mmc, MX4_sum, MX4_peek, MX4_term, MX1_operation]; rw [en_ok hr_49]; show _ + 8 * (p_49 - (sk t q + 1)).toNat + 1 ≤ _; omega) (by dsimp only [mms, MX4_sum, MX4_peek, MX4_term, MX1_operation]; rw [en_ok hr_49]; show _ + 40 * (p_49 - (sk t q + 1)).toNat + 3 ≤ _; omega) ?_
        exact ie v (cmb 2 y y_49) p_49 s_49 _ _ hF (hP.ex e_52) hL (by rw [hpe, pE4, if_pos hop, hr_49]; simp only; rw [if_pos hch]) (by omega) (by omega) hm_49 (hW_52.le (by omega)) (by omega)
      · refine ww_aload_n 0 dX4_sum_14 rfl ?_
        refine cr_i (cr_V (ct_X4_peek hG hP) sv_X4_55 rfl dX4_sum_15 hP.obj rfl rfl rfl rfl ⟨Nat.le_of_ble_eq_true rfl, Nat.le_of_ble_eq_true rfl⟩ (Nat.le_of_ble_eq_true rfl) (by dsimp only [mmc, MX4_sum, MX4_term, MX4_peek, MX1_operation] <;> omega) (by dsimp only [mms, MX4_sum, MX4_term, MX4_peek, MX1_operation] <;> omega)) (fun r_15 h_15 hp_15 => ?_)
        obtain ⟨er_15, hP, f_15⟩ := hp_15
        subst er_15
        have hF := hF.tr f_15
        have hL := hL.kt f_15 hp0
        rw [ht.kk hq1] at hP ⊢
        have hW := hW.fo f_15.fo hp0 (by omega)
        refine ww_bipush dX4_sum_18 (by decide) ?_
        refine ww_icmp_ne 59 dX4_sum_20 (by decide) (inI.mk (by omega) (by omega)) (inI.mk (by omega) (by omega)) (fun c_20 => ?_) (fun c_20 => ?_)
        · have hpo : (pE f 3 t 0 nx xe) = .ok (y, sk t q) := by rw [hpe, pE4, if_neg (by omega)]
          refine ww_aload_n 1 dX4_sum_59 rfl ?_
          exact ww_x hQ (ww_aret rfl dX4_sum_60 rfl rfl (by dsimp only [mmc, MX4_sum, MX4_term, MX4_peek, MX1_operation] <;> omega) (by dsimp only [mms, MX4_sum, MX4_term, MX4_peek, MX1_operation] <;> omega) ⟨_, rfl, y, sk t q, sa9, hpo, by omega, by omega, hW.le (by omega), hP, hF⟩)
        · have hch := c_20
          have hop : t (sk t q) = 43 ∨ t (sk t q) = 45 := Or.inr hch
          refine ww_aload_n 0 dX4_sum_23 rfl ?_
          have hsn : sk t q ≠ n := fun e => by rw [e, ht.2.2.1 n (Int.le_refl _)] at hch; cases hch
          obtain ⟨-, ⟨bf, fs, B, hx0, hx, hb, -, hB⟩, -⟩ := id hP
          have hBj := hB (sk t q) (by omega) (by omega)
          have hsg : B (sk t q) = sgn 3 := by show B (sk t q) = 45; rw [hBj.2.2] at hch; omega
          obtain ⟨hd1, hd2⟩ := c_s2 (n := n) (p := nx) (q := q) (d := 0) (x := y) (f := v) ht (by omega) (by omega) hq1 hop
          rw [← hpe] at hd1 hd2
          have hp := hP.obj
          refine ww_getf gf_X4_3 rfl dX4_sum_24 hp rfl ?_
          refine ww_getf gf_X4_38 rfl dX4_sum_27 hx rfl ?_
          refine ww_aload_n 0 dX4_sum_30 rfl ?_
          refine ww_getf gf_X4_35 rfl dX4_sum_31 hp rfl ?_
          refine ww_bald dX4_sum_34 hb (by omega) (by omega) (by omega) ?_
          rw [hsg]
          refine ww_istore_n [(2, _), (0, _), (1, _)] dX4_sum_35 (Nat.le_of_ble_eq_true rfl) rfl ?_
          refine ww_aload_n 1 dX4_sum_36 rfl ?_
          refine ww_dup dX4_sum_37 rfl ?_
          refine ww_getf gf_X4_35 rfl dX4_sum_38 hp rfl ?_
          refine ww_iconst dX4_sum_41 ?_
          refine ww_iadd dX4_sum_42 ?_
          refine wx_putf pf_X4_35 rfl dX4_sum_43 hp hp0 (Nat.le_of_ble_eq_true rfl) rfl rfl (fun h_43 hp f_43 => ?_)
          have hF := hF.tr f_43
          have hL := hL.kt f_43 hp0
          have hP : PB G h_43 p x a nl t n (sk t q + 1) sa9 0 hs hw := ⟨⟨hp0, hp⟩, hP.2.1.kt f_43 (by omega), ⟨by omega, by omega⟩, hP.2.2.2⟩
          have hW := hW.fo f_43.fo hp0 (by omega)
          refine ww_iload_n 0 dX4_sum_46 rfl ?_
          refine ww_aload_n 2 dX4_sum_47 rfl ?_
          refine ww_aload_n 1 dX4_sum_48 rfl ?_
          refine cx_r (cx_V (ct_X4_term0 hG hP hL y v (by omega)) sv_X4_96 rfl dX4_sum_49 hP.obj rfl rfl rfl rfl ⟨Nat.le_of_ble_eq_true rfl, Nat.le_of_ble_eq_true rfl⟩ (Nat.le_of_ble_eq_true rfl) (by dsimp only [mmc, MX4_sum, MX4_term, MX4_peek, MX1_operation] <;> omega) (by dsimp only [mms, MX4_sum, MX4_term, MX4_peek, MX1_operation] <;> omega)) (fun X_49 q_49 g_49 hx_49 => wq_out hQ hT (by dsimp only [mmc, MX4_sum, MX4_peek, MX4_term, MX1_operation] <;> omega) (by dsimp only [mms, MX4_sum, MX4_peek, MX4_term, MX1_operation] <;> omega) (hx_49.go hF.fp (fun c o e => by rw [hpe, pE4, if_pos hop, e]))) (fun r_49 h_49 hp_49 => ?_)
          obtain ⟨y_49, p_49, s_49, hr_49, hg_49, hm_49, hW_49, hP, f_49⟩ := hp_49
          have hF := hF.tr f_49
          have hL := hL.kt f_49 hp0
          have hW := hW.fo f_49.fo hp0 (by omega)
          have hen := en_ok hr_49
          rw [hen] at hd1 hd2
          have hcq1 : rC n (sk t q + 1) (some p_49) = 8 * (p_49 - (sk t q + 1)).toNat := rfl
          have hcq2 : rS n (sk t q + 1) (some p_49) = 40 * (p_49 - (sk t q + 1)).toNat := rfl
          refine cr_r (cr_SN (ct_X1_operation hG (op := 3) (d := (p_49 - nx).toNat - 1) (by decide) (by decide) (hW.le (by omega)) (hW_49.le (by omega))) ss_X4_100 rfl dX4_sum_52 rfl rfl ⟨Nat.le_of_ble_eq_true rfl, Nat.le_of_ble_eq_true rfl⟩ (Nat.le_of_ble_eq_true rfl) (by dsimp only [mmc, MX4_sum, MX4_peek, MX4_term, MX1_operation]; rw [hen]; omega) (by dsimp only [mms, MX4_sum, MX4_peek, MX4_term, MX1_operation]; rw [hen]; omega)) (fun r_52 h_52 hp_52 => ?_)
          obtain ⟨hW_52, e_52, n_52⟩ := hp_52
          have hF := hF.xe e_52
          have hL := hL.ex e_52
          refine ww_astore_n [(1, _), (2, _), (0, _)] dX4_sum_55 (Nat.le_of_ble_eq_true rfl) rfl ?_
          refine ww_goto 5 dX4_sum_56 (by decide) ?_
          refine ww_sub [2, 0] rfl ?_
          refine ww_widen (n' := 8 * (p_49 - nx).toNat) (k' := 40 * (p_49 - nx).toNat) (by dsimp only [mmc, MX4_sum, MX4_peek, MX4_term, MX1_operation]; rw [en_ok hr_49]; show _ + 8 * (p_49 - (sk t q + 1)).toNat + 1 ≤ _; omega) (by dsimp only [mms, MX4_sum, MX4_peek, MX4_term, MX1_operation]; rw [en_ok hr_49]; show _ + 40 * (p_49 - (sk t q + 1)).toNat + 3 ≤ _; omega) ?_
          exact ie v (cmb 3 y y_49) p_49 s_49 _ _ hF (hP.ex e_52) hL (by rw [hpe, pE4, if_pos hop, hr_49]; simp only; rw [if_neg (by rw [hch]; decide)]) (by omega) (by omega) hm_49 (hW_52.le (by omega)) (by omega)
  refine ww_sub [1, 0] rfl ?_
  refine ww_widen (n' := 8 * (p_1 - nx).toNat) (k' := 40 * (p_1 - nx).toNat) (by dsimp only [mmc, MX4_sum, MX4_peek, MX4_term, MX1_operation]; rw [en_ok hr_1]; show 0 + 8 * (p_1 - nx).toNat ≤ _; omega) (by dsimp only [mms, MX4_sum, MX4_peek, MX4_term, MX1_operation]; rw [en_ok hr_1]; show 0 + 40 * (p_1 - nx).toNat ≤ _; omega) ?_
  exact loop_5 801 g y_1 p_1 s_1 _ _ hF hP hL (by rw [hfg, pE3, hr_1]) (by omega) hg_1 hm_1 hW_1 (by omega)
