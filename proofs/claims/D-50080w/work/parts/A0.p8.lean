set_option maxRecDepth 100000
theorem hq_A : hsI kwName = 3373707 := by decide +kernel
theorem hq_B : hsI kwLibrary = 166208699 := by decide +kernel
theorem hq_C : hsI kwOffer = 105650780 := by decide +kernel
theorem hq_D : hsI kwPrefer = -980110832 := by decide +kernel
theorem hq_S : hsI kwShare = 109400031 := by decide +kernel
theorem hq_W : hsI kwWeight = -791592328 := by decide +kernel
set_option maxHeartbeats 4000000 in
theorem ct_X4_statement {G : GT} {h : AH} (hG : GOK G) {p x a nl : Nat} {t : Int → Int} {n nx sa hs hw : Int} (hP : PB G h p x a nl t n nx sa 0 hs hw) {s : PS} (hH : HPn G h a p nl s) (hL : LitC G h) (hs9 : PSc s) (hhs : hs = bI (s.hs = true)) (hhw : hw = bI (s.hw = true)) : CX G (MX4_statement 28 5500 (stC n nx (pSt t nx s)) (stS n nx (pSt t nx s))) h [.ref p] (pV (fun h' => ∃ e s' sa9 hs9 hw9, pSt t nx s = .ok (e, s') ∧ nx < e ∧ e ≤ n ∧ PSc s' ∧ PB G h' p x a nl t n e sa9 0 hs9 hw9 ∧ hs9 = bI (s'.hs = true) ∧ hw9 = bI (s'.hw = true) ∧ HPn G h' a p nl s' ∧ LitC G h' ∧ FP p a h h')) (XS p a h (pSt t nx s)) := by
  refine CX.of rfl hG (Nat.le_of_ble_eq_true rfl) rfl (fun E hQ hT => ?_)
  have ht := hP.txt
  have h8 := ht.2.1
  have h0 := ht.1
  have hnx := hP.2.2.1
  have hk := ht.k1 hnx.2
  have hrg := ht.rg (q := sk t nx) (by omega)
  have hp0 := hP.1.1
  have hF : FP p a h h := FP.rf
  have h12 := hs9.n
  have h8l := hs9.l
  have ha0 := hH.a0
  have hw1 := ht.w1 hk.2.1
  refine ww_aload_n 0 dX4_statement_0 rfl ?_
  have hH0 := hH
  obtain ⟨hb1, hb2⟩ := st_word (s := s) ht hnx.1 hnx.2 (fun q s2 e => by have := pSt_r ht hnx.1 hnx.2 q s2 e; exact ⟨this.1, this.2.2⟩)
  obtain ⟨hwC, hwS⟩ := wCI (l := we t (sk t nx) - sk t nx) (by omega)
  refine cr_r (cr_V (ct_X4_word hG hP) sv_X4_124 rfl dX4_statement_1 hP.obj rfl rfl rfl rfl ⟨Nat.le_of_ble_eq_true rfl, Nat.le_of_ble_eq_true rfl⟩ (Nat.le_of_ble_eq_true rfl) (by dsimp only [mmc, MX4_statement, MX4_word] <;> omega) (by dsimp only [mms, MX4_statement, MX4_word] <;> omega)) (fun r_1 h_1 hp_1 => ?_)
  obtain ⟨hW_1, n_1, hP, f_1⟩ := hp_1
  have hF := hF.kt f_1 (by first | exact Or.inl rfl | exact Or.inr rfl)
  have hH := hH.kt f_1 hp0
  have hL := hL.kt f_1 (by first | exact hp0 | exact ha0)
  have hpl := pw_len (t := t) (e := nx)
  rw [Int.toNat_of_nonneg (by omega)] at hpl
  have hF1 := f_1
  obtain ⟨fsw, hwo⟩ := hW_1.obj
  refine ww_astore_n [(1, _), (0, _)] dX4_statement_4 (Nat.le_of_ble_eq_true rfl) rfl ?_
  refine ww_aload_n 1 dX4_statement_5 rfl ?_
  refine ww_getf gf_X4_35 rfl dX4_statement_6 hP.obj rfl ?_
  refine ww_istore_n [(2, _), (1, _), (0, _)] dX4_statement_9 (Nat.le_of_ble_eq_true rfl) rfl ?_
  refine ww_aload_n 2 dX4_statement_10 rfl ?_
  refine ww_dup dX4_statement_11 rfl ?_
  refine ww_getf gf_X4_35 rfl dX4_statement_12 hP.obj rfl ?_
  refine ww_aload_n 1 dX4_statement_15 rfl ?_
  refine cr_pi (cr_V (ct_J6_length hG hW_1) sv_X4_131 rfl dX4_statement_16 hwo rfl rfl rfl rfl ⟨Nat.le_of_ble_eq_true rfl, Nat.le_of_ble_eq_true rfl⟩ (Nat.le_of_ble_eq_true rfl) (by dsimp only [mmc, MX4_statement, MX4_word, MJ6_length] <;> omega) (by dsimp only [mms, MX4_statement, MX4_word, MJ6_length] <;> omega)) ?_
  rw [hpl]
  refine ww_iadd dX4_statement_19 ?_
  rw [show sk t nx + (we t (sk t nx) - sk t nx) = we t (sk t nx) by omega]
  have hp := hP.obj
  refine wx_putf pf_X4_35 rfl dX4_statement_20 hp hp0 (Nat.le_of_ble_eq_true rfl) rfl rfl (fun h_20 hp f_20 => ?_)
  have hF := hF.kt f_20 (by first | exact Or.inl rfl | exact Or.inr rfl)
  have hH := hH.kt f_20 hp0
  have hL := hL.kt f_20 (by first | exact hp0 | exact ha0)
  have hP : PB G h_20 p x a nl t n (we t (sk t nx)) sa 0 hs hw := ⟨⟨hp0, hp⟩, hP.2.1.kt f_20 (by omega), ⟨by omega, by omega⟩, hP.2.2.2⟩
  have hW_1 := hW_1.kt f_20 (by omega)
  have hwo := f_20.at hwo (by omega)
  have hF1 := hF1.tr f_20
  refine ww_aload_n 1 dX4_statement_23 rfl ?_
  refine ww_astore_n [(3, _), (2, _), (1, _), (0, _)] dX4_statement_24 (Nat.le_of_ble_eq_true rfl) rfl ?_
  refine ww_iconst dX4_statement_25 ?_
  refine ww_istore [(4, _), (3, _), (2, _), (1, _), (0, _)] dX4_statement_26 (Nat.le_of_ble_eq_true rfl) rfl ?_
  refine ww_aload_n 1 dX4_statement_28 rfl ?_
  refine cr_i (cr_V (ct_J6_hashCode hG hW_1) sv_X4_209 rfl dX4_statement_29 hwo rfl rfl rfl rfl ⟨Nat.le_of_ble_eq_true rfl, Nat.le_of_ble_eq_true rfl⟩ (Nat.le_of_ble_eq_true rfl) (by dsimp only [mmc, MX4_statement, MX4_word, MJ6_length, MJ6_hashCode] <;> omega) (by dsimp only [mms, MX4_statement, MX4_word, MJ6_length, MJ6_hashCode] <;> omega)) (fun r_29 h_29 hp_29 => ?_)
  obtain ⟨er_29, hW_1, z_29⟩ := hp_29
  subst er_29
  have hF1 := hF1.no z_29.fo n_1
  have hP := hP.fo z_29.fo (by omega)
  have hL := hL.fz z_29
  have hH := hH0.kt hF1 hp0
  have hF := hF1.fp (a := a)
  obtain ⟨fsw, hwo⟩ := hW_1.obj
  have hsw : hsI (pw t nx) = 3373707 ∨ hsI (pw t nx) = 166208699 ∨ hsI (pw t nx) = 105650780 ∨ hsI (pw t nx) = -980110832 ∨ hsI (pw t nx) = 109400031 ∨ hsI (pw t nx) = -791592328 ∨ (hsI (pw t nx) ≠ 3373707 ∧ hsI (pw t nx) ≠ 166208699 ∧ hsI (pw t nx) ≠ 105650780 ∧ hsI (pw t nx) ≠ -980110832 ∧ hsI (pw t nx) ≠ 109400031 ∧ hsI (pw t nx) ≠ -791592328) := by omega
  rcases hsw with hz9 | hz9 | hz9 | hz9 | hz9 | hz9 | hz9
  · rw [hz9]
    refine ww_lookup 92 dX4_statement_32 (inI.mk (by decide) (by decide)) rfl rfl (by decide) ?_
    refine ww_aload_n 1 dX4_statement_92 rfl ?_
    obtain ⟨a9, tx9, hz8, hS9⟩ := hL.1 "LinkElection$Parser" 212 kwName (by decide)
    refine ww_ldcS hz8 dX4_statement_93 ?_
    refine cr_pi (cr_V (ct_J6_equals hG hW_1 hS9) sv_X4_146 rfl dX4_statement_95 hwo rfl rfl rfl rfl ⟨Nat.le_of_ble_eq_true rfl, Nat.le_of_ble_eq_true rfl⟩ (Nat.le_of_ble_eq_true rfl) (by dsimp only [mmc, MX4_statement, MX4_word, MJ6_length, MJ6_hashCode, MJ6_equals] <;> omega) (by dsimp only [mms, MX4_statement, MX4_word, MJ6_length, MJ6_hashCode, MJ6_equals] <;> omega)) ?_
    refine ww_ifb_eq 179 dX4_statement_98 (by decide) (fun c_98 => ?_) (fun c_98 => ?_)
    · have nB : pw t nx ≠ kwLibrary := fun e => by rw [e, hq_B] at hz9; exact absurd hz9 (by decide)
      have nC : pw t nx ≠ kwOffer := fun e => by rw [e, hq_C] at hz9; exact absurd hz9 (by decide)
      have nD : pw t nx ≠ kwPrefer := fun e => by rw [e, hq_D] at hz9; exact absurd hz9 (by decide)
      have nS : pw t nx ≠ kwShare := fun e => by rw [e, hq_S] at hz9; exact absurd hz9 (by decide)
      have nW : pw t nx ≠ kwWeight := fun e => by rw [e, hq_W] at hz9; exact absurd hz9 (by decide)
      have nA : pw t nx ≠ kwName := c_98
      have hs1 : pSt1 t nx s = .error (-2, sk t nx) := by unfold pSt1; rw [if_neg nA, if_neg nB, if_neg nC, if_neg nD, if_neg nS, if_neg nW]
      clear hb1 hb2
      obtain ⟨hb1, hb2⟩ := st_no ht hnx.1 hnx.2 hs1
      refine ww_iload 0 dX4_statement_179 rfl ?_
      refine ww_tableOut 329 dX4_statement_181 (inI.mk (by decide) (by decide)) (by decide) (by decide) ?_
      have hFz := hF
      refine wx_new (fun q => (q, 10590)) nw_X4_50 rfl dX4_statement_329 (fun q hq => ⟨hq.1, Nat.le_refl _⟩) (by dsimp only [mmc, MX4_statement, MX4_word, MJ6_length, MJ6_hashCode, MJ6_equals] <;> omega) (by dsimp only [mms, MX4_statement, MX4_word, MJ6_length, MJ6_hashCode, MJ6_equals] <;> omega) (fun q_329 h_329 n_329 e_329 hq9 => ?_)
      have hF := hF.ex e_329
      have hH := hH.ex e_329
      have hL := hL.ex e_329
      refine ww_dup dX4_statement_332 rfl ?_
      refine ww_bipush dX4_statement_333 (by decide) ?_
      refine ww_iload_n 2 dX4_statement_335 rfl ?_
      refine cr_v (cr_I (ct_X5_init hG n_329.1 hq9 (-2) (sk t nx)) si_X4_52 rfl rfl dX4_statement_336 rfl rfl ⟨Nat.le_of_ble_eq_true rfl, Nat.le_of_ble_eq_true rfl⟩ (Nat.le_of_ble_eq_true rfl) (by dsimp only [mmc, MX4_statement, MX4_word, MJ6_length, MJ6_hashCode, MJ6_equals, MX5_init] <;> omega) (by dsimp only [mms, MX4_statement, MX4_word, MJ6_length, MJ6_hashCode, MJ6_equals, MX5_init] <;> omega)) (fun h_336 hp_336 => ?_)
      obtain ⟨hS_336, f_336⟩ := hp_336
      exact ww_athrow dX4_statement_339 hS_336 n_329.1 rfl rfl (wq_out hQ hT (by dsimp only [mmc, MX4_statement, MX4_word, MJ6_length, MJ6_hashCode, MJ6_equals, MX4_name, MX4_library, MX4_offer, MX4_prefer, MX4_require, MX4_number, MX4_sum, MX4_expect, MX5_init] <;> omega) (by dsimp only [mms, MX4_statement, MX4_word, MJ6_length, MJ6_hashCode, MJ6_equals, MX4_name, MX4_library, MX4_offer, MX4_prefer, MX4_require, MX4_number, MX4_sum, MX4_expect, MX5_init] <;> omega) ⟨rfl, -2, sk t nx, pSt_e hs1, by omega, hS_336, hFz.tr (((e_329.fo).tr f_336).nw n_329).fp⟩)
    · have nB : pw t nx ≠ kwLibrary := fun e => by rw [e, hq_B] at hz9; exact absurd hz9 (by decide)
      have nC : pw t nx ≠ kwOffer := fun e => by rw [e, hq_C] at hz9; exact absurd hz9 (by decide)
      have nD : pw t nx ≠ kwPrefer := fun e => by rw [e, hq_D] at hz9; exact absurd hz9 (by decide)
      have nS : pw t nx ≠ kwShare := fun e => by rw [e, hq_S] at hz9; exact absurd hz9 (by decide)
      have nW : pw t nx ≠ kwWeight := fun e => by rw [e, hq_W] at hz9; exact absurd hz9 (by decide)
      have hkw : pw t nx = kwName := c_98
      have hs1 : pSt1 t nx s = pName t (sk t nx) (we t (sk t nx)) s := by unfold pSt1; rw [if_pos hkw]
      obtain ⟨h4, hLn⟩ := wd_l4 hkw (by decide)
      clear hb1 hb2
      refine ww_iconst dX4_statement_101 ?_
      refine ww_istore [(4, _), (3, _), (2, _), (1, _), (0, _)] dX4_statement_102 (Nat.le_of_ble_eq_true rfl) rfl ?_
      refine ww_goto 179 dX4_statement_104 (by decide) ?_
      refine ww_iload 0 dX4_statement_179 rfl ?_
      refine ww_tableIn 220 dX4_statement_181 (inI.mk (by decide) (by decide)) (by decide) (by decide) rfl (by decide) ?_
      refine ww_aload_n 4 dX4_statement_220 rfl ?_
      refine ww_iload_n 2 dX4_statement_221 rfl ?_
      obtain ⟨hb1, hb2⟩ := st_body ht hnx.1 hnx.2 hs1 h4 (fun q9 s9 e9 => by have := (pName_r (q := sk t nx) ht hw1.2.1) q9 s9 e9; omega)
      refine cx_v (cx_V (ct_X4_name hG hP hH hL hs9 (sk t nx) (by omega)) sv_X4_223 rfl dX4_statement_222 hP.obj rfl rfl rfl rfl ⟨Nat.le_of_ble_eq_true rfl, Nat.le_of_ble_eq_true rfl⟩ (Nat.le_of_ble_eq_true rfl) (by dsimp only [mmc, MX4_statement, MX4_word, MJ6_length, MJ6_hashCode, MJ6_equals, MX5_init, MX4_name] <;> omega) (by dsimp only [mms, MX4_statement, MX4_word, MJ6_length, MJ6_hashCode, MJ6_equals, MX5_init, MX4_name] <;> omega)) (fun X_222 q_222 g_222 hx_222 => wq_out hQ hT (by dsimp only [mmc, MX4_statement, MX4_word, MJ6_length, MJ6_hashCode, MJ6_equals, MX4_name, MX4_library, MX4_offer, MX4_prefer, MX4_require, MX4_number, MX4_sum, MX4_expect, MX5_init] <;> omega) (by dsimp only [mms, MX4_statement, MX4_word, MJ6_length, MJ6_hashCode, MJ6_equals, MX4_name, MX4_library, MX4_offer, MX4_prefer, MX4_require, MX4_number, MX4_sum, MX4_expect, MX5_init] <;> omega) (hx_222.go hF (fun c o e => pSt_e (hs1.trans e)))) (fun h_222 hp_222 => ?_)
      obtain ⟨e_222, s1, sa1, hr_222, hg_222, hm_222, hs9, hP, hH, hL, hsh_222, hsw_222, f_222⟩ := hp_222
      have hF := hF.tr f_222
      have hrs := hs1.trans hr_222
      refine ww_goto 340 dX4_statement_225 (by decide) ?_
      refine ww_aload_n 4 dX4_statement_340 rfl ?_
      refine ww_bipush dX4_statement_341 (by decide) ?_
      refine cx_v (cx_V (ct_X4_expect hG hP 59 (by decide) (by decide)) sv_X4_113 rfl dX4_statement_343 hP.obj rfl rfl rfl rfl ⟨Nat.le_of_ble_eq_true rfl, Nat.le_of_ble_eq_true rfl⟩ (Nat.le_of_ble_eq_true rfl) (by dsimp only [mmc, MX4_statement, MX4_word, MJ6_length, MJ6_hashCode, MJ6_equals, MX5_init, MX4_name, MX4_expect] <;> omega) (by dsimp only [mms, MX4_statement, MX4_word, MJ6_length, MJ6_hashCode, MJ6_equals, MX5_init, MX4_name, MX4_expect] <;> omega)) (fun X_343 q_343 g_343 hx_343 => wq_out hQ hT (by dsimp only [mmc, MX4_statement, MX4_word, MJ6_length, MJ6_hashCode, MJ6_equals, MX4_name, MX4_library, MX4_offer, MX4_prefer, MX4_require, MX4_number, MX4_sum, MX4_expect, MX5_init] <;> omega) (by dsimp only [mms, MX4_statement, MX4_word, MJ6_length, MJ6_hashCode, MJ6_equals, MX4_name, MX4_library, MX4_offer, MX4_prefer, MX4_require, MX4_number, MX4_sum, MX4_expect, MX5_init] <;> omega) (hx_343.go hF (fun c o e => by unfold pexp at e; split at e; cases e; rename_i c9; rw [pSt_no hrs c9]; cases e; rfl))) (fun h_343 hp_343 => ?_)
      obtain ⟨hc_343, hP, f_343⟩ := hp_343
      have hF := hF.kt f_343 (by first | exact Or.inl rfl | exact Or.inr rfl)
      have hH := hH.kt f_343 hp0
      have hL := hL.kt f_343 (by first | exact hp0 | exact ha0)
      have hs59 := sk59 ht hc_343 hm_222
      have hk59 := ht.k1 hm_222
      exact ww_x hQ (ww_vret rfl dX4_statement_346 rfl (by dsimp only [mmc, MX4_statement, MX4_word, MJ6_length, MJ6_hashCode, MJ6_equals, MX5_init, MX4_name, MX4_expect] <;> omega) (by dsimp only [mms, MX4_statement, MX4_word, MJ6_length, MJ6_hashCode, MJ6_equals, MX5_init, MX4_name, MX4_expect] <;> omega) ⟨rfl, sk t e_222 + 1, s1, sa1, hs, hw, pSt_ok hrs hc_343, by omega, by omega, hs9, hP, by rw [hsh_222]; exact hhs, by rw [hsw_222]; exact hhw, hH, hL, hF⟩)
  · rw [hz9]
    refine ww_lookup 107 dX4_statement_32 (inI.mk (by decide) (by decide)) rfl rfl (by decide) ?_
    refine ww_aload_n 1 dX4_statement_107 rfl ?_
    obtain ⟨a9, tx9, hz8, hS9⟩ := hL.1 "LinkElection$Parser" 214 kwLibrary (by decide)
    refine ww_ldcS hz8 dX4_statement_108 ?_
    refine cr_pi (cr_V (ct_J6_equals hG hW_1 hS9) sv_X4_146 rfl dX4_statement_110 hwo rfl rfl rfl rfl ⟨Nat.le_of_ble_eq_true rfl, Nat.le_of_ble_eq_true rfl⟩ (Nat.le_of_ble_eq_true rfl) (by dsimp only [mmc, MX4_statement, MX4_word, MJ6_length, MJ6_hashCode, MJ6_equals, MX5_init, MX4_name, MX4_expect] <;> omega) (by dsimp only [mms, MX4_statement, MX4_word, MJ6_length, MJ6_hashCode, MJ6_equals, MX5_init, MX4_name, MX4_expect] <;> omega)) ?_
    refine ww_ifb_eq 179 dX4_statement_113 (by decide) (fun c_113 => ?_) (fun c_113 => ?_)
    · have nA : pw t nx ≠ kwName := fun e => by rw [e, hq_A] at hz9; exact absurd hz9 (by decide)
      have nC : pw t nx ≠ kwOffer := fun e => by rw [e, hq_C] at hz9; exact absurd hz9 (by decide)
      have nD : pw t nx ≠ kwPrefer := fun e => by rw [e, hq_D] at hz9; exact absurd hz9 (by decide)
      have nS : pw t nx ≠ kwShare := fun e => by rw [e, hq_S] at hz9; exact absurd hz9 (by decide)
      have nW : pw t nx ≠ kwWeight := fun e => by rw [e, hq_W] at hz9; exact absurd hz9 (by decide)
      have nB : pw t nx ≠ kwLibrary := c_113
      have hs1 : pSt1 t nx s = .error (-2, sk t nx) := by unfold pSt1; rw [if_neg nA, if_neg nB, if_neg nC, if_neg nD, if_neg nS, if_neg nW]
      clear hb1 hb2
      obtain ⟨hb1, hb2⟩ := st_no ht hnx.1 hnx.2 hs1
      refine ww_iload 0 dX4_statement_179 rfl ?_
      refine ww_tableOut 329 dX4_statement_181 (inI.mk (by decide) (by decide)) (by decide) (by decide) ?_
      have hFz := hF
      refine wx_new (fun q => (q, 10590)) nw_X4_50 rfl dX4_statement_329 (fun q hq => ⟨hq.1, Nat.le_refl _⟩) (by dsimp only [mmc, MX4_statement, MX4_word, MJ6_length, MJ6_hashCode, MJ6_equals, MX5_init, MX4_name, MX4_expect] <;> omega) (by dsimp only [mms, MX4_statement, MX4_word, MJ6_length, MJ6_hashCode, MJ6_equals, MX5_init, MX4_name, MX4_expect] <;> omega) (fun q_329 h_329 n_329 e_329 hq9 => ?_)
      have hF := hF.ex e_329
      have hH := hH.ex e_329
      have hL := hL.ex e_329
      refine ww_dup dX4_statement_332 rfl ?_
      refine ww_bipush dX4_statement_333 (by decide) ?_
      refine ww_iload_n 2 dX4_statement_335 rfl ?_
      refine cr_v (cr_I (ct_X5_init hG n_329.1 hq9 (-2) (sk t nx)) si_X4_52 rfl rfl dX4_statement_336 rfl rfl ⟨Nat.le_of_ble_eq_true rfl, Nat.le_of_ble_eq_true rfl⟩ (Nat.le_of_ble_eq_true rfl) (by dsimp only [mmc, MX4_statement, MX4_word, MJ6_length, MJ6_hashCode, MJ6_equals, MX5_init, MX4_name, MX4_expect] <;> omega) (by dsimp only [mms, MX4_statement, MX4_word, MJ6_length, MJ6_hashCode, MJ6_equals, MX5_init, MX4_name, MX4_expect] <;> omega)) (fun h_336 hp_336 => ?_)
      obtain ⟨hS_336, f_336⟩ := hp_336
      exact ww_athrow dX4_statement_339 hS_336 n_329.1 rfl rfl (wq_out hQ hT (by dsimp only [mmc, MX4_statement, MX4_word, MJ6_length, MJ6_hashCode, MJ6_equals, MX4_name, MX4_library, MX4_offer, MX4_prefer, MX4_require, MX4_number, MX4_sum, MX4_expect, MX5_init] <;> omega) (by dsimp only [mms, MX4_statement, MX4_word, MJ6_length, MJ6_hashCode, MJ6_equals, MX4_name, MX4_library, MX4_offer, MX4_prefer, MX4_require, MX4_number, MX4_sum, MX4_expect, MX5_init] <;> omega) ⟨rfl, -2, sk t nx, pSt_e hs1, by omega, hS_336, hFz.tr (((e_329.fo).tr f_336).nw n_329).fp⟩)
    · have nA : pw t nx ≠ kwName := fun e => by rw [e, hq_A] at hz9; exact absurd hz9 (by decide)
      have nC : pw t nx ≠ kwOffer := fun e => by rw [e, hq_C] at hz9; exact absurd hz9 (by decide)
      have nD : pw t nx ≠ kwPrefer := fun e => by rw [e, hq_D] at hz9; exact absurd hz9 (by decide)
      have nS : pw t nx ≠ kwShare := fun e => by rw [e, hq_S] at hz9; exact absurd hz9 (by decide)
      have nW : pw t nx ≠ kwWeight := fun e => by rw [e, hq_W] at hz9; exact absurd hz9 (by decide)
      have hkw : pw t nx = kwLibrary := c_113
      have hs1 : pSt1 t nx s = pLib t (sk t nx) (we t (sk t nx)) s := by unfold pSt1; rw [if_neg nA, if_pos hkw]
      obtain ⟨h4, hLn⟩ := wd_l4 hkw (by decide)
      clear hb1 hb2
      refine ww_iconst dX4_statement_116 ?_
      refine ww_istore [(4, _), (3, _), (2, _), (1, _), (0, _)] dX4_statement_117 (Nat.le_of_ble_eq_true rfl) rfl ?_
      refine ww_goto 179 dX4_statement_119 (by decide) ?_
      refine ww_iload 0 dX4_statement_179 rfl ?_
      refine ww_tableIn 228 dX4_statement_181 (inI.mk (by decide) (by decide)) (by decide) (by decide) rfl (by decide) ?_
      refine ww_aload_n 4 dX4_statement_228 rfl ?_
      refine ww_iload_n 2 dX4_statement_229 rfl ?_
      obtain ⟨hb1, hb2⟩ := st_body ht hnx.1 hnx.2 hs1 h4 (fun q9 s9 e9 => by have := (pLib_r (q := sk t nx) ht (show 0 ≤ we t (sk t nx) by omega) hw1.2.1) q9 s9 e9; omega)
      refine cx_v (cx_V (ct_X4_library hG hP hH hL hs9 (sk t nx) (by omega)) sv_X4_225 rfl dX4_statement_230 hP.obj rfl rfl rfl rfl ⟨Nat.le_of_ble_eq_true rfl, Nat.le_of_ble_eq_true rfl⟩ (Nat.le_of_ble_eq_true rfl) (by dsimp only [mmc, MX4_statement, MX4_word, MJ6_length, MJ6_hashCode, MJ6_equals, MX5_init, MX4_name, MX4_expect, MX4_library] <;> omega) (by dsimp only [mms, MX4_statement, MX4_word, MJ6_length, MJ6_hashCode, MJ6_equals, MX5_init, MX4_name, MX4_expect, MX4_library] <;> omega)) (fun X_230 q_230 g_230 hx_230 => wq_out hQ hT (by dsimp only [mmc, MX4_statement, MX4_word, MJ6_length, MJ6_hashCode, MJ6_equals, MX4_name, MX4_library, MX4_offer, MX4_prefer, MX4_require, MX4_number, MX4_sum, MX4_expect, MX5_init] <;> omega) (by dsimp only [mms, MX4_statement, MX4_word, MJ6_length, MJ6_hashCode, MJ6_equals, MX4_name, MX4_library, MX4_offer, MX4_prefer, MX4_require, MX4_number, MX4_sum, MX4_expect, MX5_init] <;> omega) (hx_230.go hF (fun c o e => pSt_e (hs1.trans e)))) (fun h_230 hp_230 => ?_)
      obtain ⟨e_230, s1, sa1, hr_230, hg_230, hm_230, hs9, hP, hH, hL, hsh_230, hsw_230, f_230⟩ := hp_230
      have hF := hF.tr f_230
      have hrs := hs1.trans hr_230
      refine ww_goto 340 dX4_statement_233 (by decide) ?_
      refine ww_aload_n 4 dX4_statement_340 rfl ?_
      refine ww_bipush dX4_statement_341 (by decide) ?_
      refine cx_v (cx_V (ct_X4_expect hG hP 59 (by decide) (by decide)) sv_X4_113 rfl dX4_statement_343 hP.obj rfl rfl rfl rfl ⟨Nat.le_of_ble_eq_true rfl, Nat.le_of_ble_eq_true rfl⟩ (Nat.le_of_ble_eq_true rfl) (by dsimp only [mmc, MX4_statement, MX4_word, MJ6_length, MJ6_hashCode, MJ6_equals, MX5_init, MX4_name, MX4_expect, MX4_library] <;> omega) (by dsimp only [mms, MX4_statement, MX4_word, MJ6_length, MJ6_hashCode, MJ6_equals, MX5_init, MX4_name, MX4_expect, MX4_library] <;> omega)) (fun X_343 q_343 g_343 hx_343 => wq_out hQ hT (by dsimp only [mmc, MX4_statement, MX4_word, MJ6_length, MJ6_hashCode, MJ6_equals, MX4_name, MX4_library, MX4_offer, MX4_prefer, MX4_require, MX4_number, MX4_sum, MX4_expect, MX5_init] <;> omega) (by dsimp only [mms, MX4_statement, MX4_word, MJ6_length, MJ6_hashCode, MJ6_equals, MX4_name, MX4_library, MX4_offer, MX4_prefer, MX4_require, MX4_number, MX4_sum, MX4_expect, MX5_init] <;> omega) (hx_343.go hF (fun c o e => by unfold pexp at e; split at e; cases e; rename_i c9; rw [pSt_no hrs c9]; cases e; rfl))) (fun h_343 hp_343 => ?_)
      obtain ⟨hc_343, hP, f_343⟩ := hp_343
      have hF := hF.kt f_343 (by first | exact Or.inl rfl | exact Or.inr rfl)
      have hH := hH.kt f_343 hp0
      have hL := hL.kt f_343 (by first | exact hp0 | exact ha0)
      have hs59 := sk59 ht hc_343 hm_230
      have hk59 := ht.k1 hm_230
      exact ww_x hQ (ww_vret rfl dX4_statement_346 rfl (by dsimp only [mmc, MX4_statement, MX4_word, MJ6_length, MJ6_hashCode, MJ6_equals, MX5_init, MX4_name, MX4_expect, MX4_library] <;> omega) (by dsimp only [mms, MX4_statement, MX4_word, MJ6_length, MJ6_hashCode, MJ6_equals, MX5_init, MX4_name, MX4_expect, MX4_library] <;> omega) ⟨rfl, sk t e_230 + 1, s1, sa1, hs, hw, pSt_ok hrs hc_343, by omega, by omega, hs9, hP, by rw [hsh_230]; exact hhs, by rw [hsw_230]; exact hhw, hH, hL, hF⟩)
  · rw [hz9]
    refine ww_lookup 122 dX4_statement_32 (inI.mk (by decide) (by decide)) rfl rfl (by decide) ?_
    refine ww_aload_n 1 dX4_statement_122 rfl ?_
    obtain ⟨a9, tx9, hz8, hS9⟩ := hL.1 "LinkElection$Parser" 216 kwOffer (by decide)
    refine ww_ldcS hz8 dX4_statement_123 ?_
    refine cr_pi (cr_V (ct_J6_equals hG hW_1 hS9) sv_X4_146 rfl dX4_statement_125 hwo rfl rfl rfl rfl ⟨Nat.le_of_ble_eq_true rfl, Nat.le_of_ble_eq_true rfl⟩ (Nat.le_of_ble_eq_true rfl) (by dsimp only [mmc, MX4_statement, MX4_word, MJ6_length, MJ6_hashCode, MJ6_equals, MX5_init, MX4_name, MX4_expect, MX4_library] <;> omega) (by dsimp only [mms, MX4_statement, MX4_word, MJ6_length, MJ6_hashCode, MJ6_equals, MX5_init, MX4_name, MX4_expect, MX4_library] <;> omega)) ?_
    refine ww_ifb_eq 179 dX4_statement_128 (by decide) (fun c_128 => ?_) (fun c_128 => ?_)
    · have nA : pw t nx ≠ kwName := fun e => by rw [e, hq_A] at hz9; exact absurd hz9 (by decide)
      have nB : pw t nx ≠ kwLibrary := fun e => by rw [e, hq_B] at hz9; exact absurd hz9 (by decide)
      have nD : pw t nx ≠ kwPrefer := fun e => by rw [e, hq_D] at hz9; exact absurd hz9 (by decide)
      have nS : pw t nx ≠ kwShare := fun e => by rw [e, hq_S] at hz9; exact absurd hz9 (by decide)
      have nW : pw t nx ≠ kwWeight := fun e => by rw [e, hq_W] at hz9; exact absurd hz9 (by decide)
      have nC : pw t nx ≠ kwOffer := c_128
      have hs1 : pSt1 t nx s = .error (-2, sk t nx) := by unfold pSt1; rw [if_neg nA, if_neg nB, if_neg nC, if_neg nD, if_neg nS, if_neg nW]
      clear hb1 hb2
      obtain ⟨hb1, hb2⟩ := st_no ht hnx.1 hnx.2 hs1
      refine ww_iload 0 dX4_statement_179 rfl ?_
      refine ww_tableOut 329 dX4_statement_181 (inI.mk (by decide) (by decide)) (by decide) (by decide) ?_
      have hFz := hF
      refine wx_new (fun q => (q, 10590)) nw_X4_50 rfl dX4_statement_329 (fun q hq => ⟨hq.1, Nat.le_refl _⟩) (by dsimp only [mmc, MX4_statement, MX4_word, MJ6_length, MJ6_hashCode, MJ6_equals, MX5_init, MX4_name, MX4_expect, MX4_library] <;> omega) (by dsimp only [mms, MX4_statement, MX4_word, MJ6_length, MJ6_hashCode, MJ6_equals, MX5_init, MX4_name, MX4_expect, MX4_library] <;> omega) (fun q_329 h_329 n_329 e_329 hq9 => ?_)
      have hF := hF.ex e_329
      have hH := hH.ex e_329
      have hL := hL.ex e_329
      refine ww_dup dX4_statement_332 rfl ?_
      refine ww_bipush dX4_statement_333 (by decide) ?_
      refine ww_iload_n 2 dX4_statement_335 rfl ?_
      refine cr_v (cr_I (ct_X5_init hG n_329.1 hq9 (-2) (sk t nx)) si_X4_52 rfl rfl dX4_statement_336 rfl rfl ⟨Nat.le_of_ble_eq_true rfl, Nat.le_of_ble_eq_true rfl⟩ (Nat.le_of_ble_eq_true rfl) (by dsimp only [mmc, MX4_statement, MX4_word, MJ6_length, MJ6_hashCode, MJ6_equals, MX5_init, MX4_name, MX4_expect, MX4_library] <;> omega) (by dsimp only [mms, MX4_statement, MX4_word, MJ6_length, MJ6_hashCode, MJ6_equals, MX5_init, MX4_name, MX4_expect, MX4_library] <;> omega)) (fun h_336 hp_336 => ?_)
      obtain ⟨hS_336, f_336⟩ := hp_336
      exact ww_athrow dX4_statement_339 hS_336 n_329.1 rfl rfl (wq_out hQ hT (by dsimp only [mmc, MX4_statement, MX4_word, MJ6_length, MJ6_hashCode, MJ6_equals, MX4_name, MX4_library, MX4_offer, MX4_prefer, MX4_require, MX4_number, MX4_sum, MX4_expect, MX5_init] <;> omega) (by dsimp only [mms, MX4_statement, MX4_word, MJ6_length, MJ6_hashCode, MJ6_equals, MX4_name, MX4_library, MX4_offer, MX4_prefer, MX4_require, MX4_number, MX4_sum, MX4_expect, MX5_init] <;> omega) ⟨rfl, -2, sk t nx, pSt_e hs1, by omega, hS_336, hFz.tr (((e_329.fo).tr f_336).nw n_329).fp⟩)
    · have nA : pw t nx ≠ kwName := fun e => by rw [e, hq_A] at hz9; exact absurd hz9 (by decide)
      have nB : pw t nx ≠ kwLibrary := fun e => by rw [e, hq_B] at hz9; exact absurd hz9 (by decide)
      have nD : pw t nx ≠ kwPrefer := fun e => by rw [e, hq_D] at hz9; exact absurd hz9 (by decide)
      have nS : pw t nx ≠ kwShare := fun e => by rw [e, hq_S] at hz9; exact absurd hz9 (by decide)
      have nW : pw t nx ≠ kwWeight := fun e => by rw [e, hq_W] at hz9; exact absurd hz9 (by decide)
      have hkw : pw t nx = kwOffer := c_128
      have hs1 : pSt1 t nx s = pOff t (we t (sk t nx)) s := by unfold pSt1; rw [if_neg nA, if_neg nB, if_pos hkw]
      obtain ⟨h4, hLn⟩ := wd_l4 hkw (by decide)
      clear hb1 hb2
      refine ww_iconst dX4_statement_131 ?_
      refine ww_istore [(4, _), (3, _), (2, _), (1, _), (0, _)] dX4_statement_132 (Nat.le_of_ble_eq_true rfl) rfl ?_
      refine ww_goto 179 dX4_statement_134 (by decide) ?_
      refine ww_iload 0 dX4_statement_179 rfl ?_
      refine ww_tableIn 236 dX4_statement_181 (inI.mk (by decide) (by decide)) (by decide) (by decide) rfl (by decide) ?_
      refine ww_aload_n 4 dX4_statement_236 rfl ?_
      obtain ⟨hb1, hb2⟩ := st_body ht hnx.1 hnx.2 hs1 h4 (fun q9 s9 e9 => by have := (pOff_r ht (show 0 ≤ we t (sk t nx) by omega) hw1.2.1) q9 s9 e9; omega)
      refine cx_v (cx_V (ct_X4_offer hG hP hH hL hs9) sv_X4_227 rfl dX4_statement_237 hP.obj rfl rfl rfl rfl ⟨Nat.le_of_ble_eq_true rfl, Nat.le_of_ble_eq_true rfl⟩ (Nat.le_of_ble_eq_true rfl) (by dsimp only [mmc, MX4_statement, MX4_word, MJ6_length, MJ6_hashCode, MJ6_equals, MX5_init, MX4_name, MX4_expect, MX4_library, MX4_offer] <;> omega) (by dsimp only [mms, MX4_statement, MX4_word, MJ6_length, MJ6_hashCode, MJ6_equals, MX5_init, MX4_name, MX4_expect, MX4_library, MX4_offer] <;> omega)) (fun X_237 q_237 g_237 hx_237 => wq_out hQ hT (by dsimp only [mmc, MX4_statement, MX4_word, MJ6_length, MJ6_hashCode, MJ6_equals, MX4_name, MX4_library, MX4_offer, MX4_prefer, MX4_require, MX4_number, MX4_sum, MX4_expect, MX5_init] <;> omega) (by dsimp only [mms, MX4_statement, MX4_word, MJ6_length, MJ6_hashCode, MJ6_equals, MX4_name, MX4_library, MX4_offer, MX4_prefer, MX4_require, MX4_number, MX4_sum, MX4_expect, MX5_init] <;> omega) (hx_237.go hF (fun c o e => pSt_e (hs1.trans e)))) (fun h_237 hp_237 => ?_)
      obtain ⟨e_237, s1, sa1, hr_237, hg_237, hm_237, hs9, hP, hH, hL, hsh_237, hsw_237, f_237⟩ := hp_237
      have hF := hF.tr f_237
      have hrs := hs1.trans hr_237
      refine ww_goto 340 dX4_statement_240 (by decide) ?_
      refine ww_aload_n 4 dX4_statement_340 rfl ?_
      refine ww_bipush dX4_statement_341 (by decide) ?_
      refine cx_v (cx_V (ct_X4_expect hG hP 59 (by decide) (by decide)) sv_X4_113 rfl dX4_statement_343 hP.obj rfl rfl rfl rfl ⟨Nat.le_of_ble_eq_true rfl, Nat.le_of_ble_eq_true rfl⟩ (Nat.le_of_ble_eq_true rfl) (by dsimp only [mmc, MX4_statement, MX4_word, MJ6_length, MJ6_hashCode, MJ6_equals, MX5_init, MX4_name, MX4_expect, MX4_library, MX4_offer] <;> omega) (by dsimp only [mms, MX4_statement, MX4_word, MJ6_length, MJ6_hashCode, MJ6_equals, MX5_init, MX4_name, MX4_expect, MX4_library, MX4_offer] <;> omega)) (fun X_343 q_343 g_343 hx_343 => wq_out hQ hT (by dsimp only [mmc, MX4_statement, MX4_word, MJ6_length, MJ6_hashCode, MJ6_equals, MX4_name, MX4_library, MX4_offer, MX4_prefer, MX4_require, MX4_number, MX4_sum, MX4_expect, MX5_init] <;> omega) (by dsimp only [mms, MX4_statement, MX4_word, MJ6_length, MJ6_hashCode, MJ6_equals, MX4_name, MX4_library, MX4_offer, MX4_prefer, MX4_require, MX4_number, MX4_sum, MX4_expect, MX5_init] <;> omega) (hx_343.go hF (fun c o e => by unfold pexp at e; split at e; cases e; rename_i c9; rw [pSt_no hrs c9]; cases e; rfl))) (fun h_343 hp_343 => ?_)
      obtain ⟨hc_343, hP, f_343⟩ := hp_343
      have hF := hF.kt f_343 (by first | exact Or.inl rfl | exact Or.inr rfl)
      have hH := hH.kt f_343 hp0
      have hL := hL.kt f_343 (by first | exact hp0 | exact ha0)
      have hs59 := sk59 ht hc_343 hm_237
      have hk59 := ht.k1 hm_237
      exact ww_x hQ (ww_vret rfl dX4_statement_346 rfl (by dsimp only [mmc, MX4_statement, MX4_word, MJ6_length, MJ6_hashCode, MJ6_equals, MX5_init, MX4_name, MX4_expect, MX4_library, MX4_offer] <;> omega) (by dsimp only [mms, MX4_statement, MX4_word, MJ6_length, MJ6_hashCode, MJ6_equals, MX5_init, MX4_name, MX4_expect, MX4_library, MX4_offer] <;> omega) ⟨rfl, sk t e_237 + 1, s1, sa1, hs, hw, pSt_ok hrs hc_343, by omega, by omega, hs9, hP, by rw [hsh_237]; exact hhs, by rw [hsw_237]; exact hhw, hH, hL, hF⟩)
  · rw [hz9]
    refine ww_lookup 137 dX4_statement_32 (inI.mk (by decide) (by decide)) rfl rfl (by decide) ?_
    refine ww_aload_n 1 dX4_statement_137 rfl ?_
    obtain ⟨a9, tx9, hz8, hS9⟩ := hL.1 "LinkElection$Parser" 217 kwPrefer (by decide)
    refine ww_ldcS hz8 dX4_statement_138 ?_
    refine cr_pi (cr_V (ct_J6_equals hG hW_1 hS9) sv_X4_146 rfl dX4_statement_140 hwo rfl rfl rfl rfl ⟨Nat.le_of_ble_eq_true rfl, Nat.le_of_ble_eq_true rfl⟩ (Nat.le_of_ble_eq_true rfl) (by dsimp only [mmc, MX4_statement, MX4_word, MJ6_length, MJ6_hashCode, MJ6_equals, MX5_init, MX4_name, MX4_expect, MX4_library, MX4_offer] <;> omega) (by dsimp only [mms, MX4_statement, MX4_word, MJ6_length, MJ6_hashCode, MJ6_equals, MX5_init, MX4_name, MX4_expect, MX4_library, MX4_offer] <;> omega)) ?_
    refine ww_ifb_eq 179 dX4_statement_143 (by decide) (fun c_143 => ?_) (fun c_143 => ?_)
    · have nA : pw t nx ≠ kwName := fun e => by rw [e, hq_A] at hz9; exact absurd hz9 (by decide)
      have nB : pw t nx ≠ kwLibrary := fun e => by rw [e, hq_B] at hz9; exact absurd hz9 (by decide)
      have nC : pw t nx ≠ kwOffer := fun e => by rw [e, hq_C] at hz9; exact absurd hz9 (by decide)
      have nS : pw t nx ≠ kwShare := fun e => by rw [e, hq_S] at hz9; exact absurd hz9 (by decide)
      have nW : pw t nx ≠ kwWeight := fun e => by rw [e, hq_W] at hz9; exact absurd hz9 (by decide)
      have nD : pw t nx ≠ kwPrefer := c_143
      have hs1 : pSt1 t nx s = .error (-2, sk t nx) := by unfold pSt1; rw [if_neg nA, if_neg nB, if_neg nC, if_neg nD, if_neg nS, if_neg nW]
      clear hb1 hb2
      obtain ⟨hb1, hb2⟩ := st_no ht hnx.1 hnx.2 hs1
      refine ww_iload 0 dX4_statement_179 rfl ?_
      refine ww_tableOut 329 dX4_statement_181 (inI.mk (by decide) (by decide)) (by decide) (by decide) ?_
      have hFz := hF
      refine wx_new (fun q => (q, 10590)) nw_X4_50 rfl dX4_statement_329 (fun q hq => ⟨hq.1, Nat.le_refl _⟩) (by dsimp only [mmc, MX4_statement, MX4_word, MJ6_length, MJ6_hashCode, MJ6_equals, MX5_init, MX4_name, MX4_expect, MX4_library, MX4_offer] <;> omega) (by dsimp only [mms, MX4_statement, MX4_word, MJ6_length, MJ6_hashCode, MJ6_equals, MX5_init, MX4_name, MX4_expect, MX4_library, MX4_offer] <;> omega) (fun q_329 h_329 n_329 e_329 hq9 => ?_)
      have hF := hF.ex e_329
      have hH := hH.ex e_329
      have hL := hL.ex e_329
      refine ww_dup dX4_statement_332 rfl ?_
      refine ww_bipush dX4_statement_333 (by decide) ?_
      refine ww_iload_n 2 dX4_statement_335 rfl ?_
      refine cr_v (cr_I (ct_X5_init hG n_329.1 hq9 (-2) (sk t nx)) si_X4_52 rfl rfl dX4_statement_336 rfl rfl ⟨Nat.le_of_ble_eq_true rfl, Nat.le_of_ble_eq_true rfl⟩ (Nat.le_of_ble_eq_true rfl) (by dsimp only [mmc, MX4_statement, MX4_word, MJ6_length, MJ6_hashCode, MJ6_equals, MX5_init, MX4_name, MX4_expect, MX4_library, MX4_offer] <;> omega) (by dsimp only [mms, MX4_statement, MX4_word, MJ6_length, MJ6_hashCode, MJ6_equals, MX5_init, MX4_name, MX4_expect, MX4_library, MX4_offer] <;> omega)) (fun h_336 hp_336 => ?_)
      obtain ⟨hS_336, f_336⟩ := hp_336
      exact ww_athrow dX4_statement_339 hS_336 n_329.1 rfl rfl (wq_out hQ hT (by dsimp only [mmc, MX4_statement, MX4_word, MJ6_length, MJ6_hashCode, MJ6_equals, MX4_name, MX4_library, MX4_offer, MX4_prefer, MX4_require, MX4_number, MX4_sum, MX4_expect, MX5_init] <;> omega) (by dsimp only [mms, MX4_statement, MX4_word, MJ6_length, MJ6_hashCode, MJ6_equals, MX4_name, MX4_library, MX4_offer, MX4_prefer, MX4_require, MX4_number, MX4_sum, MX4_expect, MX5_init] <;> omega) ⟨rfl, -2, sk t nx, pSt_e hs1, by omega, hS_336, hFz.tr (((e_329.fo).tr f_336).nw n_329).fp⟩)
    · have nA : pw t nx ≠ kwName := fun e => by rw [e, hq_A] at hz9; exact absurd hz9 (by decide)
      have nB : pw t nx ≠ kwLibrary := fun e => by rw [e, hq_B] at hz9; exact absurd hz9 (by decide)
      have nC : pw t nx ≠ kwOffer := fun e => by rw [e, hq_C] at hz9; exact absurd hz9 (by decide)
      have nS : pw t nx ≠ kwShare := fun e => by rw [e, hq_S] at hz9; exact absurd hz9 (by decide)
      have nW : pw t nx ≠ kwWeight := fun e => by rw [e, hq_W] at hz9; exact absurd hz9 (by decide)
      have hkw : pw t nx = kwPrefer := c_143
      have hs1 : pSt1 t nx s = pPre t (we t (sk t nx)) s := by unfold pSt1; rw [if_neg nA, if_neg nB, if_neg nC, if_pos hkw]
      obtain ⟨h4, hLn⟩ := wd_l4 hkw (by decide)
      clear hb1 hb2
      refine ww_iconst dX4_statement_146 ?_
      refine ww_istore [(4, _), (3, _), (2, _), (1, _), (0, _)] dX4_statement_147 (Nat.le_of_ble_eq_true rfl) rfl ?_
      refine ww_goto 179 dX4_statement_149 (by decide) ?_
      refine ww_iload 0 dX4_statement_179 rfl ?_
      refine ww_tableIn 243 dX4_statement_181 (inI.mk (by decide) (by decide)) (by decide) (by decide) rfl (by decide) ?_
      refine ww_aload_n 4 dX4_statement_243 rfl ?_
      obtain ⟨hb1, hb2⟩ := st_body ht hnx.1 hnx.2 hs1 h4 (fun q9 s9 e9 => by have := (pPre_r ht (show 0 ≤ we t (sk t nx) by omega) hw1.2.1) q9 s9 e9; omega)
      refine cx_v (cx_V (ct_X4_prefer hG hP hH hL hs9) sv_X4_229 rfl dX4_statement_244 hP.obj rfl rfl rfl rfl ⟨Nat.le_of_ble_eq_true rfl, Nat.le_of_ble_eq_true rfl⟩ (Nat.le_of_ble_eq_true rfl) (by dsimp only [mmc, MX4_statement, MX4_word, MJ6_length, MJ6_hashCode, MJ6_equals, MX5_init, MX4_name, MX4_expect, MX4_library, MX4_offer, MX4_prefer] <;> omega) (by dsimp only [mms, MX4_statement, MX4_word, MJ6_length, MJ6_hashCode, MJ6_equals, MX5_init, MX4_name, MX4_expect, MX4_library, MX4_offer, MX4_prefer] <;> omega)) (fun X_244 q_244 g_244 hx_244 => wq_out hQ hT (by dsimp only [mmc, MX4_statement, MX4_word, MJ6_length, MJ6_hashCode, MJ6_equals, MX4_name, MX4_library, MX4_offer, MX4_prefer, MX4_require, MX4_number, MX4_sum, MX4_expect, MX5_init] <;> omega) (by dsimp only [mms, MX4_statement, MX4_word, MJ6_length, MJ6_hashCode, MJ6_equals, MX4_name, MX4_library, MX4_offer, MX4_prefer, MX4_require, MX4_number, MX4_sum, MX4_expect, MX5_init] <;> omega) (hx_244.go hF (fun c o e => pSt_e (hs1.trans e)))) (fun h_244 hp_244 => ?_)
      obtain ⟨e_244, s1, sa1, hr_244, hg_244, hm_244, hs9, hP, hH, hL, hsh_244, hsw_244, f_244⟩ := hp_244
      have hF := hF.tr f_244
      have hrs := hs1.trans hr_244
      refine ww_goto 340 dX4_statement_247 (by decide) ?_
      refine ww_aload_n 4 dX4_statement_340 rfl ?_
      refine ww_bipush dX4_statement_341 (by decide) ?_
      refine cx_v (cx_V (ct_X4_expect hG hP 59 (by decide) (by decide)) sv_X4_113 rfl dX4_statement_343 hP.obj rfl rfl rfl rfl ⟨Nat.le_of_ble_eq_true rfl, Nat.le_of_ble_eq_true rfl⟩ (Nat.le_of_ble_eq_true rfl) (by dsimp only [mmc, MX4_statement, MX4_word, MJ6_length, MJ6_hashCode, MJ6_equals, MX5_init, MX4_name, MX4_expect, MX4_library, MX4_offer, MX4_prefer] <;> omega) (by dsimp only [mms, MX4_statement, MX4_word, MJ6_length, MJ6_hashCode, MJ6_equals, MX5_init, MX4_name, MX4_expect, MX4_library, MX4_offer, MX4_prefer] <;> omega)) (fun X_343 q_343 g_343 hx_343 => wq_out hQ hT (by dsimp only [mmc, MX4_statement, MX4_word, MJ6_length, MJ6_hashCode, MJ6_equals, MX4_name, MX4_library, MX4_offer, MX4_prefer, MX4_require, MX4_number, MX4_sum, MX4_expect, MX5_init] <;> omega) (by dsimp only [mms, MX4_statement, MX4_word, MJ6_length, MJ6_hashCode, MJ6_equals, MX4_name, MX4_library, MX4_offer, MX4_prefer, MX4_require, MX4_number, MX4_sum, MX4_expect, MX5_init] <;> omega) (hx_343.go hF (fun c o e => by unfold pexp at e; split at e; cases e; rename_i c9; rw [pSt_no hrs c9]; cases e; rfl))) (fun h_343 hp_343 => ?_)
      obtain ⟨hc_343, hP, f_343⟩ := hp_343
      have hF := hF.kt f_343 (by first | exact Or.inl rfl | exact Or.inr rfl)
      have hH := hH.kt f_343 hp0
      have hL := hL.kt f_343 (by first | exact hp0 | exact ha0)
      have hs59 := sk59 ht hc_343 hm_244
      have hk59 := ht.k1 hm_244
      exact ww_x hQ (ww_vret rfl dX4_statement_346 rfl (by dsimp only [mmc, MX4_statement, MX4_word, MJ6_length, MJ6_hashCode, MJ6_equals, MX5_init, MX4_name, MX4_expect, MX4_library, MX4_offer, MX4_prefer] <;> omega) (by dsimp only [mms, MX4_statement, MX4_word, MJ6_length, MJ6_hashCode, MJ6_equals, MX5_init, MX4_name, MX4_expect, MX4_library, MX4_offer, MX4_prefer] <;> omega) ⟨rfl, sk t e_244 + 1, s1, sa1, hs, hw, pSt_ok hrs hc_343, by omega, by omega, hs9, hP, by rw [hsh_244]; exact hhs, by rw [hsw_244]; exact hhw, hH, hL, hF⟩)
  · rw [hz9]
    refine ww_lookup 152 dX4_statement_32 (inI.mk (by decide) (by decide)) rfl rfl (by decide) ?_
    refine ww_aload_n 1 dX4_statement_152 rfl ?_
    obtain ⟨a9, tx9, hz8, hS9⟩ := hL.1 "LinkElection$Parser" 219 kwShare (by decide)
    refine ww_ldcS hz8 dX4_statement_153 ?_
    refine cr_pi (cr_V (ct_J6_equals hG hW_1 hS9) sv_X4_146 rfl dX4_statement_155 hwo rfl rfl rfl rfl ⟨Nat.le_of_ble_eq_true rfl, Nat.le_of_ble_eq_true rfl⟩ (Nat.le_of_ble_eq_true rfl) (by dsimp only [mmc, MX4_statement, MX4_word, MJ6_length, MJ6_hashCode, MJ6_equals, MX5_init, MX4_name, MX4_expect, MX4_library, MX4_offer, MX4_prefer] <;> omega) (by dsimp only [mms, MX4_statement, MX4_word, MJ6_length, MJ6_hashCode, MJ6_equals, MX5_init, MX4_name, MX4_expect, MX4_library, MX4_offer, MX4_prefer] <;> omega)) ?_
    refine ww_ifb_eq 179 dX4_statement_158 (by decide) (fun c_158 => ?_) (fun c_158 => ?_)
    · have nA : pw t nx ≠ kwName := fun e => by rw [e, hq_A] at hz9; exact absurd hz9 (by decide)
      have nB : pw t nx ≠ kwLibrary := fun e => by rw [e, hq_B] at hz9; exact absurd hz9 (by decide)
      have nC : pw t nx ≠ kwOffer := fun e => by rw [e, hq_C] at hz9; exact absurd hz9 (by decide)
      have nD : pw t nx ≠ kwPrefer := fun e => by rw [e, hq_D] at hz9; exact absurd hz9 (by decide)
      have nW : pw t nx ≠ kwWeight := fun e => by rw [e, hq_W] at hz9; exact absurd hz9 (by decide)
      have nS : pw t nx ≠ kwShare := c_158
      have hs1 : pSt1 t nx s = .error (-2, sk t nx) := by unfold pSt1; rw [if_neg nA, if_neg nB, if_neg nC, if_neg nD, if_neg nS, if_neg nW]
      clear hb1 hb2
      obtain ⟨hb1, hb2⟩ := st_no ht hnx.1 hnx.2 hs1
      refine ww_iload 0 dX4_statement_179 rfl ?_
      refine ww_tableOut 329 dX4_statement_181 (inI.mk (by decide) (by decide)) (by decide) (by decide) ?_
      have hFz := hF
      refine wx_new (fun q => (q, 10590)) nw_X4_50 rfl dX4_statement_329 (fun q hq => ⟨hq.1, Nat.le_refl _⟩) (by dsimp only [mmc, MX4_statement, MX4_word, MJ6_length, MJ6_hashCode, MJ6_equals, MX5_init, MX4_name, MX4_expect, MX4_library, MX4_offer, MX4_prefer] <;> omega) (by dsimp only [mms, MX4_statement, MX4_word, MJ6_length, MJ6_hashCode, MJ6_equals, MX5_init, MX4_name, MX4_expect, MX4_library, MX4_offer, MX4_prefer] <;> omega) (fun q_329 h_329 n_329 e_329 hq9 => ?_)
      have hF := hF.ex e_329
      have hH := hH.ex e_329
      have hL := hL.ex e_329
      refine ww_dup dX4_statement_332 rfl ?_
      refine ww_bipush dX4_statement_333 (by decide) ?_
      refine ww_iload_n 2 dX4_statement_335 rfl ?_
      refine cr_v (cr_I (ct_X5_init hG n_329.1 hq9 (-2) (sk t nx)) si_X4_52 rfl rfl dX4_statement_336 rfl rfl ⟨Nat.le_of_ble_eq_true rfl, Nat.le_of_ble_eq_true rfl⟩ (Nat.le_of_ble_eq_true rfl) (by dsimp only [mmc, MX4_statement, MX4_word, MJ6_length, MJ6_hashCode, MJ6_equals, MX5_init, MX4_name, MX4_expect, MX4_library, MX4_offer, MX4_prefer] <;> omega) (by dsimp only [mms, MX4_statement, MX4_word, MJ6_length, MJ6_hashCode, MJ6_equals, MX5_init, MX4_name, MX4_expect, MX4_library, MX4_offer, MX4_prefer] <;> omega)) (fun h_336 hp_336 => ?_)
      obtain ⟨hS_336, f_336⟩ := hp_336
      exact ww_athrow dX4_statement_339 hS_336 n_329.1 rfl rfl (wq_out hQ hT (by dsimp only [mmc, MX4_statement, MX4_word, MJ6_length, MJ6_hashCode, MJ6_equals, MX4_name, MX4_library, MX4_offer, MX4_prefer, MX4_require, MX4_number, MX4_sum, MX4_expect, MX5_init] <;> omega) (by dsimp only [mms, MX4_statement, MX4_word, MJ6_length, MJ6_hashCode, MJ6_equals, MX4_name, MX4_library, MX4_offer, MX4_prefer, MX4_require, MX4_number, MX4_sum, MX4_expect, MX5_init] <;> omega) ⟨rfl, -2, sk t nx, pSt_e hs1, by omega, hS_336, hFz.tr (((e_329.fo).tr f_336).nw n_329).fp⟩)
    · have nA : pw t nx ≠ kwName := fun e => by rw [e, hq_A] at hz9; exact absurd hz9 (by decide)
      have nB : pw t nx ≠ kwLibrary := fun e => by rw [e, hq_B] at hz9; exact absurd hz9 (by decide)
      have nC : pw t nx ≠ kwOffer := fun e => by rw [e, hq_C] at hz9; exact absurd hz9 (by decide)
      have nD : pw t nx ≠ kwPrefer := fun e => by rw [e, hq_D] at hz9; exact absurd hz9 (by decide)
      have nW : pw t nx ≠ kwWeight := fun e => by rw [e, hq_W] at hz9; exact absurd hz9 (by decide)
      have hkw : pw t nx = kwShare := c_158
      have hs1 : pSt1 t nx s = pSha t (sk t nx) (we t (sk t nx)) s := by unfold pSt1; rw [if_neg nA, if_neg nB, if_neg nC, if_neg nD, if_pos hkw]
      obtain ⟨h4, hLn⟩ := wd_l4 hkw (by decide)
      clear hb1 hb2
      refine ww_iconst dX4_statement_161 ?_
      refine ww_istore [(4, _), (3, _), (2, _), (1, _), (0, _)] dX4_statement_162 (Nat.le_of_ble_eq_true rfl) rfl ?_
      refine ww_goto 179 dX4_statement_164 (by decide) ?_
      refine ww_iload 0 dX4_statement_179 rfl ?_
      refine ww_tableIn 250 dX4_statement_181 (inI.mk (by decide) (by decide)) (by decide) (by decide) rfl (by decide) ?_
      refine ww_aload_n 4 dX4_statement_250 rfl ?_
      refine ww_aload_n 4 dX4_statement_251 rfl ?_
      obtain ⟨hb1, hb2⟩ := st_small ht hnx.1 hnx.2 hs1 h4 (pSha_r ht (show 0 ≤ we t (sk t nx) by omega) hw1.2.1)
      refine ww_getf gf_X4_231 rfl dX4_statement_252 hP.obj rfl ?_
      refine ww_if_ne 262 dX4_statement_255 (by decide) (by rcases hP.2.2.2.2.2.1 with e | e <;> rw [e] <;> exact inI.mk (by decide) (by decide)) (fun c_255 => ?_) (fun c_255 => ?_)
      · have hst : s.hs = true := Classical.byContradiction (fun z => c_255 (by rw [hhs]; exact bI_f z))
        refine ww_iconst dX4_statement_262 ?_
        refine ww_bipush dX4_statement_263 (by decide) ?_
        refine ww_iload_n 2 dX4_statement_265 rfl ?_
        refine cx_v (cx_V (ct_X4_reqF hG p a (-2) (sk t nx) (by omega)) sv_X4_59 rfl dX4_statement_266 hP.obj rfl rfl rfl rfl ⟨Nat.le_of_ble_eq_true rfl, Nat.le_of_ble_eq_true rfl⟩ (Nat.le_of_ble_eq_true rfl) (by dsimp only [mmc, MX4_statement, MX4_word, MJ6_length, MJ6_hashCode, MJ6_equals, MX5_init, MX4_name, MX4_expect, MX4_library, MX4_offer, MX4_prefer, MX4_require] <;> omega) (by dsimp only [mms, MX4_statement, MX4_word, MJ6_length, MJ6_hashCode, MJ6_equals, MX5_init, MX4_name, MX4_expect, MX4_library, MX4_offer, MX4_prefer, MX4_require] <;> omega)) (fun X_266 q_266 g_266 hx_266 => wq_out hQ hT (by dsimp only [mmc, MX4_statement, MX4_word, MJ6_length, MJ6_hashCode, MJ6_equals, MX4_name, MX4_library, MX4_offer, MX4_prefer, MX4_require, MX4_number, MX4_sum, MX4_expect, MX5_init] <;> omega) (by dsimp only [mms, MX4_statement, MX4_word, MJ6_length, MJ6_hashCode, MJ6_equals, MX4_name, MX4_library, MX4_offer, MX4_prefer, MX4_require, MX4_number, MX4_sum, MX4_expect, MX5_init] <;> omega) (hx_266.go hF (fun c o e => by cases e; exact pSt_e (hs1.trans (pSha_e1 hst))))) (fun h_266 hp_266 => ?_)
        exact hp_266.elim
      · have hst : ¬ s.hs = true := fun z => by rw [hhs, bI_t z] at c_255; cases c_255
        refine ww_iconst dX4_statement_258 ?_
        refine ww_goto 263 dX4_statement_259 (by decide) ?_
        refine ww_bipush dX4_statement_263 (by decide) ?_
        refine ww_iload_n 2 dX4_statement_265 rfl ?_
        refine cr_pv (cr_V (ct_X4_reqT hG 1 _ _ (by decide) (inI.mk (by decide) (by decide))) sv_X4_59 rfl dX4_statement_266 hP.obj rfl rfl rfl rfl ⟨Nat.le_of_ble_eq_true rfl, Nat.le_of_ble_eq_true rfl⟩ (Nat.le_of_ble_eq_true rfl) (by dsimp only [mmc, MX4_statement, MX4_word, MJ6_length, MJ6_hashCode, MJ6_equals, MX5_init, MX4_name, MX4_expect, MX4_library, MX4_offer, MX4_prefer, MX4_require] <;> omega) (by dsimp only [mms, MX4_statement, MX4_word, MJ6_length, MJ6_hashCode, MJ6_equals, MX5_init, MX4_name, MX4_expect, MX4_library, MX4_offer, MX4_prefer, MX4_require] <;> omega)) ?_
        refine ww_aload_n 4 dX4_statement_269 rfl ?_
        refine ww_iconst dX4_statement_270 ?_
        have hp := hP.obj
        refine wx_putf pf_X4_231 rfl dX4_statement_271 hp hp0 (Nat.le_of_ble_eq_true rfl) rfl rfl (fun h_271 hp f_271 => ?_)
        have hF := hF.kt f_271 (by first | exact Or.inl rfl | exact Or.inr rfl)
        have hH := hH.kt f_271 hp0
        have hL := hL.kt f_271 (by first | exact hp0 | exact ha0)
        have hP : PB G h_271 p x a nl t n (we t (sk t nx)) sa 0 1 hw := ⟨⟨hp0, hp⟩, hP.2.1.kt f_271 (by omega), hP.2.2.1, hP.2.2.2.1, hP.2.2.2.2.1, Or.inr rfl, hP.2.2.2.2.2.2⟩
        refine ww_aload_n 4 dX4_statement_274 rfl ?_
        refine ww_getf gf_X4_27 rfl dX4_statement_275 hP.obj rfl ?_
        refine ww_aload_n 4 dX4_statement_278 rfl ?_
        refine ww_iconst dX4_statement_279 ?_
        refine ww_bipush dX4_statement_280 (by decide) ?_
        refine cx_i (cx_V (ct_X4_number hG hP 0 100 (inI.mk (by decide) (by decide)) (inI.mk (by decide) (by decide))) sv_X4_117 rfl dX4_statement_282 hP.obj rfl rfl rfl rfl ⟨Nat.le_of_ble_eq_true rfl, Nat.le_of_ble_eq_true rfl⟩ (Nat.le_of_ble_eq_true rfl) (by dsimp only [mmc, MX4_statement, MX4_word, MJ6_length, MJ6_hashCode, MJ6_equals, MX5_init, MX4_name, MX4_expect, MX4_library, MX4_offer, MX4_prefer, MX4_require, MX4_number] <;> omega) (by dsimp only [mms, MX4_statement, MX4_word, MJ6_length, MJ6_hashCode, MJ6_equals, MX5_init, MX4_name, MX4_expect, MX4_library, MX4_offer, MX4_prefer, MX4_require, MX4_number] <;> omega)) (fun X_282 q_282 g_282 hx_282 => wq_out hQ hT (by dsimp only [mmc, MX4_statement, MX4_word, MJ6_length, MJ6_hashCode, MJ6_equals, MX4_name, MX4_library, MX4_offer, MX4_prefer, MX4_require, MX4_number, MX4_sum, MX4_expect, MX5_init] <;> omega) (by dsimp only [mms, MX4_statement, MX4_word, MJ6_length, MJ6_hashCode, MJ6_equals, MX4_name, MX4_library, MX4_offer, MX4_prefer, MX4_require, MX4_number, MX4_sum, MX4_expect, MX5_init] <;> omega) (hx_282.go hF (fun c o e => pSt_e (hs1.trans (pSha_e2 hst e))))) (fun r_282 h_282 hp_282 => ?_)
        obtain ⟨e_282, hn_282, hl_282, hh_282, h0_282, hg_282, hm_282, hP, f_282⟩ := hp_282
        have hF := hF.kt f_282 (by first | exact Or.inl rfl | exact Or.inr rfl)
        have hH := hH.kt f_282 hp0
        have hL := hL.kt f_282 (by first | exact hp0 | exact ha0)
        have hrs := hs1.trans (pSha_ok hst hn_282)
        obtain ⟨al, am, ll, w, nxs, lx, dx, -, hr0, hho, ⟨⟨hA1, hZ1⟩, ⟨hA2, hB2⟩, ⟨hA3, hZ3⟩, hWt⟩, hMp, -⟩ := id hH
        refine wx_putf pf_X4_235 rfl dX4_statement_285 hho ha0 (Nat.le_of_ble_eq_true rfl) rfl rfl (fun h_285 hho f_285 => ?_)
        have hF := hF.kt f_285 (by first | exact Or.inl rfl | exact Or.inr rfl)
        have hL := hL.kt f_285 (by first | exact hp0 | exact ha0)
        have hP := hP.kt f_285 (by omega)
        have hH : HPn G h_285 a p nl (PS.mk0 s.nm s.lb s.of r_282 true s.hw s.cs s.fn) := ⟨al, am, ll, w, nxs, lx, dx, ha0, hr0, hho, HR.fo (hR := (⟨⟨hA1, hZ1⟩, ⟨hA2, hB2⟩, ⟨hA3, hZ3⟩, hWt⟩ : HR G _ a p nl al ll w nxs lx dx s.nm s.lb (ldN s.lb.length) s.fn)) f_285.fo ha0 h8l (by omega), hMp.kt f_285 ha0 (by omega), h8l⟩
        have hs9 : PSc (PS.mk0 s.nm s.lb s.of r_282 true s.hw s.cs s.fn) := PSok.addS (s := PS.mk0 s.nm s.lb s.of s.sh s.hs false [] fnT) hs9 hl_282 hh_282
        refine ww_goto 340 dX4_statement_288 (by decide) ?_
        refine ww_aload_n 4 dX4_statement_340 rfl ?_
        refine ww_bipush dX4_statement_341 (by decide) ?_
        refine cx_v (cx_V (ct_X4_expect hG hP 59 (by decide) (by decide)) sv_X4_113 rfl dX4_statement_343 hP.obj rfl rfl rfl rfl ⟨Nat.le_of_ble_eq_true rfl, Nat.le_of_ble_eq_true rfl⟩ (Nat.le_of_ble_eq_true rfl) (by dsimp only [mmc, MX4_statement, MX4_word, MJ6_length, MJ6_hashCode, MJ6_equals, MX5_init, MX4_name, MX4_expect, MX4_library, MX4_offer, MX4_prefer, MX4_require, MX4_number] <;> omega) (by dsimp only [mms, MX4_statement, MX4_word, MJ6_length, MJ6_hashCode, MJ6_equals, MX5_init, MX4_name, MX4_expect, MX4_library, MX4_offer, MX4_prefer, MX4_require, MX4_number] <;> omega)) (fun X_343 q_343 g_343 hx_343 => wq_out hQ hT (by dsimp only [mmc, MX4_statement, MX4_word, MJ6_length, MJ6_hashCode, MJ6_equals, MX4_name, MX4_library, MX4_offer, MX4_prefer, MX4_require, MX4_number, MX4_sum, MX4_expect, MX5_init] <;> omega) (by dsimp only [mms, MX4_statement, MX4_word, MJ6_length, MJ6_hashCode, MJ6_equals, MX4_name, MX4_library, MX4_offer, MX4_prefer, MX4_require, MX4_number, MX4_sum, MX4_expect, MX5_init] <;> omega) (hx_343.go hF (fun c o e => by unfold pexp at e; split at e; cases e; rename_i c9; rw [pSt_no hrs c9]; cases e; rfl))) (fun h_343 hp_343 => ?_)
        obtain ⟨hc_343, hP, f_343⟩ := hp_343
        have hF := hF.kt f_343 (by first | exact Or.inl rfl | exact Or.inr rfl)
        have hH := hH.kt f_343 hp0
        have hL := hL.kt f_343 (by first | exact hp0 | exact ha0)
        have hs59 := sk59 ht hc_343 hm_282
        have hk59 := ht.k1 hm_282
        exact ww_x hQ (ww_vret rfl dX4_statement_346 rfl (by dsimp only [mmc, MX4_statement, MX4_word, MJ6_length, MJ6_hashCode, MJ6_equals, MX5_init, MX4_name, MX4_expect, MX4_library, MX4_offer, MX4_prefer, MX4_require, MX4_number] <;> omega) (by dsimp only [mms, MX4_statement, MX4_word, MJ6_length, MJ6_hashCode, MJ6_equals, MX5_init, MX4_name, MX4_expect, MX4_library, MX4_offer, MX4_prefer, MX4_require, MX4_number] <;> omega) ⟨rfl, sk t e_282 + 1, _, _, _, _, pSt_ok hrs hc_343, by omega, by omega, hs9, hP, (bI_t rfl).symm, hhw, hH, hL, hF⟩)
  · rw [hz9]
    refine ww_lookup 167 dX4_statement_32 (inI.mk (by decide) (by decide)) rfl rfl (by decide) ?_
    refine ww_aload_n 1 dX4_statement_167 rfl ?_
    obtain ⟨a9, tx9, hz8, hS9⟩ := hL.1 "LinkElection$Parser" 221 kwWeight (by decide)
    refine ww_ldcS hz8 dX4_statement_168 ?_
    refine cr_pi (cr_V (ct_J6_equals hG hW_1 hS9) sv_X4_146 rfl dX4_statement_170 hwo rfl rfl rfl rfl ⟨Nat.le_of_ble_eq_true rfl, Nat.le_of_ble_eq_true rfl⟩ (Nat.le_of_ble_eq_true rfl) (by dsimp only [mmc, MX4_statement, MX4_word, MJ6_length, MJ6_hashCode, MJ6_equals, MX5_init, MX4_name, MX4_expect, MX4_library, MX4_offer, MX4_prefer, MX4_require, MX4_number] <;> omega) (by dsimp only [mms, MX4_statement, MX4_word, MJ6_length, MJ6_hashCode, MJ6_equals, MX5_init, MX4_name, MX4_expect, MX4_library, MX4_offer, MX4_prefer, MX4_require, MX4_number] <;> omega)) ?_
    refine ww_ifb_eq 179 dX4_statement_173 (by decide) (fun c_173 => ?_) (fun c_173 => ?_)
    · have nA : pw t nx ≠ kwName := fun e => by rw [e, hq_A] at hz9; exact absurd hz9 (by decide)
      have nB : pw t nx ≠ kwLibrary := fun e => by rw [e, hq_B] at hz9; exact absurd hz9 (by decide)
      have nC : pw t nx ≠ kwOffer := fun e => by rw [e, hq_C] at hz9; exact absurd hz9 (by decide)
      have nD : pw t nx ≠ kwPrefer := fun e => by rw [e, hq_D] at hz9; exact absurd hz9 (by decide)
      have nS : pw t nx ≠ kwShare := fun e => by rw [e, hq_S] at hz9; exact absurd hz9 (by decide)
      have nW : pw t nx ≠ kwWeight := c_173
      have hs1 : pSt1 t nx s = .error (-2, sk t nx) := by unfold pSt1; rw [if_neg nA, if_neg nB, if_neg nC, if_neg nD, if_neg nS, if_neg nW]
      clear hb1 hb2
      obtain ⟨hb1, hb2⟩ := st_no ht hnx.1 hnx.2 hs1
      refine ww_iload 0 dX4_statement_179 rfl ?_
      refine ww_tableOut 329 dX4_statement_181 (inI.mk (by decide) (by decide)) (by decide) (by decide) ?_
      have hFz := hF
      refine wx_new (fun q => (q, 10590)) nw_X4_50 rfl dX4_statement_329 (fun q hq => ⟨hq.1, Nat.le_refl _⟩) (by dsimp only [mmc, MX4_statement, MX4_word, MJ6_length, MJ6_hashCode, MJ6_equals, MX5_init, MX4_name, MX4_expect, MX4_library, MX4_offer, MX4_prefer, MX4_require, MX4_number] <;> omega) (by dsimp only [mms, MX4_statement, MX4_word, MJ6_length, MJ6_hashCode, MJ6_equals, MX5_init, MX4_name, MX4_expect, MX4_library, MX4_offer, MX4_prefer, MX4_require, MX4_number] <;> omega) (fun q_329 h_329 n_329 e_329 hq9 => ?_)
      have hF := hF.ex e_329
      have hH := hH.ex e_329
      have hL := hL.ex e_329
      refine ww_dup dX4_statement_332 rfl ?_
      refine ww_bipush dX4_statement_333 (by decide) ?_
      refine ww_iload_n 2 dX4_statement_335 rfl ?_
      refine cr_v (cr_I (ct_X5_init hG n_329.1 hq9 (-2) (sk t nx)) si_X4_52 rfl rfl dX4_statement_336 rfl rfl ⟨Nat.le_of_ble_eq_true rfl, Nat.le_of_ble_eq_true rfl⟩ (Nat.le_of_ble_eq_true rfl) (by dsimp only [mmc, MX4_statement, MX4_word, MJ6_length, MJ6_hashCode, MJ6_equals, MX5_init, MX4_name, MX4_expect, MX4_library, MX4_offer, MX4_prefer, MX4_require, MX4_number] <;> omega) (by dsimp only [mms, MX4_statement, MX4_word, MJ6_length, MJ6_hashCode, MJ6_equals, MX5_init, MX4_name, MX4_expect, MX4_library, MX4_offer, MX4_prefer, MX4_require, MX4_number] <;> omega)) (fun h_336 hp_336 => ?_)
      obtain ⟨hS_336, f_336⟩ := hp_336
      exact ww_athrow dX4_statement_339 hS_336 n_329.1 rfl rfl (wq_out hQ hT (by dsimp only [mmc, MX4_statement, MX4_word, MJ6_length, MJ6_hashCode, MJ6_equals, MX4_name, MX4_library, MX4_offer, MX4_prefer, MX4_require, MX4_number, MX4_sum, MX4_expect, MX5_init] <;> omega) (by dsimp only [mms, MX4_statement, MX4_word, MJ6_length, MJ6_hashCode, MJ6_equals, MX4_name, MX4_library, MX4_offer, MX4_prefer, MX4_require, MX4_number, MX4_sum, MX4_expect, MX5_init] <;> omega) ⟨rfl, -2, sk t nx, pSt_e hs1, by omega, hS_336, hFz.tr (((e_329.fo).tr f_336).nw n_329).fp⟩)
    · have nA : pw t nx ≠ kwName := fun e => by rw [e, hq_A] at hz9; exact absurd hz9 (by decide)
      have nB : pw t nx ≠ kwLibrary := fun e => by rw [e, hq_B] at hz9; exact absurd hz9 (by decide)
      have nC : pw t nx ≠ kwOffer := fun e => by rw [e, hq_C] at hz9; exact absurd hz9 (by decide)
      have nD : pw t nx ≠ kwPrefer := fun e => by rw [e, hq_D] at hz9; exact absurd hz9 (by decide)
      have nS : pw t nx ≠ kwShare := fun e => by rw [e, hq_S] at hz9; exact absurd hz9 (by decide)
      have hkw : pw t nx = kwWeight := c_173
      have hs1 : pSt1 t nx s = pWei t (sk t nx) (we t (sk t nx)) s := by unfold pSt1; rw [if_neg nA, if_neg nB, if_neg nC, if_neg nD, if_neg nS, if_pos hkw]
      obtain ⟨h4, hLn⟩ := wd_l4 hkw (by decide)
      clear hb1 hb2
      refine ww_iconst dX4_statement_176 ?_
      refine ww_istore [(4, _), (3, _), (2, _), (1, _), (0, _)] dX4_statement_177 (Nat.le_of_ble_eq_true rfl) rfl ?_
      refine ww_iload 0 dX4_statement_179 rfl ?_
      refine ww_tableIn 291 dX4_statement_181 (inI.mk (by decide) (by decide)) (by decide) (by decide) rfl (by decide) ?_
      refine ww_aload_n 4 dX4_statement_291 rfl ?_
      refine ww_aload_n 4 dX4_statement_292 rfl ?_
      have hwk := pWei_r (q := sk t nx) (s := s) ht (show 0 ≤ we t (sk t nx) by omega) hw1.2.1
      obtain ⟨hb3, hb4⟩ := st_body ht hnx.1 hnx.2 hs1 h4 hwk
      obtain ⟨hb5, hb6⟩ : 24 ≤ (bC t n (we t (sk t nx)) (pWei t (sk t nx) (we t (sk t nx)) s) : Int) ∧ 140 ≤ (bS t n (we t (sk t nx)) (pWei t (sk t nx) (we t (sk t nx)) s) : Int) := by have := b_geI (t := t) (n := n) (p := we t (sk t nx)) (e := we t (sk t nx)) (r := pWei t (sk t nx) (we t (sk t nx)) s) hw1.2.1 (fun q9 s9 e9 => by have h7 := hwk q9 s9 e9; have h8 := ht.k1 h7.2; have h9 := ht.w1 h8.2.1; omega); omega
      refine ww_getf gf_X4_237 rfl dX4_statement_293 hP.obj rfl ?_
      refine ww_if_ne 303 dX4_statement_296 (by decide) (by rcases hP.2.2.2.2.2.2 with e | e <;> rw [e] <;> exact inI.mk (by decide) (by decide)) (fun c_296 => ?_) (fun c_296 => ?_)
      · have hst : s.hw = true := Classical.byContradiction (fun z => c_296 (by rw [hhw]; exact bI_f z))
        refine ww_iconst dX4_statement_303 ?_
        refine ww_bipush dX4_statement_304 (by decide) ?_
        refine ww_iload_n 2 dX4_statement_306 rfl ?_
        refine cx_v (cx_V (ct_X4_reqF hG p a (-2) (sk t nx) (by omega)) sv_X4_59 rfl dX4_statement_307 hP.obj rfl rfl rfl rfl ⟨Nat.le_of_ble_eq_true rfl, Nat.le_of_ble_eq_true rfl⟩ (Nat.le_of_ble_eq_true rfl) (by dsimp only [mmc, MX4_statement, MX4_word, MJ6_length, MJ6_hashCode, MJ6_equals, MX5_init, MX4_name, MX4_expect, MX4_library, MX4_offer, MX4_prefer, MX4_require, MX4_number] <;> omega) (by dsimp only [mms, MX4_statement, MX4_word, MJ6_length, MJ6_hashCode, MJ6_equals, MX5_init, MX4_name, MX4_expect, MX4_library, MX4_offer, MX4_prefer, MX4_require, MX4_number] <;> omega)) (fun X_307 q_307 g_307 hx_307 => wq_out hQ hT (by dsimp only [mmc, MX4_statement, MX4_word, MJ6_length, MJ6_hashCode, MJ6_equals, MX4_name, MX4_library, MX4_offer, MX4_prefer, MX4_require, MX4_number, MX4_sum, MX4_expect, MX5_init] <;> omega) (by dsimp only [mms, MX4_statement, MX4_word, MJ6_length, MJ6_hashCode, MJ6_equals, MX4_name, MX4_library, MX4_offer, MX4_prefer, MX4_require, MX4_number, MX4_sum, MX4_expect, MX5_init] <;> omega) (hx_307.go hF (fun c o e => by cases e; exact pSt_e (hs1.trans (pWei_e1 hst))))) (fun h_307 hp_307 => ?_)
        exact hp_307.elim
      · have hst : ¬ s.hw = true := fun z => by rw [hhw, bI_t z] at c_296; cases c_296
        clear hb3 hb4 hb5 hb6
        obtain ⟨hb1, hb2⟩ := st_wei ht hnx.1 hnx.2 hst hs1 h4
        refine ww_iconst dX4_statement_299 ?_
        refine ww_goto 304 dX4_statement_300 (by decide) ?_
        refine ww_bipush dX4_statement_304 (by decide) ?_
        refine ww_iload_n 2 dX4_statement_306 rfl ?_
        refine cr_pv (cr_V (ct_X4_reqT hG 1 _ _ (by decide) (inI.mk (by decide) (by decide))) sv_X4_59 rfl dX4_statement_307 hP.obj rfl rfl rfl rfl ⟨Nat.le_of_ble_eq_true rfl, Nat.le_of_ble_eq_true rfl⟩ (Nat.le_of_ble_eq_true rfl) (by dsimp only [mmc, MX4_statement, MX4_word, MJ6_length, MJ6_hashCode, MJ6_equals, MX5_init, MX4_name, MX4_expect, MX4_library, MX4_offer, MX4_prefer, MX4_require, MX4_number] <;> omega) (by dsimp only [mms, MX4_statement, MX4_word, MJ6_length, MJ6_hashCode, MJ6_equals, MX5_init, MX4_name, MX4_expect, MX4_library, MX4_offer, MX4_prefer, MX4_require, MX4_number] <;> omega)) ?_
        refine ww_aload_n 4 dX4_statement_310 rfl ?_
        refine ww_iconst dX4_statement_311 ?_
        have hp := hP.obj
        refine wx_putf pf_X4_237 rfl dX4_statement_312 hp hp0 (Nat.le_of_ble_eq_true rfl) rfl rfl (fun h_312 hp f_312 => ?_)
        have hF := hF.kt f_312 (by first | exact Or.inl rfl | exact Or.inr rfl)
        have hH := hH.kt f_312 hp0
        have hL := hL.kt f_312 (by first | exact hp0 | exact ha0)
        have hP : PB G h_312 p x a nl t n (we t (sk t nx)) sa 0 hs 1 := ⟨⟨hp0, hp⟩, hP.2.1.kt f_312 (by omega), hP.2.2.1, hP.2.2.2.1, hP.2.2.2.2.1, hP.2.2.2.2.2.1, Or.inr rfl⟩
        refine ww_aload_n 4 dX4_statement_315 rfl ?_
        refine ww_getf gf_X4_27 rfl dX4_statement_316 hP.obj rfl ?_
        refine ww_aload_n 4 dX4_statement_319 rfl ?_
        refine cx_r (cx_V (ct_X4_sum0 hG hP hL ([], fnT) 2500 (by omega)) sv_X4_110 rfl dX4_statement_320 hP.obj rfl rfl rfl rfl ⟨Nat.le_of_ble_eq_true rfl, Nat.le_of_ble_eq_true rfl⟩ (Nat.le_of_ble_eq_true rfl) (by dsimp only [mmc, MX4_statement, MX4_word, MJ6_length, MJ6_hashCode, MJ6_equals, MX5_init, MX4_name, MX4_expect, MX4_library, MX4_offer, MX4_prefer, MX4_require, MX4_number, MX4_sum] <;> omega) (by dsimp only [mms, MX4_statement, MX4_word, MJ6_length, MJ6_hashCode, MJ6_equals, MX5_init, MX4_name, MX4_expect, MX4_library, MX4_offer, MX4_prefer, MX4_require, MX4_number, MX4_sum] <;> omega)) (fun X_320 q_320 g_320 hx_320 => wq_out hQ hT (by dsimp only [mmc, MX4_statement, MX4_word, MJ6_length, MJ6_hashCode, MJ6_equals, MX4_name, MX4_library, MX4_offer, MX4_prefer, MX4_require, MX4_number, MX4_sum, MX4_expect, MX5_init] <;> omega) (by dsimp only [mms, MX4_statement, MX4_word, MJ6_length, MJ6_hashCode, MJ6_equals, MX4_name, MX4_library, MX4_offer, MX4_prefer, MX4_require, MX4_number, MX4_sum, MX4_expect, MX5_init] <;> omega) (hx_320.go hF (fun c o e => pSt_e (hs1.trans (pWei_e2 hst e))))) (fun r_320 h_320 hp_320 => ?_)
        obtain ⟨y_320, p_320, s_320, hr_320, hg_320, hm_320, hW_320, hP, f_320⟩ := hp_320
        have hF := hF.kt f_320 (by first | exact Or.inl rfl | exact Or.inr rfl)
        have hH := hH.kt f_320 hp0
        have hL := hL.kt f_320 (by first | exact hp0 | exact ha0)
        have hrs := hs1.trans (pWei_ok hst hr_320)
        obtain ⟨al, am, ll, w, nxs, lx, dx, -, hr0, hho, ⟨⟨hA1, hZ1⟩, ⟨hA2, hB2⟩, ⟨hA3, hZ3⟩, hWt⟩, hMp, -⟩ := id hH
        have hW_320 := hW_320.le (e := 800) (by omega)
        refine wx_putf pf_X4_240 rfl dX4_statement_323 hho ha0 (Nat.le_of_ble_eq_true rfl) rfl rfl (fun h_323 hho f_323 => ?_)
        have hF := hF.kt f_323 (by first | exact Or.inl rfl | exact Or.inr rfl)
        have hL := hL.kt f_323 (by first | exact hp0 | exact ha0)
        have hP := hP.kt f_323 (by omega)
        have hH : HPn G h_323 a p nl (PS.mk0 s.nm s.lb s.of s.sh s.hs true y_320.1 y_320.2) := ⟨al, am, ll, _, nxs, lx, dx, ha0, hr0, hho, HR.fo (hR := (⟨⟨hA1, hZ1⟩, ⟨hA2, hB2⟩, ⟨hA3, hZ3⟩, hW_320⟩ : HR G _ a p nl al ll _ nxs lx dx s.nm s.lb (ldN s.lb.length) y_320.2)) f_323.fo ha0 h8l (by omega), hMp.kt f_323 ha0 (by omega), h8l⟩
        have hs9 : PSc (PS.mk0 s.nm s.lb s.of s.sh s.hs true y_320.1 y_320.2) := hs9
        refine ww_goto 340 dX4_statement_326 (by decide) ?_
        refine ww_aload_n 4 dX4_statement_340 rfl ?_
        refine ww_bipush dX4_statement_341 (by decide) ?_
        refine cx_v (cx_V (ct_X4_expect hG hP 59 (by decide) (by decide)) sv_X4_113 rfl dX4_statement_343 hP.obj rfl rfl rfl rfl ⟨Nat.le_of_ble_eq_true rfl, Nat.le_of_ble_eq_true rfl⟩ (Nat.le_of_ble_eq_true rfl) (by dsimp only [mmc, MX4_statement, MX4_word, MJ6_length, MJ6_hashCode, MJ6_equals, MX5_init, MX4_name, MX4_expect, MX4_library, MX4_offer, MX4_prefer, MX4_require, MX4_number, MX4_sum] <;> omega) (by dsimp only [mms, MX4_statement, MX4_word, MJ6_length, MJ6_hashCode, MJ6_equals, MX5_init, MX4_name, MX4_expect, MX4_library, MX4_offer, MX4_prefer, MX4_require, MX4_number, MX4_sum] <;> omega)) (fun X_343 q_343 g_343 hx_343 => wq_out hQ hT (by dsimp only [mmc, MX4_statement, MX4_word, MJ6_length, MJ6_hashCode, MJ6_equals, MX4_name, MX4_library, MX4_offer, MX4_prefer, MX4_require, MX4_number, MX4_sum, MX4_expect, MX5_init] <;> omega) (by dsimp only [mms, MX4_statement, MX4_word, MJ6_length, MJ6_hashCode, MJ6_equals, MX4_name, MX4_library, MX4_offer, MX4_prefer, MX4_require, MX4_number, MX4_sum, MX4_expect, MX5_init] <;> omega) (hx_343.go hF (fun c o e => by unfold pexp at e; split at e; cases e; rename_i c9; rw [pSt_no hrs c9]; cases e; rfl))) (fun h_343 hp_343 => ?_)
        obtain ⟨hc_343, hP, f_343⟩ := hp_343
        have hF := hF.kt f_343 (by first | exact Or.inl rfl | exact Or.inr rfl)
        have hH := hH.kt f_343 hp0
        have hL := hL.kt f_343 (by first | exact hp0 | exact ha0)
        have hs59 := sk59 ht hc_343 hm_320
        have hk59 := ht.k1 hm_320
        exact ww_x hQ (ww_vret rfl dX4_statement_346 rfl (by dsimp only [mmc, MX4_statement, MX4_word, MJ6_length, MJ6_hashCode, MJ6_equals, MX5_init, MX4_name, MX4_expect, MX4_library, MX4_offer, MX4_prefer, MX4_require, MX4_number, MX4_sum] <;> omega) (by dsimp only [mms, MX4_statement, MX4_word, MJ6_length, MJ6_hashCode, MJ6_equals, MX5_init, MX4_name, MX4_expect, MX4_library, MX4_offer, MX4_prefer, MX4_require, MX4_number, MX4_sum] <;> omega) ⟨rfl, sk t p_320 + 1, _, _, _, _, pSt_ok hrs hc_343, by omega, by omega, hs9, hP, hhs, (bI_t rfl).symm, hH, hL, hF⟩)
  · have nA : pw t nx ≠ kwName := fun e => hz9.1 (by rw [e]; exact hq_A)
    have nB : pw t nx ≠ kwLibrary := fun e => hz9.2.1 (by rw [e]; exact hq_B)
    have nC : pw t nx ≠ kwOffer := fun e => hz9.2.2.1 (by rw [e]; exact hq_C)
    have nD : pw t nx ≠ kwPrefer := fun e => hz9.2.2.2.1 (by rw [e]; exact hq_D)
    have nS : pw t nx ≠ kwShare := fun e => hz9.2.2.2.2.1 (by rw [e]; exact hq_S)
    have nW : pw t nx ≠ kwWeight := fun e => hz9.2.2.2.2.2 (by rw [e]; exact hq_W)
    have hs1 : pSt1 t nx s = .error (-2, sk t nx) := by unfold pSt1; rw [if_neg nA, if_neg nB, if_neg nC, if_neg nD, if_neg nS, if_neg nW]
    clear hb1 hb2
    obtain ⟨hb1, hb2⟩ := st_no ht hnx.1 hnx.2 hs1
    refine ww_lookup 179 dX4_statement_32 (hsI_in (pw t nx)) rfl (off := 147) (by simp [Op.lookupswitch.offset, List.find?, Ne.symm hz9.1, Ne.symm hz9.2.1, Ne.symm hz9.2.2.1, Ne.symm hz9.2.2.2.1, Ne.symm hz9.2.2.2.2.1, Ne.symm hz9.2.2.2.2.2]) (by decide) ?_
    refine ww_iload 0 dX4_statement_179 rfl ?_
    refine ww_tableOut 329 dX4_statement_181 (inI.mk (by decide) (by decide)) (by decide) (by decide) ?_
    have hFz := hF
    refine wx_new (fun q => (q, 10590)) nw_X4_50 rfl dX4_statement_329 (fun q hq => ⟨hq.1, Nat.le_refl _⟩) (by dsimp only [mmc, MX4_statement, MX4_word, MJ6_length, MJ6_hashCode, MJ6_equals, MX5_init, MX4_name, MX4_expect, MX4_library, MX4_offer, MX4_prefer, MX4_require, MX4_number, MX4_sum] <;> omega) (by dsimp only [mms, MX4_statement, MX4_word, MJ6_length, MJ6_hashCode, MJ6_equals, MX5_init, MX4_name, MX4_expect, MX4_library, MX4_offer, MX4_prefer, MX4_require, MX4_number, MX4_sum] <;> omega) (fun q_329 h_329 n_329 e_329 hq9 => ?_)
    have hF := hF.ex e_329
    have hH := hH.ex e_329
    have hL := hL.ex e_329
    refine ww_dup dX4_statement_332 rfl ?_
    refine ww_bipush dX4_statement_333 (by decide) ?_
    refine ww_iload_n 2 dX4_statement_335 rfl ?_
    refine cr_v (cr_I (ct_X5_init hG n_329.1 hq9 (-2) (sk t nx)) si_X4_52 rfl rfl dX4_statement_336 rfl rfl ⟨Nat.le_of_ble_eq_true rfl, Nat.le_of_ble_eq_true rfl⟩ (Nat.le_of_ble_eq_true rfl) (by dsimp only [mmc, MX4_statement, MX4_word, MJ6_length, MJ6_hashCode, MJ6_equals, MX5_init, MX4_name, MX4_expect, MX4_library, MX4_offer, MX4_prefer, MX4_require, MX4_number, MX4_sum] <;> omega) (by dsimp only [mms, MX4_statement, MX4_word, MJ6_length, MJ6_hashCode, MJ6_equals, MX5_init, MX4_name, MX4_expect, MX4_library, MX4_offer, MX4_prefer, MX4_require, MX4_number, MX4_sum] <;> omega)) (fun h_336 hp_336 => ?_)
    obtain ⟨hS_336, f_336⟩ := hp_336
    exact ww_athrow dX4_statement_339 hS_336 n_329.1 rfl rfl (wq_out hQ hT (by dsimp only [mmc, MX4_statement, MX4_word, MJ6_length, MJ6_hashCode, MJ6_equals, MX4_name, MX4_library, MX4_offer, MX4_prefer, MX4_require, MX4_number, MX4_sum, MX4_expect, MX5_init] <;> omega) (by dsimp only [mms, MX4_statement, MX4_word, MJ6_length, MJ6_hashCode, MJ6_equals, MX4_name, MX4_library, MX4_offer, MX4_prefer, MX4_require, MX4_number, MX4_sum, MX4_expect, MX5_init] <;> omega) ⟨rfl, -2, sk t nx, pSt_e hs1, by omega, hS_336, hFz.tr (((e_329.fo).tr f_336).nw n_329).fp⟩)
