set_option maxRecDepth 100000
set_option maxHeartbeats 4000000 in
theorem ct_X4_offer {G : GT} {h : AH} (hG : GOK G) {p x a nl : Nat} {t : Int → Int} {n nx sa hs hw : Int} (hP : PB G h p x a nl t n nx sa 0 hs hw) {s : PS} (hH : HPn G h a p nl s) (hL : LitC G h) (hs9 : PSc s) : CX G (MX4_offer 12 2500 (bC t n nx (pOff t nx s)) (bS t n nx (pOff t nx s))) h [.ref p] (pV (fun h' => ∃ e s' sa9, pOff t nx s = .ok (e, s') ∧ nx < e ∧ e ≤ n ∧ PSc s' ∧ PB G h' p x a nl t n e sa9 0 hs hw ∧ HPn G h' a p nl s' ∧ LitC G h' ∧ s'.hs = s.hs ∧ s'.hw = s.hw ∧ FP p a h h')) (XS p a h (pOff t nx s)) := by
  refine CX.of rfl hG (Nat.le_of_ble_eq_true rfl) rfl (fun E hQ hT => ?_)
  have ht := hP.txt
  have h8 := ht.2.1
  have h0 := ht.1
  have hnx := hP.2.2.1
  have hk := ht.k1 hnx.2
  have hrg := ht.rg (q := sk t nx) (by omega)
  have hp0 := hP.1.1
  have hF : FP p a h h := FP.rf
  have h12 := hs9.n
  have h8l := hs9.l
  have ha0 := hH.a0
  have hw1 := ht.w1 hk.2.1
  refine ww_aload_n 0 dX4_offer_0 rfl ?_
  refine ww_aload_n 0 dX4_offer_1 rfl ?_
  refine ww_aload_n 0 dX4_offer_2 rfl ?_
  obtain ⟨hb1, hb2⟩ := b_geI (t := t) (n := n) (p := nx) (r := pOff t nx s) (e := we t (sk t nx)) (by omega) (fun q2 s2 eq => by obtain ⟨k9, b9, e9, k8, b8, e8, i1, i2, i3, i4⟩ := pOff_m (s := s) ht hnx.1 hnx.2 q2 s2 eq; have j1 := pkn_inv ht hnx.2 i1; have j2 := pkn_inv ht j1.2.2.2.2.2.2 i2; have j3 := ht.k1 j1.2.2.2.2.2.2; omega)
  obtain ⟨hwC, hwS⟩ := wCI (l := we t (sk t nx) - sk t nx) (by omega)
  refine cx_r (cx_V (ct_X4_toldWord hG hP) sv_X4_158 rfl dX4_offer_3 hP.obj rfl rfl rfl rfl ⟨Nat.le_of_ble_eq_true rfl, Nat.le_of_ble_eq_true rfl⟩ (Nat.le_of_ble_eq_true rfl) (by dsimp only [mmc, MX4_offer, MX4_toldWord] <;> omega) (by dsimp only [mms, MX4_offer, MX4_toldWord] <;> omega)) (fun X_3 q_3 g_3 hx_3 => wq_out hQ hT (by dsimp only [mmc, MX4_offer, MX4_require, MX4_toldWord, MX4_libraryOf, MX4_nameOf, MX4_known, MX2_offer, MX4_isDigit, MX4_number, MX2_put, MX4_accept] <;> omega) (by dsimp only [mms, MX4_offer, MX4_require, MX4_toldWord, MX4_libraryOf, MX4_nameOf, MX4_known, MX2_offer, MX4_isDigit, MX4_number, MX2_put, MX4_accept] <;> omega) (hx_3.go hF (fun c o e => pOff_e1 (pkn_e e)))) (fun r_3 h_3 hp_3 => ?_)
  obtain ⟨w_3, b_3, e_3, hr_3, hw_3, hb_3, he_3, hg_3, hm_3, hl_3, hW_3, n_3, hP, f_3⟩ := hp_3
  have hF := hF.kt f_3 (by first | exact Or.inl rfl | exact Or.inr rfl)
  have hH := hH.kt f_3 hp0
  have hL := hL.kt f_3 (by first | exact hp0 | exact ha0)
  subst hw_3 hb_3 he_3
  obtain ⟨fsw, hwo⟩ := hW_3.obj
  obtain ⟨c1, hc1⟩ : ∃ c : Nat, (c : Int) = 5 + (we t (sk t nx) - nx) := ⟨(5 + (we t (sk t nx) - nx)).toNat, by omega⟩
  obtain ⟨d1, hd1⟩ : ∃ d : Nat, (d : Int) = 40 + 5 * (we t (sk t nx) - nx) := ⟨(40 + 5 * (we t (sk t nx) - nx)).toNat, by omega⟩
  refine ww_widen (n' := c1) (k' := d1) (by dsimp only [mmc, MX4_offer, MX4_require, MX4_toldWord, MX4_libraryOf, MX4_nameOf, MX4_known, MX2_offer, MX4_isDigit, MX4_number, MX2_put, MX4_accept] <;> omega) (by dsimp only [mms, MX4_offer, MX4_require, MX4_toldWord, MX4_libraryOf, MX4_nameOf, MX4_known, MX2_offer, MX4_isDigit, MX4_number, MX2_put, MX4_accept] <;> omega) ?_
  clear hwC hwS
  obtain ⟨al, am, ll, w, nxs, lx, dx, -, hr0, hho, ⟨⟨hA1, hZ1⟩, ⟨hA2, hB2⟩, ⟨hA3, hZ3⟩, hWt⟩, hMp, -⟩ := id hH
  refine cr_pi (cr_V (ct_X4_libraryOf hG hP hho hA2 hB2 hW_3) sv_X4_168 rfl dX4_offer_6 hP.obj rfl rfl rfl rfl ⟨Nat.le_of_ble_eq_true rfl, Nat.le_of_ble_eq_true rfl⟩ (Nat.le_of_ble_eq_true rfl) (by dsimp only [mmc, MX4_offer, MX4_toldWord, MX4_libraryOf] <;> omega) (by dsimp only [mms, MX4_offer, MX4_toldWord, MX4_libraryOf] <;> omega)) ?_
  rcases Classical.em (fi (s.lb.map (·.1)) (pw t nx) = -1) with hf1 | hf1
  · rw [hf1]
    have her : pOff t nx s = .error (-4, sk t nx) := pOff_e1 (pkn_u hr_3 hf1)
    obtain ⟨hb1, hb2⟩ := b_erI (t := t) (n := n) (p := nx) her
    refine cx_i (cx_V (ct_X4_knF hG hP) sv_X4_183 rfl dX4_offer_9 hP.obj rfl rfl rfl rfl ⟨Nat.le_of_ble_eq_true rfl, Nat.le_of_ble_eq_true rfl⟩ (Nat.le_of_ble_eq_true rfl) (by dsimp only [mmc, MX4_offer, MX4_toldWord, MX4_libraryOf, MX4_known] <;> omega) (by dsimp only [mms, MX4_offer, MX4_toldWord, MX4_libraryOf, MX4_known] <;> omega)) (fun X_9 q_9 g_9 hx_9 => wq_out hQ hT (by dsimp only [mmc, MX4_offer, MX4_require, MX4_toldWord, MX4_libraryOf, MX4_nameOf, MX4_known, MX2_offer, MX4_isDigit, MX4_number, MX2_put, MX4_accept] <;> omega) (by dsimp only [mms, MX4_offer, MX4_require, MX4_toldWord, MX4_libraryOf, MX4_nameOf, MX4_known, MX2_offer, MX4_isDigit, MX4_number, MX2_put, MX4_accept] <;> omega) (hx_9.go hF (fun c o e => by cases e; exact her))) (fun r_9 h_9 hp_9 => ?_)
    exact hp_9.elim
  · have hp1 : pkn t nx (s.lb.map (·.1)) = .ok (fi (s.lb.map (·.1)) (pw t nx), sk t nx, we t (sk t nx)) := pkn_ok hr_3 hf1
    have hkr : 0 ≤ fi (s.lb.map (·.1)) (pw t nx) ∧ fi (s.lb.map (·.1)) (pw t nx) < s.lb.length := by have hq9 := fi_rg (l := (s.lb.map (·.1))) (w := pw t nx); rw [List.length_map] at hq9; rcases hq9 with z | z; exact absurd z hf1; exact z
    generalize hkk : fi (s.lb.map (·.1)) (pw t nx) = kk at *
    have k2 := ht.k1 hm_3
    have w2 := ht.w1 k2.2.1
    obtain ⟨hb1, hb2⟩ := b_geI (t := t) (n := n) (p := nx) (r := pOff t nx s) (e := we t (sk t (we t (sk t nx)))) (by omega) (fun q2 s2 eq => by obtain ⟨k9, b9, e9, k8, b8, e8, i1, i2, i3, i4⟩ := pOff_m (s := s) ht hnx.1 hnx.2 q2 s2 eq; have j1 := pkn_inv ht hnx.2 i1; have j2 := pkn_inv ht j1.2.2.2.2.2.2 i2; have j3 := ht.k1 j1.2.2.2.2.2.2; rw [hp1] at i1; cases i1; omega)
    obtain ⟨hwC, hwS⟩ := wCI (l := we t (sk t (we t (sk t nx))) - sk t (we t (sk t nx))) (by omega)
    refine cr_pi (cr_V (ct_X4_knT hG hP kk (inI.mk (by omega) (by omega)) hf1) sv_X4_183 rfl dX4_offer_9 hP.obj rfl rfl rfl rfl ⟨Nat.le_of_ble_eq_true rfl, Nat.le_of_ble_eq_true rfl⟩ (Nat.le_of_ble_eq_true rfl) (by dsimp only [mmc, MX4_offer, MX4_toldWord, MX4_libraryOf, MX4_known] <;> omega) (by dsimp only [mms, MX4_offer, MX4_toldWord, MX4_libraryOf, MX4_known] <;> omega)) ?_
    refine ww_istore_n [(1, _), (0, _)] dX4_offer_12 (Nat.le_of_ble_eq_true rfl) rfl ?_
    refine ww_aload_n 1 dX4_offer_13 rfl ?_
    refine ww_aload_n 1 dX4_offer_14 rfl ?_
    refine ww_aload_n 1 dX4_offer_15 rfl ?_
    refine cx_r (cx_V (ct_X4_toldWord hG hP) sv_X4_158 rfl dX4_offer_16 hP.obj rfl rfl rfl rfl ⟨Nat.le_of_ble_eq_true rfl, Nat.le_of_ble_eq_true rfl⟩ (Nat.le_of_ble_eq_true rfl) (by dsimp only [mmc, MX4_offer, MX4_toldWord, MX4_libraryOf, MX4_known] <;> omega) (by dsimp only [mms, MX4_offer, MX4_toldWord, MX4_libraryOf, MX4_known] <;> omega)) (fun X_16 q_16 g_16 hx_16 => wq_out hQ hT (by dsimp only [mmc, MX4_offer, MX4_require, MX4_toldWord, MX4_libraryOf, MX4_nameOf, MX4_known, MX2_offer, MX4_isDigit, MX4_number, MX2_put, MX4_accept] <;> omega) (by dsimp only [mms, MX4_offer, MX4_require, MX4_toldWord, MX4_libraryOf, MX4_nameOf, MX4_known, MX2_offer, MX4_isDigit, MX4_number, MX2_put, MX4_accept] <;> omega) (hx_16.go hF (fun c o e => pOff_e2 hp1 (pkn_e e)))) (fun r_16 h_16 hp_16 => ?_)
    obtain ⟨w_16, b_16, e_16, hr_16, hw_16, hb_16, he_16, hg_16, hm_16, hl_16, hW_16, n_16, hP, f_16⟩ := hp_16
    have hF := hF.kt f_16 (by first | exact Or.inl rfl | exact Or.inr rfl)
    have hH := hH.kt f_16 hp0
    have hL := hL.kt f_16 (by first | exact hp0 | exact ha0)
    subst hw_16 hb_16 he_16
    obtain ⟨fsw, hwo⟩ := hW_16.obj
    obtain ⟨c2, hc2⟩ : ∃ c : Nat, (c : Int) = 10 + (we t (sk t (we t (sk t nx))) - nx) := ⟨(10 + (we t (sk t (we t (sk t nx))) - nx)).toNat, by omega⟩
    obtain ⟨d2, hd2⟩ : ∃ d : Nat, (d : Int) = 80 + 5 * (we t (sk t (we t (sk t nx))) - nx) := ⟨(80 + 5 * (we t (sk t (we t (sk t nx))) - nx)).toNat, by omega⟩
    refine ww_widen (n' := c2) (k' := d2) (by dsimp only [mmc, MX4_offer, MX4_require, MX4_toldWord, MX4_libraryOf, MX4_nameOf, MX4_known, MX2_offer, MX4_isDigit, MX4_number, MX2_put, MX4_accept] <;> omega) (by dsimp only [mms, MX4_offer, MX4_require, MX4_toldWord, MX4_libraryOf, MX4_nameOf, MX4_known, MX2_offer, MX4_isDigit, MX4_number, MX2_put, MX4_accept] <;> omega) ?_
    clear hwC hwS
    obtain ⟨al, am, ll, w, nxs, lx, dx, -, hr0, hho, ⟨⟨hA1, hZ1⟩, ⟨hA2, hB2⟩, ⟨hA3, hZ3⟩, hWt⟩, hMp, -⟩ := id hH
    refine cr_pi (cr_V (ct_X4_nameOf hG hP hA1 hZ1 hW_16) sv_X4_161 rfl dX4_offer_19 hP.obj rfl rfl rfl rfl ⟨Nat.le_of_ble_eq_true rfl, Nat.le_of_ble_eq_true rfl⟩ (Nat.le_of_ble_eq_true rfl) (by dsimp only [mmc, MX4_offer, MX4_toldWord, MX4_libraryOf, MX4_known, MX4_nameOf] <;> omega) (by dsimp only [mms, MX4_offer, MX4_toldWord, MX4_libraryOf, MX4_known, MX4_nameOf] <;> omega)) ?_
    rcases Classical.em (fi s.nm (pw t (we t (sk t nx))) = -1) with hf2 | hf2
    · rw [hf2]
      have her : pOff t nx s = .error (-4, sk t (we t (sk t nx))) := pOff_e2 hp1 (pkn_u hr_16 hf2)
      obtain ⟨hb1, hb2⟩ := b_erI (t := t) (n := n) (p := nx) her
      refine cx_i (cx_V (ct_X4_knF hG hP) sv_X4_183 rfl dX4_offer_22 hP.obj rfl rfl rfl rfl ⟨Nat.le_of_ble_eq_true rfl, Nat.le_of_ble_eq_true rfl⟩ (Nat.le_of_ble_eq_true rfl) (by dsimp only [mmc, MX4_offer, MX4_toldWord, MX4_libraryOf, MX4_known, MX4_nameOf] <;> omega) (by dsimp only [mms, MX4_offer, MX4_toldWord, MX4_libraryOf, MX4_known, MX4_nameOf] <;> omega)) (fun X_22 q_22 g_22 hx_22 => wq_out hQ hT (by dsimp only [mmc, MX4_offer, MX4_require, MX4_toldWord, MX4_libraryOf, MX4_nameOf, MX4_known, MX2_offer, MX4_isDigit, MX4_number, MX2_put, MX4_accept] <;> omega) (by dsimp only [mms, MX4_offer, MX4_require, MX4_toldWord, MX4_libraryOf, MX4_nameOf, MX4_known, MX2_offer, MX4_isDigit, MX4_number, MX2_put, MX4_accept] <;> omega) (hx_22.go hF (fun c o e => by cases e; exact her))) (fun r_22 h_22 hp_22 => ?_)
      exact hp_22.elim
    · have hp2 : pkn t (we t (sk t nx)) s.nm = .ok (fi s.nm (pw t (we t (sk t nx))), sk t (we t (sk t nx)), we t (sk t (we t (sk t nx)))) := pkn_ok hr_16 hf2
      have hnr : 0 ≤ fi s.nm (pw t (we t (sk t nx))) ∧ fi s.nm (pw t (we t (sk t nx))) < s.nm.length := by have hq9 := fi_rg (l := s.nm) (w := pw t (we t (sk t nx))); rcases hq9 with z | z; exact absurd z hf2; exact z
      generalize hnn : fi s.nm (pw t (we t (sk t nx))) = nn at *
      generalize he3 : we t (sk t (we t (sk t nx))) = e3 at *
      have k3 := ht.k1 hm_16
      have w3 := ht.w1 k3.2.1
      obtain ⟨hb1, hb2⟩ := b_geI (t := t) (n := n) (p := nx) (r := pOff t nx s) (e := e3) (by omega) (fun q2 s2 eq => by obtain ⟨k9, b9, e9, k8, b8, e8, i1, i2, i3, i4⟩ := pOff_m (s := s) ht hnx.1 hnx.2 q2 s2 eq; have j1 := pkn_inv ht hnx.2 i1; have j2 := pkn_inv ht j1.2.2.2.2.2.2 i2; have j3 := ht.k1 j1.2.2.2.2.2.2; rw [hp1] at i1; cases i1; rw [hp2] at i2; cases i2; omega)
      have hofr := hs9.o kk nn
      clear hc1 hd1
      refine cr_pi (cr_V (ct_X4_knT hG hP nn (inI.mk (by omega) (by omega)) hf2) sv_X4_183 rfl dX4_offer_22 hP.obj rfl rfl rfl rfl ⟨Nat.le_of_ble_eq_true rfl, Nat.le_of_ble_eq_true rfl⟩ (Nat.le_of_ble_eq_true rfl) (by dsimp only [mmc, MX4_offer, MX4_toldWord, MX4_libraryOf, MX4_known, MX4_nameOf] <;> omega) (by dsimp only [mms, MX4_offer, MX4_toldWord, MX4_libraryOf, MX4_known, MX4_nameOf] <;> omega)) ?_
      refine ww_istore_n [(2, _), (1, _), (0, _)] dX4_offer_25 (Nat.le_of_ble_eq_true rfl) rfl ?_
      refine ww_aload_n 2 dX4_offer_26 rfl ?_
      refine ww_aload_n 2 dX4_offer_27 rfl ?_
      refine ww_getf gf_X4_27 rfl dX4_offer_28 hP.obj rfl ?_
      refine ww_iload_n 1 dX4_offer_31 rfl ?_
      refine ww_iload_n 0 dX4_offer_32 rfl ?_
      obtain ⟨al9, fs9, hho⟩ := hH.obj
      refine cr_i (cr_V (ct_X2_offer hG hH.hs kk nn (by omega) (by omega) (by omega) (by omega)) sv_X4_187 rfl dX4_offer_33 hho rfl rfl rfl rfl ⟨Nat.le_of_ble_eq_true rfl, Nat.le_of_ble_eq_true rfl⟩ (Nat.le_of_ble_eq_true rfl) (by dsimp only [mmc, MX4_offer, MX4_toldWord, MX4_libraryOf, MX4_known, MX4_nameOf, MX2_offer] <;> omega) (by dsimp only [mms, MX4_offer, MX4_toldWord, MX4_libraryOf, MX4_known, MX4_nameOf, MX2_offer] <;> omega)) (fun r_33 h_33 hp_33 => ?_)
      obtain ⟨er_33, e_33⟩ := hp_33
      subst er_33
      have hF := hF.ex e_33
      have hH := hH.ex e_33
      have hL := hL.ex e_33
      have hP := hP.ex e_33
      refine ww_iconst dX4_offer_36 ?_
      refine ww_icmp_ne 44 dX4_offer_37 (by decide) (inI.mk (by omega) (by omega)) (inI.mk (by decide) (by decide)) (fun c_37 => ?_) (fun c_37 => ?_)
      · have her : pOff t nx s = .error (-5, sk t (we t (sk t nx))) := pOff_e3 hp1 hp2 c_37
        obtain ⟨hb1, hb2⟩ := b_erI (t := t) (n := n) (p := nx) her
        refine ww_iconst dX4_offer_44 ?_
        refine ww_bipush dX4_offer_45 (by decide) ?_
        refine ww_aload_n 2 dX4_offer_47 rfl ?_
        refine ww_getf gf_X4_86 rfl dX4_offer_48 hP.obj rfl ?_
        refine cx_v (cx_V (ct_X4_reqF hG p a (-5) (sk t (we t (sk t nx))) (by omega)) sv_X4_59 rfl dX4_offer_51 hP.obj rfl rfl rfl rfl ⟨Nat.le_of_ble_eq_true rfl, Nat.le_of_ble_eq_true rfl⟩ (Nat.le_of_ble_eq_true rfl) (by dsimp only [mmc, MX4_offer, MX4_toldWord, MX4_libraryOf, MX4_known, MX4_nameOf, MX2_offer, MX4_require] <;> omega) (by dsimp only [mms, MX4_offer, MX4_toldWord, MX4_libraryOf, MX4_known, MX4_nameOf, MX2_offer, MX4_require] <;> omega)) (fun X_51 q_51 g_51 hx_51 => wq_out hQ hT (by dsimp only [mmc, MX4_offer, MX4_require, MX4_toldWord, MX4_libraryOf, MX4_nameOf, MX4_known, MX2_offer, MX4_isDigit, MX4_number, MX2_put, MX4_accept] <;> omega) (by dsimp only [mms, MX4_offer, MX4_require, MX4_toldWord, MX4_libraryOf, MX4_nameOf, MX4_known, MX2_offer, MX4_isDigit, MX4_number, MX2_put, MX4_accept] <;> omega) (hx_51.go hF (fun c o e => by cases e; exact her))) (fun h_51 hp_51 => ?_)
        exact hp_51.elim
      · refine ww_iconst dX4_offer_40 ?_
        refine ww_goto 45 dX4_offer_41 (by decide) ?_
        refine ww_bipush dX4_offer_45 (by decide) ?_
        refine ww_aload_n 2 dX4_offer_47 rfl ?_
        refine ww_getf gf_X4_86 rfl dX4_offer_48 hP.obj rfl ?_
        refine cr_pv (cr_V (ct_X4_reqT hG 1 _ _ (by decide) (inI.mk (by decide) (by decide))) sv_X4_59 rfl dX4_offer_51 hP.obj rfl rfl rfl rfl ⟨Nat.le_of_ble_eq_true rfl, Nat.le_of_ble_eq_true rfl⟩ (Nat.le_of_ble_eq_true rfl) (by dsimp only [mmc, MX4_offer, MX4_toldWord, MX4_libraryOf, MX4_known, MX4_nameOf, MX2_offer, MX4_require] <;> omega) (by dsimp only [mms, MX4_offer, MX4_toldWord, MX4_libraryOf, MX4_known, MX4_nameOf, MX2_offer, MX4_require] <;> omega)) ?_
        refine ww_aload_n 2 dX4_offer_54 rfl ?_
        refine cr_i (cr_V (ct_X4_isDigit hG hP) sv_X4_82 rfl dX4_offer_55 hP.obj rfl rfl rfl rfl ⟨Nat.le_of_ble_eq_true rfl, Nat.le_of_ble_eq_true rfl⟩ (Nat.le_of_ble_eq_true rfl) (by dsimp only [mmc, MX4_offer, MX4_toldWord, MX4_libraryOf, MX4_known, MX4_nameOf, MX2_offer, MX4_require, MX4_isDigit] <;> omega) (by dsimp only [mms, MX4_offer, MX4_toldWord, MX4_libraryOf, MX4_known, MX4_nameOf, MX2_offer, MX4_require, MX4_isDigit] <;> omega)) (fun r_55 h_55 hp_55 => ?_)
        obtain ⟨er_55, hP, f_55⟩ := hp_55
        subst er_55
        have hF := hF.kt f_55 (by first | exact Or.inl rfl | exact Or.inr rfl)
        have hH := hH.kt f_55 hp0
        have hL := hL.kt f_55 (by first | exact hp0 | exact ha0)
        refine ww_ifb_eq 79 dX4_offer_58 (by decide) (fun c_58 => ?_) (fun c_58 => ?_)
        · clear hb1 hb2
          obtain ⟨hb1, hb2⟩ := b_geI (t := t) (n := n) (p := nx) (r := pOff t nx s) (e := we t (sk t e3)) (by omega) (fun q2 s2 eq => by obtain ⟨k9, b9, e9, k8, b8, e8, i1, i2, i3, i4⟩ := pOff_m (s := s) ht hnx.1 hnx.2 q2 s2 eq; rw [hp1] at i1; cases i1; rw [hp2] at i2; cases i2; by_cases hz9 : pw t e3 = kwTo; obtain ⟨k4, b4, e5, i5, i6⟩ := i4 hz9; have j5 := pkn_inv ht w3.2.1 i5; have j6 := ht.k1 w3.2.1; omega; rw [pOff_nu hp1 hp2 c_37 hz9] at eq; unfold pnum at eq; rw [if_neg c_58] at eq; cases eq)
          obtain ⟨hwC, hwS⟩ := wCI (l := we t (sk t e3) - sk t e3) (by omega)
          refine ww_aload_n 2 dX4_offer_79 rfl ?_
          obtain ⟨a9, tx9, hz8, hS9⟩ := hL.1 "LinkElection$Parser" 194 kwTo (by decide)
          refine ww_ldcS hz8 dX4_offer_80 ?_
          refine cr_i (cr_V (ct_X4_accept hG hP hS9 rfl) sv_X4_173 rfl dX4_offer_82 hP.obj rfl rfl rfl rfl ⟨Nat.le_of_ble_eq_true rfl, Nat.le_of_ble_eq_true rfl⟩ (Nat.le_of_ble_eq_true rfl) (by rw [ht.kk hm_16]; dsimp only [mmc, MX4_offer, MX4_require, MX4_toldWord, MX4_libraryOf, MX4_nameOf, MX4_known, MX2_offer, MX4_isDigit, MX4_number, MX2_put, MX4_accept] <;> omega) (by rw [ht.kk hm_16]; dsimp only [mms, MX4_offer, MX4_require, MX4_toldWord, MX4_libraryOf, MX4_nameOf, MX4_known, MX2_offer, MX4_isDigit, MX4_number, MX2_put, MX4_accept] <;> omega)) (fun r_82 h_82 hp_82 => ?_)
          obtain ⟨er_82, hP, f_82⟩ := hp_82
          subst er_82
          have hF := hF.kt f_82 (by first | exact Or.inl rfl | exact Or.inr rfl)
          have hH := hH.kt f_82 hp0
          have hL := hL.kt f_82 (by first | exact hp0 | exact ha0)
          rw [pw_kk ht hm_16, ht.kk hm_16] at hP
          rw [pw_kk ht hm_16, ht.kk hm_16]
          rcases Classical.em (pw t e3 = kwTo) with hto | hto
          · rw [bI_t hto]
            rw [if_pos hto] at hP
            have hpl := pw_len (t := t) (e := e3)
            rw [hto] at hpl
            have hkl : (kwTo.length : Int) = 2 := rfl
            rw [hkl, Int.toNat_of_nonneg (by omega)] at hpl
            obtain ⟨c3, hc3⟩ : ∃ c : Nat, (c : Int) = 17 + (we t (sk t e3) - nx) := ⟨(17 + (we t (sk t e3) - nx)).toNat, by omega⟩
            obtain ⟨d3, hd3⟩ : ∃ d : Nat, (d : Int) = 114 + 5 * (we t (sk t e3) - nx) := ⟨(114 + 5 * (we t (sk t e3) - nx)).toNat, by omega⟩
            refine ww_widen (n' := c3) (k' := d3) (by dsimp only [mmc, MX4_offer, MX4_require, MX4_toldWord, MX4_libraryOf, MX4_nameOf, MX4_known, MX2_offer, MX4_isDigit, MX4_number, MX2_put, MX4_accept] <;> omega) (by dsimp only [mms, MX4_offer, MX4_require, MX4_toldWord, MX4_libraryOf, MX4_nameOf, MX4_known, MX2_offer, MX4_isDigit, MX4_number, MX2_put, MX4_accept] <;> omega) ?_
            clear hwC hwS
            have hon := pOff_to hp1 hp2 c_37 hto
            have k4 := ht.k1 w3.2.1
            have w4 := ht.w1 k4.2.1
            clear hc2 hd2
            obtain ⟨hb1, hb2⟩ := b_geI (t := t) (n := n) (p := nx) (r := pOff t nx s) (e := we t (sk t (we t (sk t e3)))) (by omega) (fun q2 s2 eq => by obtain ⟨k9, b9, e9, k8, b8, e8, i1, i2, i3, i4⟩ := pOff_m (s := s) ht hnx.1 hnx.2 q2 s2 eq; rw [hp1] at i1; cases i1; rw [hp2] at i2; cases i2; obtain ⟨k4, b4, e5, i5, i6⟩ := i4 hto; have j5 := pkn_inv ht w3.2.1 i5; omega)
            obtain ⟨hwC, hwS⟩ := wCI (l := we t (sk t (we t (sk t e3))) - sk t (we t (sk t e3))) (by omega)
            refine ww_istore_n [(3, _), (2, _), (1, _), (0, _)] dX4_offer_85 (Nat.le_of_ble_eq_true rfl) rfl ?_
            refine ww_aload_n 3 dX4_offer_86 rfl ?_
            refine ww_iload_n 0 dX4_offer_87 rfl ?_
            refine ww_bipush dX4_offer_88 (by decide) ?_
            refine ww_aload_n 3 dX4_offer_90 rfl ?_
            refine ww_getf gf_X4_35 rfl dX4_offer_91 hP.obj rfl ?_
            refine cr_pv (cr_V (ct_X4_reqT hG 1 _ _ (by decide) (inI.mk (by decide) (by decide))) sv_X4_59 rfl dX4_offer_94 hP.obj rfl rfl rfl rfl ⟨Nat.le_of_ble_eq_true rfl, Nat.le_of_ble_eq_true rfl⟩ (Nat.le_of_ble_eq_true rfl) (by dsimp only [mmc, MX4_offer, MX4_toldWord, MX4_libraryOf, MX4_known, MX4_nameOf, MX2_offer, MX4_require, MX4_isDigit, MX4_accept] <;> omega) (by dsimp only [mms, MX4_offer, MX4_toldWord, MX4_libraryOf, MX4_known, MX4_nameOf, MX2_offer, MX4_require, MX4_isDigit, MX4_accept] <;> omega)) ?_
            refine ww_aload_n 3 dX4_offer_97 rfl ?_
            refine ww_getf gf_X4_27 rfl dX4_offer_98 hP.obj rfl ?_
            refine ww_iload_n 2 dX4_offer_101 rfl ?_
            refine ww_iload_n 1 dX4_offer_102 rfl ?_
            refine ww_bipush dX4_offer_103 (by decide) ?_
            refine ww_aload_n 3 dX4_offer_105 rfl ?_
            refine ww_aload_n 3 dX4_offer_106 rfl ?_
            refine ww_aload_n 3 dX4_offer_107 rfl ?_
            refine cx_r (cx_V (ct_X4_toldWord hG hP) sv_X4_158 rfl dX4_offer_108 hP.obj rfl rfl rfl rfl ⟨Nat.le_of_ble_eq_true rfl, Nat.le_of_ble_eq_true rfl⟩ (Nat.le_of_ble_eq_true rfl) (by dsimp only [mmc, MX4_offer, MX4_toldWord, MX4_libraryOf, MX4_known, MX4_nameOf, MX2_offer, MX4_require, MX4_isDigit, MX4_accept] <;> omega) (by dsimp only [mms, MX4_offer, MX4_toldWord, MX4_libraryOf, MX4_known, MX4_nameOf, MX2_offer, MX4_require, MX4_isDigit, MX4_accept] <;> omega)) (fun X_108 q_108 g_108 hx_108 => wq_out hQ hT (by dsimp only [mmc, MX4_offer, MX4_require, MX4_toldWord, MX4_libraryOf, MX4_nameOf, MX4_known, MX2_offer, MX4_isDigit, MX4_number, MX2_put, MX4_accept] <;> omega) (by dsimp only [mms, MX4_offer, MX4_require, MX4_toldWord, MX4_libraryOf, MX4_nameOf, MX4_known, MX2_offer, MX4_isDigit, MX4_number, MX2_put, MX4_accept] <;> omega) (hx_108.go hF (fun c o e => by rw [hon, pkn_e e]))) (fun r_108 h_108 hp_108 => ?_)
            obtain ⟨w_108, b_108, e_108, hr_108, hw_108, hb_108, he_108, hg_108, hm_108, hl_108, hW_108, n_108, hP, f_108⟩ := hp_108
            have hF := hF.kt f_108 (by first | exact Or.inl rfl | exact Or.inr rfl)
            have hH := hH.kt f_108 hp0
            have hL := hL.kt f_108 (by first | exact hp0 | exact ha0)
            subst hw_108 hb_108 he_108
            obtain ⟨fsw, hwo⟩ := hW_108.obj
            obtain ⟨al, am, ll, w, nxs, lx, dx, -, hr0, hho, ⟨⟨hA1, hZ1⟩, ⟨hA2, hB2⟩, ⟨hA3, hZ3⟩, hWt⟩, hMp, -⟩ := id hH
            refine cr_pi (cr_V (ct_X4_nameOf hG hP hA1 hZ1 hW_108) sv_X4_161 rfl dX4_offer_111 hP.obj rfl rfl rfl rfl ⟨Nat.le_of_ble_eq_true rfl, Nat.le_of_ble_eq_true rfl⟩ (Nat.le_of_ble_eq_true rfl) (by dsimp only [mmc, MX4_offer, MX4_toldWord, MX4_libraryOf, MX4_known, MX4_nameOf, MX2_offer, MX4_require, MX4_isDigit, MX4_accept] <;> omega) (by dsimp only [mms, MX4_offer, MX4_toldWord, MX4_libraryOf, MX4_known, MX4_nameOf, MX2_offer, MX4_require, MX4_isDigit, MX4_accept] <;> omega)) ?_
            rcases Classical.em (fi s.nm (pw t (we t (sk t e3))) = -1) with hf3 | hf3
            · rw [hf3]
              have her : pOff t nx s = .error (-4, sk t (we t (sk t e3))) := by rw [hon, pkn_u hr_108 hf3]
              obtain ⟨hb1, hb2⟩ := b_erI (t := t) (n := n) (p := nx) her
              refine cx_i (cx_V (ct_X4_knF hG hP) sv_X4_183 rfl dX4_offer_114 hP.obj rfl rfl rfl rfl ⟨Nat.le_of_ble_eq_true rfl, Nat.le_of_ble_eq_true rfl⟩ (Nat.le_of_ble_eq_true rfl) (by dsimp only [mmc, MX4_offer, MX4_toldWord, MX4_libraryOf, MX4_known, MX4_nameOf, MX2_offer, MX4_require, MX4_isDigit, MX4_accept] <;> omega) (by dsimp only [mms, MX4_offer, MX4_toldWord, MX4_libraryOf, MX4_known, MX4_nameOf, MX2_offer, MX4_require, MX4_isDigit, MX4_accept] <;> omega)) (fun X_114 q_114 g_114 hx_114 => wq_out hQ hT (by dsimp only [mmc, MX4_offer, MX4_require, MX4_toldWord, MX4_libraryOf, MX4_nameOf, MX4_known, MX2_offer, MX4_isDigit, MX4_number, MX2_put, MX4_accept] <;> omega) (by dsimp only [mms, MX4_offer, MX4_require, MX4_toldWord, MX4_libraryOf, MX4_nameOf, MX4_known, MX2_offer, MX4_isDigit, MX4_number, MX2_put, MX4_accept] <;> omega) (hx_114.go hF (fun c o e => by cases e; exact her))) (fun r_114 h_114 hp_114 => ?_)
              exact hp_114.elim
            · have hp3 := pkn_ok (ws := s.nm) hr_108 hf3
              have hvr : 0 ≤ fi s.nm (pw t (we t (sk t e3))) ∧ fi s.nm (pw t (we t (sk t e3))) < s.nm.length := by have hq9 := fi_rg (l := s.nm) (w := pw t (we t (sk t e3))); rcases hq9 with z | z; exact absurd z hf3; exact z
              generalize hvv : fi s.nm (pw t (we t (sk t e3))) = vv at *
              obtain ⟨al9, fs9, hho⟩ := hH.obj
              refine cr_pi (cr_V (ct_X4_knT hG hP vv (inI.mk (by omega) (by omega)) hf3) sv_X4_183 rfl dX4_offer_114 hP.obj rfl rfl rfl rfl ⟨Nat.le_of_ble_eq_true rfl, Nat.le_of_ble_eq_true rfl⟩ (Nat.le_of_ble_eq_true rfl) (by dsimp only [mmc, MX4_offer, MX4_toldWord, MX4_libraryOf, MX4_known, MX4_nameOf, MX2_offer, MX4_require, MX4_isDigit, MX4_accept] <;> omega) (by dsimp only [mms, MX4_offer, MX4_toldWord, MX4_libraryOf, MX4_known, MX4_nameOf, MX2_offer, MX4_require, MX4_isDigit, MX4_accept] <;> omega)) ?_
              refine ww_isub dX4_offer_117 ?_
              refine cr_v (cr_V (ct_X2_put hG hH.hs kk nn (by omega) (by omega) (by omega) (by omega) (-2 - vv) (inI.mk (by omega) (by omega)) hL) sv_X4_190 rfl dX4_offer_118 hho rfl rfl rfl rfl ⟨Nat.le_of_ble_eq_true rfl, Nat.le_of_ble_eq_true rfl⟩ (Nat.le_of_ble_eq_true rfl) (by dsimp only [mmc, MX4_offer, MX4_toldWord, MX4_libraryOf, MX4_known, MX4_nameOf, MX2_offer, MX4_require, MX4_isDigit, MX4_accept, MX2_put] <;> omega) (by dsimp only [mms, MX4_offer, MX4_toldWord, MX4_libraryOf, MX4_known, MX4_nameOf, MX2_offer, MX4_require, MX4_isDigit, MX4_accept, MX2_put] <;> omega)) (fun h_118 hp_118 => ?_)
              obtain ⟨hS6, f_118⟩ := hp_118
              have hP := hP.fo f_118 (by omega)
              have hF := hF.fo f_118 (Or.inr rfl)
              have hL := hL.fo f_118 ha0
              have hho := f_118.at hho (by omega)
              exact ww_x hQ (ww_vret rfl dX4_offer_121 rfl (by dsimp only [mmc, MX4_offer, MX4_toldWord, MX4_libraryOf, MX4_known, MX4_nameOf, MX2_offer, MX4_require, MX4_isDigit, MX4_accept, MX2_put] <;> omega) (by dsimp only [mms, MX4_offer, MX4_toldWord, MX4_libraryOf, MX4_known, MX4_nameOf, MX2_offer, MX4_require, MX4_isDigit, MX4_accept, MX2_put] <;> omega) ⟨rfl, we t (sk t (we t (sk t e3))), PS.mk0 s.nm s.lb (o2 s.of kk nn (-2 - vv)) s.sh s.hs s.hw s.cs s.fn, _, by rw [hon, hp3], by omega, by omega, PSok.addO hs9 (by show kk < s.lb.length; omega) (by show nn < s.nm.length; omega) (by show -2 - (s.nm.length : Int) < -2 - vv ∧ -2 - vv ≤ 9999; omega), hP, HPn.of hS6 hho, hL, rfl, rfl, hF⟩)
          · rw [bI_f hto]
            rw [if_neg hto] at hP
            have her : pOff t nx s = .error (-2, sk t e3) := by rw [pOff_nu hp1 hp2 c_37 hto]; unfold pnum; rw [if_neg c_58]
            obtain ⟨hb1, hb2⟩ := b_erI (t := t) (n := n) (p := nx) her
            refine ww_istore_n [(3, _), (2, _), (1, _), (0, _)] dX4_offer_85 (Nat.le_of_ble_eq_true rfl) rfl ?_
            refine ww_aload_n 3 dX4_offer_86 rfl ?_
            refine ww_iload_n 0 dX4_offer_87 rfl ?_
            refine ww_bipush dX4_offer_88 (by decide) ?_
            refine ww_aload_n 3 dX4_offer_90 rfl ?_
            refine ww_getf gf_X4_35 rfl dX4_offer_91 hP.obj rfl ?_
            refine cx_v (cx_V (ct_X4_reqF hG p a (-2) (sk t e3) (by omega)) sv_X4_59 rfl dX4_offer_94 hP.obj rfl rfl rfl rfl ⟨Nat.le_of_ble_eq_true rfl, Nat.le_of_ble_eq_true rfl⟩ (Nat.le_of_ble_eq_true rfl) (by dsimp only [mmc, MX4_offer, MX4_toldWord, MX4_libraryOf, MX4_known, MX4_nameOf, MX2_offer, MX4_require, MX4_isDigit, MX4_accept, MX2_put] <;> omega) (by dsimp only [mms, MX4_offer, MX4_toldWord, MX4_libraryOf, MX4_known, MX4_nameOf, MX2_offer, MX4_require, MX4_isDigit, MX4_accept, MX2_put] <;> omega)) (fun X_94 q_94 g_94 hx_94 => wq_out hQ hT (by dsimp only [mmc, MX4_offer, MX4_require, MX4_toldWord, MX4_libraryOf, MX4_nameOf, MX4_known, MX2_offer, MX4_isDigit, MX4_number, MX2_put, MX4_accept] <;> omega) (by dsimp only [mms, MX4_offer, MX4_require, MX4_toldWord, MX4_libraryOf, MX4_nameOf, MX4_known, MX2_offer, MX4_isDigit, MX4_number, MX2_put, MX4_accept] <;> omega) (hx_94.go hF (fun c o e => by cases e; exact her))) (fun h_94 hp_94 => ?_)
            exact hp_94.elim
        · have hnt := kwTo_nd (t := t) (e := e3) c_58
          have hon := pOff_nu hp1 hp2 c_37 hnt
          refine ww_aload_n 2 dX4_offer_61 rfl ?_
          refine ww_getf gf_X4_27 rfl dX4_offer_62 hP.obj rfl ?_
          refine ww_iload_n 1 dX4_offer_65 rfl ?_
          refine ww_iload_n 0 dX4_offer_66 rfl ?_
          refine ww_aload_n 2 dX4_offer_67 rfl ?_
          refine ww_iconst dX4_offer_68 ?_
          refine ww_sipush dX4_offer_69 (by decide) ?_
          refine cx_i (cx_V (ct_X4_number hG hP 0 9999 (inI.mk (by decide) (by decide)) (inI.mk (by decide) (by decide))) sv_X4_117 rfl dX4_offer_72 hP.obj rfl rfl rfl rfl ⟨Nat.le_of_ble_eq_true rfl, Nat.le_of_ble_eq_true rfl⟩ (Nat.le_of_ble_eq_true rfl) (by dsimp only [mmc, MX4_offer, MX4_toldWord, MX4_libraryOf, MX4_known, MX4_nameOf, MX2_offer, MX4_require, MX4_isDigit, MX4_accept, MX2_put, MX4_number] <;> omega) (by dsimp only [mms, MX4_offer, MX4_toldWord, MX4_libraryOf, MX4_known, MX4_nameOf, MX2_offer, MX4_require, MX4_isDigit, MX4_accept, MX2_put, MX4_number] <;> omega)) (fun X_72 q_72 g_72 hx_72 => wq_out hQ hT (by dsimp only [mmc, MX4_offer, MX4_require, MX4_toldWord, MX4_libraryOf, MX4_nameOf, MX4_known, MX2_offer, MX4_isDigit, MX4_number, MX2_put, MX4_accept] <;> omega) (by dsimp only [mms, MX4_offer, MX4_require, MX4_toldWord, MX4_libraryOf, MX4_nameOf, MX4_known, MX2_offer, MX4_isDigit, MX4_number, MX2_put, MX4_accept] <;> omega) (hx_72.go hF (fun c o e => by rw [hon]; rw [pnum_kk ht hm_16] at e; rw [e]))) (fun r_72 h_72 hp_72 => ?_)
          obtain ⟨e_72, hn_72, hl_72, hh_72, h0_72, hg_72, hm_72, hP, f_72⟩ := hp_72
          have hF := hF.kt f_72 (by first | exact Or.inl rfl | exact Or.inr rfl)
          have hH := hH.kt f_72 hp0
          have hL := hL.kt f_72 (by first | exact hp0 | exact ha0)
          rw [pnum_kk ht hm_16] at hn_72
          have hgt := pnum_le ht (by omega) hm_16 hn_72
          obtain ⟨al9, fs9, hho⟩ := hH.obj
          clear hb1 hb2
          obtain ⟨hb1, hb2⟩ := b_geI (t := t) (n := n) (p := nx) (r := pOff t nx s) (e := e_72) (by omega) (fun q2 s2 eq => by obtain ⟨k9, b9, e9, k8, b8, e8, i1, i2, i3, i4⟩ := pOff_m (s := s) ht hnx.1 hnx.2 q2 s2 eq; rw [hon, hn_72] at eq; cases eq; have j5 := ht.k1 hgt.2; have j6 := ht.w1 j5.2.1; omega)
          refine cr_v (cr_V (ct_X2_put hG hH.hs kk nn (by omega) (by omega) (by omega) (by omega) r_72 (inI.mk (by omega) (by omega)) hL) sv_X4_190 rfl dX4_offer_75 hho rfl rfl rfl rfl ⟨Nat.le_of_ble_eq_true rfl, Nat.le_of_ble_eq_true rfl⟩ (Nat.le_of_ble_eq_true rfl) (by dsimp only [mmc, MX4_offer, MX4_toldWord, MX4_libraryOf, MX4_known, MX4_nameOf, MX2_offer, MX4_require, MX4_isDigit, MX4_accept, MX2_put, MX4_number] <;> omega) (by dsimp only [mms, MX4_offer, MX4_toldWord, MX4_libraryOf, MX4_known, MX4_nameOf, MX2_offer, MX4_require, MX4_isDigit, MX4_accept, MX2_put, MX4_number] <;> omega)) (fun h_75 hp_75 => ?_)
          obtain ⟨hS6, f_75⟩ := hp_75
          have hP := hP.fo f_75 (by omega)
          have hF := hF.fo f_75 (Or.inr rfl)
          have hL := hL.fo f_75 ha0
          have hho := f_75.at hho (by omega)
          exact ww_x hQ (ww_vret rfl dX4_offer_78 rfl (by dsimp only [mmc, MX4_offer, MX4_toldWord, MX4_libraryOf, MX4_known, MX4_nameOf, MX2_offer, MX4_require, MX4_isDigit, MX4_accept, MX2_put, MX4_number] <;> omega) (by dsimp only [mms, MX4_offer, MX4_toldWord, MX4_libraryOf, MX4_known, MX4_nameOf, MX2_offer, MX4_require, MX4_isDigit, MX4_accept, MX2_put, MX4_number] <;> omega) ⟨rfl, e_72, PS.mk0 s.nm s.lb (o2 s.of kk nn r_72) s.sh s.hs s.hw s.cs s.fn, _, by rw [hon, hn_72], by omega, by omega, PSok.addO hs9 (by show kk < s.lb.length; omega) (by show nn < s.nm.length; omega) (by show -2 - (s.nm.length : Int) < r_72 ∧ r_72 ≤ 9999; omega), hP, HPn.of hS6 hho, hL, rfl, rfl, hF⟩)

set_option maxHeartbeats 4000000 in
theorem ct_X4_prefer {G : GT} {h : AH} (hG : GOK G) {p x a nl : Nat} {t : Int → Int} {n nx sa hs hw : Int} (hP : PB G h p x a nl t n nx sa 0 hs hw) {s : PS} (hH : HPn G h a p nl s) (hL : LitC G h) (hs9 : PSc s) : CX G (MX4_prefer 12 900 (bC t n nx (pPre t nx s)) (bS t n nx (pPre t nx s))) h [.ref p] (pV (fun h' => ∃ e s' sa9, pPre t nx s = .ok (e, s') ∧ nx < e ∧ e ≤ n ∧ PSc s' ∧ PB G h' p x a nl t n e sa9 0 hs hw ∧ HPn G h' a p nl s' ∧ LitC G h' ∧ s'.hs = s.hs ∧ s'.hw = s.hw ∧ FP p a h h')) (XS p a h (pPre t nx s)) := by
  refine CX.of rfl hG (Nat.le_of_ble_eq_true rfl) rfl (fun E hQ hT => ?_)
  have ht := hP.txt
  have h8 := ht.2.1
  have h0 := ht.1
  have hnx := hP.2.2.1
  have hk := ht.k1 hnx.2
  have hrg := ht.rg (q := sk t nx) (by omega)
  have hp0 := hP.1.1
  have hF : FP p a h h := FP.rf
  have h12 := hs9.n
  have h8l := hs9.l
  have ha0 := hH.a0
  have hw1 := ht.w1 hk.2.1
  refine ww_aload_n 0 dX4_prefer_0 rfl ?_
  refine ww_aload_n 0 dX4_prefer_1 rfl ?_
  refine ww_aload_n 0 dX4_prefer_2 rfl ?_
  obtain ⟨hb1, hb2⟩ := b_geI (t := t) (n := n) (p := nx) (r := pPre t nx s) (e := we t (sk t nx)) (by omega) (fun q2 s2 eq => by obtain ⟨k9, b9, e9, k8, b8, e8, i1, i2, i3⟩ := pPre_m (s := s) ht hnx.1 hnx.2 q2 s2 eq; have j1 := pkn_inv ht hnx.2 i1; have j2 := pkn_inv ht j1.2.2.2.2.2.2 i2; have j3 := ht.k1 j1.2.2.2.2.2.2; omega)
  obtain ⟨hwC, hwS⟩ := wCI (l := we t (sk t nx) - sk t nx) (by omega)
  refine cx_r (cx_V (ct_X4_toldWord hG hP) sv_X4_158 rfl dX4_prefer_3 hP.obj rfl rfl rfl rfl ⟨Nat.le_of_ble_eq_true rfl, Nat.le_of_ble_eq_true rfl⟩ (Nat.le_of_ble_eq_true rfl) (by dsimp only [mmc, MX4_prefer, MX4_toldWord] <;> omega) (by dsimp only [mms, MX4_prefer, MX4_toldWord] <;> omega)) (fun X_3 q_3 g_3 hx_3 => wq_out hQ hT (by dsimp only [mmc, MX4_prefer, MX4_require, MX4_toldWord, MX4_libraryOf, MX4_known, MX2_prefers, MJ3_get, MJ20_valueOf, MJ3_add] <;> omega) (by dsimp only [mms, MX4_prefer, MX4_require, MX4_toldWord, MX4_libraryOf, MX4_known, MX2_prefers, MJ3_get, MJ20_valueOf, MJ3_add] <;> omega) (hx_3.go hF (fun c o e => pPre_e1 (pkn_e e)))) (fun r_3 h_3 hp_3 => ?_)
  obtain ⟨w_3, b_3, e_3, hr_3, hw_3, hb_3, he_3, hg_3, hm_3, hl_3, hW_3, n_3, hP, f_3⟩ := hp_3
  have hF := hF.kt f_3 (by first | exact Or.inl rfl | exact Or.inr rfl)
  have hH := hH.kt f_3 hp0
  have hL := hL.kt f_3 (by first | exact hp0 | exact ha0)
  subst hw_3 hb_3 he_3
  obtain ⟨fsw, hwo⟩ := hW_3.obj
  obtain ⟨c1, hc1⟩ : ∃ c : Nat, (c : Int) = 5 + (we t (sk t nx) - nx) := ⟨(5 + (we t (sk t nx) - nx)).toNat, by omega⟩
  obtain ⟨d1, hd1⟩ : ∃ d : Nat, (d : Int) = 40 + 5 * (we t (sk t nx) - nx) := ⟨(40 + 5 * (we t (sk t nx) - nx)).toNat, by omega⟩
  refine ww_widen (n' := c1) (k' := d1) (by dsimp only [mmc, MX4_prefer, MX4_require, MX4_toldWord, MX4_libraryOf, MX4_known, MX2_prefers, MJ3_get, MJ20_valueOf, MJ3_add] <;> omega) (by dsimp only [mms, MX4_prefer, MX4_require, MX4_toldWord, MX4_libraryOf, MX4_known, MX2_prefers, MJ3_get, MJ20_valueOf, MJ3_add] <;> omega) ?_
  clear hwC hwS
  obtain ⟨al, am, ll, w, nxs, lx, dx, -, hr0, hho, ⟨⟨hA1, hZ1⟩, ⟨hA2, hB2⟩, ⟨hA3, hZ3⟩, hWt⟩, hMp, -⟩ := id hH
  refine cr_pi (cr_V (ct_X4_libraryOf hG hP hho hA2 hB2 hW_3) sv_X4_168 rfl dX4_prefer_6 hP.obj rfl rfl rfl rfl ⟨Nat.le_of_ble_eq_true rfl, Nat.le_of_ble_eq_true rfl⟩ (Nat.le_of_ble_eq_true rfl) (by dsimp only [mmc, MX4_prefer, MX4_toldWord, MX4_libraryOf] <;> omega) (by dsimp only [mms, MX4_prefer, MX4_toldWord, MX4_libraryOf] <;> omega)) ?_
  rcases Classical.em (fi (s.lb.map (·.1)) (pw t nx) = -1) with hf1 | hf1
  · rw [hf1]
    have her : pPre t nx s = .error (-4, sk t nx) := pPre_e1 (pkn_u hr_3 hf1)
    obtain ⟨hb1, hb2⟩ := b_erI (t := t) (n := n) (p := nx) her
    refine cx_i (cx_V (ct_X4_knF hG hP) sv_X4_183 rfl dX4_prefer_9 hP.obj rfl rfl rfl rfl ⟨Nat.le_of_ble_eq_true rfl, Nat.le_of_ble_eq_true rfl⟩ (Nat.le_of_ble_eq_true rfl) (by dsimp only [mmc, MX4_prefer, MX4_toldWord, MX4_libraryOf, MX4_known] <;> omega) (by dsimp only [mms, MX4_prefer, MX4_toldWord, MX4_libraryOf, MX4_known] <;> omega)) (fun X_9 q_9 g_9 hx_9 => wq_out hQ hT (by dsimp only [mmc, MX4_prefer, MX4_require, MX4_toldWord, MX4_libraryOf, MX4_known, MX2_prefers, MJ3_get, MJ20_valueOf, MJ3_add] <;> omega) (by dsimp only [mms, MX4_prefer, MX4_require, MX4_toldWord, MX4_libraryOf, MX4_known, MX2_prefers, MJ3_get, MJ20_valueOf, MJ3_add] <;> omega) (hx_9.go hF (fun c o e => by cases e; exact her))) (fun r_9 h_9 hp_9 => ?_)
    exact hp_9.elim
  · have hp1 : pkn t nx (s.lb.map (·.1)) = .ok (fi (s.lb.map (·.1)) (pw t nx), sk t nx, we t (sk t nx)) := pkn_ok hr_3 hf1
    have hkr : 0 ≤ fi (s.lb.map (·.1)) (pw t nx) ∧ fi (s.lb.map (·.1)) (pw t nx) < s.lb.length := by have hq9 := fi_rg (l := (s.lb.map (·.1))) (w := pw t nx); rw [List.length_map] at hq9; rcases hq9 with z | z; exact absurd z hf1; exact z
    generalize hkk : fi (s.lb.map (·.1)) (pw t nx) = kk at *
    have k2 := ht.k1 hm_3
    have w2 := ht.w1 k2.2.1
    obtain ⟨hb1, hb2⟩ := b_geI (t := t) (n := n) (p := nx) (r := pPre t nx s) (e := we t (sk t (we t (sk t nx)))) (by omega) (fun q2 s2 eq => by obtain ⟨k9, b9, e9, k8, b8, e8, i1, i2, i3⟩ := pPre_m (s := s) ht hnx.1 hnx.2 q2 s2 eq; have j1 := pkn_inv ht hnx.2 i1; have j2 := pkn_inv ht j1.2.2.2.2.2.2 i2; have j3 := ht.k1 j1.2.2.2.2.2.2; rw [hp1] at i1; cases i1; omega)
    obtain ⟨hwC, hwS⟩ := wCI (l := we t (sk t (we t (sk t nx))) - sk t (we t (sk t nx))) (by omega)
    refine cr_pi (cr_V (ct_X4_knT hG hP kk (inI.mk (by omega) (by omega)) hf1) sv_X4_183 rfl dX4_prefer_9 hP.obj rfl rfl rfl rfl ⟨Nat.le_of_ble_eq_true rfl, Nat.le_of_ble_eq_true rfl⟩ (Nat.le_of_ble_eq_true rfl) (by dsimp only [mmc, MX4_prefer, MX4_toldWord, MX4_libraryOf, MX4_known] <;> omega) (by dsimp only [mms, MX4_prefer, MX4_toldWord, MX4_libraryOf, MX4_known] <;> omega)) ?_
    refine ww_istore_n [(1, _), (0, _)] dX4_prefer_12 (Nat.le_of_ble_eq_true rfl) rfl ?_
    refine ww_aload_n 1 dX4_prefer_13 rfl ?_
    refine ww_aload_n 1 dX4_prefer_14 rfl ?_
    refine ww_aload_n 1 dX4_prefer_15 rfl ?_
    refine cx_r (cx_V (ct_X4_toldWord hG hP) sv_X4_158 rfl dX4_prefer_16 hP.obj rfl rfl rfl rfl ⟨Nat.le_of_ble_eq_true rfl, Nat.le_of_ble_eq_true rfl⟩ (Nat.le_of_ble_eq_true rfl) (by dsimp only [mmc, MX4_prefer, MX4_toldWord, MX4_libraryOf, MX4_known] <;> omega) (by dsimp only [mms, MX4_prefer, MX4_toldWord, MX4_libraryOf, MX4_known] <;> omega)) (fun X_16 q_16 g_16 hx_16 => wq_out hQ hT (by dsimp only [mmc, MX4_prefer, MX4_require, MX4_toldWord, MX4_libraryOf, MX4_known, MX2_prefers, MJ3_get, MJ20_valueOf, MJ3_add] <;> omega) (by dsimp only [mms, MX4_prefer, MX4_require, MX4_toldWord, MX4_libraryOf, MX4_known, MX2_prefers, MJ3_get, MJ20_valueOf, MJ3_add] <;> omega) (hx_16.go hF (fun c o e => pPre_e2 hp1 (pkn_e e)))) (fun r_16 h_16 hp_16 => ?_)
    obtain ⟨w_16, b_16, e_16, hr_16, hw_16, hb_16, he_16, hg_16, hm_16, hl_16, hW_16, n_16, hP, f_16⟩ := hp_16
    have hF := hF.kt f_16 (by first | exact Or.inl rfl | exact Or.inr rfl)
    have hH := hH.kt f_16 hp0
    have hL := hL.kt f_16 (by first | exact hp0 | exact ha0)
    subst hw_16 hb_16 he_16
    obtain ⟨fsw, hwo⟩ := hW_16.obj
    obtain ⟨c2, hc2⟩ : ∃ c : Nat, (c : Int) = 10 + (we t (sk t (we t (sk t nx))) - nx) := ⟨(10 + (we t (sk t (we t (sk t nx))) - nx)).toNat, by omega⟩
    obtain ⟨d2, hd2⟩ : ∃ d : Nat, (d : Int) = 80 + 5 * (we t (sk t (we t (sk t nx))) - nx) := ⟨(80 + 5 * (we t (sk t (we t (sk t nx))) - nx)).toNat, by omega⟩
    refine ww_widen (n' := c2) (k' := d2) (by dsimp only [mmc, MX4_prefer, MX4_require, MX4_toldWord, MX4_libraryOf, MX4_known, MX2_prefers, MJ3_get, MJ20_valueOf, MJ3_add] <;> omega) (by dsimp only [mms, MX4_prefer, MX4_require, MX4_toldWord, MX4_libraryOf, MX4_known, MX2_prefers, MJ3_get, MJ20_valueOf, MJ3_add] <;> omega) ?_
    clear hwC hwS
    obtain ⟨al, am, ll, w, nxs, lx, dx, -, hr0, hho, ⟨⟨hA1, hZ1⟩, ⟨hA2, hB2⟩, ⟨hA3, hZ3⟩, hWt⟩, hMp, -⟩ := id hH
    refine cr_pi (cr_V (ct_X4_libraryOf hG hP hho hA2 hB2 hW_16) sv_X4_168 rfl dX4_prefer_19 hP.obj rfl rfl rfl rfl ⟨Nat.le_of_ble_eq_true rfl, Nat.le_of_ble_eq_true rfl⟩ (Nat.le_of_ble_eq_true rfl) (by dsimp only [mmc, MX4_prefer, MX4_toldWord, MX4_libraryOf, MX4_known] <;> omega) (by dsimp only [mms, MX4_prefer, MX4_toldWord, MX4_libraryOf, MX4_known] <;> omega)) ?_
    rcases Classical.em (fi (s.lb.map (·.1)) (pw t (we t (sk t nx))) = -1) with hf2 | hf2
    · rw [hf2]
      have her : pPre t nx s = .error (-4, sk t (we t (sk t nx))) := pPre_e2 hp1 (pkn_u hr_16 hf2)
      obtain ⟨hb1, hb2⟩ := b_erI (t := t) (n := n) (p := nx) her
      refine cx_i (cx_V (ct_X4_knF hG hP) sv_X4_183 rfl dX4_prefer_22 hP.obj rfl rfl rfl rfl ⟨Nat.le_of_ble_eq_true rfl, Nat.le_of_ble_eq_true rfl⟩ (Nat.le_of_ble_eq_true rfl) (by dsimp only [mmc, MX4_prefer, MX4_toldWord, MX4_libraryOf, MX4_known] <;> omega) (by dsimp only [mms, MX4_prefer, MX4_toldWord, MX4_libraryOf, MX4_known] <;> omega)) (fun X_22 q_22 g_22 hx_22 => wq_out hQ hT (by dsimp only [mmc, MX4_prefer, MX4_require, MX4_toldWord, MX4_libraryOf, MX4_known, MX2_prefers, MJ3_get, MJ20_valueOf, MJ3_add] <;> omega) (by dsimp only [mms, MX4_prefer, MX4_require, MX4_toldWord, MX4_libraryOf, MX4_known, MX2_prefers, MJ3_get, MJ20_valueOf, MJ3_add] <;> omega) (hx_22.go hF (fun c o e => by cases e; exact her))) (fun r_22 h_22 hp_22 => ?_)
      exact hp_22.elim
    · have hp2 : pkn t (we t (sk t nx)) (s.lb.map (·.1)) = .ok (fi (s.lb.map (·.1)) (pw t (we t (sk t nx))), sk t (we t (sk t nx)), we t (sk t (we t (sk t nx)))) := pkn_ok hr_16 hf2
      have hnr : 0 ≤ fi (s.lb.map (·.1)) (pw t (we t (sk t nx))) ∧ fi (s.lb.map (·.1)) (pw t (we t (sk t nx))) < s.lb.length := by have hq9 := fi_rg (l := (s.lb.map (·.1))) (w := pw t (we t (sk t nx))); rw [List.length_map] at hq9; rcases hq9 with z | z; exact absurd z hf2; exact z
      generalize hnn : fi (s.lb.map (·.1)) (pw t (we t (sk t nx))) = oo at *
      have hln := hB2.1
      have hv : s.lb[kk.toNat]? = some (s.lb[kk.toNat]'(by omega)) := List.getElem?_eq_getElem (by omega)
      generalize hve : s.lb[kk.toNat]'(by omega) = v at *
      have hpv := prf_get hv
      have hpfr : ∀ z ∈ v.2.2.2, 0 ≤ z ∧ z < s.lb.length := (hs9.2.2.2.1 v (List.mem_of_getElem? hv)).2.2.2.2.2
      obtain ⟨hb1, hb2⟩ := b_geI (t := t) (n := n) (p := nx) (r := pPre t nx s) (e := we t (sk t (we t (sk t nx)))) (by omega) (fun q2 s2 eq => by obtain ⟨k9, b9, e9, k8, b8, e8, i1, i2, i3⟩ := pPre_m (s := s) ht hnx.1 hnx.2 q2 s2 eq; have j1 := pkn_inv ht hnx.2 i1; have j2 := pkn_inv ht j1.2.2.2.2.2.2 i2; have j3 := ht.k1 j1.2.2.2.2.2.2; rw [hp1] at i1; cases i1; rw [hp2] at i2; cases i2; omega)
      clear hc1 hd1
      refine cr_pi (cr_V (ct_X4_knT hG hP oo (inI.mk (by omega) (by omega)) hf2) sv_X4_183 rfl dX4_prefer_22 hP.obj rfl rfl rfl rfl ⟨Nat.le_of_ble_eq_true rfl, Nat.le_of_ble_eq_true rfl⟩ (Nat.le_of_ble_eq_true rfl) (by dsimp only [mmc, MX4_prefer, MX4_toldWord, MX4_libraryOf, MX4_known] <;> omega) (by dsimp only [mms, MX4_prefer, MX4_toldWord, MX4_libraryOf, MX4_known] <;> omega)) ?_
      refine ww_istore_n [(2, _), (1, _), (0, _)] dX4_prefer_25 (Nat.le_of_ble_eq_true rfl) rfl ?_
      refine ww_aload_n 2 dX4_prefer_26 rfl ?_
      refine ww_iload_n 0 dX4_prefer_27 rfl ?_
      refine ww_iload_n 1 dX4_prefer_28 rfl ?_
      refine ww_icmp_eq 48 dX4_prefer_29 (by decide) (inI.mk (by omega) (by omega)) (inI.mk (by omega) (by omega)) (fun c_29 => ?_) (fun c_29 => ?_)
      · have hno3 : ¬ (oo ≠ kk ∧ oo ∉ prf s.lb kk) := fun z => z.1 c_29
        have her : pPre t nx s = .error (-5, sk t (we t (sk t nx))) := pPre_e3 hp1 hp2 hno3
        obtain ⟨hb1, hb2⟩ := b_erI (t := t) (n := n) (p := nx) her
        refine ww_iconst dX4_prefer_48 ?_
        refine ww_bipush dX4_prefer_49 (by decide) ?_
        refine ww_aload_n 2 dX4_prefer_51 rfl ?_
        refine ww_getf gf_X4_86 rfl dX4_prefer_52 hP.obj rfl ?_
        refine cx_v (cx_V (ct_X4_reqF hG p a (-5) (sk t (we t (sk t nx))) (by omega)) sv_X4_59 rfl dX4_prefer_55 hP.obj rfl rfl rfl rfl ⟨Nat.le_of_ble_eq_true rfl, Nat.le_of_ble_eq_true rfl⟩ (Nat.le_of_ble_eq_true rfl) (by dsimp only [mmc, MX4_prefer, MX4_toldWord, MX4_libraryOf, MX4_known, MX4_require] <;> omega) (by dsimp only [mms, MX4_prefer, MX4_toldWord, MX4_libraryOf, MX4_known, MX4_require] <;> omega)) (fun X_55 q_55 g_55 hx_55 => wq_out hQ hT (by dsimp only [mmc, MX4_prefer, MX4_require, MX4_toldWord, MX4_libraryOf, MX4_known, MX2_prefers, MJ3_get, MJ20_valueOf, MJ3_add] <;> omega) (by dsimp only [mms, MX4_prefer, MX4_require, MX4_toldWord, MX4_libraryOf, MX4_known, MX2_prefers, MJ3_get, MJ20_valueOf, MJ3_add] <;> omega) (hx_55.go hF (fun c o e => by cases e; exact her))) (fun h_55 hp_55 => ?_)
        exact hp_55.elim
      · refine ww_aload_n 2 dX4_prefer_32 rfl ?_
        refine ww_getf gf_X4_27 rfl dX4_prefer_33 hP.obj rfl ?_
        refine ww_iload_n 1 dX4_prefer_36 rfl ?_
        refine ww_iload_n 0 dX4_prefer_37 rfl ?_
        refine cr_pi (cr_V (ct_X2_prefers hG hH.hs kk oo v hkr.1 hv (inI.mk (by omega) (by omega)) (fun z hz => by have := hpfr z hz; exact inI.mk (by omega) (by omega))) sv_X4_196 rfl dX4_prefer_38 hho rfl rfl rfl rfl ⟨Nat.le_of_ble_eq_true rfl, Nat.le_of_ble_eq_true rfl⟩ (Nat.le_of_ble_eq_true rfl) (by dsimp only [mmc, MX4_prefer, MX4_toldWord, MX4_libraryOf, MX4_known, MX4_require, MX2_prefers] <;> omega) (by dsimp only [mms, MX4_prefer, MX4_toldWord, MX4_libraryOf, MX4_known, MX4_require, MX2_prefers] <;> omega)) ?_
        refine ww_ifb_ne 48 dX4_prefer_41 (by decide) (fun c_41 => ?_) (fun c_41 => ?_)
        · have hno3 : ¬ (oo ≠ kk ∧ oo ∉ prf s.lb kk) := fun z => z.2 (by rw [hpv]; exact c_41)
          have her : pPre t nx s = .error (-5, sk t (we t (sk t nx))) := pPre_e3 hp1 hp2 hno3
          obtain ⟨hb1, hb2⟩ := b_erI (t := t) (n := n) (p := nx) her
          refine ww_iconst dX4_prefer_48 ?_
          refine ww_bipush dX4_prefer_49 (by decide) ?_
          refine ww_aload_n 2 dX4_prefer_51 rfl ?_
          refine ww_getf gf_X4_86 rfl dX4_prefer_52 hP.obj rfl ?_
          refine cx_v (cx_V (ct_X4_reqF hG p a (-5) (sk t (we t (sk t nx))) (by omega)) sv_X4_59 rfl dX4_prefer_55 hP.obj rfl rfl rfl rfl ⟨Nat.le_of_ble_eq_true rfl, Nat.le_of_ble_eq_true rfl⟩ (Nat.le_of_ble_eq_true rfl) (by dsimp only [mmc, MX4_prefer, MX4_toldWord, MX4_libraryOf, MX4_known, MX4_require, MX2_prefers] <;> omega) (by dsimp only [mms, MX4_prefer, MX4_toldWord, MX4_libraryOf, MX4_known, MX4_require, MX2_prefers] <;> omega)) (fun X_55 q_55 g_55 hx_55 => wq_out hQ hT (by dsimp only [mmc, MX4_prefer, MX4_require, MX4_toldWord, MX4_libraryOf, MX4_known, MX2_prefers, MJ3_get, MJ20_valueOf, MJ3_add] <;> omega) (by dsimp only [mms, MX4_prefer, MX4_require, MX4_toldWord, MX4_libraryOf, MX4_known, MX2_prefers, MJ3_get, MJ20_valueOf, MJ3_add] <;> omega) (hx_55.go hF (fun c o e => by cases e; exact her))) (fun h_55 hp_55 => ?_)
          exact hp_55.elim
        · have hyes : oo ≠ kk ∧ oo ∉ prf s.lb kk := ⟨c_29, by rw [hpv]; exact c_41⟩
          have hp7 := PSok.pf7 (s := PS.mk0 s.nm s.lb s.of s.sh s.hs false [] fnT) hs9 hkr.1 hkr.2 hnr.1 hnr.2 hyes
          have hp7 : v.2.2.2.length < 7 := by rw [← hpv]; exact hp7
          obtain ⟨x8, hx8⟩ := gx_get (xs := lx) (i := kk) hkr.1 (by omega)
          obtain ⟨ws, pl, px, hbb, hsw, hpa, hpz, hkp⟩ := hB2.2 _ _ _ hx8 hv
          obtain ⟨fs7, hao⟩ := hA2.obj
          obtain ⟨fs6, hpo⟩ := hpa.obj
          have hpl := hpz.len
          refine ww_iconst dX4_prefer_44 ?_
          refine ww_goto 49 dX4_prefer_45 (by decide) ?_
          refine ww_bipush dX4_prefer_49 (by decide) ?_
          refine ww_aload_n 2 dX4_prefer_51 rfl ?_
          refine ww_getf gf_X4_86 rfl dX4_prefer_52 hP.obj rfl ?_
          refine cr_pv (cr_V (ct_X4_reqT hG 1 _ _ (by decide) (inI.mk (by decide) (by decide))) sv_X4_59 rfl dX4_prefer_55 hP.obj rfl rfl rfl rfl ⟨Nat.le_of_ble_eq_true rfl, Nat.le_of_ble_eq_true rfl⟩ (Nat.le_of_ble_eq_true rfl) (by dsimp only [mmc, MX4_prefer, MX4_toldWord, MX4_libraryOf, MX4_known, MX4_require, MX2_prefers] <;> omega) (by dsimp only [mms, MX4_prefer, MX4_toldWord, MX4_libraryOf, MX4_known, MX4_require, MX2_prefers] <;> omega)) ?_
          refine ww_aload_n 2 dX4_prefer_58 rfl ?_
          refine ww_getf gf_X4_27 rfl dX4_prefer_59 hP.obj rfl ?_
          refine ww_getf gf_X4_150 rfl dX4_prefer_62 hho rfl ?_
          refine ww_iload_n 1 dX4_prefer_65 rfl ?_
          refine cr5_pr (cr_F (ct_J3_get hG hA2 _ x8 hkr.1 hx8) sf_X4_142 rfl dX4_prefer_66 hao rfl rfl rfl rfl ⟨Nat.le_of_ble_eq_true rfl, Nat.le_of_ble_eq_true rfl⟩ (Nat.le_of_ble_eq_true rfl) (by dsimp only [mmc, MX4_prefer, MX4_toldWord, MX4_libraryOf, MX4_known, MX4_require, MX2_prefers, MJ3_get] <;> omega) (by dsimp only [mms, MX4_prefer, MX4_toldWord, MX4_libraryOf, MX4_known, MX4_require, MX2_prefers, MJ3_get] <;> omega)) ?_
          refine ww_cast dX4_prefer_71 hbb rfl q1440 rfl ?_
          refine ww_getf gf_X4_200 rfl dX4_prefer_74 hbb rfl ?_
          refine ww_iload_n 0 dX4_prefer_77 rfl ?_
          refine cr_r (cr_S (ct_J20_valueOf hG hL.2.1 oo (inI.mk (by omega) (by omega))) ss_X4_203 rfl dX4_prefer_78 rfl rfl ⟨Nat.le_of_ble_eq_true rfl, Nat.le_of_ble_eq_true rfl⟩ (Nat.le_of_ble_eq_true rfl) (by dsimp only [mmc, MX4_prefer, MX4_toldWord, MX4_libraryOf, MX4_known, MX4_require, MX2_prefers, MJ3_get, MJ20_valueOf] <;> omega) (by dsimp only [mms, MX4_prefer, MX4_toldWord, MX4_libraryOf, MX4_known, MX4_require, MX2_prefers, MJ3_get, MJ20_valueOf] <;> omega)) (fun r_78 h_78 hp_78 => ?_)
          obtain ⟨e_78, hI⟩ := hp_78
          have hP := hP.ex e_78
          have hpa := hpa.ex e_78
          have hpo := e_78 _ _ hpo
          have hpz := hpz.mono (fun _ _ q => q.ex e_78)
          obtain ⟨u1, u2, hu9, hu⟩ := id hI
          have hbb := e_78 _ _ hbb
          have hsw := hsw.ex e_78
          have hF := hF.ex e_78
          have hH := hH.ex e_78
          have hL := hL.ex e_78
          refine cr5_i (cr_F (ct_J3_add hG hpa hL.2.1 (by omega) (ci := 15) rfl q2473 (IVs.el hpz (by omega)) hu9 (by omega)) sf_X4_165 rfl dX4_prefer_81 hpo rfl rfl rfl rfl ⟨Nat.le_of_ble_eq_true rfl, Nat.le_of_ble_eq_true rfl⟩ (Nat.le_of_ble_eq_true rfl) (by dsimp only [mmc, MX4_prefer, MX4_toldWord, MX4_libraryOf, MX4_known, MX4_require, MX2_prefers, MJ3_get, MJ20_valueOf, MJ3_add] <;> omega) (by dsimp only [mms, MX4_prefer, MX4_toldWord, MX4_libraryOf, MX4_known, MX4_require, MX2_prefers, MJ3_get, MJ20_valueOf, MJ3_add] <;> omega)) (fun r_81 h_81 hp_81 => ?_)
          obtain ⟨er_81, hA_81, f_81⟩ := hp_81
          subst er_81
          have hP := hP.fo f_81 (by omega)
          have hF := hF.fo f_81 (Or.inl rfl)
          have hL := hL.fo f_81 hp0
          refine ww_pop dX4_prefer_86 rfl ?_
          exact ww_x hQ (ww_vret rfl dX4_prefer_87 rfl (by dsimp only [mmc, MX4_prefer, MX4_toldWord, MX4_libraryOf, MX4_known, MX4_require, MX2_prefers, MJ3_get, MJ20_valueOf, MJ3_add] <;> omega) (by dsimp only [mms, MX4_prefer, MX4_toldWord, MX4_libraryOf, MX4_known, MX4_require, MX2_prefers, MJ3_get, MJ20_valueOf, MJ3_add] <;> omega) ⟨rfl, we t (sk t (we t (sk t nx))), PS.mk0 s.nm (adp s.lb kk oo) s.of s.sh s.hs s.hw s.cs s.fn, _, pPre_ok hp1 hp2 hyes, by omega, by omega, PSok.addP hs9 hkr.1 hnr.1 hnr.2 (fun z hz => by have hz9 : v = z := Option.some.inj (hv.symm.trans hz); subst hz9; exact ⟨hp7, by rw [← hpv]; exact hyes.2⟩) hyes.1, hP, ⟨al, am, ll, w, nxs, lx, dx, ha0, hr0, f_81.at (e_78 _ _ hho) (by omega), ⟨⟨(hA1.ex e_78).fo f_81 hp0 (by omega), hZ1.mono (fun _ _ q => (q.ex e_78).fo f_81 (by omega))⟩, ⟨(hA2.ex e_78).fo f_81 hp0 (by omega), LBs.adp (hB2.ex e_78) hkr.1 h8l hp0 hv hx8 hbb hsw hpz hkp hI hA_81 f_81⟩, ⟨(hA3.ex e_78).fo f_81 hp0 (by omega), by rw [show (PS.mk0 s.nm (adp s.lb kk oo) s.of s.sh s.hs s.hw s.cs s.fn).lb.length = s.lb.length from adp_len]; exact hZ3.mono (fun _ _ q => (q.ex e_78).fo f_81 hp0 (by omega))⟩, (hWt.ex e_78).fo f_81 hp0 (by omega)⟩, (hMp.ex e_78).fo f_81 hp0 (by omega), by rw [show (PS.mk0 s.nm (adp s.lb kk oo) s.of s.sh s.hs s.hw s.cs s.fn).lb.length = s.lb.length from adp_len]; exact h8l⟩, hL, rfl, rfl, hF⟩)
