set_option maxRecDepth 100000
set_option maxHeartbeats 4000000 in
theorem ct_X6_init {G : GT} {h : AH} (hG : GOK G) (hK : KC G h) {o k x ws r k2 : Nat} (ho : o ≠ 0) (hr : r ≠ 0) (hrq : ∀ q, Nw h q → r ≤ q) (hx : h x = some ((o, k), ob 5 [.null, .null, .int 0, .int 0])) {tr kp : Int} (hkp : kp = 0 ∨ kp = 1) (hne : r ≠ o ∨ (k2 ≠ k ∧ k2 + 1 ≠ k)) : CT G (MX6_init 4 80 1 3) h [.ref x, .ref ws, .int (iI tr), .int (iI kp)] (pV (fun h' => ∃ pl, h' x = some ((o, k), ob 5 [.ref ws, .ref pl, .int (iI tr), .int (iI kp)]) ∧ AL G h' r k2 pl [] ∧ KT x (o, k) h h')) := by
  refine CT.of rfl hG (Nat.le_of_ble_eq_true rfl) rfl (fun E hQ => ?_)
  have hF : KT x (o, k) h h := KT.rf
  have hx0 := hx
  refine ww_aload_n 0 dX6_init_0 rfl ?_
  refine ww_objInit q1462 q128 q129 rfl dX6_init_1 (Nat.le_of_ble_eq_true rfl) (Nat.le_of_ble_eq_true rfl) ?_
  refine ww_aload_n 0 dX6_init_4 rfl ?_
  refine ww_aload_n 1 dX6_init_5 rfl ?_
  refine wx_putF pf_X6_7 rfl rfl dX6_init_6 hx ho (Nat.le_of_ble_eq_true rfl) rfl rfl (fun h_6 hx f_6 => ?_)
  have hK := hK.kt f_6 ho
  have hF := hF.tr f_6
  refine ww_aload_n 0 dX6_init_9 rfl ?_
  refine ww_iload_n 2 dX6_init_10 rfl ?_
  refine wx_putf pf_X6_13 rfl dX6_init_11 hx ho (Nat.le_of_ble_eq_true rfl) rfl rfl (fun h_11 hx f_11 => ?_)
  have hK := hK.kt f_11 ho
  have hF := hF.tr f_11
  refine ww_aload_n 0 dX6_init_14 rfl ?_
  refine ww_iload_n 3 dX6_init_15 rfl ?_
  refine wx_putf pf_X6_17 rfl dX6_init_16 hx ho (Nat.le_of_ble_eq_true rfl) (by rcases hkp with e | e <;> rw [e] <;> rfl) (by rcases hkp with e | e <;> rw [e] <;> rfl) (fun h_16 hx f_16 => ?_)
  have hK := hK.kt f_16 ho
  have hF := hF.tr f_16
  refine ww_aload_n 0 dX6_init_19 rfl ?_
  have hxb := hx
  have hFb := hF
  refine wx_new (fun _ => (r, k2)) nw_X6_21 rfl dX6_init_20 (fun q hq => ⟨hr, hrq q (hF.nwo hx hq)⟩) (Nat.le_of_ble_eq_true rfl) (Nat.le_of_ble_eq_true rfl) (fun q_20 h_20 n_20 e_20 hq => ?_)
  have hx := e_20 _ _ hx
  have hK := hK.ex e_20
  have hF := hF.xe e_20
  refine ww_dup dX6_init_23 rfl ?_
  refine cr_v (cr_I (ct_J3_init hG hK hr hq) si_X6_23 rfl rfl dX6_init_24 rfl rfl ⟨by decide, by decide⟩ (Nat.le_of_ble_eq_true rfl) (Nat.le_of_ble_eq_true rfl) (Nat.le_of_ble_eq_true rfl)) (fun h_24 hp_24 => ?_)
  obtain ⟨hA, f_24⟩ := hp_24
  have hK := hK.kt f_24 hr
  have hx := f_24 _ _ _ hx (Or.inr (fun e => by rw [e] at hxb; exact n_20.ne hxb rfl))
  have hF : KT x (o, k) h h_24 := hFb.xe (f_24.nw e_20 n_20)
  refine wx_putF pf_X6_24 rfl rfl dX6_init_27 hx ho (Nat.le_of_ble_eq_true rfl) rfl rfl (fun h_27 hx f_27 => ?_)
  have hK := hK.kt f_27 ho
  have hF := hF.tr f_27
  have hA := hA.kt f_27 ho (by omega)
  exact ww_vret hQ dX6_init_30 rfl (Nat.le_of_ble_eq_true rfl) (Nat.le_of_ble_eq_true rfl) ⟨rfl, _, hx, hA, hF⟩

set_option maxHeartbeats 4000000 in
theorem ct_X4_name {G : GT} {h : AH} (hG : GOK G) {p x a nl : Nat} {t : Int → Int} {n nx sa hs hw : Int} (hP : PB G h p x a nl t n nx sa 0 hs hw) {s : PS} (hH : HPn G h a p nl s) (hL : LitC G h) (hs9 : PSc s) (q : Int) (hq : 0 ≤ q ∧ q ≤ 800) : CX G (MX4_name 11 700 (bC t n nx (pName t q nx s)) (bS t n nx (pName t q nx s))) h [.ref p, .int (iI q)] (pV (fun h' => ∃ e s' sa9, pName t q nx s = .ok (e, s') ∧ nx < e ∧ e ≤ n ∧ PSc s' ∧ PB G h' p x a nl t n e sa9 0 hs hw ∧ HPn G h' a p nl s' ∧ LitC G h' ∧ s'.hs = s.hs ∧ s'.hw = s.hw ∧ FP p a h h')) (XS p a h (pName t q nx s)) := by
  refine CX.of rfl hG (Nat.le_of_ble_eq_true rfl) rfl (fun E hQ hT => ?_)
  have ht := hP.txt
  have h8 := ht.2.1
  have h0 := ht.1
  have hnx := hP.2.2.1
  have hk := ht.k1 hnx.2
  have hrg := ht.rg (q := sk t nx) (by omega)
  have hp0 := hP.1.1
  have hF : FP p a h h := FP.rf
  have h12 := hs9.n
  have h8l := hs9.l
  have ha0 := hH.a0
  have hw1 := ht.w1 hk.2.1
  refine ww_aload_n 0 dX4_name_0 rfl ?_
  refine ww_aload_n 0 dX4_name_1 rfl ?_
  obtain ⟨al, am, ll, w, nxs, lx, dx, -, hr0, hho, ⟨⟨hA1, hZ1⟩, ⟨hA2, hB2⟩, ⟨hA3, hZ3⟩, hWt⟩, hMp, -⟩ := id hH
  refine ww_getf gf_X4_18 rfl dX4_name_2 hP.obj rfl ?_
  obtain ⟨fsn, hno⟩ := hA1.obj
  have hln := hZ1.len
  refine cr5_pi (cr_F (ct_J3_size hG hA1) sf_X4_137 rfl dX4_name_5 hno rfl rfl rfl rfl ⟨Nat.le_of_ble_eq_true rfl, Nat.le_of_ble_eq_true rfl⟩ (Nat.le_of_ble_eq_true rfl) (by dsimp only [mmc, MX4_name, MJ3_size] <;> omega) (by dsimp only [mms, MX4_name, MJ3_size] <;> omega)) ?_
  rw [hln]
  refine ww_bipush dX4_name_10 (by decide) ?_
  refine ww_icmp_ge 19 dX4_name_12 (by decide) (inI.mk (by omega) (by omega)) (inI.mk (by omega) (by omega)) (fun c_12 => ?_) (fun c_12 => ?_)
  · have her : pName t q nx s = .error (-6, q) := by unfold pName; rw [if_neg (by omega)]
    obtain ⟨hb1, hb2⟩ := b_er (t := t) (n := n) (p := nx) her
    refine ww_iconst dX4_name_19 ?_
    refine ww_bipush dX4_name_20 (by decide) ?_
    refine ww_iload_n 1 dX4_name_22 rfl ?_
    refine cx_v (cx_V (ct_X4_reqF hG p a (-6) (q) (by omega)) sv_X4_59 rfl dX4_name_23 hP.obj rfl rfl rfl rfl ⟨Nat.le_of_ble_eq_true rfl, Nat.le_of_ble_eq_true rfl⟩ (Nat.le_of_ble_eq_true rfl) (by dsimp only [mmc, MX4_name, MJ3_size, MX4_require] <;> omega) (by dsimp only [mms, MX4_name, MJ3_size, MX4_require] <;> omega)) (fun X_23 q_23 g_23 hx_23 => wq_out hQ hT (by dsimp only [mmc, MX4_name, MX4_require, MJ3_size, MX4_toldWord, MX4_nameOf, MJ3_add] <;> omega) (by dsimp only [mms, MX4_name, MX4_require, MJ3_size, MX4_toldWord, MX4_nameOf, MJ3_add] <;> omega) (hx_23.go hF (fun c o e => by cases e; exact her))) (fun h_23 hp_23 => ?_)
    exact hp_23.elim
  · obtain ⟨hb1, hb2⟩ := b_ge (t := t) (n := n) (p := nx) (e := we t (sk t nx)) hw1.2.1 (pName_m (q := q) (s := s) ht hnx.2)
    have hwC : wC (we t (sk t nx) - sk t nx).toNat = 4 + (we t (sk t nx) - sk t nx).toNat := rfl
    have hwS : wS (we t (sk t nx) - sk t nx).toNat = 32 + 5 * (we t (sk t nx) - sk t nx).toNat := rfl
    refine ww_iconst dX4_name_15 ?_
    refine ww_goto 20 dX4_name_16 (by decide) ?_
    refine ww_bipush dX4_name_20 (by decide) ?_
    refine ww_iload_n 1 dX4_name_22 rfl ?_
    refine cr_pv (cr_V (ct_X4_reqT hG 1 _ _ (by decide) (inI.mk (by decide) (by decide))) sv_X4_59 rfl dX4_name_23 hP.obj rfl rfl rfl rfl ⟨Nat.le_of_ble_eq_true rfl, Nat.le_of_ble_eq_true rfl⟩ (Nat.le_of_ble_eq_true rfl) (by dsimp only [mmc, MX4_name, MJ3_size, MX4_require] <;> omega) (by dsimp only [mms, MX4_name, MJ3_size, MX4_require] <;> omega)) ?_
    refine ww_aload_n 0 dX4_name_26 rfl ?_
    have hF0 := hF
    have hP0 := hP
    refine cx_r (cx_V (ct_X4_toldWord hG hP) sv_X4_158 rfl dX4_name_27 hP.obj rfl rfl rfl rfl ⟨Nat.le_of_ble_eq_true rfl, Nat.le_of_ble_eq_true rfl⟩ (Nat.le_of_ble_eq_true rfl) (by dsimp only [mmc, MX4_name, MJ3_size, MX4_require, MX4_toldWord] <;> omega) (by dsimp only [mms, MX4_name, MJ3_size, MX4_require, MX4_toldWord] <;> omega)) (fun X_27 q_27 g_27 hx_27 => wq_out hQ hT (by dsimp only [mmc, MX4_name, MX4_require, MJ3_size, MX4_toldWord, MX4_nameOf, MJ3_add] <;> omega) (by dsimp only [mms, MX4_name, MX4_require, MJ3_size, MX4_toldWord, MX4_nameOf, MJ3_add] <;> omega) (hx_27.go hF (fun c o e => by unfold pName; rw [if_pos (by omega), e]))) (fun r_27 h_27 hp_27 => ?_)
    obtain ⟨w_27, b_27, e_27, hr_27, hw_27, hb_27, he_27, hg_27, hm_27, hl_27, hW_27, n_27, hP, f_27⟩ := hp_27
    have hF := hF.kt f_27 (by first | exact Or.inl rfl | exact Or.inr rfl)
    have hH := hH.kt f_27 hp0
    have hL := hL.kt f_27 (by first | exact hp0 | exact ha0)
    subst hw_27 hb_27 he_27
    obtain ⟨fsw, hwo⟩ := hW_27.obj
    refine ww_astore_n [(2, _), (0, _), (1, _)] dX4_name_30 (Nat.le_of_ble_eq_true rfl) rfl ?_
    refine ww_aload_n 1 dX4_name_31 rfl ?_
    refine ww_aload_n 1 dX4_name_32 rfl ?_
    refine ww_aload_n 0 dX4_name_33 rfl ?_
    obtain ⟨al, am, ll, w, nxs, lx, dx, -, hr0, hho, ⟨⟨hA1, hZ1⟩, ⟨hA2, hB2⟩, ⟨hA3, hZ3⟩, hWt⟩, hMp, -⟩ := id hH
    have hln := hZ1.len
    refine cr_pi (cr_V (ct_X4_nameOf hG hP hA1 hZ1 hW_27) sv_X4_161 rfl dX4_name_34 hP.obj rfl rfl rfl rfl ⟨Nat.le_of_ble_eq_true rfl, Nat.le_of_ble_eq_true rfl⟩ (Nat.le_of_ble_eq_true rfl) (by dsimp only [mmc, MX4_name, MJ3_size, MX4_require, MX4_toldWord, MX4_nameOf] <;> omega) (by dsimp only [mms, MX4_name, MJ3_size, MX4_require, MX4_toldWord, MX4_nameOf] <;> omega)) ?_
    refine ww_iconst dX4_name_37 ?_
    refine ww_icmp_ne 45 dX4_name_38 (by decide) (by have := fi_rg (l := s.nm) (w := pw t nx); exact inI.mk (by omega) (by omega)) (inI.mk (by decide) (by decide)) (fun c_38 => ?_) (fun c_38 => ?_)
    · have her : pName t q nx s = .error (-5, sk t nx) := by unfold pName; rw [if_pos (by omega), hr_27]; simp only; rw [if_neg c_38]
      obtain ⟨hb1, hb2⟩ := b_er (t := t) (n := n) (p := nx) her
      refine ww_iconst dX4_name_45 ?_
      refine ww_bipush dX4_name_46 (by decide) ?_
      refine ww_aload_n 1 dX4_name_48 rfl ?_
      refine ww_getf gf_X4_86 rfl dX4_name_49 hP.obj rfl ?_
      refine cx_v (cx_V (ct_X4_reqF hG p a (-5) (sk t nx) (by omega)) sv_X4_59 rfl dX4_name_52 hP.obj rfl rfl rfl rfl ⟨Nat.le_of_ble_eq_true rfl, Nat.le_of_ble_eq_true rfl⟩ (Nat.le_of_ble_eq_true rfl) (by dsimp only [mmc, MX4_name, MJ3_size, MX4_require, MX4_toldWord, MX4_nameOf] <;> omega) (by dsimp only [mms, MX4_name, MJ3_size, MX4_require, MX4_toldWord, MX4_nameOf] <;> omega)) (fun X_52 q_52 g_52 hx_52 => wq_out hQ hT (by dsimp only [mmc, MX4_name, MX4_require, MJ3_size, MX4_toldWord, MX4_nameOf, MJ3_add] <;> omega) (by dsimp only [mms, MX4_name, MX4_require, MJ3_size, MX4_toldWord, MX4_nameOf, MJ3_add] <;> omega) (hx_52.go hF (fun c o e => by cases e; exact her))) (fun h_52 hp_52 => ?_)
      exact hp_52.elim
    · refine ww_iconst dX4_name_41 ?_
      refine ww_goto 46 dX4_name_42 (by decide) ?_
      refine ww_bipush dX4_name_46 (by decide) ?_
      refine ww_aload_n 1 dX4_name_48 rfl ?_
      refine ww_getf gf_X4_86 rfl dX4_name_49 hP.obj rfl ?_
      refine cr_pv (cr_V (ct_X4_reqT hG 1 _ _ (by decide) (inI.mk (by decide) (by decide))) sv_X4_59 rfl dX4_name_52 hP.obj rfl rfl rfl rfl ⟨Nat.le_of_ble_eq_true rfl, Nat.le_of_ble_eq_true rfl⟩ (Nat.le_of_ble_eq_true rfl) (by dsimp only [mmc, MX4_name, MJ3_size, MX4_require, MX4_toldWord, MX4_nameOf] <;> omega) (by dsimp only [mms, MX4_name, MJ3_size, MX4_require, MX4_toldWord, MX4_nameOf] <;> omega)) ?_
      refine ww_aload_n 1 dX4_name_55 rfl ?_
      refine ww_getf gf_X4_18 rfl dX4_name_56 hP.obj rfl ?_
      refine ww_aload_n 0 dX4_name_59 rfl ?_
      obtain ⟨fsn, hno⟩ := hA1.obj
      refine cr5_i (cr_F (ct_J3_add hG hA1 hL.2.1 (by omega) (ci := 13) rfl q2468 (StOs.el hZ1 (by decide)) hwo (by omega)) sf_X4_165 rfl dX4_name_60 hno rfl rfl rfl rfl ⟨Nat.le_of_ble_eq_true rfl, Nat.le_of_ble_eq_true rfl⟩ (Nat.le_of_ble_eq_true rfl) (by dsimp only [mmc, MX4_name, MJ3_size, MX4_require, MX4_toldWord, MX4_nameOf, MJ3_add] <;> omega) (by dsimp only [mms, MX4_name, MJ3_size, MX4_require, MX4_toldWord, MX4_nameOf, MJ3_add] <;> omega)) (fun r_60 h_60 hp_60 => ?_)
      obtain ⟨er_60, hA_60, f_60⟩ := hp_60
      subst er_60
      have hP := hP.fo f_60 (by omega)
      have hF := hF.fo f_60 (Or.inl rfl)
      have hL := hL.fo f_60 hp0
      refine ww_pop dX4_name_65 rfl ?_
      exact ww_x hQ (ww_vret rfl dX4_name_66 rfl (by dsimp only [mmc, MX4_name, MJ3_size, MX4_require, MX4_toldWord, MX4_nameOf, MJ3_add] <;> omega) (by dsimp only [mms, MX4_name, MJ3_size, MX4_require, MX4_toldWord, MX4_nameOf, MJ3_add] <;> omega) ⟨rfl, we t (sk t nx), PS.mk0 (s.nm ++ [pw t nx]) s.lb s.of s.sh s.hs s.hw s.cs s.fn, _, by unfold pName; rw [if_pos (by omega), hr_27]; simp only; rw [if_pos c_38], hg_27, hm_27, PSok.addN hs9 (by show s.nm.length < 12; omega) (ptw_w8 ht hnx.2 hr_27), hP, ⟨al, am, ll, w, nxs ++ [r_27], lx, dx, ha0, hr0, f_60.at hho (by omega), ⟨⟨hA_60, (Z2.snoc (P := fun x w => StO G h_27 x x w) hW_27 hZ1).mono (fun _ _ q => q.fo f_60 (by omega))⟩, ⟨hA2.fo f_60 hp0 (by omega), hB2.fo f_60 hp0 h8l (by omega)⟩, ⟨hA3.fo f_60 hp0 (by omega), hZ3.mono (fun _ _ q => q.fo f_60 hp0 (by omega))⟩, hWt.fo f_60 hp0 (by omega)⟩, hMp.fo f_60 hp0 (by omega), h8l⟩, hL, rfl, rfl, hF⟩)

set_option maxHeartbeats 4000000 in
theorem ct_X4_library {G : GT} {h : AH} (hG : GOK G) {p x a nl : Nat} {t : Int → Int} {n nx sa hs hw : Int} (hP : PB G h p x a nl t n nx sa 0 hs hw) {s : PS} (hH : HPn G h a p nl s) (hL : LitC G h) (hs9 : PSc s) (q : Int) (hq : 0 ≤ q ∧ q ≤ 800) : CX G (MX4_library 11 800 (bC t n nx (pLib t q nx s)) (bS t n nx (pLib t q nx s))) h [.ref p, .int (iI q)] (pV (fun h' => ∃ e s' sa9, pLib t q nx s = .ok (e, s') ∧ nx < e ∧ e ≤ n ∧ PSc s' ∧ PB G h' p x a nl t n e sa9 0 hs hw ∧ HPn G h' a p nl s' ∧ LitC G h' ∧ s'.hs = s.hs ∧ s'.hw = s.hw ∧ FP p a h h')) (XS p a h (pLib t q nx s)) := by
  refine CX.of rfl hG (Nat.le_of_ble_eq_true rfl) rfl (fun E hQ hT => ?_)
  have ht := hP.txt
  have h8 := ht.2.1
  have h0 := ht.1
  have hnx := hP.2.2.1
  have hk := ht.k1 hnx.2
  have hrg := ht.rg (q := sk t nx) (by omega)
  have hp0 := hP.1.1
  have hF : FP p a h h := FP.rf
  have h12 := hs9.n
  have h8l := hs9.l
  have ha0 := hH.a0
  have hw1 := ht.w1 hk.2.1
  refine ww_aload_n 0 dX4_library_0 rfl ?_
  refine ww_aload_n 0 dX4_library_1 rfl ?_
  obtain ⟨al, am, ll, w, nxs, lx, dx, -, hr0, hho, ⟨⟨hA1, hZ1⟩, ⟨hA2, hB2⟩, ⟨hA3, hZ3⟩, hWt⟩, hMp, -⟩ := id hH
  have hln := hB2.1
  refine ww_getf gf_X4_27 rfl dX4_library_2 hP.obj rfl ?_
  refine ww_getf gf_X4_150 rfl dX4_library_5 hho rfl ?_
  obtain ⟨fsn, hno⟩ := hA2.obj
  refine cr5_pi (cr_F (ct_J3_size hG hA2) sf_X4_137 rfl dX4_library_8 hno rfl rfl rfl rfl ⟨Nat.le_of_ble_eq_true rfl, Nat.le_of_ble_eq_true rfl⟩ (Nat.le_of_ble_eq_true rfl) (by dsimp only [mmc, MX4_library, MJ3_size] <;> omega) (by dsimp only [mms, MX4_library, MJ3_size] <;> omega)) ?_
  rw [hln]
  refine ww_bipush dX4_library_13 (by decide) ?_
  refine ww_icmp_ge 22 dX4_library_15 (by decide) (inI.mk (by omega) (by omega)) (inI.mk (by omega) (by omega)) (fun c_15 => ?_) (fun c_15 => ?_)
  · have her : pLib t q nx s = .error (-6, q) := by unfold pLib; rw [if_neg (by omega)]
    obtain ⟨hb1, hb2⟩ := b_er (t := t) (n := n) (p := nx) her
    refine ww_iconst dX4_library_22 ?_
    refine ww_bipush dX4_library_23 (by decide) ?_
    refine ww_iload_n 1 dX4_library_25 rfl ?_
    refine cx_v (cx_V (ct_X4_reqF hG p a (-6) (q) (by omega)) sv_X4_59 rfl dX4_library_26 hP.obj rfl rfl rfl rfl ⟨Nat.le_of_ble_eq_true rfl, Nat.le_of_ble_eq_true rfl⟩ (Nat.le_of_ble_eq_true rfl) (by dsimp only [mmc, MX4_library, MJ3_size, MX4_require] <;> omega) (by dsimp only [mms, MX4_library, MJ3_size, MX4_require] <;> omega)) (fun X_26 q_26 g_26 hx_26 => wq_out hQ hT (by dsimp only [mmc, MX4_library, MX4_require, MJ3_size, MX4_toldWord, MX4_libraryOf, MX4_number, MX4_accept, MX6_init, MJ3_add, MX2_reload] <;> omega) (by dsimp only [mms, MX4_library, MX4_require, MJ3_size, MX4_toldWord, MX4_libraryOf, MX4_number, MX4_accept, MX6_init, MJ3_add, MX2_reload] <;> omega) (hx_26.go hF (fun c o e => by cases e; exact her))) (fun h_26 hp_26 => ?_)
    exact hp_26.elim
  · obtain ⟨hb1, hb2⟩ := b_ge (t := t) (n := n) (p := nx) (e := we t (sk t nx)) hw1.2.1 (fun q2 s2 e2 => Int.le_of_lt (pLib_m (q := q) (s := s) ht hnx.1 hnx.2 q2 s2 e2).1)
    have hwC : wC (we t (sk t nx) - sk t nx).toNat = 4 + (we t (sk t nx) - sk t nx).toNat := rfl
    have hwS : wS (we t (sk t nx) - sk t nx).toNat = 32 + 5 * (we t (sk t nx) - sk t nx).toNat := rfl
    refine ww_iconst dX4_library_18 ?_
    refine ww_goto 23 dX4_library_19 (by decide) ?_
    refine ww_bipush dX4_library_23 (by decide) ?_
    refine ww_iload_n 1 dX4_library_25 rfl ?_
    refine cr_pv (cr_V (ct_X4_reqT hG 1 _ _ (by decide) (inI.mk (by decide) (by decide))) sv_X4_59 rfl dX4_library_26 hP.obj rfl rfl rfl rfl ⟨Nat.le_of_ble_eq_true rfl, Nat.le_of_ble_eq_true rfl⟩ (Nat.le_of_ble_eq_true rfl) (by dsimp only [mmc, MX4_library, MJ3_size, MX4_require] <;> omega) (by dsimp only [mms, MX4_library, MJ3_size, MX4_require] <;> omega)) ?_
    refine ww_aload_n 0 dX4_library_29 rfl ?_
    refine cx_r (cx_V (ct_X4_toldWord hG hP) sv_X4_158 rfl dX4_library_30 hP.obj rfl rfl rfl rfl ⟨Nat.le_of_ble_eq_true rfl, Nat.le_of_ble_eq_true rfl⟩ (Nat.le_of_ble_eq_true rfl) (by dsimp only [mmc, MX4_library, MJ3_size, MX4_require, MX4_toldWord] <;> omega) (by dsimp only [mms, MX4_library, MJ3_size, MX4_require, MX4_toldWord] <;> omega)) (fun X_30 q_30 g_30 hx_30 => wq_out hQ hT (by dsimp only [mmc, MX4_library, MX4_require, MJ3_size, MX4_toldWord, MX4_libraryOf, MX4_number, MX4_accept, MX6_init, MJ3_add, MX2_reload] <;> omega) (by dsimp only [mms, MX4_library, MX4_require, MJ3_size, MX4_toldWord, MX4_libraryOf, MX4_number, MX4_accept, MX6_init, MJ3_add, MX2_reload] <;> omega) (hx_30.go hF (fun c o e => by unfold pLib; rw [if_pos (by omega), e]))) (fun r_30 h_30 hp_30 => ?_)
    obtain ⟨w_30, b_30, e_30, hr_30, hw_30, hb_30, he_30, hg_30, hm_30, hl_30, hW_30, n_30, hP, f_30⟩ := hp_30
    have hF := hF.kt f_30 (by first | exact Or.inl rfl | exact Or.inr rfl)
    have hH := hH.kt f_30 hp0
    have hL := hL.kt f_30 (by first | exact hp0 | exact ha0)
    subst hw_30 hb_30 he_30
    obtain ⟨fsw, hwo⟩ := hW_30.obj
    refine ww_astore_n [(2, _), (0, _), (1, _)] dX4_library_33 (Nat.le_of_ble_eq_true rfl) rfl ?_
    refine ww_aload_n 1 dX4_library_34 rfl ?_
    refine ww_aload_n 1 dX4_library_35 rfl ?_
    refine ww_aload_n 0 dX4_library_36 rfl ?_
    obtain ⟨al, am, ll, w, nxs, lx, dx, -, hr0, hho, ⟨⟨hA1, hZ1⟩, ⟨hA2, hB2⟩, ⟨hA3, hZ3⟩, hWt⟩, hMp, -⟩ := id hH
    have hln := hB2.1
    refine cr_pi (cr_V (ct_X4_libraryOf hG hP hho hA2 hB2 hW_30) sv_X4_168 rfl dX4_library_37 hP.obj rfl rfl rfl rfl ⟨Nat.le_of_ble_eq_true rfl, Nat.le_of_ble_eq_true rfl⟩ (Nat.le_of_ble_eq_true rfl) (by dsimp only [mmc, MX4_library, MJ3_size, MX4_require, MX4_toldWord, MX4_libraryOf] <;> omega) (by dsimp only [mms, MX4_library, MJ3_size, MX4_require, MX4_toldWord, MX4_libraryOf] <;> omega)) ?_
    refine ww_iconst dX4_library_40 ?_
    refine ww_icmp_ne 48 dX4_library_41 (by decide) (fi_in (by rw [List.length_map]; omega)) (inI.mk (by decide) (by decide)) (fun c_41 => ?_) (fun c_41 => ?_)
    · have her : pLib t q nx s = .error (-5, sk t nx) := by unfold pLib; rw [if_pos (by omega), hr_30]; simp only; rw [if_neg c_41]
      obtain ⟨hb1, hb2⟩ := b_er (t := t) (n := n) (p := nx) her
      refine ww_iconst dX4_library_48 ?_
      refine ww_bipush dX4_library_49 (by decide) ?_
      refine ww_aload_n 1 dX4_library_51 rfl ?_
      refine ww_getf gf_X4_86 rfl dX4_library_52 hP.obj rfl ?_
      refine cx_v (cx_V (ct_X4_reqF hG p a (-5) (sk t nx) (by omega)) sv_X4_59 rfl dX4_library_55 hP.obj rfl rfl rfl rfl ⟨Nat.le_of_ble_eq_true rfl, Nat.le_of_ble_eq_true rfl⟩ (Nat.le_of_ble_eq_true rfl) (by dsimp only [mmc, MX4_library, MJ3_size, MX4_require, MX4_toldWord, MX4_libraryOf] <;> omega) (by dsimp only [mms, MX4_library, MJ3_size, MX4_require, MX4_toldWord, MX4_libraryOf] <;> omega)) (fun X_55 q_55 g_55 hx_55 => wq_out hQ hT (by dsimp only [mmc, MX4_library, MX4_require, MJ3_size, MX4_toldWord, MX4_libraryOf, MX4_number, MX4_accept, MX6_init, MJ3_add, MX2_reload] <;> omega) (by dsimp only [mms, MX4_library, MX4_require, MJ3_size, MX4_toldWord, MX4_libraryOf, MX4_number, MX4_accept, MX6_init, MJ3_add, MX2_reload] <;> omega) (hx_55.go hF (fun c o e => by cases e; exact her))) (fun h_55 hp_55 => ?_)
      exact hp_55.elim
    · obtain ⟨hb1, hb2⟩ := b_ge (t := t) (n := n) (p := nx) (r := pLib t q nx s) (e := we t (sk t nx)) hw1.2.1 (fun q2 s2 e2 => Int.le_of_lt (pLib_m (q := q) (s := s) ht hnx.1 hnx.2 q2 s2 e2).1)
      refine ww_iconst dX4_library_44 ?_
      refine ww_goto 49 dX4_library_45 (by decide) ?_
      refine ww_bipush dX4_library_49 (by decide) ?_
      refine ww_aload_n 1 dX4_library_51 rfl ?_
      refine ww_getf gf_X4_86 rfl dX4_library_52 hP.obj rfl ?_
      refine cr_pv (cr_V (ct_X4_reqT hG 1 _ _ (by decide) (inI.mk (by decide) (by decide))) sv_X4_59 rfl dX4_library_55 hP.obj rfl rfl rfl rfl ⟨Nat.le_of_ble_eq_true rfl, Nat.le_of_ble_eq_true rfl⟩ (Nat.le_of_ble_eq_true rfl) (by dsimp only [mmc, MX4_library, MJ3_size, MX4_require, MX4_toldWord, MX4_libraryOf] <;> omega) (by dsimp only [mms, MX4_library, MJ3_size, MX4_require, MX4_toldWord, MX4_libraryOf] <;> omega)) ?_
      refine ww_aload_n 1 dX4_library_58 rfl ?_
      refine ww_iconst dX4_library_59 ?_
      refine ww_sipush dX4_library_60 (by decide) ?_
      refine cx_i (cx_V (ct_X4_number hG hP 0 999 (inI.mk (by decide) (by decide)) (inI.mk (by decide) (by decide))) sv_X4_117 rfl dX4_library_63 hP.obj rfl rfl rfl rfl ⟨Nat.le_of_ble_eq_true rfl, Nat.le_of_ble_eq_true rfl⟩ (Nat.le_of_ble_eq_true rfl) (by dsimp only [mmc, MX4_library, MJ3_size, MX4_require, MX4_toldWord, MX4_libraryOf, MX4_number] <;> omega) (by dsimp only [mms, MX4_library, MJ3_size, MX4_require, MX4_toldWord, MX4_libraryOf, MX4_number] <;> omega)) (fun X_63 q_63 g_63 hx_63 => wq_out hQ hT (by dsimp only [mmc, MX4_library, MX4_require, MJ3_size, MX4_toldWord, MX4_libraryOf, MX4_number, MX4_accept, MX6_init, MJ3_add, MX2_reload] <;> omega) (by dsimp only [mms, MX4_library, MX4_require, MJ3_size, MX4_toldWord, MX4_libraryOf, MX4_number, MX4_accept, MX6_init, MJ3_add, MX2_reload] <;> omega) (hx_63.go hF (fun c o e => by unfold pLib; rw [if_pos (by omega), hr_30]; simp only; rw [if_pos c_41, e]))) (fun r_63 h_63 hp_63 => ?_)
      obtain ⟨e_63, hn_63, hl_63, hh_63, h0_63, hg_63, hm_63, hP, f_63⟩ := hp_63
      have hF := hF.kt f_63 (by first | exact Or.inl rfl | exact Or.inr rfl)
      have hH := hH.kt f_63 hp0
      have hL := hL.kt f_63 (by first | exact hp0 | exact ha0)
      have k3 := ht.k1 hm_63
      have w3 := ht.w1 k3.2.1
      obtain ⟨hb3, hb4⟩ := b_ge (t := t) (n := n) (p := nx) (r := pLib t q nx s) (e := we t (sk t e_63)) w3.2.1 (fun q2 s2 e2 => (pLib_m (q := q) (s := s) ht hnx.1 hnx.2 q2 s2 e2).2 _ _ hn_63)
      have hW_30 := hW_30.kt f_63 (by omega)
      have hwC : wC (we t (sk t e_63) - sk t e_63).toNat = 4 + (we t (sk t e_63) - sk t e_63).toNat := rfl
      have hwS : wS (we t (sk t e_63) - sk t e_63).toNat = 32 + 5 * (we t (sk t e_63) - sk t e_63).toNat := rfl
      obtain ⟨al, am, ll, w, nxs, lx, dx, hd⟩ := id hH
      have hho := hd.2.2.1
      refine ww_istore_n [(3, _), (2, _), (0, _), (1, _)] dX4_library_66 (Nat.le_of_ble_eq_true rfl) rfl ?_
      refine ww_aload_n 2 dX4_library_67 rfl ?_
      refine ww_getf gf_X4_27 rfl dX4_library_68 hP.obj rfl ?_
      refine ww_getf gf_X4_150 rfl dX4_library_71 hho rfl ?_
      refine wx_new (fun _ => (a, 10050 + s.lb.length)) nw_X4_153 rfl dX4_library_74 (fun q9 hq9 => ⟨ha0, Nat.le_of_lt (hq9.2 _ _ _ hho).1⟩) (by dsimp only [mmc, MX4_library, MJ3_size, MX4_require, MX4_toldWord, MX4_libraryOf, MX4_number] <;> omega) (by dsimp only [mms, MX4_library, MJ3_size, MX4_require, MX4_toldWord, MX4_libraryOf, MX4_number] <;> omega) (fun q_74 h_74 n_74 e_74 hx9 => ?_)
      have hF := hF.ex e_74
      have hH := hH.ex e_74
      have hL := hL.ex e_74
      have hP := hP.ex e_74
      have hW_30 := hW_30.ex e_74
      have hd := hd.ex e_74
      refine ww_dup dX4_library_77 rfl ?_
      refine ww_aload_n 1 dX4_library_78 rfl ?_
      refine ww_iload_n 0 dX4_library_79 rfl ?_
      refine ww_aload_n 2 dX4_library_80 rfl ?_
      obtain ⟨a9, tx9, hz8, hS9⟩ := hL.1 "LinkElection$Parser" 171 kwKeeps (by decide)
      refine ww_ldcS hz8 dX4_library_81 ?_
      refine cr_i (cr_V (ct_X4_accept hG hP hS9 rfl) sv_X4_173 rfl dX4_library_83 hP.obj rfl rfl rfl rfl ⟨Nat.le_of_ble_eq_true rfl, Nat.le_of_ble_eq_true rfl⟩ (Nat.le_of_ble_eq_true rfl) (by dsimp only [mmc, MX4_library, MJ3_size, MX4_require, MX4_toldWord, MX4_libraryOf, MX4_number, MX4_accept] <;> omega) (by dsimp only [mms, MX4_library, MJ3_size, MX4_require, MX4_toldWord, MX4_libraryOf, MX4_number, MX4_accept] <;> omega)) (fun r_83 h_83 hp_83 => ?_)
      obtain ⟨er_83, hP, f_83⟩ := hp_83
      subst er_83
      have hF := hF.kt f_83 (by first | exact Or.inl rfl | exact Or.inr rfl)
      have hH := hH.kt f_83 hp0
      have hL := hL.kt f_83 (by first | exact hp0 | exact ha0)
      have hW_30 := hW_30.kt f_83 (by omega)
      have hx9 := f_83.at hx9 (by omega)
      have hd := hd.fo f_83.fo hp0 (by omega)
      obtain ⟨-, hr0, hho, ⟨⟨hA1, hZ1⟩, ⟨hA2, hB2⟩, ⟨hA3, hZ3⟩, hWt⟩, hMp, -⟩ := id hd
      have hln := hB2.1
      have hx9b := hx9
      refine cr_v (cr_I (ct_X6_init hG hL.2.1 (k2 := 10060 + 2 * s.lb.length) ha0 hp0 (fun q9 hq9 => Nat.le_of_lt (hq9.2 _ _ _ hP.obj).1) hx9 (tr := r_63) (kp := bI (pw t e_63 = kwKeeps)) (by unfold bI; split; exact Or.inr rfl; exact Or.inl rfl) (by omega)) si_X4_177 rfl rfl dX4_library_86 rfl rfl ⟨Nat.le_of_ble_eq_true rfl, Nat.le_of_ble_eq_true rfl⟩ (Nat.le_of_ble_eq_true rfl) (by dsimp only [mmc, MX4_library, MJ3_size, MX4_require, MX4_toldWord, MX4_libraryOf, MX4_number, MX4_accept, MX6_init] <;> omega) (by dsimp only [mms, MX4_library, MJ3_size, MX4_require, MX4_toldWord, MX4_libraryOf, MX4_number, MX4_accept, MX6_init] <;> omega)) (fun h_86 hp_86 => ?_)
      obtain ⟨pl, hx9, hAp, f_86⟩ := hp_86
      have hP := hP.kt f_86 (by omega)
      have hF := hF.kt f_86 (Or.inr rfl)
      have hL := hL.kt f_86 ha0
      have hW_30 := hW_30.kt f_86 (by omega)
      have hA2 := hA2.kt f_86 ha0 (by omega)
      have hB2 := hB2.xk f_86 hx9b ha0 rfl h8l
      obtain ⟨fsn, hno⟩ := hA2.obj
      refine cr5_i (cr_F (ct_J3_add hG hA2 hL.2.1 (by omega) (ci := 5) rfl q2472 (LBs.el hB2) hx9 (by omega)) sf_X4_165 rfl dX4_library_89 hno rfl rfl rfl rfl ⟨Nat.le_of_ble_eq_true rfl, Nat.le_of_ble_eq_true rfl⟩ (Nat.le_of_ble_eq_true rfl) (by dsimp only [mmc, MX4_library, MJ3_size, MX4_require, MX4_toldWord, MX4_libraryOf, MX4_number, MX4_accept, MX6_init, MJ3_add] <;> omega) (by dsimp only [mms, MX4_library, MJ3_size, MX4_require, MX4_toldWord, MX4_libraryOf, MX4_number, MX4_accept, MX6_init, MJ3_add] <;> omega)) (fun r_89 h_89 hp_89 => ?_)
      obtain ⟨er_89, hA_89, f_89⟩ := hp_89
      subst er_89
      have hP := hP.fo f_89 (by omega)
      have hF := hF.fo f_89 (Or.inr rfl)
      have hL := hL.fo f_89 ha0
      have hho := f_89.at (f_86.at hho (by omega)) (by omega)
      have hS7 : HS G h_89 a p s.nm (s.lb ++ [(pw t nx, r_63, bI (pw t e_63 = kwKeeps), ([] : List Int))]) s.of (ldN s.lb.length) s.sh s.fn := ⟨nl, al, am, ll, w, nxs, lx ++ [q_74], dx, ha0, hp0, hho, ⟨⟨(hA1.kt f_86 ha0 (by omega)).fo f_89 ha0 (by omega), hZ1.mono (fun _ _ q => (q.kt f_86 (by omega)).fo f_89 (by omega))⟩, ⟨hA_89, LBs.snoc (hB2.fo f_89 ha0 h8l (by omega)) ⟨_, pl, [], f_89.at hx9 (by omega), hW_30.fo f_89 (by omega), hAp.fo f_89 ha0 (by omega), trivial, by unfold bI; split; exact Or.inr rfl; exact Or.inl rfl⟩⟩, ⟨(hA3.kt f_86 ha0 (by omega)).fo f_89 ha0 (by omega), hZ3.mono (fun _ _ q => (q.kt f_86 ha0 (by omega)).fo f_89 ha0 (by omega))⟩, (hWt.fo f_86.fo ha0 (by omega)).fo f_89 ha0 (by omega)⟩, (hMp.kt f_86 ha0 (by omega)).fo f_89 ha0 (by omega), by rw [List.length_append]; show _ + 1 ≤ 8; omega⟩
      refine ww_pop dX4_library_94 rfl ?_
      refine ww_aload_n 2 dX4_library_95 rfl ?_
      refine ww_getf gf_X4_27 rfl dX4_library_96 hP.obj rfl ?_
      refine ww_aload_n 2 dX4_library_99 rfl ?_
      refine ww_getf gf_X4_27 rfl dX4_library_100 hP.obj rfl ?_
      refine ww_getf gf_X4_150 rfl dX4_library_103 hho rfl ?_
      obtain ⟨fsn2, hno2⟩ := hA_89.obj
      refine cr5_pi (cr_F (ct_J3_size hG hA_89) sf_X4_137 rfl dX4_library_106 hno2 rfl rfl rfl rfl ⟨Nat.le_of_ble_eq_true rfl, Nat.le_of_ble_eq_true rfl⟩ (Nat.le_of_ble_eq_true rfl) (by dsimp only [mmc, MX4_library, MJ3_size, MX4_require, MX4_toldWord, MX4_libraryOf, MX4_number, MX4_accept, MX6_init, MJ3_add] <;> omega) (by dsimp only [mms, MX4_library, MJ3_size, MX4_require, MX4_toldWord, MX4_libraryOf, MX4_number, MX4_accept, MX6_init, MJ3_add] <;> omega)) ?_
      rw [show (((lx ++ [q_74]).length : Nat) : Int) = (s.lb.length : Int) + 1 by rw [List.length_append, hln]; rfl]
      refine ww_iconst dX4_library_111 ?_
      refine ww_isub dX4_library_112 ?_
      rw [show (s.lb.length : Int) + 1 - 1 = (s.lb.length : Int) by omega]
      refine cr_v (cr_V (ct_X2_reload hG hS7 (s.lb.length : Int) (by omega) (by omega) (by rw [ldN_len]; omega) hL) sv_X4_180 rfl dX4_library_113 hho rfl rfl rfl rfl ⟨Nat.le_of_ble_eq_true rfl, Nat.le_of_ble_eq_true rfl⟩ (Nat.le_of_ble_eq_true rfl) (by dsimp only [mmc, MX4_library, MJ3_size, MX4_require, MX4_toldWord, MX4_libraryOf, MX4_number, MX4_accept, MX6_init, MJ3_add, MX2_reload] <;> omega) (by dsimp only [mms, MX4_library, MJ3_size, MX4_require, MX4_toldWord, MX4_libraryOf, MX4_number, MX4_accept, MX6_init, MJ3_add, MX2_reload] <;> omega)) (fun h_113 hp_113 => ?_)
      obtain ⟨hS6, f_113⟩ := hp_113
      have hP := hP.fo f_113 (by omega)
      have hF := hF.fo f_113 (Or.inr rfl)
      have hL := hL.fo f_113 ha0
      have hho := f_113.at hho (by omega)
      rw [← ldN_s] at hS6
      exact ww_x hQ (ww_vret rfl dX4_library_116 rfl (by dsimp only [mmc, MX4_library, MJ3_size, MX4_require, MX4_toldWord, MX4_libraryOf, MX4_number, MX4_accept, MX6_init, MJ3_add, MX2_reload] <;> omega) (by dsimp only [mms, MX4_library, MJ3_size, MX4_require, MX4_toldWord, MX4_libraryOf, MX4_number, MX4_accept, MX6_init, MJ3_add, MX2_reload] <;> omega) ⟨rfl, (if pw t e_63 = kwKeeps then we t (sk t e_63) else sk t e_63), PS.mk0 s.nm (s.lb ++ [(pw t nx, r_63, bI (pw t e_63 = kwKeeps), ([] : List Int))]) s.of s.sh s.hs s.hw s.cs s.fn, _, by unfold pLib; rw [if_pos (by omega), hr_30]; simp only; rw [if_pos c_41, hn_63]; rfl, by split <;> omega, by split <;> omega, PSok.addL hs9 (by show s.lb.length < 8; omega) (ptw_w8 ht hnx.2 hr_30) ⟨h0_63, hh_63⟩ (by unfold bI; split; exact Or.inr rfl; exact Or.inl rfl), hP, by have hx8 := HPn.of hS6 hho; unfold HPn; show ∃ al am ll w nx9 lx dx, HSd G _ a p nl al am ll w nx9 lx dx s.nm (s.lb ++ [(pw t nx, r_63, bI (pw t e_63 = kwKeeps), ([] : List Int))]) s.of (ldN (s.lb ++ [(pw t nx, r_63, bI (pw t e_63 = kwKeeps), ([] : List Int))]).length) s.sh s.fn; rw [List.length_append]; exact hx8, hL, rfl, rfl, hF⟩)
