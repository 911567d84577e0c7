set_option maxRecDepth 100000
set_option maxHeartbeats 4000000 in
theorem ct_X1_hash {G : GT} {h : AH} (hG : GOK G) (a b : Int) : CPl G (MX1_hash 0 0 0 0) h [.long (lI a), .long (lI b)] (31 * a + b) := by
  refine CT.of rfl hG (Nat.le_of_ble_eq_true rfl) rfl (fun E hQ => ?_)
  refine ww_ldc2 q1195 dX1_hash_0 (z := 31) rfl ?_
  refine ww_lload_n 0 dX1_hash_3 rfl ?_
  refine ww_lmul dX1_hash_4 ?_
  refine ww_lload_n 1 dX1_hash_5 rfl ?_
  refine ww_ladd dX1_hash_6 ?_
  exact ww_lret hQ dX1_hash_7 rfl (Nat.le_of_ble_eq_true rfl) (Nat.le_of_ble_eq_true rfl) ⟨_, rfl, rfl, rfl⟩

set_option maxHeartbeats 4000000 in
theorem ct_X1_load {G : GT} {h : AH} (hG : GOK G) {x bf hd a r : Nat} {xs : List Nat} {B : Int → Int} {bl eo : Int} {cur : HV} {hist : List HV} (hC : CWd G h x bf hd a r xs B bl eo cur hist) (n : Int) (hn : inI n) : CXH G (MX1_load 40 6000 6700 33100) [((24 : Nat), (44 : Nat), (45 : Nat), (143 : Nat))] h [.ref x, .int (iI n)] (pI (fun z h' => (0 ≤ n ∧ n ≤ bl) ∧ ((∃ c o, pAll (txB B n) = .error (c, o) ∧ (-7 ≤ c ∧ c ≤ -2 ∧ 0 ≤ o ∧ o ≤ 800) ∧ z = c ∧ CW G h' x B 0 o cur hist) ∨ (∃ s, pAll (txB B n) = .ok s ∧ PSc s ∧ z = s.lb.length ∧ CW G h' x B 0 (-1) (vP s) (hpush hist cur))) ∧ FX x h h')) (XJ h (fun X => X = iaN ∧ ¬ (0 ≤ n ∧ n ≤ bl))) := by
  refine CXH.of rfl hG (Nat.le_of_ble_eq_true rfl) rfl (fun E hQ hT => ?_)
  obtain ⟨⟨hx0, hx⟩, ⟨hbf, hBr⟩, hdq, hS, hok, hI, hbl, heo, hL⟩ := id hC
  have h8 := hok.2.1
  have h12 := hok.1
  refine ww_iload_n 1 dX1_load_0 rfl ?_
  refine ww_i2l dX1_load_1 hn ?_
  refine ww_lconst 0 dX1_load_2 rfl ?_
  refine ww_aload_n 0 dX1_load_3 rfl ?_
  refine ww_getf gf_X1_125 rfl dX1_load_4 hx rfl ?_
  refine ww_i2l dX1_load_7 (inI.mk (by omega) (by omega)) ?_
  have hn1 := hn.1
  have hn2 := hn.2
  refine cr_pi (cr_S (ct_X1_isBetween hG n 0 bl (inL.mk (by omega) (by omega)) (inL.mk (by omega) (by omega)) (inL.mk (by omega) (by omega))) ss_X1_64 rfl dX1_load_8 rfl rfl ⟨by decide, by decide⟩ (Nat.le_of_ble_eq_true rfl) (Nat.le_of_ble_eq_true rfl) (Nat.le_of_ble_eq_true rfl)) ?_
  rcases Classical.em (0 ≤ n ∧ n ≤ bl) with hr | hr
  · rw [bI_t hr]
    refine cr_pv (cr_S (ct_X1_raT hG) ss_X1_131 rfl dX1_load_11 rfl rfl ⟨by decide, by decide⟩ (Nat.le_of_ble_eq_true rfl) (Nat.le_of_ble_eq_true rfl) (Nat.le_of_ble_eq_true rfl)) ?_
    refine ww_aload_n 0 dX1_load_14 rfl ?_
    refine ww_iconst dX1_load_15 ?_
    refine wx_putf pf_X1_125 rfl dX1_load_16 hx hx0 (Nat.le_of_ble_eq_true rfl) rfl rfl (fun h_16 hx f_16 => ?_)
    refine ww_aload_n 0 dX1_load_19 rfl ?_
    refine ww_iconst dX1_load_20 ?_
    refine wx_putf pf_X1_60 rfl dX1_load_21 hx hx0 (Nat.le_of_ble_eq_true rfl) rfl rfl (fun h_21 hx f_21 => ?_)
    have hC := hC.obj (f_16.tr f_21) hx (by omega) (inI.mk (by decide) (by decide))
    have hF : FX x h h_21 := FO.w (f_16.tr f_21).fo (by omega) (by omega)
    have hTB : TB G h_21 x (txB B n) n := ⟨bf, _, B, hx0, hx, hC.2.1.1, txB_t hr.1 (by omega), fun q q0 q1 => ⟨(hBr q q0 (by omega)).1, (hBr q q0 (by omega)).2, by unfold txB; rw [if_pos q1]⟩⟩
    have hL := hC.2.2.2.2.2.2.2.2
    refine ww_aload_n 0 dX1_load_24 rfl ?_
    refine wx_new (fun q => (q, 10580)) nw_X1_135 rfl dX1_load_25 (fun q hq => ⟨hq.1, Nat.le_refl _⟩) (Nat.le_of_ble_eq_true rfl) (Nat.le_of_ble_eq_true rfl) (fun q_25 h_25 n_25 e_25 hp => ?_)
    have hx := e_25 _ _ hx
    refine ww_dup dX1_load_28 rfl ?_
    refine ww_aload_n 0 dX1_load_29 rfl ?_
    refine ww_iload_n 1 dX1_load_30 rfl ?_
    refine cr_v (cr_I (ct_X4_init hG (hL.ex e_25) n_25.1 hp (hTB.ex e_25)) si_X1_137 rfl rfl dX1_load_31 rfl rfl ⟨by decide, by decide⟩ (Nat.le_of_ble_eq_true rfl) (Nat.le_of_ble_eq_true rfl) (Nat.le_of_ble_eq_true rfl)) (fun h_31 hp_31 => ?_)
    obtain ⟨nl, a2, hP, hH, hL, na, f_31⟩ := hp_31
    have E31 := f_31.nw e_25 n_25
    have na := na.exb e_25
    refine cx_r (cx_V (ct_X4_parse hG hP hH hL PSc0 (bI_f (by decide)).symm (bI_f (by decide)).symm) sv_X1_140 rfl dX1_load_34 hP.obj rfl rfl rfl rfl ⟨Nat.le_of_ble_eq_true rfl, Nat.le_of_ble_eq_true rfl⟩ (Nat.le_of_ble_eq_true rfl) (Nat.le_of_ble_eq_true rfl) (Nat.le_of_ble_eq_true rfl)) (fun X_34 q_34 g_34 hx_34 => ?_) (fun r_34 h_34 hp_34 => ?_)
    · obtain ⟨rfl, c9, o9, her, hrg, hsx, hfp⟩ := hx_34
      have E9 := hfp.nw E31 n_25 na
      have hC := hC.ex E9
      have hx := hC.1.2
      have hsx : g_34 q_34 = some ((q_34, 10590), ob 4 [.null, .null, .null, .null, .null, .int 0, .int (iI c9), .int (iI o9)]) := hsx
      refine wq_catch hT rfl rfl (by decide) q1233 rfl q1339 ?_
      refine ww_astore_n [(2, _), (0, _), (1, _)] dX1_load_45 (by decide) rfl ?_
      refine ww_aload_n 1 dX1_load_46 rfl ?_
      refine ww_aload_n 0 dX1_load_47 rfl ?_
      refine ww_getf gf_X1_145 rfl dX1_load_48 hsx rfl ?_
      refine wx_putf pf_X1_60 rfl dX1_load_51 hx hx0 (Nat.le_of_ble_eq_true rfl) rfl rfl (fun h_51 hx f_51 => ?_)
      have hsx := f_51.at hsx (by omega)
      have hC := hC.obj f_51 hx (by omega) (inI.mk (by omega) (by omega))
      refine ww_aload_n 0 dX1_load_54 rfl ?_
      refine ww_getf gf_X1_148 rfl dX1_load_55 hsx rfl ?_
      exact ww_x hQ (ww_iret rfl dX1_load_58 rfl (Nat.le_of_ble_eq_true rfl) (Nat.le_of_ble_eq_true rfl) ⟨_, rfl, hr, Or.inl ⟨c9, o9, her, hrg, rfl, hC.cw⟩, ((hF.tr E9.fo).tr (FO.w f_51.fo (by omega) (by omega)))⟩)
    · obtain ⟨er_34, s, hpa, hs9, hH, hL, hTB, hfp⟩ := hp_34
      subst er_34
      have E9 := hfp.nw E31 n_25 na
      have hok2 := vP_ok hs9 (pAll_neg (txB_t hr.1 (by omega)) hpa)
      have hI9 := hC.2.2.2.2.2.1
      have hS9 := hC.2.2.2.1
      have hC := hC.ex E9
      have hx := hC.1.2
      refine cr_v (cr_V (ct_X1_replace hG hC (v2 := vP s) hH.hs hok2 (hI9.nx na E9) (hS9.own na)) sv_X1_122 rfl dX1_load_37 hx rfl rfl rfl rfl ⟨by decide, by decide⟩ (Nat.le_of_ble_eq_true rfl) (Nat.le_of_ble_eq_true rfl) (Nat.le_of_ble_eq_true rfl)) (fun h_37 hp_37 => ?_)
      obtain ⟨xs2, hC, hIn, f_37⟩ := hp_37
      have hx := hC.1.2
      refine ww_aload_n 0 dX1_load_40 rfl ?_
      refine cr_pi (cr_V (ct_X1_libraries hG hC) sv_X1_77 rfl dX1_load_41 hx rfl rfl rfl rfl ⟨by decide, by decide⟩ (Nat.le_of_ble_eq_true rfl) (Nat.le_of_ble_eq_true rfl) (Nat.le_of_ble_eq_true rfl)) ?_
      exact ww_x hQ (ww_iret rfl dX1_load_44 rfl (Nat.le_of_ble_eq_true rfl) (Nat.le_of_ble_eq_true rfl) ⟨_, rfl, hr, Or.inr ⟨s, hpa, hs9, rfl, hC.cw⟩, ((hF.tr E9.fo).tr f_37)⟩)
  · rw [bI_f hr]
    refine cx_v (cx_S (ct_X1_raF hG) ss_X1_131 rfl dX1_load_11 rfl rfl ⟨by decide, by decide⟩ (Nat.le_of_ble_eq_true rfl) (Nat.le_of_ble_eq_true rfl) (Nat.le_of_ble_eq_true rfl)) (fun X_11 q_11 g_11 hx_11 => wq_outH hQ hT (fun z hz => by rw [List.mem_singleton.mp hz]; rfl) (Nat.le_of_ble_eq_true rfl) (Nat.le_of_ble_eq_true rfl) (hx_11.go Ex.rf (fun X e => ⟨e, hr⟩))) (fun h_11 hp_11 => ?_)
    exact hp_11.elim

set_option maxHeartbeats 4000000 in
theorem ct_X1_init {G : GT} {h : AH} (hG : GOK G) (hL : LitC G h) {x : Nat} (hx0 : x ≠ 0) (hx : h x = some ((x, 10570), ob 0 [.null, .null, .null, .int 0, .int 0])) : CT G (MX1_init 20 3500 8 870) h [.ref x] (pV (fun h' => CW G h' x (fun _ => 0) 0 (-1) (vP PS0) [] ∧ KT x (x, 10570) h h')) := by
  refine CT.of rfl hG (Nat.le_of_ble_eq_true rfl) rfl (fun E hQ => ?_)
  have hF : KT x (x, 10570) h h := KT.rf
  refine ww_aload_n 0 dX1_init_0 rfl ?_
  refine ww_objInit q127 q128 q129 rfl dX1_init_1 (Nat.le_of_ble_eq_true rfl) (Nat.le_of_ble_eq_true rfl) ?_
  refine ww_aload_n 0 dX1_init_4 rfl ?_
  refine ww_sipush dX1_init_5 (by decide) ?_
  refine wx_newA (N := 800) (j := 1) (atype := .byte) (fun _ => (x, 10571)) rfl (by decide) q151 rfl (fun _ x => x) rfl (by decide) dX1_init_8 (fun q hq => ⟨hx0, Nat.le_of_lt (hq.2 _ _ _ hx).1⟩) (Nat.le_of_ble_eq_true rfl) (Nat.le_of_ble_eq_true rfl) (fun q_8 h_8 n_8 e_8 hb => ?_)
  have hx := e_8 _ _ hx
  have hL := hL.ex e_8
  have hF := hF.xe e_8
  refine wx_putF pf_X1_37 rfl rfl dX1_init_10 hx hx0 (Nat.le_of_ble_eq_true rfl) rfl rfl (fun h_10 hx f_10 => ?_)
  have hb := f_10.at hb (by omega)
  have hL := hL.kt f_10 (by first | exact hx0 | exact n_25.1)
  have hF := hF.tr f_10
  refine ww_aload_n 0 dX1_init_13 rfl ?_
  have hxb := hx
  have hFb := hF
  have hbb := hb
  refine wx_new (fun _ => (x, 10572)) nw_X1_41 rfl dX1_init_14 (fun q hq => ⟨hx0, Nat.le_of_lt (hq.2 _ _ _ hx).1⟩) (Nat.le_of_ble_eq_true rfl) (Nat.le_of_ble_eq_true rfl) (fun q_14 h_14 n_14 e_14 hd => ?_)
  have hx := e_14 _ _ hx
  have hb := e_14 _ _ hb
  have hL := hL.ex e_14
  have hF := hF.xe e_14
  refine ww_dup dX1_init_17 rfl ?_
  refine cr_v (cr_I (ct_J1_init hG hx0 hd) si_X1_43 rfl rfl dX1_init_18 rfl rfl ⟨by decide, by decide⟩ (Nat.le_of_ble_eq_true rfl) (Nat.le_of_ble_eq_true rfl) (Nat.le_of_ble_eq_true rfl)) (fun h_18 hp_18 => ?_)
  obtain ⟨hdq, f_18⟩ := hp_18
  have E1 := f_18.nw e_14 n_14
  have hx := E1 _ _ hxb
  have hb := E1 _ _ hbb
  have hF : KT x (x, 10570) h h_18 := hFb.xe E1
  have hL := hL.kt f_18 hx0
  refine wx_putF pf_X1_44 rfl rfl dX1_init_21 hx hx0 (Nat.le_of_ble_eq_true rfl) rfl rfl (fun h_21 hx f_21 => ?_)
  have hb := f_21.at hb (by omega)
  have hL := hL.kt f_21 (by first | exact hx0 | exact n_25.1)
  have hF := hF.tr f_21
  have hdq := hdq.kt f_21 (by omega)
  refine ww_aload_n 0 dX1_init_24 rfl ?_
  have hxb := hx
  have hFb := hF
  have hbb := hb
  refine wx_new (fun q => (q, 10500)) nw_X1_48 rfl dX1_init_25 (fun q hq => ⟨hq.1, Nat.le_refl _⟩) (Nat.le_of_ble_eq_true rfl) (Nat.le_of_ble_eq_true rfl) (fun q_25 h_25 n_25 e_25 ha => ?_)
  have hx := e_25 _ _ hx
  have hb := e_25 _ _ hb
  have hL := hL.ex e_25
  have hF := hF.xe e_25
  have hdq := hdq.ex e_25
  refine ww_dup dX1_init_28 rfl ?_
  refine wx_new (fun _ => (q_25, 10010)) nw_X1_50 rfl dX1_init_29 (fun q hq => ⟨n_25.1, Nat.le_of_lt (hq.2 _ _ _ ha).1⟩) (Nat.le_of_ble_eq_true rfl) (Nat.le_of_ble_eq_true rfl) (fun q_29 h_29 n_29 e_29 hl => ?_)
  have hx := e_29 _ _ hx
  have hb := e_29 _ _ hb
  have hL := hL.ex e_29
  have hF := hF.xe e_29
  have ha := e_29 _ _ ha
  have hdq := hdq.ex e_29
  refine ww_dup dX1_init_32 rfl ?_
  refine cr_v (cr_I (ct_J3_init hG hL.2.1 n_25.1 hl) si_X1_52 rfl rfl dX1_init_33 rfl rfl ⟨by decide, by decide⟩ (Nat.le_of_ble_eq_true rfl) (Nat.le_of_ble_eq_true rfl) (Nat.le_of_ble_eq_true rfl)) (fun h_33 hp_33 => ?_)
  obtain ⟨hA, f_33⟩ := hp_33
  have hL := hL.kt f_33 n_25.1
  have ha := f_33.at ha (by omega)
  have hdq := hdq.kt f_33 (by omega)
  refine cr_v (cr_I (ct_X2_init hG hL n_25.1 n_25.1 ha hA (nm := []) trivial) si_X1_53 rfl rfl dX1_init_36 rfl rfl ⟨by decide, by decide⟩ (Nat.le_of_ble_eq_true rfl) (Nat.le_of_ble_eq_true rfl) (Nat.le_of_ble_eq_true rfl)) (fun h_36 hp_36 => ?_)
  obtain ⟨hS, f_36⟩ := hp_36
  have E2 : Ex h_21 h_36 := f_36.nw (((e_25.tr (f_33.nw e_29 n_29)))) n_25
  have hx := E2 _ _ hxb
  have hb := E2 _ _ hbb
  have hF : KT x (x, 10570) h h_36 := hFb.xe E2
  have hL := hL.kt f_36 n_25.1
  have hdq := hdq.kt f_36 (by omega)
  refine wx_putf pf_X1_56 rfl dX1_init_39 hx hx0 (Nat.le_of_ble_eq_true rfl) rfl rfl (fun h_39 hx f_39 => ?_)
  have hb := f_39.at hb (by omega)
  have hL := hL.kt f_39 (by first | exact hx0 | exact n_25.1)
  have hF := hF.tr f_39
  have hdq := hdq.kt f_39 (by omega)
  have hS := hS.fo f_39.fo hx0 (by omega)
  refine ww_aload_n 0 dX1_init_42 rfl ?_
  refine ww_iconst dX1_init_43 ?_
  refine wx_putf pf_X1_60 rfl dX1_init_44 hx hx0 (Nat.le_of_ble_eq_true rfl) rfl rfl (fun h_44 hx f_44 => ?_)
  have hb := f_44.at hb (by omega)
  have hL := hL.kt f_44 (by first | exact hx0 | exact n_25.1)
  have hF := hF.tr f_44
  have hdq := hdq.kt f_44 (by omega)
  have hS := hS.fo f_44.fo hx0 (by omega)
  exact ww_vret hQ dX1_init_47 rfl (Nat.le_of_ble_eq_true rfl) (Nat.le_of_ble_eq_true rfl) ⟨rfl, ⟨_, _, q_25, q_25, [], ⟨hx0, hx⟩, ⟨hb, fun _ _ _ => ⟨by show (-128 : Int) ≤ 0; decide, by show (0 : Int) ≤ 127; decide⟩⟩, hdq, hS, vP_ok PSc0 (fun _ _ _ => rfl), trivial, ⟨by decide, by decide⟩, inI.mk (by decide) (by decide), hL⟩, hF⟩

theorem FO.nwx {q k1 k2 : Nat} {h h1 h2 : AH} (f : FO q k1 k2 h1 h2) (e : Ex h h1) (n : Nw h q) : Ex h h2 := fun b y hb => f b y.1 y.2 (e _ _ hb) (fun z => n.no (t := y.1) (x := y.2) hb z.1)
set_option maxHeartbeats 4000000 in
theorem ct_X1_checksum {G : GT} {h : AH} (hG : GOK G) {x bf hd a r : Nat} {xs : List Nat} {B : Int → Int} {bl eo : Int} {cur : HV} {hist : List HV} (hC : CWd G h x bf hd a r xs B bl eo cur hist) : CT G (MX1_checksum 1700 52000 1300 11400) h [.ref x] (pL (fun z h' => (∃ W Wi T O V S B, QE cur W Wi T O V S B ∧ z = hK3 cur B O cur.lb.length cur.sh) ∧ Ex h h')) := by
  refine CT.of rfl hG (Nat.le_of_ble_eq_true rfl) rfl (fun E hQ => ?_)
  obtain ⟨⟨hx0, hx⟩, ⟨hbf, hBr⟩, hdq, hS, hok, hI, hbl, heo, hL⟩ := id hC
  have h8 := hok.2.1
  have h12 := hok.1
  refine ww_aload_n 0 dX1_checksum_0 rfl ?_
  refine cr_r (cr_V (ct_X1_election hG hC) sv_X1_178 rfl dX1_checksum_1 hx rfl rfl rfl rfl ⟨Nat.le_of_ble_eq_true rfl, Nat.le_of_ble_eq_true rfl⟩ (Nat.le_of_ble_eq_true rfl) (by dsimp only [mmc, MX1_checksum, MX1_election] <;> omega) (by dsimp only [mms, MX1_checksum, MX1_election] <;> omega)) (fun r_1 h_1 hp_1 => ?_)
  obtain ⟨hEL_1, e_1, n_1⟩ := hp_1
  have hC0 := hC
  generalize r_1 = e at *
  obtain ⟨y1, y2, y3, y4, y5, y6, y7, RO, RV, RS, RB, W, Wi, T, O, V, S, B5, ⟨hE, hO, hV, hS6, hB⟩, hq⟩ := hEL_1
  have hg := QE.rg (v := cur) hq hok
  obtain ⟨he0, -, -, he, h1, h2, h3⟩ := id hE
  obtain ⟨hgS, hgW, hgV, hgB, hgBo, hgBu, hgO⟩ := id hg
  have hE0 := hE
  have hO0 := hO
  have hB0 := hB
  have hC := hC.ex e_1
  have hx := hC.1.2
  refine ww_astore_n [(1, _), (0, _)] dX1_checksum_4 (Nat.le_of_ble_eq_true rfl) rfl ?_
  refine ww_aload_n 1 dX1_checksum_5 rfl ?_
  refine cr_pi (cr_V (ct_X1_share hG hC) sv_X1_273 rfl dX1_checksum_6 hx rfl rfl rfl rfl ⟨Nat.le_of_ble_eq_true rfl, Nat.le_of_ble_eq_true rfl⟩ (Nat.le_of_ble_eq_true rfl) (by dsimp only [mmc, MX1_checksum, MX1_election, MX1_share] <;> omega) (by dsimp only [mms, MX1_checksum, MX1_election, MX1_share] <;> omega)) ?_
  refine ww_i2l dX1_checksum_9 (by have := hok.2.2.2.2.2.2.2.2.2; exact inI.mk (by omega) (by omega)) ?_
  refine ww_lstore_n [(2, _), (1, _), (0, _)] dX1_checksum_10 (Nat.le_of_ble_eq_true rfl) rfl ?_
  refine ww_iconst dX1_checksum_11 ?_
  refine ww_istore [(4, _), (2, _), (1, _), (0, _)] dX1_checksum_12 (Nat.le_of_ble_eq_true rfl) rfl ?_
  have loop_14 : ∀ (f : Nat) (j : Nat) (hx9 : AH), (Ex h hx9) → (Ex h_1 hx9) → (j ≤ cur.lb.length) → (cur.lb.length - j < f) → WW G E (MX1_checksum 1700 52000 1300 11400) hx9 (241 + 132 * j) (848 + 1308 * j) 14 [(0, .ref x), (1, .ref e), (2, .long (lI (hK3 cur B5 O j cur.sh))), (4, .int (iI (j : Int)))] [] := by
    intro f
    induction f with
    | zero => intro j hx9 hE9 hEe hj hf; exact absurd hf (by omega)
    | succ f ih =>
      intro j hx9 hE9 hEe hj hf
      have hC := hC0.ex hE9
      have hx := hC.1.2
      have hE := hE0.ex hEe
      have hO := hO0.ex hEe
      have hB := hB0.ex hEe
      obtain ⟨he0, -, -, he, h1, -, -⟩ := id hE
      obtain ⟨-, -, -, hS, -, -, -, -, hL⟩ := id hC
      obtain ⟨nl, al, am, ll, w9, nxs, lx, dx, ha0, hr0, hho, ⟨⟨hA1, hZ1⟩, ⟨hA2, hB2⟩, ⟨hA3, hZ3⟩, hWt⟩, hMp, -⟩ := id hS
      refine ww_iload 3 dX1_checksum_14 rfl ?_
      refine ww_aload_n 0 dX1_checksum_16 rfl ?_
      refine cr_pi (cr_V (ct_X1_libraries hG hC) sv_X1_77 rfl dX1_checksum_17 hx rfl rfl rfl rfl ⟨Nat.le_of_ble_eq_true rfl, Nat.le_of_ble_eq_true rfl⟩ (Nat.le_of_ble_eq_true rfl) (by dsimp only [mmc, MX1_checksum, MX1_election, MX1_share, MX1_libraries] <;> omega) (by dsimp only [mms, MX1_checksum, MX1_election, MX1_share, MX1_libraries] <;> omega)) ?_
      refine ww_icmp_ge 198 dX1_checksum_20 (by decide) (inI.mk (by omega) (by omega)) (inI.mk (by omega) (by omega)) (fun c_20 => ?_) (fun c_20 => ?_)
      · have ej : j = cur.lb.length := by omega
        refine ww_lload_n 2 dX1_checksum_198 rfl ?_
        exact ww_lret hQ dX1_checksum_199 rfl (by show 241 + 132 * j + 0 ≤ 1300; omega) (by show 848 + 1308 * j + 0 ≤ 11400; omega) ⟨_, rfl, ⟨W, Wi, T, O, V, S, B5, hq, by rw [ej]⟩, hE9⟩
      · refine ww_aload_n 0 dX1_checksum_23 rfl ?_
        refine ww_getf gf_X1_56 rfl dX1_checksum_24 hx rfl ?_
        refine ww_getf gf_X1_84 rfl dX1_checksum_27 hho rfl ?_
        refine ww_iload 3 dX1_checksum_30 rfl ?_
        have hln2 := hB2.1
        have hv : cur.lb[j]? = some (cur.lb[j]'(by omega)) := List.getElem?_eq_getElem (by omega)
        generalize hve : cur.lb[j]'(by omega) = v at *
        obtain ⟨x8, hx8⟩ := gx_get (xs := lx) (i := (j : Int)) (by omega) (by omega)
        obtain ⟨ws, pl, px, hb, hsw, hpa, hpz, hkp⟩ := hB2.2 _ _ _ hx8 (by rw [Int.toNat_natCast]; exact hv)
        obtain ⟨fs9, hao⟩ := hA2.obj
        have hvj : cur.lb[((j : Nat) : Int).toNat]? = some v := by rw [Int.toNat_natCast]; exact hv
        have htr := hok.2.2.2.2.2.1 v (List.mem_of_getElem? hv)
        have hpl := hpz.len
        have hp8 := hok.2.2.2.2.2.2.1 v (List.mem_of_getElem? hv)
        have eT := hTr_at hvj
        have eK := hKp_at hvj
        have eP := prf_get hvj
        obtain ⟨fs7, hpo⟩ := hpa.obj
        have hb9 := ofd_bd (N := cur.nm.length) (of := cur.of) (k := (j : Int))
        refine cr5_pr (cr_F (ct_J3_get hG hA2 _ x8 (by omega) hx8) sf_X1_87 rfl dX1_checksum_32 hao rfl rfl rfl rfl ⟨Nat.le_of_ble_eq_true rfl, Nat.le_of_ble_eq_true rfl⟩ (Nat.le_of_ble_eq_true rfl) (by dsimp only [mmc, MX1_checksum, MX1_election, MX1_share, MX1_libraries, MJ3_get] <;> omega) (by dsimp only [mms, MX1_checksum, MX1_election, MX1_share, MX1_libraries, MJ3_get] <;> omega)) ?_
        refine ww_cast dX1_checksum_37 hb rfl q1191 rfl ?_
        refine ww_astore [(5, _), (0, _), (1, _), (2, _), (4, _)] dX1_checksum_40 (Nat.le_of_ble_eq_true rfl) rfl ?_
        refine ww_lload_n 3 dX1_checksum_42 rfl ?_
        refine ww_aload 0 dX1_checksum_43 rfl ?_
        refine ww_getf gf_X1_163 rfl dX1_checksum_45 hb rfl ?_
        rw [← eT]
        refine ww_i2l dX1_checksum_48 (by rw [eT]; exact inI.mk (by omega) (by omega)) ?_
        refine cr_pl (cr_S (ct_X1_hash hG _ _) ss_X1_275 rfl dX1_checksum_49 rfl rfl ⟨Nat.le_of_ble_eq_true rfl, Nat.le_of_ble_eq_true rfl⟩ (Nat.le_of_ble_eq_true rfl) (by dsimp only [mmc, MX1_checksum, MX1_election, MX1_share, MX1_libraries, MJ3_get, MX1_hash] <;> omega) (by dsimp only [mms, MX1_checksum, MX1_election, MX1_share, MX1_libraries, MJ3_get, MX1_hash] <;> omega)) ?_
        refine ww_aload 0 dX1_checksum_52 rfl ?_
        refine ww_getf gf_X1_165 rfl dX1_checksum_54 hb rfl ?_
        have join_65 : ∀ (kp : Int), (kp = v.2.2.1) → WW G E (MX1_checksum 1700 52000 1300 11400) hx9 (241 + 132 * j) (848 + 1308 * j) 65 [(0, .ref x), (1, .ref e), (2, .long (lI (hK3 cur B5 O j cur.sh))), (4, .int (iI (j : Int))), (5, .ref x8)] [.long (lI kp), .long (lI (31 * (hK3 cur B5 O j cur.sh) + hTr cur.lb j))] := by
          intro kp hkp9
          refine cr_pl (cr_S (ct_X1_hash hG _ _) ss_X1_275 rfl dX1_checksum_65 rfl rfl ⟨Nat.le_of_ble_eq_true rfl, Nat.le_of_ble_eq_true rfl⟩ (Nat.le_of_ble_eq_true rfl) (by dsimp only [mmc, MX1_checksum, MX1_election, MX1_share, MX1_libraries, MJ3_get, MX1_hash] <;> omega) (by dsimp only [mms, MX1_checksum, MX1_election, MX1_share, MX1_libraries, MJ3_get, MX1_hash] <;> omega)) ?_
          refine ww_aload_n 0 dX1_checksum_68 rfl ?_
          refine ww_getf gf_X1_56 rfl dX1_checksum_69 hx rfl ?_
          refine ww_iload 3 dX1_checksum_72 rfl ?_
          refine cr_pi (cr_V (ct_X2_rank hG hS (j : Int) (inI.mk (by omega) (by omega)) hok.ldi) sv_X1_169 rfl dX1_checksum_74 hho rfl rfl rfl rfl ⟨Nat.le_of_ble_eq_true rfl, Nat.le_of_ble_eq_true rfl⟩ (Nat.le_of_ble_eq_true rfl) (by dsimp only [mmc, MX1_checksum, MX1_election, MX1_share, MX1_libraries, MJ3_get, MX1_hash, MX2_rank] <;> omega) (by dsimp only [mms, MX1_checksum, MX1_election, MX1_share, MX1_libraries, MJ3_get, MX1_hash, MX2_rank] <;> omega)) ?_
          refine ww_i2l dX1_checksum_77 (fi_in (by have := hok.ld8; omega)) ?_
          refine cr_pl (cr_S (ct_X1_hash hG _ _) ss_X1_275 rfl dX1_checksum_78 rfl rfl ⟨Nat.le_of_ble_eq_true rfl, Nat.le_of_ble_eq_true rfl⟩ (Nat.le_of_ble_eq_true rfl) (by dsimp only [mmc, MX1_checksum, MX1_election, MX1_share, MX1_libraries, MJ3_get, MX1_hash, MX2_rank] <;> omega) (by dsimp only [mms, MX1_checksum, MX1_election, MX1_share, MX1_libraries, MJ3_get, MX1_hash, MX2_rank] <;> omega)) ?_
          refine ww_lstore_n [(2, _), (0, _), (1, _), (4, _), (5, _)] dX1_checksum_81 (Nat.le_of_ble_eq_true rfl) rfl ?_
          refine ww_lload_n 0 dX1_checksum_82 rfl ?_
          refine ww_aload_n 1 dX1_checksum_83 rfl ?_
          refine ww_getf gf_X1_56 rfl dX1_checksum_84 hx rfl ?_
          refine ww_iload 3 dX1_checksum_87 rfl ?_
          refine cr_i (cr_V (ct_X2_offered hG hS (j : Int) (by omega) (by omega) hok.1 (fun n => hok.ofi _ n)) sv_X1_172 rfl dX1_checksum_89 hho rfl rfl rfl rfl ⟨Nat.le_of_ble_eq_true rfl, Nat.le_of_ble_eq_true rfl⟩ (Nat.le_of_ble_eq_true rfl) (by dsimp only [mmc, MX1_checksum, MX1_election, MX1_share, MX1_libraries, MJ3_get, MX1_hash, MX2_rank, MX2_offered] <;> omega) (by dsimp only [mms, MX1_checksum, MX1_election, MX1_share, MX1_libraries, MJ3_get, MX1_hash, MX2_rank, MX2_offered] <;> omega)) (fun r_89 h_89 hp_89 => ?_)
          obtain ⟨er_89, e_89⟩ := hp_89
          subst er_89
          have hx := e_89 _ _ hx
          have hb := e_89 _ _ hb
          have he := e_89 _ _ he
          have hpa := hpa.ex e_89
          have hpo := e_89 _ _ hpo
          have h1 := e_89 _ _ h1
          refine ww_i2l dX1_checksum_92 (inI.mk (by omega) (by omega)) ?_
          refine cr_pl (cr_S (ct_X1_hash hG _ _) ss_X1_275 rfl dX1_checksum_93 rfl rfl ⟨Nat.le_of_ble_eq_true rfl, Nat.le_of_ble_eq_true rfl⟩ (Nat.le_of_ble_eq_true rfl) (by dsimp only [mmc, MX1_checksum, MX1_election, MX1_share, MX1_libraries, MJ3_get, MX1_hash, MX2_rank, MX2_offered] <;> omega) (by dsimp only [mms, MX1_checksum, MX1_election, MX1_share, MX1_libraries, MJ3_get, MX1_hash, MX2_rank, MX2_offered] <;> omega)) ?_
          refine ww_aload 4 dX1_checksum_96 rfl ?_
          refine ww_getf gf_X1_175 rfl dX1_checksum_98 hb rfl ?_
          refine cr5_pi (cr_F (ct_J3_size hG hpa) sf_X1_151 rfl dX1_checksum_101 hpo rfl rfl rfl rfl ⟨Nat.le_of_ble_eq_true rfl, Nat.le_of_ble_eq_true rfl⟩ (Nat.le_of_ble_eq_true rfl) (by dsimp only [mmc, MX1_checksum, MX1_election, MX1_share, MX1_libraries, MJ3_get, MX1_hash, MX2_rank, MX2_offered, MJ3_size] <;> omega) (by dsimp only [mms, MX1_checksum, MX1_election, MX1_share, MX1_libraries, MJ3_get, MX1_hash, MX2_rank, MX2_offered, MJ3_size] <;> omega)) ?_
          refine ww_i2l dX1_checksum_106 (inI.mk (by omega) (by omega)) ?_
          refine cr_pl (cr_S (ct_X1_hash hG _ _) ss_X1_275 rfl dX1_checksum_107 rfl rfl ⟨Nat.le_of_ble_eq_true rfl, Nat.le_of_ble_eq_true rfl⟩ (Nat.le_of_ble_eq_true rfl) (by dsimp only [mmc, MX1_checksum, MX1_election, MX1_share, MX1_libraries, MJ3_get, MX1_hash, MX2_rank, MX2_offered, MJ3_size] <;> omega) (by dsimp only [mms, MX1_checksum, MX1_election, MX1_share, MX1_libraries, MJ3_get, MX1_hash, MX2_rank, MX2_offered, MJ3_size] <;> omega)) ?_
          refine ww_aload_n 2 dX1_checksum_110 rfl ?_
          refine ww_getf gf_X1_182 rfl dX1_checksum_111 he rfl ?_
          refine ww_iload 3 dX1_checksum_114 rfl ?_
          refine ww_iald dX1_checksum_116 h1 (by omega) (by omega) (by omega) ?_
          refine ww_i2l dX1_checksum_117 (by have := hq.2.1 (j : Int); exact inI.mk (by omega) (by omega)) ?_
          refine cr_pl (cr_S (ct_X1_hash hG _ _) ss_X1_275 rfl dX1_checksum_118 rfl rfl ⟨Nat.le_of_ble_eq_true rfl, Nat.le_of_ble_eq_true rfl⟩ (Nat.le_of_ble_eq_true rfl) (by dsimp only [mmc, MX1_checksum, MX1_election, MX1_share, MX1_libraries, MJ3_get, MX1_hash, MX2_rank, MX2_offered, MJ3_size] <;> omega) (by dsimp only [mms, MX1_checksum, MX1_election, MX1_share, MX1_libraries, MJ3_get, MX1_hash, MX2_rank, MX2_offered, MJ3_size] <;> omega)) ?_
          rw [show 31 * (31 * (31 * (31 * (31 * (31 * (hK3 cur B5 O j cur.sh) + hTr cur.lb j) + kp) + fi cur.ld j) + smI cur.nm.length (fun n => bI (cur.of j n ≠ -1))) + (px.length : Int)) + W j = hK1 cur j 6 (hK3 cur B5 O j cur.sh) by rw [hK1_6, hq.1 j (by omega) (by omega), hkp9, eK, eP, hpl]]
          refine ww_lstore_n [(2, _), (0, _), (1, _), (4, _), (5, _)] dX1_checksum_121 (Nat.le_of_ble_eq_true rfl) rfl ?_
          refine ww_iconst dX1_checksum_122 ?_
          refine ww_istore [(6, _), (2, _), (0, _), (1, _), (4, _), (5, _)] dX1_checksum_123 (Nat.le_of_ble_eq_true rfl) rfl ?_
          have loop_125 : ∀ (f2 : Nat) (i : Nat) (hx9 : AH), (Ex h hx9) → (Ex h_1 hx9) → (i ≤ cur.nm.length) → (cur.nm.length - i < f2) → WW G E (MX1_checksum 1700 52000 1300 11400) hx9 (241 + 132 * j + 12 + 10 * i) (848 + 1308 * j + 24 + 107 * i) 125 [(0, .ref x), (1, .ref e), (2, .long (lI (hK2 B5 O j i (hK1 cur j 6 (hK3 cur B5 O j cur.sh))))), (4, .int (iI (j : Int))), (6, .int (iI (i : Int)))] [] := by
            intro f2
            induction f2 with
            | zero => intro i hx9 hE9 hEe hi hf2; exact absurd hf2 (by omega)
            | succ f2 if2 =>
              intro i hx9 hE9 hEe hi hf2
              have hC := hC0.ex hE9
              have hx := hC.1.2
              have hE := hE0.ex hEe
              have hO := hO0.ex hEe
              have hB := hB0.ex hEe
              obtain ⟨he0, -, -, he, h1, -, -⟩ := id hE
              obtain ⟨-, -, -, hS, -, -, -, -, hL⟩ := id hC
              obtain ⟨nl, al, am, ll, w9, nxs, lx, dx, ha0, hr0, hho, ⟨⟨hA1, hZ1⟩, ⟨hA2, hB2⟩, ⟨hA3, hZ3⟩, hWt⟩, hMp, -⟩ := id hS
              refine ww_iload 4 dX1_checksum_125 rfl ?_
              refine ww_aload_n 0 dX1_checksum_127 rfl ?_
              refine cr_pi (cr_V (ct_X1_names hG hC) sv_X1_95 rfl dX1_checksum_128 hx rfl rfl rfl rfl ⟨Nat.le_of_ble_eq_true rfl, Nat.le_of_ble_eq_true rfl⟩ (Nat.le_of_ble_eq_true rfl) (by dsimp only [mmc, MX1_checksum, MX1_election, MX1_share, MX1_libraries, MJ3_get, MX1_hash, MX2_rank, MX2_offered, MJ3_size, MX1_names] <;> omega) (by dsimp only [mms, MX1_checksum, MX1_election, MX1_share, MX1_libraries, MJ3_get, MX1_hash, MX2_rank, MX2_offered, MJ3_size, MX1_names] <;> omega)) ?_
              refine ww_icmp_ge 192 dX1_checksum_131 (by decide) (inI.mk (by omega) (by omega)) (inI.mk (by omega) (by omega)) (fun c_131 => ?_) (fun c_131 => ?_)
              · have ei : hK2 B5 O j i (hK1 cur j 6 (hK3 cur B5 O j cur.sh)) = hK3 cur B5 O (j + 1) cur.sh := by rw [show i = cur.nm.length by omega]; rfl
                refine ww_iinc (j := 3) [(4, _), (0, _), (1, _), (2, _), (6, _)] dX1_checksum_192 rfl (Nat.le_of_ble_eq_true rfl) rfl ?_
                refine ww_goto 14 dX1_checksum_195 (by decide) ?_
                refine ww_sub [1, 2, 3, 0] rfl ?_
                refine ww_widen (n' := 241 + 132 * (j + 1)) (k' := 848 + 1308 * (j + 1)) (by dsimp only [mmc, MX1_checksum, MX1_election, MX1_share, MX1_libraries, MJ3_get, MX1_hash, MX2_rank, MX2_offered, MJ3_size, MX1_names, MX9_init, MX9_go] <;> omega) (by dsimp only [mms, MX1_checksum, MX1_election, MX1_share, MX1_libraries, MJ3_get, MX1_hash, MX2_rank, MX2_offered, MJ3_size, MX1_names, MX9_init, MX9_go] <;> omega) ?_
                rw [ei]
                exact ih (j + 1) _ hE9 hEe (by omega) (by omega)
              · refine ww_lload_n 2 dX1_checksum_134 rfl ?_
                refine ww_aload_n 1 dX1_checksum_135 rfl ?_
                refine ww_getf gf_X1_279 rfl dX1_checksum_136 he rfl ?_
                refine ww_iload 3 dX1_checksum_139 rfl ?_
                refine ww_aalds dX1_checksum_141 hO.1 rfl rfl (by omega) (by omega) (by omega) rfl ?_
                refine ww_iload 4 dX1_checksum_142 rfl ?_
                refine ww_iald dX1_checksum_144 (hO.2 _ (by omega) (by omega)) (by omega) (by omega) (by omega) ?_
                refine ww_i2l dX1_checksum_145 (hq.2.2.2.1 _ _) ?_
                refine cr_pl (cr_S (ct_X1_hash hG _ _) ss_X1_275 rfl dX1_checksum_146 rfl rfl ⟨Nat.le_of_ble_eq_true rfl, Nat.le_of_ble_eq_true rfl⟩ (Nat.le_of_ble_eq_true rfl) (by dsimp only [mmc, MX1_checksum, MX1_election, MX1_share, MX1_libraries, MJ3_get, MX1_hash, MX2_rank, MX2_offered, MJ3_size, MX1_names] <;> omega) (by dsimp only [mms, MX1_checksum, MX1_election, MX1_share, MX1_libraries, MJ3_get, MX1_hash, MX2_rank, MX2_offered, MJ3_size, MX1_names] <;> omega)) ?_
                refine ww_aload_n 1 dX1_checksum_149 rfl ?_
                refine ww_getf gf_X1_213 rfl dX1_checksum_150 he rfl ?_
                refine ww_iload 3 dX1_checksum_153 rfl ?_
                refine ww_aalds dX1_checksum_155 hB.1 rfl rfl (by omega) (by omega) (by omega) rfl ?_
                refine ww_iload 4 dX1_checksum_156 rfl ?_
                refine ww_iald dX1_checksum_158 (hB.2 _ (by omega) (by omega)) (by omega) (by omega) (by omega) ?_
                refine ww_i2l dX1_checksum_159 (by have := hgB (j : Int) (i : Int) (by omega) (by omega) (by omega) (by omega); exact inI.mk (by omega) (by omega)) ?_
                refine cr_pl (cr_S (ct_X1_hash hG _ _) ss_X1_275 rfl dX1_checksum_160 rfl rfl ⟨Nat.le_of_ble_eq_true rfl, Nat.le_of_ble_eq_true rfl⟩ (Nat.le_of_ble_eq_true rfl) (by dsimp only [mmc, MX1_checksum, MX1_election, MX1_share, MX1_libraries, MJ3_get, MX1_hash, MX2_rank, MX2_offered, MJ3_size, MX1_names] <;> omega) (by dsimp only [mms, MX1_checksum, MX1_election, MX1_share, MX1_libraries, MJ3_get, MX1_hash, MX2_rank, MX2_offered, MJ3_size, MX1_names] <;> omega)) ?_
                have heb := he
                refine wx_new (fun q => (q, 10700)) nw_X1_220 rfl dX1_checksum_163 (fun q hq => ⟨hq.1, Nat.le_refl _⟩) (by dsimp only [mmc, MX1_checksum, MX1_election, MX1_share, MX1_libraries, MJ3_get, MX1_hash, MX2_rank, MX2_offered, MJ3_size, MX1_names] <;> omega) (by dsimp only [mms, MX1_checksum, MX1_election, MX1_share, MX1_libraries, MJ3_get, MX1_hash, MX2_rank, MX2_offered, MJ3_size, MX1_names] <;> omega) (fun q_163 h_163 n_163 e_163 hc => ?_)
                refine ww_dup dX1_checksum_166 rfl ?_
                refine ww_aload_n 1 dX1_checksum_167 rfl ?_
                refine cr_v (cr_I (ct_X9_init hG n_163.1 hc) si_X1_222 rfl rfl dX1_checksum_168 rfl rfl ⟨Nat.le_of_ble_eq_true rfl, Nat.le_of_ble_eq_true rfl⟩ (Nat.le_of_ble_eq_true rfl) (by dsimp only [mmc, MX1_checksum, MX1_election, MX1_share, MX1_libraries, MJ3_get, MX1_hash, MX2_rank, MX2_offered, MJ3_size, MX1_names, MX9_init] <;> omega) (by dsimp only [mms, MX1_checksum, MX1_election, MX1_share, MX1_libraries, MJ3_get, MX1_hash, MX2_rank, MX2_offered, MJ3_size, MX1_names, MX9_init] <;> omega)) (fun h_168 hp_168 => ?_)
                obtain ⟨hc, f_168⟩ := hp_168
                have E8 := f_168.nw e_163 n_163
                have hce := n_163.ne heb
                refine ww_iload 3 dX1_checksum_171 rfl ?_
                refine ww_iload 4 dX1_checksum_173 rfl ?_
                refine cr_r (cr_V (ct_X9_go hG (hE.ex E8) hq.2.1 (hO.ex E8) hq.2.2.2.1 (hB.ex E8) (ERg.bi hg h8) n_163.1 hce hc hgB hgBo hgBu hgO (j : Int) (i : Int) (by omega) (by omega) (by omega) (by omega)) sv_X1_225 rfl dX1_checksum_175 hc rfl rfl rfl rfl ⟨Nat.le_of_ble_eq_true rfl, Nat.le_of_ble_eq_true rfl⟩ (Nat.le_of_ble_eq_true rfl) (by dsimp only [mmc, MX1_checksum, MX1_election, MX1_share, MX1_libraries, MJ3_get, MX1_hash, MX2_rank, MX2_offered, MJ3_size, MX1_names, MX9_init, MX9_go] <;> omega) (by dsimp only [mms, MX1_checksum, MX1_election, MX1_share, MX1_libraries, MJ3_get, MX1_hash, MX2_rank, MX2_offered, MJ3_size, MX1_names, MX9_init, MX9_go] <;> omega)) (fun r_175 h_175 hp_175 => ?_)
                obtain ⟨er_175, hc, f_175⟩ := hp_175
                subst er_175
                have E9 : Ex hx9 h_175 := f_175.nwx E8 n_163
                refine ww_getf gf_X1_229 rfl dX1_checksum_178 hc rfl ?_
                refine ww_i2l dX1_checksum_181 (by rcases flw_rg (bd := B5) (of := O) 97 (fun _ _ => false) (j : Int) (i : Int) 0 with q | q | ⟨a9, b9, q⟩ <;> rw [q]; exact inI.mk (by decide) (by decide); exact inI.mk (by decide) (by decide); exact hq.2.2.2.1 a9 b9) ?_
                refine cr_pl (cr_S (ct_X1_hash hG _ _) ss_X1_275 rfl dX1_checksum_182 rfl rfl ⟨Nat.le_of_ble_eq_true rfl, Nat.le_of_ble_eq_true rfl⟩ (Nat.le_of_ble_eq_true rfl) (by dsimp only [mmc, MX1_checksum, MX1_election, MX1_share, MX1_libraries, MJ3_get, MX1_hash, MX2_rank, MX2_offered, MJ3_size, MX1_names, MX9_init, MX9_go] <;> omega) (by dsimp only [mms, MX1_checksum, MX1_election, MX1_share, MX1_libraries, MJ3_get, MX1_hash, MX2_rank, MX2_offered, MJ3_size, MX1_names, MX9_init, MX9_go] <;> omega)) ?_
                refine ww_lstore_n [(2, _), (0, _), (1, _), (4, _), (6, _)] dX1_checksum_185 (Nat.le_of_ble_eq_true rfl) rfl ?_
                refine ww_iinc (j := 4) [(6, _), (2, _), (0, _), (1, _), (4, _)] dX1_checksum_186 rfl (Nat.le_of_ble_eq_true rfl) rfl ?_
                refine ww_goto 125 dX1_checksum_189 (by decide) ?_
                refine ww_sub [2, 3, 1, 4, 0] rfl ?_
                refine ww_widen (n' := 241 + 132 * j + 12 + 10 * (i + 1)) (k' := 848 + 1308 * j + 24 + 107 * (i + 1)) (by dsimp only [mmc, MX1_checksum, MX1_election, MX1_share, MX1_libraries, MJ3_get, MX1_hash, MX2_rank, MX2_offered, MJ3_size, MX1_names, MX9_init, MX9_go] <;> omega) (by dsimp only [mms, MX1_checksum, MX1_election, MX1_share, MX1_libraries, MJ3_get, MX1_hash, MX2_rank, MX2_offered, MJ3_size, MX1_names, MX9_init, MX9_go] <;> omega) ?_
                exact if2 (i + 1) _ (hE9.tr E9) (hEe.tr E9) (by omega) (by omega)
          refine ww_sub [2, 3, 1, 4, 0] rfl ?_
          refine ww_widen (n' := 241 + 132 * j + 12 + 10 * 0) (k' := 848 + 1308 * j + 24 + 107 * 0) (by dsimp only [mmc, MX1_checksum, MX1_election, MX1_share, MX1_libraries, MJ3_get, MX1_hash, MX2_rank, MX2_offered, MJ3_size, MX1_names, MX9_init, MX9_go] <;> omega) (by dsimp only [mms, MX1_checksum, MX1_election, MX1_share, MX1_libraries, MJ3_get, MX1_hash, MX2_rank, MX2_offered, MJ3_size, MX1_names, MX9_init, MX9_go] <;> omega) ?_
          exact loop_125 (cur.nm.length + 1) 0 _ (hE9.tr e_89) (hEe.tr e_89) (by omega) (by omega)
        refine ww_if_eq 64 dX1_checksum_57 (by decide) (by rcases hkp with q | q <;> rw [q] <;> exact inI.mk (by decide) (by decide)) (fun c_57 => ?_) (fun c_57 => ?_)
        · refine ww_lconst 0 dX1_checksum_64 rfl ?_
          refine ww_sub [1, 2, 3, 4, 0] rfl ?_
          refine ww_widen (n' := 241 + 132 * j) (k' := 848 + 1308 * j) (by dsimp only [mmc, MX1_checksum, MX1_election, MX1_share, MX1_libraries, MJ3_get, MX1_hash, MX2_rank, MX2_offered, MJ3_size, MX1_names, MX9_init, MX9_go] <;> omega) (by dsimp only [mms, MX1_checksum, MX1_election, MX1_share, MX1_libraries, MJ3_get, MX1_hash, MX2_rank, MX2_offered, MJ3_size, MX1_names, MX9_init, MX9_go] <;> omega) ?_
          exact join_65 0 c_57.symm
        · refine ww_lconst 1 dX1_checksum_60 rfl ?_
          refine ww_goto 65 dX1_checksum_61 (by decide) ?_
          refine ww_sub [1, 2, 3, 4, 0] rfl ?_
          refine ww_widen (n' := 241 + 132 * j) (k' := 848 + 1308 * j) (by dsimp only [mmc, MX1_checksum, MX1_election, MX1_share, MX1_libraries, MJ3_get, MX1_hash, MX2_rank, MX2_offered, MJ3_size, MX1_names, MX9_init, MX9_go] <;> omega) (by dsimp only [mms, MX1_checksum, MX1_election, MX1_share, MX1_libraries, MJ3_get, MX1_hash, MX2_rank, MX2_offered, MJ3_size, MX1_names, MX9_init, MX9_go] <;> omega) ?_
          exact join_65 1 (by rcases hkp with q | q; exact absurd q c_57; exact q.symm)
  refine ww_sub [3, 2, 1, 0] rfl ?_
  refine ww_widen (n' := 241 + 132 * 0) (k' := 848 + 1308 * 0) (by dsimp only [mmc, MX1_checksum, MX1_election, MX1_share, MX1_libraries, MJ3_get, MX1_hash, MX2_rank, MX2_offered, MJ3_size, MX1_names, MX9_init, MX9_go] <;> omega) (by dsimp only [mms, MX1_checksum, MX1_election, MX1_share, MX1_libraries, MJ3_get, MX1_hash, MX2_rank, MX2_offered, MJ3_size, MX1_names, MX9_init, MX9_go] <;> omega) ?_
  exact loop_14 (cur.lb.length + 1) 0 _ e_1 Ex.rf (by omega) (by omega)
