set_option maxRecDepth 100000
set_option maxHeartbeats 4000000 in
theorem ct_X1_offer {G : GT} {h : AH} (hG : GOK G) {x bf hd a r : Nat} {xs : List Nat} {B : Int → Int} {bl eo : Int} {cur : HV} {hist : List HV} (hC : CWd G h x bf hd a r xs B bl eo cur hist) (k : Int) (hk : inI k) (n : Int) (hn : inI n) : CX G (MX1_offer 10 184 1 6) h [.ref x, .int (iI k), .int (iI n)] (pI (fun z h' => ((0 ≤ k ∧ k < (cur.lb.length : Int)) ∧ (0 ≤ n ∧ n < (cur.nm.length : Int))) ∧ (z = cur.of k n) ∧ Ex h h')) (XJ h (fun X => X = ioN ∧ ¬ ((0 ≤ k ∧ k < (cur.lb.length : Int)) ∧ (0 ≤ n ∧ n < (cur.nm.length : Int))))) := by
  refine CX.of rfl hG (Nat.le_of_ble_eq_true rfl) rfl (fun E hQ hT => ?_)
  obtain ⟨⟨hx0, hx⟩, ⟨hbf, hBr⟩, hdq, hS, hok, hI, hbl, heo, hL⟩ := id hC
  have h8 := hok.2.1
  have h12 := hok.1
  refine ww_aload_n 0 dX1_offer_0 rfl ?_
  refine ww_iload_n 1 dX1_offer_1 rfl ?_
  refine ww_iload_n 2 dX1_offer_2 rfl ?_
  rcases Classical.em ((0 ≤ k ∧ k < (cur.lb.length : Int)) ∧ (0 ≤ n ∧ n < (cur.nm.length : Int))) with hr | hr
  · refine cr_pv (cr_V (ct_X1_rbT hG hC k hk n hn hr) sv_X1_186 rfl dX1_offer_3 hx rfl rfl rfl rfl ⟨by decide, by decide⟩ (Nat.le_of_ble_eq_true rfl) (Nat.le_of_ble_eq_true rfl) (Nat.le_of_ble_eq_true rfl)) ?_
    refine ww_aload_n 0 dX1_offer_6 rfl ?_
    refine ww_getf gf_X1_56 rfl dX1_offer_7 hx rfl ?_
    refine ww_iload_n 1 dX1_offer_10 rfl ?_
    refine ww_iload_n 2 dX1_offer_11 rfl ?_
    obtain ⟨ha0, fsH, hho⟩ := hS.obj
    refine cr_i (cr_V (ct_X2_offer hG hS k n (by omega) (by omega) (by omega) (by omega)) sv_X1_189 rfl dX1_offer_12 hho rfl rfl rfl rfl ⟨by decide, by decide⟩ (Nat.le_of_ble_eq_true rfl) (Nat.le_of_ble_eq_true rfl) (Nat.le_of_ble_eq_true rfl)) (fun r_12 h_12 hp_12 => ?_)
    obtain ⟨er_12, e_12⟩ := hp_12
    subst er_12
    exact ww_x hQ (ww_iret rfl dX1_offer_15 rfl (Nat.le_of_ble_eq_true rfl) (Nat.le_of_ble_eq_true rfl) ⟨_, rfl, hr, rfl, e_12⟩)
  · refine cx_v (cx_V (ct_X1_rbF hG hC k hk n hn hr) sv_X1_186 rfl dX1_offer_3 hx rfl rfl rfl rfl ⟨by decide, by decide⟩ (Nat.le_of_ble_eq_true rfl) (Nat.le_of_ble_eq_true rfl) (Nat.le_of_ble_eq_true rfl)) (fun X_3 q_3 g_3 hx_3 => wq_out hQ hT (Nat.le_of_ble_eq_true rfl) (Nat.le_of_ble_eq_true rfl) (hx_3.go Ex.rf (fun X e => ⟨e, hr⟩))) (fun h_3 hp_3 => ?_)
    exact hp_3.elim

set_option maxHeartbeats 4000000 in
theorem ct_X1_vote {G : GT} {h : AH} (hG : GOK G) {x bf hd a r : Nat} {xs : List Nat} {B : Int → Int} {bl eo : Int} {cur : HV} {hist : List HV} (hC : CWd G h x bf hd a r xs B bl eo cur hist) (k : Int) (hk : inI k) (n : Int) (hn : inI n) : CX G (MX1_vote 1605 51445 241 848) h [.ref x, .int (iI k), .int (iI n)] (pI (fun z h' => ((0 ≤ k ∧ k < (cur.lb.length : Int)) ∧ (0 ≤ n ∧ n < (cur.nm.length : Int))) ∧ (∃ W Wi T O V S B, QE cur W Wi T O V S B ∧ z = V k n) ∧ Ex h h')) (XJ h (fun X => X = ioN ∧ ¬ ((0 ≤ k ∧ k < (cur.lb.length : Int)) ∧ (0 ≤ n ∧ n < (cur.nm.length : Int))))) := by
  refine CX.of rfl hG (Nat.le_of_ble_eq_true rfl) rfl (fun E hQ hT => ?_)
  obtain ⟨⟨hx0, hx⟩, ⟨hbf, hBr⟩, hdq, hS, hok, hI, hbl, heo, hL⟩ := id hC
  have h8 := hok.2.1
  have h12 := hok.1
  refine ww_aload_n 0 dX1_vote_0 rfl ?_
  refine ww_iload_n 1 dX1_vote_1 rfl ?_
  refine ww_iload_n 2 dX1_vote_2 rfl ?_
  rcases Classical.em ((0 ≤ k ∧ k < (cur.lb.length : Int)) ∧ (0 ≤ n ∧ n < (cur.nm.length : Int))) with hr | hr
  · refine cr_pv (cr_V (ct_X1_rbT hG hC k hk n hn hr) sv_X1_186 rfl dX1_vote_3 hx rfl rfl rfl rfl ⟨by decide, by decide⟩ (Nat.le_of_ble_eq_true rfl) (Nat.le_of_ble_eq_true rfl) (Nat.le_of_ble_eq_true rfl)) ?_
    refine ww_aload_n 0 dX1_vote_6 rfl ?_
    refine cr_r (cr_V (ct_X1_election hG hC) sv_X1_178 rfl dX1_vote_7 hx rfl rfl rfl rfl ⟨by decide, by decide⟩ (Nat.le_of_ble_eq_true rfl) (Nat.le_of_ble_eq_true rfl) (Nat.le_of_ble_eq_true rfl)) (fun r_7 h_7 hp_7 => ?_)
    obtain ⟨hEL_7, e_7, n_7⟩ := hp_7
    have hx := e_7 _ _ hx
    obtain ⟨y1, y2, y3, y4, y5, y6, y7, RO, RV, RS, RB, W, Wi, T, O, V, S, B5, ⟨hE, hO, hV, hS6, hB⟩, hq⟩ := hEL_7
    have hg := QE.rg (v := cur) hq hok
    obtain ⟨he0, -, -, he, h1, h2, h3⟩ := id hE
    obtain ⟨hgS, hgW, hgV, hgB, hgBo, hgBu, hgO⟩ := id hg
    refine ww_getf gf_X1_196 rfl dX1_vote_10 he rfl ?_
    refine ww_iload_n 1 dX1_vote_13 rfl ?_
    refine ww_aalds dX1_vote_14 hV.1 rfl rfl (by omega) (by omega) (by omega) rfl ?_
    refine ww_iload_n 2 dX1_vote_15 rfl ?_
    refine ww_iald dX1_vote_16 (hV.2 _ (by omega) (by omega)) (by omega) (by omega) (by omega) ?_
    exact ww_x hQ (ww_iret rfl dX1_vote_17 rfl (Nat.le_of_ble_eq_true rfl) (Nat.le_of_ble_eq_true rfl) ⟨_, rfl, hr, ⟨W, Wi, T, O, V, S, B5, hq, rfl⟩, e_7⟩)
  · refine cx_v (cx_V (ct_X1_rbF hG hC k hk n hn hr) sv_X1_186 rfl dX1_vote_3 hx rfl rfl rfl rfl ⟨by decide, by decide⟩ (Nat.le_of_ble_eq_true rfl) (Nat.le_of_ble_eq_true rfl) (Nat.le_of_ble_eq_true rfl)) (fun X_3 q_3 g_3 hx_3 => wq_out hQ hT (Nat.le_of_ble_eq_true rfl) (Nat.le_of_ble_eq_true rfl) (hx_3.go Ex.rf (fun X e => ⟨e, hr⟩))) (fun h_3 hp_3 => ?_)
    exact hp_3.elim

set_option maxHeartbeats 4000000 in
theorem ct_X1_binding {G : GT} {h : AH} (hG : GOK G) {x bf hd a r : Nat} {xs : List Nat} {B : Int → Int} {bl eo : Int} {cur : HV} {hist : List HV} (hC : CWd G h x bf hd a r xs B bl eo cur hist) (k : Int) (hk : inI k) (n : Int) (hn : inI n) : CX G (MX1_binding 1605 51445 241 848) h [.ref x, .int (iI k), .int (iI n)] (pI (fun z h' => ((0 ≤ k ∧ k < (cur.lb.length : Int)) ∧ (0 ≤ n ∧ n < (cur.nm.length : Int))) ∧ (∃ W Wi T O V S B, QE cur W Wi T O V S B ∧ z = B k n) ∧ Ex h h')) (XJ h (fun X => X = ioN ∧ ¬ ((0 ≤ k ∧ k < (cur.lb.length : Int)) ∧ (0 ≤ n ∧ n < (cur.nm.length : Int))))) := by
  refine CX.of rfl hG (Nat.le_of_ble_eq_true rfl) rfl (fun E hQ hT => ?_)
  obtain ⟨⟨hx0, hx⟩, ⟨hbf, hBr⟩, hdq, hS, hok, hI, hbl, heo, hL⟩ := id hC
  have h8 := hok.2.1
  have h12 := hok.1
  refine ww_aload_n 0 dX1_binding_0 rfl ?_
  refine ww_iload_n 1 dX1_binding_1 rfl ?_
  refine ww_iload_n 2 dX1_binding_2 rfl ?_
  rcases Classical.em ((0 ≤ k ∧ k < (cur.lb.length : Int)) ∧ (0 ≤ n ∧ n < (cur.nm.length : Int))) with hr | hr
  · refine cr_pv (cr_V (ct_X1_rbT hG hC k hk n hn hr) sv_X1_186 rfl dX1_binding_3 hx rfl rfl rfl rfl ⟨by decide, by decide⟩ (Nat.le_of_ble_eq_true rfl) (Nat.le_of_ble_eq_true rfl) (Nat.le_of_ble_eq_true rfl)) ?_
    refine ww_aload_n 0 dX1_binding_6 rfl ?_
    refine cr_r (cr_V (ct_X1_election hG hC) sv_X1_178 rfl dX1_binding_7 hx rfl rfl rfl rfl ⟨by decide, by decide⟩ (Nat.le_of_ble_eq_true rfl) (Nat.le_of_ble_eq_true rfl) (Nat.le_of_ble_eq_true rfl)) (fun r_7 h_7 hp_7 => ?_)
    obtain ⟨hEL_7, e_7, n_7⟩ := hp_7
    have hx := e_7 _ _ hx
    obtain ⟨y1, y2, y3, y4, y5, y6, y7, RO, RV, RS, RB, W, Wi, T, O, V, S, B5, ⟨hE, hO, hV, hS6, hB⟩, hq⟩ := hEL_7
    have hg := QE.rg (v := cur) hq hok
    obtain ⟨he0, -, -, he, h1, h2, h3⟩ := id hE
    obtain ⟨hgS, hgW, hgV, hgB, hgBo, hgBu, hgO⟩ := id hg
    refine ww_getf gf_X1_213 rfl dX1_binding_10 he rfl ?_
    refine ww_iload_n 1 dX1_binding_13 rfl ?_
    refine ww_aalds dX1_binding_14 hB.1 rfl rfl (by omega) (by omega) (by omega) rfl ?_
    refine ww_iload_n 2 dX1_binding_15 rfl ?_
    refine ww_iald dX1_binding_16 (hB.2 _ (by omega) (by omega)) (by omega) (by omega) (by omega) ?_
    exact ww_x hQ (ww_iret rfl dX1_binding_17 rfl (Nat.le_of_ble_eq_true rfl) (Nat.le_of_ble_eq_true rfl) ⟨_, rfl, hr, ⟨W, Wi, T, O, V, S, B5, hq, rfl⟩, e_7⟩)
  · refine cx_v (cx_V (ct_X1_rbF hG hC k hk n hn hr) sv_X1_186 rfl dX1_binding_3 hx rfl rfl rfl rfl ⟨by decide, by decide⟩ (Nat.le_of_ble_eq_true rfl) (Nat.le_of_ble_eq_true rfl) (Nat.le_of_ble_eq_true rfl)) (fun X_3 q_3 g_3 hx_3 => wq_out hQ hT (Nat.le_of_ble_eq_true rfl) (Nat.le_of_ble_eq_true rfl) (hx_3.go Ex.rf (fun X e => ⟨e, hr⟩))) (fun h_3 hp_3 => ?_)
    exact hp_3.elim

set_option maxHeartbeats 4000000 in
theorem ct_X1_support {G : GT} {h : AH} (hG : GOK G) {x bf hd a r : Nat} {xs : List Nat} {B : Int → Int} {bl eo : Int} {cur : HV} {hist : List HV} (hC : CWd G h x bf hd a r xs B bl eo cur hist) (k : Int) (hk : inI k) (n : Int) (hn : inI n) : CX G (MX1_support 1605 51445 241 848) h [.ref x, .int (iI k), .int (iI n)] (pI (fun z h' => ((0 ≤ k ∧ k < (cur.lb.length : Int)) ∧ (0 ≤ n ∧ n < (cur.nm.length : Int))) ∧ (∃ W Wi T O V S B, QE cur W Wi T O V S B ∧ z = if W k ≠ -1 ∧ O k n ≠ -1 then S k n else -1) ∧ Ex h h')) (XJ h (fun X => X = ioN ∧ ¬ ((0 ≤ k ∧ k < (cur.lb.length : Int)) ∧ (0 ≤ n ∧ n < (cur.nm.length : Int))))) := by
  refine CX.of rfl hG (Nat.le_of_ble_eq_true rfl) rfl (fun E hQ hT => ?_)
  obtain ⟨⟨hx0, hx⟩, ⟨hbf, hBr⟩, hdq, hS, hok, hI, hbl, heo, hL⟩ := id hC
  have h8 := hok.2.1
  have h12 := hok.1
  refine ww_aload_n 0 dX1_support_0 rfl ?_
  refine ww_iload_n 1 dX1_support_1 rfl ?_
  refine ww_iload_n 2 dX1_support_2 rfl ?_
  rcases Classical.em ((0 ≤ k ∧ k < (cur.lb.length : Int)) ∧ (0 ≤ n ∧ n < (cur.nm.length : Int))) with hr | hr
  · refine cr_pv (cr_V (ct_X1_rbT hG hC k hk n hn hr) sv_X1_186 rfl dX1_support_3 hx rfl rfl rfl rfl ⟨by decide, by decide⟩ (Nat.le_of_ble_eq_true rfl) (Nat.le_of_ble_eq_true rfl) (Nat.le_of_ble_eq_true rfl)) ?_
    refine ww_aload_n 0 dX1_support_6 rfl ?_
    refine cr_r (cr_V (ct_X1_election hG hC) sv_X1_178 rfl dX1_support_7 hx rfl rfl rfl rfl ⟨by decide, by decide⟩ (Nat.le_of_ble_eq_true rfl) (Nat.le_of_ble_eq_true rfl) (Nat.le_of_ble_eq_true rfl)) (fun r_7 h_7 hp_7 => ?_)
    obtain ⟨hEL_7, e_7, n_7⟩ := hp_7
    have hx := e_7 _ _ hx
    obtain ⟨y1, y2, y3, y4, y5, y6, y7, RO, RV, RS, RB, W, Wi, T, O, V, S, B5, ⟨hE, hO, hV, hS6, hB⟩, hq⟩ := hEL_7
    have hg := QE.rg (v := cur) hq hok
    obtain ⟨he0, -, -, he, h1, h2, h3⟩ := id hE
    obtain ⟨hgS, hgW, hgV, hgB, hgBo, hgBu, hgO⟩ := id hg
    refine ww_astore_n [(3, _), (0, _), (1, _), (2, _)] dX1_support_10 (by decide) rfl ?_
    refine ww_aload_n 0 dX1_support_11 rfl ?_
    refine ww_iload_n 2 dX1_support_12 rfl ?_
    refine ww_iload_n 3 dX1_support_13 rfl ?_
    refine cr_pi (cr_V (ct_X8_isCandidate hG hE hq.2.1 hO hq.2.2.2.1 k n hr.1.1 hr.1.2 hr.2.1 hr.2.2) sv_X1_200 rfl dX1_support_14 he rfl rfl rfl rfl ⟨by decide, by decide⟩ (Nat.le_of_ble_eq_true rfl) (Nat.le_of_ble_eq_true rfl) (Nat.le_of_ble_eq_true rfl)) ?_
    refine ww_ifb_eq 31 dX1_support_17 (by decide) (fun c_17 => ?_) (fun c_17 => ?_)
    · refine ww_iconst dX1_support_31 ?_
      exact ww_x hQ (ww_iret rfl dX1_support_32 rfl (Nat.le_of_ble_eq_true rfl) (Nat.le_of_ble_eq_true rfl) ⟨_, rfl, hr, ⟨W, Wi, T, O, V, S, B5, hq, (if_neg c_17).symm⟩, e_7⟩)
    · refine ww_aload_n 0 dX1_support_20 rfl ?_
      refine ww_getf gf_X1_204 rfl dX1_support_21 he rfl ?_
      refine ww_iload_n 2 dX1_support_24 rfl ?_
      refine ww_aalds dX1_support_25 hS6.1 rfl rfl (by omega) (by omega) (by omega) rfl ?_
      refine ww_iload_n 3 dX1_support_26 rfl ?_
      refine ww_iald dX1_support_27 (hS6.2 _ (by omega) (by omega)) (by omega) (by omega) (by omega) ?_
      refine ww_goto 32 dX1_support_28 (by decide) ?_
      exact ww_x hQ (ww_iret rfl dX1_support_32 rfl (Nat.le_of_ble_eq_true rfl) (Nat.le_of_ble_eq_true rfl) ⟨_, rfl, hr, ⟨W, Wi, T, O, V, S, B5, hq, (if_pos c_17).symm⟩, e_7⟩)
  · refine cx_v (cx_V (ct_X1_rbF hG hC k hk n hn hr) sv_X1_186 rfl dX1_support_3 hx rfl rfl rfl rfl ⟨by decide, by decide⟩ (Nat.le_of_ble_eq_true rfl) (Nat.le_of_ble_eq_true rfl) (Nat.le_of_ble_eq_true rfl)) (fun X_3 q_3 g_3 hx_3 => wq_out hQ hT (Nat.le_of_ble_eq_true rfl) (Nat.le_of_ble_eq_true rfl) (hx_3.go Ex.rf (fun X e => ⟨e, hr⟩))) (fun h_3 hp_3 => ?_)
    exact hp_3.elim

set_option maxHeartbeats 4000000 in
theorem ct_X1_winner {G : GT} {h : AH} (hG : GOK G) {x bf hd a r : Nat} {xs : List Nat} {B : Int → Int} {bl eo : Int} {cur : HV} {hist : List HV} (hC : CWd G h x bf hd a r xs B bl eo cur hist) (n : Int) (hn : inI n) : CX G (MX1_winner 1605 51445 241 848) h [.ref x, .int (iI n)] (pI (fun z h' => (0 ≤ n ∧ n < (cur.nm.length : Int)) ∧ (∃ W Wi T O V S B, QE cur W Wi T O V S B ∧ z = Wi n) ∧ Ex h h')) (XJ h (fun X => X = ioN ∧ ¬ (0 ≤ n ∧ n < (cur.nm.length : Int)))) := by
  refine CX.of rfl hG (Nat.le_of_ble_eq_true rfl) rfl (fun E hQ hT => ?_)
  obtain ⟨⟨hx0, hx⟩, ⟨hbf, hBr⟩, hdq, hS, hok, hI, hbl, heo, hL⟩ := id hC
  have h8 := hok.2.1
  have h12 := hok.1
  refine ww_aload_n 0 dX1_winner_0 rfl ?_
  refine ww_iload_n 1 dX1_winner_1 rfl ?_
  rcases Classical.em (0 ≤ n ∧ n < (cur.nm.length : Int)) with hr | hr
  · refine cr_pv (cr_V (ct_X1_rnT hG hC n hn hr) sv_X1_98 rfl dX1_winner_2 hx rfl rfl rfl rfl ⟨by decide, by decide⟩ (Nat.le_of_ble_eq_true rfl) (Nat.le_of_ble_eq_true rfl) (Nat.le_of_ble_eq_true rfl)) ?_
    refine ww_aload_n 0 dX1_winner_5 rfl ?_
    refine cr_r (cr_V (ct_X1_election hG hC) sv_X1_178 rfl dX1_winner_6 hx rfl rfl rfl rfl ⟨by decide, by decide⟩ (Nat.le_of_ble_eq_true rfl) (Nat.le_of_ble_eq_true rfl) (Nat.le_of_ble_eq_true rfl)) (fun r_6 h_6 hp_6 => ?_)
    obtain ⟨hEL_6, e_6, n_6⟩ := hp_6
    have hx := e_6 _ _ hx
    obtain ⟨y1, y2, y3, y4, y5, y6, y7, RO, RV, RS, RB, W, Wi, T, O, V, S, B5, ⟨hE, hO, hV, hS6, hB⟩, hq⟩ := hEL_6
    have hg := QE.rg (v := cur) hq hok
    obtain ⟨he0, -, -, he, h1, h2, h3⟩ := id hE
    obtain ⟨hgS, hgW, hgV, hgB, hgBo, hgBu, hgO⟩ := id hg
    refine ww_getf gf_X1_207 rfl dX1_winner_9 he rfl ?_
    refine ww_iload_n 1 dX1_winner_12 rfl ?_
    refine ww_iald dX1_winner_13 h2 (by omega) (by omega) (by omega) ?_
    exact ww_x hQ (ww_iret rfl dX1_winner_14 rfl (Nat.le_of_ble_eq_true rfl) (Nat.le_of_ble_eq_true rfl) ⟨_, rfl, hr, ⟨W, Wi, T, O, V, S, B5, hq, rfl⟩, e_6⟩)
  · refine cx_v (cx_V (ct_X1_rnF hG hC n hn hr) sv_X1_98 rfl dX1_winner_2 hx rfl rfl rfl rfl ⟨by decide, by decide⟩ (Nat.le_of_ble_eq_true rfl) (Nat.le_of_ble_eq_true rfl) (Nat.le_of_ble_eq_true rfl)) (fun X_2 q_2 g_2 hx_2 => wq_out hQ hT (Nat.le_of_ble_eq_true rfl) (Nat.le_of_ble_eq_true rfl) (hx_2.go Ex.rf (fun X e => ⟨e, hr⟩))) (fun h_2 hp_2 => ?_)
    exact hp_2.elim

set_option maxHeartbeats 4000000 in
theorem ct_X1_candidates {G : GT} {h : AH} (hG : GOK G) {x bf hd a r : Nat} {xs : List Nat} {B : Int → Int} {bl eo : Int} {cur : HV} {hist : List HV} (hC : CWd G h x bf hd a r xs B bl eo cur hist) (n : Int) (hn : inI n) : CX G (MX1_candidates 1605 51445 241 848) h [.ref x, .int (iI n)] (pI (fun z h' => (0 ≤ n ∧ n < (cur.nm.length : Int)) ∧ (∃ W Wi T O V S B, QE cur W Wi T O V S B ∧ z = smI (cur.lb.length : Int) (fun k => bI (W k ≠ -1 ∧ O k n ≠ -1))) ∧ Ex h h')) (XJ h (fun X => X = ioN ∧ ¬ (0 ≤ n ∧ n < (cur.nm.length : Int)))) := by
  refine CX.of rfl hG (Nat.le_of_ble_eq_true rfl) rfl (fun E hQ hT => ?_)
  obtain ⟨⟨hx0, hx⟩, ⟨hbf, hBr⟩, hdq, hS, hok, hI, hbl, heo, hL⟩ := id hC
  have h8 := hok.2.1
  have h12 := hok.1
  refine ww_aload_n 0 dX1_candidates_0 rfl ?_
  refine ww_iload_n 1 dX1_candidates_1 rfl ?_
  rcases Classical.em (0 ≤ n ∧ n < (cur.nm.length : Int)) with hr | hr
  · refine cr_pv (cr_V (ct_X1_rnT hG hC n hn hr) sv_X1_98 rfl dX1_candidates_2 hx rfl rfl rfl rfl ⟨by decide, by decide⟩ (Nat.le_of_ble_eq_true rfl) (Nat.le_of_ble_eq_true rfl) (Nat.le_of_ble_eq_true rfl)) ?_
    refine ww_aload_n 0 dX1_candidates_5 rfl ?_
    refine cr_r (cr_V (ct_X1_election hG hC) sv_X1_178 rfl dX1_candidates_6 hx rfl rfl rfl rfl ⟨by decide, by decide⟩ (Nat.le_of_ble_eq_true rfl) (Nat.le_of_ble_eq_true rfl) (Nat.le_of_ble_eq_true rfl)) (fun r_6 h_6 hp_6 => ?_)
    obtain ⟨hEL_6, e_6, n_6⟩ := hp_6
    have hx := e_6 _ _ hx
    obtain ⟨y1, y2, y3, y4, y5, y6, y7, RO, RV, RS, RB, W, Wi, T, O, V, S, B5, ⟨hE, hO, hV, hS6, hB⟩, hq⟩ := hEL_6
    have hg := QE.rg (v := cur) hq hok
    obtain ⟨he0, -, -, he, h1, h2, h3⟩ := id hE
    obtain ⟨hgS, hgW, hgV, hgB, hgBo, hgBu, hgO⟩ := id hg
    refine ww_iload_n 1 dX1_candidates_9 rfl ?_
    refine cr_pi (cr_V (ct_X8_candidates hG hE hq.2.1 hO hq.2.2.2.1 n hr.1 hr.2) sv_X1_193 rfl dX1_candidates_10 he rfl rfl rfl rfl ⟨by decide, by decide⟩ (Nat.le_of_ble_eq_true rfl) (Nat.le_of_ble_eq_true rfl) (Nat.le_of_ble_eq_true rfl)) ?_
    exact ww_x hQ (ww_iret rfl dX1_candidates_13 rfl (Nat.le_of_ble_eq_true rfl) (Nat.le_of_ble_eq_true rfl) ⟨_, rfl, hr, ⟨W, Wi, T, O, V, S, B5, hq, rfl⟩, e_6⟩)
  · refine cx_v (cx_V (ct_X1_rnF hG hC n hn hr) sv_X1_98 rfl dX1_candidates_2 hx rfl rfl rfl rfl ⟨by decide, by decide⟩ (Nat.le_of_ble_eq_true rfl) (Nat.le_of_ble_eq_true rfl) (Nat.le_of_ble_eq_true rfl)) (fun X_2 q_2 g_2 hx_2 => wq_out hQ hT (Nat.le_of_ble_eq_true rfl) (Nat.le_of_ble_eq_true rfl) (hx_2.go Ex.rf (fun X e => ⟨e, hr⟩))) (fun h_2 hp_2 => ?_)
    exact hp_2.elim

set_option maxHeartbeats 4000000 in
theorem ct_X1_margin {G : GT} {h : AH} (hG : GOK G) {x bf hd a r : Nat} {xs : List Nat} {B : Int → Int} {bl eo : Int} {cur : HV} {hist : List HV} (hC : CWd G h x bf hd a r xs B bl eo cur hist) (n : Int) (hn : inI n) : CX G (MX1_margin 1605 51445 241 848) h [.ref x, .int (iI n)] (pI (fun z h' => (0 ≤ n ∧ n < (cur.nm.length : Int)) ∧ (∃ W Wi T O V S B, QE cur W Wi T O V S B ∧ z = if Wi n = -1 then -1 else S (Wi n) n - hMx (fun k => hCd W O k n) (fun c => S c n) (Wi n) cur.lb.length) ∧ Ex h h')) (XJ h (fun X => X = ioN ∧ ¬ (0 ≤ n ∧ n < (cur.nm.length : Int)))) := by
  refine CX.of rfl hG (Nat.le_of_ble_eq_true rfl) rfl (fun E hQ hT => ?_)
  obtain ⟨⟨hx0, hx⟩, ⟨hbf, hBr⟩, hdq, hS, hok, hI, hbl, heo, hL⟩ := id hC
  have h8 := hok.2.1
  have h12 := hok.1
  refine ww_aload_n 0 dX1_margin_0 rfl ?_
  refine ww_iload_n 1 dX1_margin_1 rfl ?_
  rcases Classical.em (0 ≤ n ∧ n < (cur.nm.length : Int)) with hr | hr
  · refine cr_pv (cr_V (ct_X1_rnT hG hC n hn hr) sv_X1_98 rfl dX1_margin_2 hx rfl rfl rfl rfl ⟨by decide, by decide⟩ (Nat.le_of_ble_eq_true rfl) (Nat.le_of_ble_eq_true rfl) (Nat.le_of_ble_eq_true rfl)) ?_
    refine ww_aload_n 0 dX1_margin_5 rfl ?_
    refine cr_r (cr_V (ct_X1_election hG hC) sv_X1_178 rfl dX1_margin_6 hx rfl rfl rfl rfl ⟨by decide, by decide⟩ (Nat.le_of_ble_eq_true rfl) (Nat.le_of_ble_eq_true rfl) (Nat.le_of_ble_eq_true rfl)) (fun r_6 h_6 hp_6 => ?_)
    obtain ⟨hEL_6, e_6, n_6⟩ := hp_6
    have hx := e_6 _ _ hx
    obtain ⟨y1, y2, y3, y4, y5, y6, y7, RO, RV, RS, RB, W, Wi, T, O, V, S, B5, ⟨hE, hO, hV, hS6, hB⟩, hq⟩ := hEL_6
    have hg := QE.rg (v := cur) hq hok
    obtain ⟨he0, -, -, he, h1, h2, h3⟩ := id hE
    obtain ⟨hgS, hgW, hgV, hgB, hgBo, hgBu, hgO⟩ := id hg
    refine ww_iload_n 1 dX1_margin_9 rfl ?_
    refine cr_pi (cr_V (ct_X8_margin hG hE hq.2.1 hO hq.2.2.2.1 hS6 hgS n hr.1 hr.2 (hgW n hr.1 hr.2)) sv_X1_210 rfl dX1_margin_10 he rfl rfl rfl rfl ⟨by decide, by decide⟩ (Nat.le_of_ble_eq_true rfl) (Nat.le_of_ble_eq_true rfl) (Nat.le_of_ble_eq_true rfl)) ?_
    exact ww_x hQ (ww_iret rfl dX1_margin_13 rfl (Nat.le_of_ble_eq_true rfl) (Nat.le_of_ble_eq_true rfl) ⟨_, rfl, hr, ⟨W, Wi, T, O, V, S, B5, hq, rfl⟩, e_6⟩)
  · refine cx_v (cx_V (ct_X1_rnF hG hC n hn hr) sv_X1_98 rfl dX1_margin_2 hx rfl rfl rfl rfl ⟨by decide, by decide⟩ (Nat.le_of_ble_eq_true rfl) (Nat.le_of_ble_eq_true rfl) (Nat.le_of_ble_eq_true rfl)) (fun X_2 q_2 g_2 hx_2 => wq_out hQ hT (Nat.le_of_ble_eq_true rfl) (Nat.le_of_ble_eq_true rfl) (hx_2.go Ex.rf (fun X e => ⟨e, hr⟩))) (fun h_2 hp_2 => ?_)
    exact hp_2.elim

set_option maxHeartbeats 4000000 in
theorem ct_X1_minority {G : GT} {h : AH} (hG : GOK G) {x bf hd a r : Nat} {xs : List Nat} {B : Int → Int} {bl eo : Int} {cur : HV} {hist : List HV} (hC : CWd G h x bf hd a r xs B bl eo cur hist) (n : Int) (hn : inI n) : CX G (MX1_minority 1605 51445 241 848) h [.ref x, .int (iI n)] (pI (fun z h' => (0 ≤ n ∧ n < (cur.nm.length : Int)) ∧ (∃ W Wi T O V S B, QE cur W Wi T O V S B ∧ z = smI (cur.lb.length : Int) (fun k => bI (W k ≠ -1 ∧ (B k n = Wi n ↔ (0 : Int) = 1)))) ∧ Ex h h')) (XJ h (fun X => X = ioN ∧ ¬ (0 ≤ n ∧ n < (cur.nm.length : Int)))) := by
  refine CX.of rfl hG (Nat.le_of_ble_eq_true rfl) rfl (fun E hQ hT => ?_)
  obtain ⟨⟨hx0, hx⟩, ⟨hbf, hBr⟩, hdq, hS, hok, hI, hbl, heo, hL⟩ := id hC
  have h8 := hok.2.1
  have h12 := hok.1
  refine ww_aload_n 0 dX1_minority_0 rfl ?_
  refine ww_iload_n 1 dX1_minority_1 rfl ?_
  rcases Classical.em (0 ≤ n ∧ n < (cur.nm.length : Int)) with hr | hr
  · refine cr_pv (cr_V (ct_X1_rnT hG hC n hn hr) sv_X1_98 rfl dX1_minority_2 hx rfl rfl rfl rfl ⟨by decide, by decide⟩ (Nat.le_of_ble_eq_true rfl) (Nat.le_of_ble_eq_true rfl) (Nat.le_of_ble_eq_true rfl)) ?_
    refine ww_aload_n 0 dX1_minority_5 rfl ?_
    refine cr_r (cr_V (ct_X1_election hG hC) sv_X1_178 rfl dX1_minority_6 hx rfl rfl rfl rfl ⟨by decide, by decide⟩ (Nat.le_of_ble_eq_true rfl) (Nat.le_of_ble_eq_true rfl) (Nat.le_of_ble_eq_true rfl)) (fun r_6 h_6 hp_6 => ?_)
    obtain ⟨hEL_6, e_6, n_6⟩ := hp_6
    have hx := e_6 _ _ hx
    obtain ⟨y1, y2, y3, y4, y5, y6, y7, RO, RV, RS, RB, W, Wi, T, O, V, S, B5, ⟨hE, hO, hV, hS6, hB⟩, hq⟩ := hEL_6
    have hg := QE.rg (v := cur) hq hok
    obtain ⟨he0, -, -, he, h1, h2, h3⟩ := id hE
    obtain ⟨hgS, hgW, hgV, hgB, hgBo, hgBu, hgO⟩ := id hg
    refine ww_astore_n [(2, _), (0, _), (1, _)] dX1_minority_9 (by decide) rfl ?_
    refine ww_aload_n 0 dX1_minority_10 rfl ?_
    refine ww_iload_n 2 dX1_minority_11 rfl ?_
    refine ww_aload_n 0 dX1_minority_12 rfl ?_
    refine ww_getf gf_X1_207 rfl dX1_minority_13 he rfl ?_
    refine ww_iload_n 2 dX1_minority_16 rfl ?_
    refine ww_iald dX1_minority_17 h2 (by omega) (by omega) (by omega) ?_
    refine ww_iconst dX1_minority_18 ?_
    refine cr_pi (cr_V (ct_X8_bound_2 hG hE hq.2.1 hB (fun k n k0 k1 n0 n1 => by have := hgB k n k0 k1 n0 n1; exact inI.mk (by omega) (by omega)) n (Wi n) 0 hr.1 hr.2 (by have := hgW n hr.1 hr.2; exact inI.mk (by omega) (by omega)) (Or.inl rfl)) sv_X1_216 rfl dX1_minority_19 he rfl rfl rfl rfl ⟨by decide, by decide⟩ (Nat.le_of_ble_eq_true rfl) (Nat.le_of_ble_eq_true rfl) (Nat.le_of_ble_eq_true rfl)) ?_
    exact ww_x hQ (ww_iret rfl dX1_minority_22 rfl (Nat.le_of_ble_eq_true rfl) (Nat.le_of_ble_eq_true rfl) ⟨_, rfl, hr, ⟨W, Wi, T, O, V, S, B5, hq, rfl⟩, e_6⟩)
  · refine cx_v (cx_V (ct_X1_rnF hG hC n hn hr) sv_X1_98 rfl dX1_minority_2 hx rfl rfl rfl rfl ⟨by decide, by decide⟩ (Nat.le_of_ble_eq_true rfl) (Nat.le_of_ble_eq_true rfl) (Nat.le_of_ble_eq_true rfl)) (fun X_2 q_2 g_2 hx_2 => wq_out hQ hT (Nat.le_of_ble_eq_true rfl) (Nat.le_of_ble_eq_true rfl) (hx_2.go Ex.rf (fun X e => ⟨e, hr⟩))) (fun h_2 hp_2 => ?_)
    exact hp_2.elim

set_option maxHeartbeats 4000000 in
theorem ct_X1_users {G : GT} {h : AH} (hG : GOK G) {x bf hd a r : Nat} {xs : List Nat} {B : Int → Int} {bl eo : Int} {cur : HV} {hist : List HV} (hC : CWd G h x bf hd a r xs B bl eo cur hist) (k : Int) (hk : inI k) (n : Int) (hn : inI n) : CX G (MX1_users 1605 51445 241 848) h [.ref x, .int (iI k), .int (iI n)] (pI (fun z h' => ((0 ≤ k ∧ k < (cur.lb.length : Int)) ∧ (0 ≤ n ∧ n < (cur.nm.length : Int))) ∧ (∃ W Wi T O V S B, QE cur W Wi T O V S B ∧ z = smI (cur.lb.length : Int) (fun k9 => bI (W k9 ≠ -1 ∧ (B k9 n = k ↔ (1 : Int) = 1)))) ∧ Ex h h')) (XJ h (fun X => X = ioN ∧ ¬ ((0 ≤ k ∧ k < (cur.lb.length : Int)) ∧ (0 ≤ n ∧ n < (cur.nm.length : Int))))) := by
  refine CX.of rfl hG (Nat.le_of_ble_eq_true rfl) rfl (fun E hQ hT => ?_)
  obtain ⟨⟨hx0, hx⟩, ⟨hbf, hBr⟩, hdq, hS, hok, hI, hbl, heo, hL⟩ := id hC
  have h8 := hok.2.1
  have h12 := hok.1
  refine ww_aload_n 0 dX1_users_0 rfl ?_
  refine ww_iload_n 1 dX1_users_1 rfl ?_
  refine ww_iload_n 2 dX1_users_2 rfl ?_
  rcases Classical.em ((0 ≤ k ∧ k < (cur.lb.length : Int)) ∧ (0 ≤ n ∧ n < (cur.nm.length : Int))) with hr | hr
  · refine cr_pv (cr_V (ct_X1_rbT hG hC k hk n hn hr) sv_X1_186 rfl dX1_users_3 hx rfl rfl rfl rfl ⟨by decide, by decide⟩ (Nat.le_of_ble_eq_true rfl) (Nat.le_of_ble_eq_true rfl) (Nat.le_of_ble_eq_true rfl)) ?_
    refine ww_aload_n 0 dX1_users_6 rfl ?_
    refine cr_r (cr_V (ct_X1_election hG hC) sv_X1_178 rfl dX1_users_7 hx rfl rfl rfl rfl ⟨by decide, by decide⟩ (Nat.le_of_ble_eq_true rfl) (Nat.le_of_ble_eq_true rfl) (Nat.le_of_ble_eq_true rfl)) (fun r_7 h_7 hp_7 => ?_)
    obtain ⟨hEL_7, e_7, n_7⟩ := hp_7
    have hx := e_7 _ _ hx
    obtain ⟨y1, y2, y3, y4, y5, y6, y7, RO, RV, RS, RB, W, Wi, T, O, V, S, B5, ⟨hE, hO, hV, hS6, hB⟩, hq⟩ := hEL_7
    have hg := QE.rg (v := cur) hq hok
    obtain ⟨he0, -, -, he, h1, h2, h3⟩ := id hE
    obtain ⟨hgS, hgW, hgV, hgB, hgBo, hgBu, hgO⟩ := id hg
    refine ww_iload_n 2 dX1_users_10 rfl ?_
    refine ww_iload_n 1 dX1_users_11 rfl ?_
    refine ww_iconst dX1_users_12 ?_
    refine cr_pi (cr_V (ct_X8_bound_2 hG hE hq.2.1 hB (fun k n k0 k1 n0 n1 => by have := hgB k n k0 k1 n0 n1; exact inI.mk (by omega) (by omega)) n k 1 hr.2.1 hr.2.2 hk (Or.inr rfl)) sv_X1_216 rfl dX1_users_13 he rfl rfl rfl rfl ⟨by decide, by decide⟩ (Nat.le_of_ble_eq_true rfl) (Nat.le_of_ble_eq_true rfl) (Nat.le_of_ble_eq_true rfl)) ?_
    exact ww_x hQ (ww_iret rfl dX1_users_16 rfl (Nat.le_of_ble_eq_true rfl) (Nat.le_of_ble_eq_true rfl) ⟨_, rfl, hr, ⟨W, Wi, T, O, V, S, B5, hq, rfl⟩, e_7⟩)
  · refine cx_v (cx_V (ct_X1_rbF hG hC k hk n hn hr) sv_X1_186 rfl dX1_users_3 hx rfl rfl rfl rfl ⟨by decide, by decide⟩ (Nat.le_of_ble_eq_true rfl) (Nat.le_of_ble_eq_true rfl) (Nat.le_of_ble_eq_true rfl)) (fun X_3 q_3 g_3 hx_3 => wq_out hQ hT (Nat.le_of_ble_eq_true rfl) (Nat.le_of_ble_eq_true rfl) (hx_3.go Ex.rf (fun X e => ⟨e, hr⟩))) (fun h_3 hp_3 => ?_)
    exact hp_3.elim

set_option maxHeartbeats 4000000 in
theorem ct_X1_call {G : GT} {h : AH} (hG : GOK G) {x bf hd a r : Nat} {xs : List Nat} {B : Int → Int} {bl eo : Int} {cur : HV} {hist : List HV} (hC : CWd G h x bf hd a r xs B bl eo cur hist) (k : Int) (hk : inI k) (n : Int) (hn : inI n) : CX G (MX1_call 1605 51445 251 955) h [.ref x, .int (iI k), .int (iI n)] (pI (fun z h' => ((0 ≤ k ∧ k < (cur.lb.length : Int)) ∧ (0 ≤ n ∧ n < (cur.nm.length : Int))) ∧ (∃ W Wi T O V S B, QE cur W Wi T O V S B ∧ z = (flw 97 B O (fun _ _ => false) k n 0).1) ∧ Ex h h')) (XJ h (fun X => X = ioN ∧ ¬ ((0 ≤ k ∧ k < (cur.lb.length : Int)) ∧ (0 ≤ n ∧ n < (cur.nm.length : Int))))) := by
  refine CX.of rfl hG (Nat.le_of_ble_eq_true rfl) rfl (fun E hQ hT => ?_)
  obtain ⟨⟨hx0, hx⟩, ⟨hbf, hBr⟩, hdq, hS, hok, hI, hbl, heo, hL⟩ := id hC
  have h8 := hok.2.1
  have h12 := hok.1
  refine ww_aload_n 0 dX1_call_0 rfl ?_
  refine ww_iload_n 1 dX1_call_1 rfl ?_
  refine ww_iload_n 2 dX1_call_2 rfl ?_
  rcases Classical.em ((0 ≤ k ∧ k < (cur.lb.length : Int)) ∧ (0 ≤ n ∧ n < (cur.nm.length : Int))) with hr | hr
  · refine cr_pv (cr_V (ct_X1_rbT hG hC k hk n hn hr) sv_X1_186 rfl dX1_call_3 hx rfl rfl rfl rfl ⟨by decide, by decide⟩ (Nat.le_of_ble_eq_true rfl) (Nat.le_of_ble_eq_true rfl) (Nat.le_of_ble_eq_true rfl)) ?_
    refine wx_new (fun q => (q, 10700)) nw_X1_220 rfl dX1_call_6 (fun q hq => ⟨hq.1, Nat.le_refl _⟩) (Nat.le_of_ble_eq_true rfl) (Nat.le_of_ble_eq_true rfl) (fun q_6 h_6 n_6 e_6 hc => ?_)
    have hx := e_6 _ _ hx
    have hC0 := hC
    have hC := hC.ex e_6
    refine ww_dup dX1_call_9 rfl ?_
    refine ww_aload_n 0 dX1_call_10 rfl ?_
    refine cr_r (cr_V (ct_X1_election hG hC) sv_X1_178 rfl dX1_call_11 hx rfl rfl rfl rfl ⟨by decide, by decide⟩ (Nat.le_of_ble_eq_true rfl) (Nat.le_of_ble_eq_true rfl) (Nat.le_of_ble_eq_true rfl)) (fun r_11 h_11 hp_11 => ?_)
    obtain ⟨hEL_11, e_11, n_11⟩ := hp_11
    have hce := n_11.ne hc
    have hc := e_11 _ _ hc
    obtain ⟨y1, y2, y3, y4, y5, y6, y7, RO, RV, RS, RB, W, Wi, T, O, V, S, B5, ⟨hE, hO, hV, hS6, hB⟩, hq⟩ := hEL_11
    have hg := QE.rg (v := cur) hq hok
    obtain ⟨he0, -, -, he, h1, h2, h3⟩ := id hE
    obtain ⟨hgS, hgW, hgV, hgB, hgBo, hgBu, hgO⟩ := id hg
    refine cr_v (cr_I (ct_X9_init hG n_6.1 hc) si_X1_222 rfl rfl dX1_call_14 rfl rfl ⟨by decide, by decide⟩ (Nat.le_of_ble_eq_true rfl) (Nat.le_of_ble_eq_true rfl) (Nat.le_of_ble_eq_true rfl)) (fun h_14 hp_14 => ?_)
    obtain ⟨hc, f_14⟩ := hp_14
    refine ww_iload_n 1 dX1_call_17 rfl ?_
    refine ww_iload_n 2 dX1_call_18 rfl ?_
    have hE := hE.fo f_14.fo (by omega)
    have hO := hO.fo f_14.fo h8 (by omega)
    have hB := hB.fo f_14.fo h8 (by omega)
    refine cr_r (cr_V (ct_X9_go hG hE hq.2.1 hO hq.2.2.2.1 hB (fun k n k0 k1 n0 n1 => by have := hgB k n k0 k1 n0 n1; exact inI.mk (by omega) (by omega)) n_6.1 (Ne.symm hce) hc hgB hgBo hgBu hgO k n hr.1.1 hr.1.2 hr.2.1 hr.2.2) sv_X1_225 rfl dX1_call_19 hc rfl rfl rfl rfl ⟨by decide, by decide⟩ (Nat.le_of_ble_eq_true rfl) (Nat.le_of_ble_eq_true rfl) (Nat.le_of_ble_eq_true rfl)) (fun r_19 h_19 hp_19 => ?_)
    obtain ⟨er_19, hc, f_19⟩ := hp_19
    subst er_19
    refine ww_getf gf_X1_229 rfl dX1_call_22 hc rfl ?_
    exact ww_x hQ (ww_iret rfl dX1_call_25 rfl (Nat.le_of_ble_eq_true rfl) (Nat.le_of_ble_eq_true rfl) ⟨_, rfl, hr, ⟨W, Wi, T, O, V, S, B5, hq, rfl⟩, ((((e_6.tr e_11).fo).tr (FO.w f_14.fo (by omega) (by omega))).tr f_19).nw n_6⟩)
  · refine cx_v (cx_V (ct_X1_rbF hG hC k hk n hn hr) sv_X1_186 rfl dX1_call_3 hx rfl rfl rfl rfl ⟨by decide, by decide⟩ (Nat.le_of_ble_eq_true rfl) (Nat.le_of_ble_eq_true rfl) (Nat.le_of_ble_eq_true rfl)) (fun X_3 q_3 g_3 hx_3 => wq_out hQ hT (Nat.le_of_ble_eq_true rfl) (Nat.le_of_ble_eq_true rfl) (hx_3.go Ex.rf (fun X e => ⟨e, hr⟩))) (fun h_3 hp_3 => ?_)
    exact hp_3.elim

set_option maxHeartbeats 4000000 in
theorem ct_X1_steps {G : GT} {h : AH} (hG : GOK G) {x bf hd a r : Nat} {xs : List Nat} {B : Int → Int} {bl eo : Int} {cur : HV} {hist : List HV} (hC : CWd G h x bf hd a r xs B bl eo cur hist) (k : Int) (hk : inI k) (n : Int) (hn : inI n) : CX G (MX1_steps 1605 51445 251 955) h [.ref x, .int (iI k), .int (iI n)] (pI (fun z h' => ((0 ≤ k ∧ k < (cur.lb.length : Int)) ∧ (0 ≤ n ∧ n < (cur.nm.length : Int))) ∧ (∃ W Wi T O V S B, QE cur W Wi T O V S B ∧ z = (flw 97 B O (fun _ _ => false) k n 0).2) ∧ Ex h h')) (XJ h (fun X => X = ioN ∧ ¬ ((0 ≤ k ∧ k < (cur.lb.length : Int)) ∧ (0 ≤ n ∧ n < (cur.nm.length : Int))))) := by
  refine CX.of rfl hG (Nat.le_of_ble_eq_true rfl) rfl (fun E hQ hT => ?_)
  obtain ⟨⟨hx0, hx⟩, ⟨hbf, hBr⟩, hdq, hS, hok, hI, hbl, heo, hL⟩ := id hC
  have h8 := hok.2.1
  have h12 := hok.1
  refine ww_aload_n 0 dX1_steps_0 rfl ?_
  refine ww_iload_n 1 dX1_steps_1 rfl ?_
  refine ww_iload_n 2 dX1_steps_2 rfl ?_
  rcases Classical.em ((0 ≤ k ∧ k < (cur.lb.length : Int)) ∧ (0 ≤ n ∧ n < (cur.nm.length : Int))) with hr | hr
  · refine cr_pv (cr_V (ct_X1_rbT hG hC k hk n hn hr) sv_X1_186 rfl dX1_steps_3 hx rfl rfl rfl rfl ⟨by decide, by decide⟩ (Nat.le_of_ble_eq_true rfl) (Nat.le_of_ble_eq_true rfl) (Nat.le_of_ble_eq_true rfl)) ?_
    refine wx_new (fun q => (q, 10700)) nw_X1_220 rfl dX1_steps_6 (fun q hq => ⟨hq.1, Nat.le_refl _⟩) (Nat.le_of_ble_eq_true rfl) (Nat.le_of_ble_eq_true rfl) (fun q_6 h_6 n_6 e_6 hc => ?_)
    have hx := e_6 _ _ hx
    have hC0 := hC
    have hC := hC.ex e_6
    refine ww_dup dX1_steps_9 rfl ?_
    refine ww_aload_n 0 dX1_steps_10 rfl ?_
    refine cr_r (cr_V (ct_X1_election hG hC) sv_X1_178 rfl dX1_steps_11 hx rfl rfl rfl rfl ⟨by decide, by decide⟩ (Nat.le_of_ble_eq_true rfl) (Nat.le_of_ble_eq_true rfl) (Nat.le_of_ble_eq_true rfl)) (fun r_11 h_11 hp_11 => ?_)
    obtain ⟨hEL_11, e_11, n_11⟩ := hp_11
    have hce := n_11.ne hc
    have hc := e_11 _ _ hc
    obtain ⟨y1, y2, y3, y4, y5, y6, y7, RO, RV, RS, RB, W, Wi, T, O, V, S, B5, ⟨hE, hO, hV, hS6, hB⟩, hq⟩ := hEL_11
    have hg := QE.rg (v := cur) hq hok
    obtain ⟨he0, -, -, he, h1, h2, h3⟩ := id hE
    obtain ⟨hgS, hgW, hgV, hgB, hgBo, hgBu, hgO⟩ := id hg
    refine cr_v (cr_I (ct_X9_init hG n_6.1 hc) si_X1_222 rfl rfl dX1_steps_14 rfl rfl ⟨by decide, by decide⟩ (Nat.le_of_ble_eq_true rfl) (Nat.le_of_ble_eq_true rfl) (Nat.le_of_ble_eq_true rfl)) (fun h_14 hp_14 => ?_)
    obtain ⟨hc, f_14⟩ := hp_14
    refine ww_iload_n 1 dX1_steps_17 rfl ?_
    refine ww_iload_n 2 dX1_steps_18 rfl ?_
    have hE := hE.fo f_14.fo (by omega)
    have hO := hO.fo f_14.fo h8 (by omega)
    have hB := hB.fo f_14.fo h8 (by omega)
    refine cr_r (cr_V (ct_X9_go hG hE hq.2.1 hO hq.2.2.2.1 hB (fun k n k0 k1 n0 n1 => by have := hgB k n k0 k1 n0 n1; exact inI.mk (by omega) (by omega)) n_6.1 (Ne.symm hce) hc hgB hgBo hgBu hgO k n hr.1.1 hr.1.2 hr.2.1 hr.2.2) sv_X1_225 rfl dX1_steps_19 hc rfl rfl rfl rfl ⟨by decide, by decide⟩ (Nat.le_of_ble_eq_true rfl) (Nat.le_of_ble_eq_true rfl) (Nat.le_of_ble_eq_true rfl)) (fun r_19 h_19 hp_19 => ?_)
    obtain ⟨er_19, hc, f_19⟩ := hp_19
    subst er_19
    refine ww_getf gf_X1_232 rfl dX1_steps_22 hc rfl ?_
    exact ww_x hQ (ww_iret rfl dX1_steps_25 rfl (Nat.le_of_ble_eq_true rfl) (Nat.le_of_ble_eq_true rfl) ⟨_, rfl, hr, ⟨W, Wi, T, O, V, S, B5, hq, rfl⟩, ((((e_6.tr e_11).fo).tr (FO.w f_14.fo (by omega) (by omega))).tr f_19).nw n_6⟩)
  · refine cx_v (cx_V (ct_X1_rbF hG hC k hk n hn hr) sv_X1_186 rfl dX1_steps_3 hx rfl rfl rfl rfl ⟨by decide, by decide⟩ (Nat.le_of_ble_eq_true rfl) (Nat.le_of_ble_eq_true rfl) (Nat.le_of_ble_eq_true rfl)) (fun X_3 q_3 g_3 hx_3 => wq_out hQ hT (Nat.le_of_ble_eq_true rfl) (Nat.le_of_ble_eq_true rfl) (hx_3.go Ex.rf (fun X e => ⟨e, hr⟩))) (fun h_3 hp_3 => ?_)
    exact hp_3.elim

set_option maxHeartbeats 4000000 in
theorem ct_X1_library {G : GT} {h : AH} (hG : GOK G) {x bf hd a r : Nat} {xs : List Nat} {B : Int → Int} {bl eo : Int} {cur : HV} {hist : List HV} (hC : CWd G h x bf hd a r xs B bl eo cur hist) (k : Int) (hk : inI k) (w : Int) (hw : inI w) : CX G (MX1_library 1605 51445 242 860) h [.ref x, .int (iI k), .int (iI w)] (pI (fun z h' => (0 ≤ k ∧ k < (cur.lb.length : Int)) ∧ (0 ≤ w ∧ w ≤ 5) ∧ z = lbv cur k w ∧ Ex h h')) (XJ h (fun X => (X = ioN ∧ ¬ (0 ≤ k ∧ k < (cur.lb.length : Int))) ∨ (X = iaN ∧ (0 ≤ k ∧ k < (cur.lb.length : Int)) ∧ ¬ (0 ≤ w ∧ w ≤ 5)))) := by
  refine CX.of rfl hG (Nat.le_of_ble_eq_true rfl) rfl (fun E hQ hT => ?_)
  obtain ⟨⟨hx0, hx⟩, ⟨hbf, hBr⟩, hdq, hS, hok, hI, hbl, heo, hL⟩ := id hC
  have h8 := hok.2.1
  have h12 := hok.1
  refine ww_aload_n 0 dX1_library_0 rfl ?_
  refine ww_iload_n 1 dX1_library_1 rfl ?_
  rcases Classical.em (0 ≤ k ∧ k < (cur.lb.length : Int)) with hr | hr
  · have hv : cur.lb[k.toNat]? = some (cur.lb[k.toNat]'(by omega)) := List.getElem?_eq_getElem (by omega)
    generalize hve : cur.lb[k.toNat]'(by omega) = v at *
    have hwi1 := hw.1
    have hwi2 := hw.2
    refine cr_r (cr_V (ct_X1_laT hG hC k hk hr hv) sv_X1_157 rfl dX1_library_2 hx rfl rfl rfl rfl ⟨by decide, by decide⟩ (Nat.le_of_ble_eq_true rfl) (Nat.le_of_ble_eq_true rfl) (Nat.le_of_ble_eq_true rfl)) (fun r_2 h_2 hp_2 => ?_)
    obtain ⟨eh_2, ws_2, pl_2, px_2, hb_2, hpa_2, hpl_2⟩ := hp_2
    subst eh_2
    refine ww_astore_n [(3, _), (0, _), (1, _), (2, _)] dX1_library_5 (by decide) rfl ?_
    refine ww_iload_n 3 dX1_library_6 rfl ?_
    refine ww_i2l dX1_library_7 hw ?_
    refine ww_lconst 0 dX1_library_8 rfl ?_
    refine ww_ldc2 q1812 dX1_library_9 (z := 5) rfl ?_
    refine cr_pi (cr_S (ct_X1_isBetween hG w 0 5 (inL.mk (by omega) (by omega)) (inL.mk (by omega) (by omega)) (inL.mk (by omega) (by omega))) ss_X1_64 rfl dX1_library_12 rfl rfl ⟨by decide, by decide⟩ (Nat.le_of_ble_eq_true rfl) (Nat.le_of_ble_eq_true rfl) (Nat.le_of_ble_eq_true rfl)) ?_
    rcases Classical.em (0 ≤ w ∧ w ≤ 5) with hw5 | hw5
    · rw [bI_t hw5]
      refine cr_pv (cr_S (ct_X1_raT hG) ss_X1_131 rfl dX1_library_15 rfl rfl ⟨by decide, by decide⟩ (Nat.le_of_ble_eq_true rfl) (Nat.le_of_ble_eq_true rfl) (Nat.le_of_ble_eq_true rfl)) ?_
      have hwc : w = 0 ∨ w = 1 ∨ w = 2 ∨ w = 3 ∨ w = 4 ∨ w = 5 := by omega
      refine ww_iload_n 3 dX1_library_18 rfl ?_
      rcases hwc with hw9 | hw9 | hw9 | hw9 | hw9 | hw9
      · rw [hw9]
        refine ww_tableIn 52 dX1_library_19 (inI.mk (by decide) (by decide)) (by decide) (by decide) rfl (by decide) ?_
        refine ww_aload_n 0 dX1_library_52 rfl ?_
        refine ww_getf gf_X1_163 rfl dX1_library_53 hb_2 rfl ?_
        exact ww_x hQ (ww_iret rfl dX1_library_56 rfl (Nat.le_of_ble_eq_true rfl) (Nat.le_of_ble_eq_true rfl) ⟨_, rfl, hr, hw5, by unfold lbv; rw [if_pos (by omega)]; exact (hTr_at hv).symm, Ex.rf⟩)
      · rw [hw9]
        refine ww_tableIn 57 dX1_library_19 (inI.mk (by decide) (by decide)) (by decide) (by decide) rfl (by decide) ?_
        refine ww_aload_n 0 dX1_library_57 rfl ?_
        refine ww_getf gf_X1_165 rfl dX1_library_58 hb_2 rfl ?_
        have hkp : v.2.2.1 = 0 ∨ v.2.2.1 = 1 := by obtain ⟨nl, al, am, ll, w9, nxs, lx, dx, -, -, -, ⟨-, ⟨hA2, hB2⟩, -⟩, -, -⟩ := id hS; obtain ⟨x8, hx8⟩ := gx_get (xs := lx) (i := k) hr.1 (by have := hB2.1; omega); obtain ⟨ws, pl, px, -, -, -, -, q⟩ := hB2.2 _ _ _ hx8 hv; exact q
        refine ww_if_eq 68 dX1_library_61 (by decide) (by rcases hkp with q | q <;> rw [q] <;> exact inI.mk (by decide) (by decide)) (fun c_61 => ?_) (fun c_61 => ?_)
        · refine ww_iconst dX1_library_68 ?_
          exact ww_x hQ (ww_iret rfl dX1_library_69 rfl (Nat.le_of_ble_eq_true rfl) (Nat.le_of_ble_eq_true rfl) ⟨_, rfl, hr, hw5, by unfold lbv; rw [if_neg (by omega)]; rw [if_pos (by omega)]; rw [hKp_at hv]; exact c_61.symm, Ex.rf⟩)
        · refine ww_iconst dX1_library_64 ?_
          refine ww_goto 69 dX1_library_65 (by decide) ?_
          exact ww_x hQ (ww_iret rfl dX1_library_69 rfl (Nat.le_of_ble_eq_true rfl) (Nat.le_of_ble_eq_true rfl) ⟨_, rfl, hr, hw5, by unfold lbv; rw [if_neg (by omega)]; rw [if_pos (by omega)]; rw [hKp_at hv]; rcases hkp with q | q; exact absurd q c_61; exact q.symm, Ex.rf⟩)
      · rw [hw9]
        refine ww_tableIn 70 dX1_library_19 (inI.mk (by decide) (by decide)) (by decide) (by decide) rfl (by decide) ?_
        refine ww_aload_n 1 dX1_library_70 rfl ?_
        refine ww_getf gf_X1_56 rfl dX1_library_71 hx rfl ?_
        refine ww_iload_n 2 dX1_library_74 rfl ?_
        obtain ⟨ha0, fsH, hho⟩ := hS.obj
        refine cr_pi (cr_V (ct_X2_rank hG hS k hk hok.ldi) sv_X1_169 rfl dX1_library_75 hho rfl rfl rfl rfl ⟨by decide, by decide⟩ (Nat.le_of_ble_eq_true rfl) (Nat.le_of_ble_eq_true rfl) (Nat.le_of_ble_eq_true rfl)) ?_
        exact ww_x hQ (ww_iret rfl dX1_library_78 rfl (Nat.le_of_ble_eq_true rfl) (Nat.le_of_ble_eq_true rfl) ⟨_, rfl, hr, hw5, by unfold lbv; rw [if_neg (by omega)]; rw [if_neg (by omega)]; rw [if_pos (by omega)], Ex.rf⟩)
      · rw [hw9]
        refine ww_tableIn 79 dX1_library_19 (inI.mk (by decide) (by decide)) (by decide) (by decide) rfl (by decide) ?_
        refine ww_aload_n 1 dX1_library_79 rfl ?_
        refine ww_getf gf_X1_56 rfl dX1_library_80 hx rfl ?_
        refine ww_iload_n 2 dX1_library_83 rfl ?_
        obtain ⟨ha0, fsH, hho⟩ := hS.obj
        refine cr_i (cr_V (ct_X2_offered hG hS k (by omega) (by omega) hok.1 (fun n => hok.ofi k n)) sv_X1_172 rfl dX1_library_84 hho rfl rfl rfl rfl ⟨by decide, by decide⟩ (Nat.le_of_ble_eq_true rfl) (Nat.le_of_ble_eq_true rfl) (Nat.le_of_ble_eq_true rfl)) (fun r_84 h_84 hp_84 => ?_)
        obtain ⟨er_84, e_84⟩ := hp_84
        subst er_84
        exact ww_x hQ (ww_iret rfl dX1_library_87 rfl (Nat.le_of_ble_eq_true rfl) (Nat.le_of_ble_eq_true rfl) ⟨_, rfl, hr, hw5, by unfold lbv; rw [if_neg (by omega)]; rw [if_neg (by omega)]; rw [if_neg (by omega)]; rw [if_pos (by omega)], e_84⟩)
      · rw [hw9]
        refine ww_tableIn 88 dX1_library_19 (inI.mk (by decide) (by decide)) (by decide) (by decide) rfl (by decide) ?_
        refine ww_aload_n 0 dX1_library_88 rfl ?_
        refine ww_getf gf_X1_175 rfl dX1_library_89 hb_2 rfl ?_
        obtain ⟨fsp, hpo⟩ := hpa_2.obj
        refine cr5_pi (cr_F (ct_J3_size hG hpa_2) sf_X1_151 rfl dX1_library_92 hpo rfl rfl rfl rfl ⟨by decide, by decide⟩ (Nat.le_of_ble_eq_true rfl) (Nat.le_of_ble_eq_true rfl) (Nat.le_of_ble_eq_true rfl)) ?_
        exact ww_x hQ (ww_iret rfl dX1_library_97 rfl (Nat.le_of_ble_eq_true rfl) (Nat.le_of_ble_eq_true rfl) ⟨_, rfl, hr, hw5, by unfold lbv; rw [if_neg (by omega)]; rw [if_neg (by omega)]; rw [if_neg (by omega)]; rw [if_neg (by omega)]; rw [if_pos (by omega)]; rw [prf_get hv, hpl_2], Ex.rf⟩)
      · rw [hw9]
        refine ww_tableOut 98 dX1_library_19 (inI.mk (by decide) (by decide)) (by decide) (by decide) ?_
        refine ww_aload_n 1 dX1_library_98 rfl ?_
        refine cr_r (cr_V (ct_X1_election hG hC) sv_X1_178 rfl dX1_library_99 hx rfl rfl rfl rfl ⟨by decide, by decide⟩ (Nat.le_of_ble_eq_true rfl) (Nat.le_of_ble_eq_true rfl) (Nat.le_of_ble_eq_true rfl)) (fun r_99 h_99 hp_99 => ?_)
        obtain ⟨hEL_99, e_99, n_99⟩ := hp_99
        have hx := e_99 _ _ hx
        obtain ⟨y1, y2, y3, y4, y5, y6, y7, RO, RV, RS, RB, W, Wi, T, O, V, S, B5, ⟨hE, hO, hV, hS6, hB⟩, hq⟩ := hEL_99
        have hg := QE.rg (v := cur) hq hok
        obtain ⟨he0, -, -, he, h1, h2, h3⟩ := id hE
        obtain ⟨hgS, hgW, hgV, hgB, hgBo, hgBu, hgO⟩ := id hg
        refine ww_getf gf_X1_182 rfl dX1_library_102 he rfl ?_
        refine ww_iload_n 2 dX1_library_105 rfl ?_
        refine ww_iald dX1_library_106 h1 (by omega) (by omega) (by omega) ?_
        exact ww_x hQ (ww_iret rfl dX1_library_107 rfl (Nat.le_of_ble_eq_true rfl) (Nat.le_of_ble_eq_true rfl) ⟨_, rfl, hr, hw5, by unfold lbv; rw [if_neg (by omega)]; rw [if_neg (by omega)]; rw [if_neg (by omega)]; rw [if_neg (by omega)]; rw [if_neg (by omega)]; exact (hq.1 k hr.1 hr.2), e_99⟩)
    · rw [bI_f hw5]
      refine cx_v (cx_S (ct_X1_raF hG) ss_X1_131 rfl dX1_library_15 rfl rfl ⟨by decide, by decide⟩ (Nat.le_of_ble_eq_true rfl) (Nat.le_of_ble_eq_true rfl) (Nat.le_of_ble_eq_true rfl)) (fun X_15 q_15 g_15 hx_15 => wq_out hQ hT (Nat.le_of_ble_eq_true rfl) (Nat.le_of_ble_eq_true rfl) (hx_15.go Ex.rf (fun X e => Or.inr ⟨e, hr, hw5⟩))) (fun h_15 hp_15 => ?_)
      exact hp_15.elim
  · refine cx_r (cx_V (ct_X1_laF hG hC k hk hr) sv_X1_157 rfl dX1_library_2 hx rfl rfl rfl rfl ⟨by decide, by decide⟩ (Nat.le_of_ble_eq_true rfl) (Nat.le_of_ble_eq_true rfl) (Nat.le_of_ble_eq_true rfl)) (fun X_2 q_2 g_2 hx_2 => wq_out hQ hT (Nat.le_of_ble_eq_true rfl) (Nat.le_of_ble_eq_true rfl) (hx_2.go Ex.rf (fun X e => Or.inl ⟨e, hr⟩))) (fun r_2 h_2 hp_2 => ?_)
    exact hp_2.elim
