set_option maxRecDepth 100000
set_option maxHeartbeats 4000000 in
theorem ct_X1_unload {G : GT} {h : AH} (hG : GOK G) {x bf hd a r : Nat} {xs : List Nat} {B : Int → Int} {bl eo : Int} {cur : HV} {hist : List HV} (hC : CWd G h x bf hd a r xs B bl eo cur hist) (k : Int) (hk : inI k) : CX G (MX1_unload 1605 51445 1100 17000) h [.ref x, .int (iI k)] (pI (fun z h' => ((0 ≤ k ∧ k < (cur.lb.length : Int)) ∧ fi cur.ld k ≠ -1) ∧ (MOV cur (vLd cur (cur.ld.eraseIdx (fi cur.ld k).toNat)) k z) ∧ CW G h' x B bl eo (vLd cur (cur.ld.eraseIdx (fi cur.ld k).toNat)) (hpush hist cur) ∧ FX x h h')) (XJ h (fun X => (X = ioN ∧ ¬ (0 ≤ k ∧ k < (cur.lb.length : Int))) ∨ (X = isN ∧ (0 ≤ k ∧ k < (cur.lb.length : Int)) ∧ ¬ (fi cur.ld k ≠ -1)))) := by
  refine CX.of rfl hG (Nat.le_of_ble_eq_true rfl) rfl (fun E hQ hT => ?_)
  obtain ⟨⟨hx0, hx⟩, ⟨hbf, hBr⟩, hdq, hS, hok, hI, hbl, heo, hL⟩ := id hC
  have h8 := hok.2.1
  have h12 := hok.1
  refine ww_aload_n 0 dX1_unload_0 rfl ?_
  refine ww_iload_n 1 dX1_unload_1 rfl ?_
  rcases Classical.em (0 ≤ k ∧ k < (cur.lb.length : Int)) with hr | hr
  · have hv : cur.lb[k.toNat]? = some (cur.lb[k.toNat]'(by omega)) := List.getElem?_eq_getElem (by omega)
    generalize hve : cur.lb[k.toNat]'(by omega) = v at *
    refine cr_r (cr_V (ct_X1_laT hG hC k hk hr hv) sv_X1_157 rfl dX1_unload_2 hx rfl rfl rfl rfl ⟨by decide, by decide⟩ (Nat.le_of_ble_eq_true rfl) (Nat.le_of_ble_eq_true rfl) (Nat.le_of_ble_eq_true rfl)) (fun r_2 h_2 hp_2 => ?_)
    obtain ⟨eh_2, ws_2, pl_2, px_2, hb_2, hpa_2, hpl_2⟩ := hp_2
    subst eh_2
    refine ww_astore_n [(2, _), (0, _), (1, _)] dX1_unload_5 (by decide) rfl ?_
    refine ww_aload_n 1 dX1_unload_6 rfl ?_
    refine ww_getf gf_X1_56 rfl dX1_unload_7 hx rfl ?_
    refine ww_iload_n 2 dX1_unload_10 rfl ?_
    obtain ⟨ha0, fsH, hho⟩ := hS.obj
    refine cr_pi (cr_V (ct_X2_rank hG hS k hk hok.ldi) sv_X1_169 rfl dX1_unload_11 hho rfl rfl rfl rfl ⟨by decide, by decide⟩ (Nat.le_of_ble_eq_true rfl) (Nat.le_of_ble_eq_true rfl) (Nat.le_of_ble_eq_true rfl)) ?_
    refine ww_iconst dX1_unload_14 ?_
    refine ww_icmp_eq 22 dX1_unload_15 (by decide) (fi_in (by have := hok.ld8; omega)) (inI.mk (by decide) (by decide)) (fun c_15 => ?_) (fun c_15 => ?_)
    · have hst := c_15
      refine ww_iconst dX1_unload_22 ?_
      refine cx_v (cx_S (ct_X1_rsF hG) ss_X1_235 rfl dX1_unload_23 rfl rfl ⟨by decide, by decide⟩ (Nat.le_of_ble_eq_true rfl) (Nat.le_of_ble_eq_true rfl) (Nat.le_of_ble_eq_true rfl)) (fun X_23 q_23 g_23 hx_23 => wq_out hQ hT (Nat.le_of_ble_eq_true rfl) (Nat.le_of_ble_eq_true rfl) (hx_23.go Ex.rf (fun X e => Or.inr ⟨e, hr, fun z => z hst⟩))) (fun h_23 hp_23 => ?_)
      exact hp_23.elim
    · have hst := c_15
      refine ww_iconst dX1_unload_18 ?_
      refine ww_goto 23 dX1_unload_19 (by decide) ?_
      refine cr_pv (cr_S (ct_X1_rsT hG) ss_X1_235 rfl dX1_unload_23 rfl rfl ⟨by decide, by decide⟩ (Nat.le_of_ble_eq_true rfl) (Nat.le_of_ble_eq_true rfl) (Nat.le_of_ble_eq_true rfl)) ?_
      refine ww_aload_n 1 dX1_unload_26 rfl ?_
      refine cr_r (cr_V (ct_X1_election hG hC) sv_X1_178 rfl dX1_unload_27 hx rfl rfl rfl rfl ⟨by decide, by decide⟩ (Nat.le_of_ble_eq_true rfl) (Nat.le_of_ble_eq_true rfl) (Nat.le_of_ble_eq_true rfl)) (fun r_27 h_27 hp_27 => ?_)
      obtain ⟨hEL_27, e_27, n_27⟩ := hp_27
      have hC := hC.ex e_27
      have hx := hC.1.2
      refine ww_astore_n [(3, _), (2, _), (0, _), (1, _)] dX1_unload_30 (by decide) rfl ?_
      refine ww_aload_n 2 dX1_unload_31 rfl ?_
      refine cr_r (cr_V (ct_X1_change hG hC) sv_X1_238 rfl dX1_unload_32 hx rfl rfl rfl rfl ⟨by decide, by decide⟩ (Nat.le_of_ble_eq_true rfl) (Nat.le_of_ble_eq_true rfl) (Nat.le_of_ble_eq_true rfl)) (fun r_32 h_32 hp_32 => ?_)
      obtain ⟨xs2, hC, hIn, hra, n_32, f_32⟩ := hp_32
      have hEL_27 := hEL_27.fo f_32 (by omega)
      have hx := hC.1.2
      obtain ⟨ha2, fs2, hh2⟩ := hC.2.2.2.1.obj
      refine ww_iload_n 3 dX1_unload_35 rfl ?_
      refine cr_v (cr_V (ct_X2_unload hG hC.2.2.2.1 k hk hok.ldi hst) sv_X1_241 rfl dX1_unload_36 hh2 rfl rfl rfl rfl ⟨by decide, by decide⟩ (Nat.le_of_ble_eq_true rfl) (Nat.le_of_ble_eq_true rfl) (Nat.le_of_ble_eq_true rfl)) (fun h_36 hp_36 => ?_)
      obtain ⟨hS2, f_36⟩ := hp_36
      have hok2 : HVok (vLd cur (cur.ld.eraseIdx (fi cur.ld k).toNat)) := hok.unl _
      have hC := hC.mut hIn f_36 hS2 hok2 (by omega)
      have hx := hC.1.2
      have hEL_27 := hEL_27.fo f_36 (by omega)
      refine ww_aload_n 2 dX1_unload_39 rfl ?_
      refine cr_r (cr_V (ct_X1_election hG hC) sv_X1_178 rfl dX1_unload_40 hx rfl rfl rfl rfl ⟨by decide, by decide⟩ (Nat.le_of_ble_eq_true rfl) (Nat.le_of_ble_eq_true rfl) (Nat.le_of_ble_eq_true rfl)) (fun r_40 h_40 hp_40 => ?_)
      obtain ⟨hEL_40, e_40, n_40⟩ := hp_40
      have hC := hC.ex e_40
      have hx := hC.1.2
      refine ww_aload_n 0 dX1_unload_43 rfl ?_
      refine ww_iload_n 3 dX1_unload_44 rfl ?_
      obtain ⟨y1, y2, y3, y4, y5, y6, y7, RO, RV, RS, RB, W, Wi, T, O, V, S, B5, ⟨hE, hO, hV, hS6, hB⟩, hq⟩ := hEL_27
      have hg := QE.rg (v := cur) hq hok
      obtain ⟨z1, z2, z3, z4, z5, z6, z7, SO, SV, SS, SB9, W2, Wi2, T2, O2, V2, S2, B2, ⟨hEb, hOb, hVb, hSb, hBb⟩, hqb⟩ := hEL_40
      have hgb := QE.rg (v := vLd cur (cur.ld.eraseIdx (fi cur.ld k).toNat)) hqb hok2
      have hE := hE.ex e_40
      have hB := hB.ex e_40
      obtain ⟨he0b, -, -, heb, -, -, -⟩ := id hEb
      refine cr_pi (cr_V (ct_X8_moved hG hEb hqb.2.1 hBb (ERg.bi hgb hok2.2.1) hE hB (ERg.bi hg hok.2.1) k hk) sv_X1_244 rfl dX1_unload_45 heb rfl rfl rfl rfl ⟨by decide, by decide⟩ (Nat.le_of_ble_eq_true rfl) (Nat.le_of_ble_eq_true rfl) (Nat.le_of_ble_eq_true rfl)) ?_
      exact ww_x hQ (ww_iret rfl dX1_unload_48 rfl (Nat.le_of_ble_eq_true rfl) (Nat.le_of_ble_eq_true rfl) ⟨_, rfl, ⟨hr, hst⟩, ⟨W, Wi, T, O, V, S, B5, hq, W2, Wi2, T2, O2, V2, S2, B2, hqb, rfl⟩, hC.cw, ((e_27.fo (o := x) (k1 := 10570) (k2 := 10575)).tr (FO.nwf f_32 f_36 n_32)).ex e_40⟩)
  · refine cx_r (cx_V (ct_X1_laF hG hC k hk hr) sv_X1_157 rfl dX1_unload_2 hx rfl rfl rfl rfl ⟨by decide, by decide⟩ (Nat.le_of_ble_eq_true rfl) (Nat.le_of_ble_eq_true rfl) (Nat.le_of_ble_eq_true rfl)) (fun X_2 q_2 g_2 hx_2 => wq_out hQ hT (Nat.le_of_ble_eq_true rfl) (Nat.le_of_ble_eq_true rfl) (hx_2.go Ex.rf (fun X e => Or.inl ⟨e, hr⟩))) (fun r_2 h_2 hp_2 => ?_)
    exact hp_2.elim

set_option maxHeartbeats 4000000 in
theorem ct_X1_reload {G : GT} {h : AH} (hG : GOK G) {x bf hd a r : Nat} {xs : List Nat} {B : Int → Int} {bl eo : Int} {cur : HV} {hist : List HV} (hC : CWd G h x bf hd a r xs B bl eo cur hist) (k : Int) (hk : inI k) : CX G (MX1_reload 1605 51445 1100 17000) h [.ref x, .int (iI k)] (pI (fun z h' => ((0 ≤ k ∧ k < (cur.lb.length : Int)) ∧ fi cur.ld k = -1) ∧ (MOV cur (vLd cur (cur.ld ++ [k])) k z) ∧ CW G h' x B bl eo (vLd cur (cur.ld ++ [k])) (hpush hist cur) ∧ FX x h h')) (XJ h (fun X => (X = ioN ∧ ¬ (0 ≤ k ∧ k < (cur.lb.length : Int))) ∨ (X = isN ∧ (0 ≤ k ∧ k < (cur.lb.length : Int)) ∧ ¬ (fi cur.ld k = -1)))) := by
  refine CX.of rfl hG (Nat.le_of_ble_eq_true rfl) rfl (fun E hQ hT => ?_)
  obtain ⟨⟨hx0, hx⟩, ⟨hbf, hBr⟩, hdq, hS, hok, hI, hbl, heo, hL⟩ := id hC
  have h8 := hok.2.1
  have h12 := hok.1
  refine ww_aload_n 0 dX1_reload_0 rfl ?_
  refine ww_iload_n 1 dX1_reload_1 rfl ?_
  rcases Classical.em (0 ≤ k ∧ k < (cur.lb.length : Int)) with hr | hr
  · have hv : cur.lb[k.toNat]? = some (cur.lb[k.toNat]'(by omega)) := List.getElem?_eq_getElem (by omega)
    generalize hve : cur.lb[k.toNat]'(by omega) = v at *
    refine cr_r (cr_V (ct_X1_laT hG hC k hk hr hv) sv_X1_157 rfl dX1_reload_2 hx rfl rfl rfl rfl ⟨by decide, by decide⟩ (Nat.le_of_ble_eq_true rfl) (Nat.le_of_ble_eq_true rfl) (Nat.le_of_ble_eq_true rfl)) (fun r_2 h_2 hp_2 => ?_)
    obtain ⟨eh_2, ws_2, pl_2, px_2, hb_2, hpa_2, hpl_2⟩ := hp_2
    subst eh_2
    refine ww_astore_n [(2, _), (0, _), (1, _)] dX1_reload_5 (by decide) rfl ?_
    refine ww_aload_n 1 dX1_reload_6 rfl ?_
    refine ww_getf gf_X1_56 rfl dX1_reload_7 hx rfl ?_
    refine ww_iload_n 2 dX1_reload_10 rfl ?_
    obtain ⟨ha0, fsH, hho⟩ := hS.obj
    refine cr_pi (cr_V (ct_X2_rank hG hS k hk hok.ldi) sv_X1_169 rfl dX1_reload_11 hho rfl rfl rfl rfl ⟨by decide, by decide⟩ (Nat.le_of_ble_eq_true rfl) (Nat.le_of_ble_eq_true rfl) (Nat.le_of_ble_eq_true rfl)) ?_
    refine ww_iconst dX1_reload_14 ?_
    refine ww_icmp_ne 22 dX1_reload_15 (by decide) (fi_in (by have := hok.ld8; omega)) (inI.mk (by decide) (by decide)) (fun c_15 => ?_) (fun c_15 => ?_)
    · have hst := c_15
      refine ww_iconst dX1_reload_22 ?_
      refine cx_v (cx_S (ct_X1_rsF hG) ss_X1_235 rfl dX1_reload_23 rfl rfl ⟨by decide, by decide⟩ (Nat.le_of_ble_eq_true rfl) (Nat.le_of_ble_eq_true rfl) (Nat.le_of_ble_eq_true rfl)) (fun X_23 q_23 g_23 hx_23 => wq_out hQ hT (Nat.le_of_ble_eq_true rfl) (Nat.le_of_ble_eq_true rfl) (hx_23.go Ex.rf (fun X e => Or.inr ⟨e, hr, hst⟩))) (fun h_23 hp_23 => ?_)
      exact hp_23.elim
    · have hst := c_15
      refine ww_iconst dX1_reload_18 ?_
      refine ww_goto 23 dX1_reload_19 (by decide) ?_
      refine cr_pv (cr_S (ct_X1_rsT hG) ss_X1_235 rfl dX1_reload_23 rfl rfl ⟨by decide, by decide⟩ (Nat.le_of_ble_eq_true rfl) (Nat.le_of_ble_eq_true rfl) (Nat.le_of_ble_eq_true rfl)) ?_
      refine ww_aload_n 1 dX1_reload_26 rfl ?_
      refine cr_r (cr_V (ct_X1_election hG hC) sv_X1_178 rfl dX1_reload_27 hx rfl rfl rfl rfl ⟨by decide, by decide⟩ (Nat.le_of_ble_eq_true rfl) (Nat.le_of_ble_eq_true rfl) (Nat.le_of_ble_eq_true rfl)) (fun r_27 h_27 hp_27 => ?_)
      obtain ⟨hEL_27, e_27, n_27⟩ := hp_27
      have hC := hC.ex e_27
      have hx := hC.1.2
      refine ww_astore_n [(3, _), (2, _), (0, _), (1, _)] dX1_reload_30 (by decide) rfl ?_
      refine ww_aload_n 2 dX1_reload_31 rfl ?_
      refine cr_r (cr_V (ct_X1_change hG hC) sv_X1_238 rfl dX1_reload_32 hx rfl rfl rfl rfl ⟨by decide, by decide⟩ (Nat.le_of_ble_eq_true rfl) (Nat.le_of_ble_eq_true rfl) (Nat.le_of_ble_eq_true rfl)) (fun r_32 h_32 hp_32 => ?_)
      obtain ⟨xs2, hC, hIn, hra, n_32, f_32⟩ := hp_32
      have hEL_27 := hEL_27.fo f_32 (by omega)
      have hx := hC.1.2
      obtain ⟨ha2, fs2, hh2⟩ := hC.2.2.2.1.obj
      refine ww_iload_n 3 dX1_reload_35 rfl ?_
      refine cr_v (cr_V (ct_X2_reload hG hC.2.2.2.1 k hr.1 (by omega) (by have := hok.ld8; omega) hC.2.2.2.2.2.2.2.2) sv_X1_248 rfl dX1_reload_36 hh2 rfl rfl rfl rfl ⟨by decide, by decide⟩ (Nat.le_of_ble_eq_true rfl) (Nat.le_of_ble_eq_true rfl) (Nat.le_of_ble_eq_true rfl)) (fun h_36 hp_36 => ?_)
      obtain ⟨hS2, f_36⟩ := hp_36
      have hok2 : HVok (vLd cur (cur.ld ++ [k])) := hok.rel hr.1 hr.2 hst
      have hC := hC.mut hIn f_36 hS2 hok2 (by omega)
      have hx := hC.1.2
      have hEL_27 := hEL_27.fo f_36 (by omega)
      refine ww_aload_n 2 dX1_reload_39 rfl ?_
      refine cr_r (cr_V (ct_X1_election hG hC) sv_X1_178 rfl dX1_reload_40 hx rfl rfl rfl rfl ⟨by decide, by decide⟩ (Nat.le_of_ble_eq_true rfl) (Nat.le_of_ble_eq_true rfl) (Nat.le_of_ble_eq_true rfl)) (fun r_40 h_40 hp_40 => ?_)
      obtain ⟨hEL_40, e_40, n_40⟩ := hp_40
      have hC := hC.ex e_40
      have hx := hC.1.2
      refine ww_aload_n 0 dX1_reload_43 rfl ?_
      refine ww_iload_n 3 dX1_reload_44 rfl ?_
      obtain ⟨y1, y2, y3, y4, y5, y6, y7, RO, RV, RS, RB, W, Wi, T, O, V, S, B5, ⟨hE, hO, hV, hS6, hB⟩, hq⟩ := hEL_27
      have hg := QE.rg (v := cur) hq hok
      obtain ⟨z1, z2, z3, z4, z5, z6, z7, SO, SV, SS, SB9, W2, Wi2, T2, O2, V2, S2, B2, ⟨hEb, hOb, hVb, hSb, hBb⟩, hqb⟩ := hEL_40
      have hgb := QE.rg (v := vLd cur (cur.ld ++ [k])) hqb hok2
      have hE := hE.ex e_40
      have hB := hB.ex e_40
      obtain ⟨he0b, -, -, heb, -, -, -⟩ := id hEb
      refine cr_pi (cr_V (ct_X8_moved hG hEb hqb.2.1 hBb (ERg.bi hgb hok2.2.1) hE hB (ERg.bi hg hok.2.1) k hk) sv_X1_244 rfl dX1_reload_45 heb rfl rfl rfl rfl ⟨by decide, by decide⟩ (Nat.le_of_ble_eq_true rfl) (Nat.le_of_ble_eq_true rfl) (Nat.le_of_ble_eq_true rfl)) ?_
      exact ww_x hQ (ww_iret rfl dX1_reload_48 rfl (Nat.le_of_ble_eq_true rfl) (Nat.le_of_ble_eq_true rfl) ⟨_, rfl, ⟨hr, hst⟩, ⟨W, Wi, T, O, V, S, B5, hq, W2, Wi2, T2, O2, V2, S2, B2, hqb, rfl⟩, hC.cw, ((e_27.fo (o := x) (k1 := 10570) (k2 := 10575)).tr (FO.nwf f_32 f_36 n_32)).ex e_40⟩)
  · refine cx_r (cx_V (ct_X1_laF hG hC k hk hr) sv_X1_157 rfl dX1_reload_2 hx rfl rfl rfl rfl ⟨by decide, by decide⟩ (Nat.le_of_ble_eq_true rfl) (Nat.le_of_ble_eq_true rfl) (Nat.le_of_ble_eq_true rfl)) (fun X_2 q_2 g_2 hx_2 => wq_out hQ hT (Nat.le_of_ble_eq_true rfl) (Nat.le_of_ble_eq_true rfl) (hx_2.go Ex.rf (fun X e => Or.inl ⟨e, hr⟩))) (fun r_2 h_2 hp_2 => ?_)
    exact hp_2.elim

set_option maxHeartbeats 4000000 in
theorem ct_X1_offers {G : GT} {h : AH} (hG : GOK G) {x bf hd a r : Nat} {xs : List Nat} {B : Int → Int} {bl eo : Int} {cur : HV} {hist : List HV} (hC : CWd G h x bf hd a r xs B bl eo cur hist) (k : Int) (hk : inI k) (n : Int) (hn : inI n) (hr : (0 ≤ k ∧ k < (cur.lb.length : Int)) ∧ (0 ≤ n ∧ n < (cur.nm.length : Int))) (z0 : Int) (hz0 : -2 - (cur.nm.length : Int) < z0 ∧ z0 ≤ 9999) : CT G (MX1_offers 1605 51445 900 16200) h [.ref x, .int (iI k), .int (iI n), .int (iI z0)] (pI (fun z h' => (∃ W Wi T O V S B, QE (vOf cur (o2 cur.of k n z0)) W Wi T O V S B ∧ z = Wi n) ∧ CW G h' x B bl eo (vOf cur (o2 cur.of k n z0)) (hpush hist cur) ∧ FX x h h')) := by
  refine CT.of rfl hG (Nat.le_of_ble_eq_true rfl) rfl (fun E hQ => ?_)
  obtain ⟨⟨hx0, hx⟩, ⟨hbf, hBr⟩, hdq, hS, hok, hI, hbl, heo, hL⟩ := id hC
  have h8 := hok.2.1
  have h12 := hok.1
  refine ww_aload_n 0 dX1_offers_0 rfl ?_
  refine cr_r (cr_V (ct_X1_change hG hC) sv_X1_238 rfl dX1_offers_1 hx rfl rfl rfl rfl ⟨by decide, by decide⟩ (Nat.le_of_ble_eq_true rfl) (Nat.le_of_ble_eq_true rfl) (Nat.le_of_ble_eq_true rfl)) (fun r_1 h_1 hp_1 => ?_)
  obtain ⟨xs2, hC, hIn, hra, n_1, f_1⟩ := hp_1
  have hx := hC.1.2
  obtain ⟨ha2, fs2, hh2⟩ := hC.2.2.2.1.obj
  refine ww_iload_n 1 dX1_offers_4 rfl ?_
  refine ww_iload_n 2 dX1_offers_5 rfl ?_
  refine ww_iload_n 3 dX1_offers_6 rfl ?_
  refine cr_v (cr_V (ct_X2_put hG hC.2.2.2.1 k n (by omega) (by omega) (by omega) (by omega) z0 (inI.mk (by omega) (by omega)) hC.2.2.2.2.2.2.2.2) sv_X1_251 rfl dX1_offers_7 hh2 rfl rfl rfl rfl ⟨by decide, by decide⟩ (Nat.le_of_ble_eq_true rfl) (Nat.le_of_ble_eq_true rfl) (Nat.le_of_ble_eq_true rfl)) (fun h_7 hp_7 => ?_)
  obtain ⟨hS2, f_7⟩ := hp_7
  have hok2 : HVok (vOf cur (o2 cur.of k n z0)) := hok.put hr.1.1 hr.1.2 hr.2.1 hr.2.2 hz0
  have hC := hC.mut hIn f_7 hS2 hok2 (by omega)
  have hx := hC.1.2
  refine ww_aload_n 0 dX1_offers_10 rfl ?_
  refine cr_r (cr_V (ct_X1_election hG hC) sv_X1_178 rfl dX1_offers_11 hx rfl rfl rfl rfl ⟨by decide, by decide⟩ (Nat.le_of_ble_eq_true rfl) (Nat.le_of_ble_eq_true rfl) (Nat.le_of_ble_eq_true rfl)) (fun r_11 h_11 hp_11 => ?_)
  obtain ⟨hEL_11, e_11, n_11⟩ := hp_11
  have hC := hC.ex e_11
  obtain ⟨z1, z2, z3, z4, z5, z6, z7, SO, SV, SS, SB9, W2, Wi2, T2, O2, V2, S2, B2, ⟨hEb, hOb, hVb, hSb, hBb⟩, hqb⟩ := hEL_11
  have hgb := QE.rg (v := vOf cur (o2 cur.of k n z0)) hqb hok2
  obtain ⟨he0b, -, -, heb, -, hw2, -⟩ := id hEb
  refine ww_getf gf_X1_207 rfl dX1_offers_14 heb rfl ?_
  refine ww_iload_n 2 dX1_offers_17 rfl ?_
  refine ww_iald dX1_offers_18 hw2 (show cur.nm.length < 2147483648 by omega) (by omega) (show n < (cur.nm.length : Int) by omega) ?_
  exact ww_iret hQ dX1_offers_19 rfl (Nat.le_of_ble_eq_true rfl) (Nat.le_of_ble_eq_true rfl) ⟨_, rfl, ⟨W2, Wi2, T2, O2, V2, S2, B2, hqb, rfl⟩, hC.cw, (FO.nwf f_1 f_7 n_1).ex e_11⟩

set_option maxHeartbeats 4000000 in
theorem ct_X1_offerValue {G : GT} {h : AH} (hG : GOK G) {x bf hd a r : Nat} {xs : List Nat} {B : Int → Int} {bl eo : Int} {cur : HV} {hist : List HV} (hC : CWd G h x bf hd a r xs B bl eo cur hist) (k : Int) (hk : inI k) (n : Int) (hn : inI n) (w : Int) (hw : inI w) : CX G (MX1_offerValue 1606 51468 901 16206) h [.ref x, .int (iI k), .int (iI n), .int (iI w)] (pI (fun z h' => (((0 ≤ k ∧ k < (cur.lb.length : Int)) ∧ (0 ≤ n ∧ n < (cur.nm.length : Int))) ∧ (0 ≤ w ∧ w ≤ 9999)) ∧ (∃ W Wi T O V S B, QE (vOf cur (o2 cur.of k n w)) W Wi T O V S B ∧ z = Wi n) ∧ CW G h' x B bl eo (vOf cur (o2 cur.of k n w)) (hpush hist cur) ∧ FX x h h')) (XJ h (fun X => (X = ioN ∧ ¬ ((0 ≤ k ∧ k < (cur.lb.length : Int)) ∧ (0 ≤ n ∧ n < (cur.nm.length : Int)))) ∨ (X = iaN ∧ ((0 ≤ k ∧ k < (cur.lb.length : Int)) ∧ (0 ≤ n ∧ n < (cur.nm.length : Int))) ∧ ¬ (0 ≤ w ∧ w ≤ 9999)))) := by
  refine CX.of rfl hG (Nat.le_of_ble_eq_true rfl) rfl (fun E hQ hT => ?_)
  obtain ⟨⟨hx0, hx⟩, ⟨hbf, hBr⟩, hdq, hS, hok, hI, hbl, heo, hL⟩ := id hC
  have h8 := hok.2.1
  have h12 := hok.1
  refine ww_aload_n 0 dX1_offerValue_0 rfl ?_
  refine ww_iload_n 1 dX1_offerValue_1 rfl ?_
  refine ww_iload_n 2 dX1_offerValue_2 rfl ?_
  rcases Classical.em ((0 ≤ k ∧ k < (cur.lb.length : Int)) ∧ (0 ≤ n ∧ n < (cur.nm.length : Int))) with hr | hr
  · refine cr_pv (cr_V (ct_X1_rbT hG hC k hk n hn hr) sv_X1_186 rfl dX1_offerValue_3 hx rfl rfl rfl rfl ⟨by decide, by decide⟩ (Nat.le_of_ble_eq_true rfl) (Nat.le_of_ble_eq_true rfl) (Nat.le_of_ble_eq_true rfl)) ?_
    refine ww_iload_n 3 dX1_offerValue_6 rfl ?_
    refine ww_i2l dX1_offerValue_7 hw ?_
    refine ww_lconst 0 dX1_offerValue_8 rfl ?_
    refine ww_ldc2 q1981 dX1_offerValue_9 (z := 9999) rfl ?_
    have hwi1 := hw.1
    have hwi2 := hw.2
    refine cr_pi (cr_S (ct_X1_isBetween hG w 0 9999 (inL.mk (by omega) (by omega)) (inL.mk (by omega) (by omega)) (inL.mk (by omega) (by omega))) ss_X1_64 rfl dX1_offerValue_12 rfl rfl ⟨by decide, by decide⟩ (Nat.le_of_ble_eq_true rfl) (Nat.le_of_ble_eq_true rfl) (Nat.le_of_ble_eq_true rfl)) ?_
    rcases Classical.em (0 ≤ w ∧ w ≤ 9999) with hw5 | hw5
    · rw [bI_t hw5]
      refine cr_pv (cr_S (ct_X1_raT hG) ss_X1_131 rfl dX1_offerValue_15 rfl rfl ⟨by decide, by decide⟩ (Nat.le_of_ble_eq_true rfl) (Nat.le_of_ble_eq_true rfl) (Nat.le_of_ble_eq_true rfl)) ?_
      refine ww_aload_n 0 dX1_offerValue_18 rfl ?_
      refine ww_iload_n 1 dX1_offerValue_19 rfl ?_
      refine ww_iload_n 2 dX1_offerValue_20 rfl ?_
      refine ww_iload_n 3 dX1_offerValue_21 rfl ?_
      refine cr_i (cr_V (ct_X1_offers hG hC k hk n hn hr w (by omega)) sv_X1_256 rfl dX1_offerValue_22 hx rfl rfl rfl rfl ⟨by decide, by decide⟩ (Nat.le_of_ble_eq_true rfl) (Nat.le_of_ble_eq_true rfl) (Nat.le_of_ble_eq_true rfl)) (fun r_22 h_22 hp_22 => ?_)
      obtain ⟨hw_22, hCW_22, f_22⟩ := hp_22
      exact ww_x hQ (ww_iret rfl dX1_offerValue_25 rfl (Nat.le_of_ble_eq_true rfl) (Nat.le_of_ble_eq_true rfl) ⟨_, rfl, ⟨hr, hw5⟩, hw_22, hCW_22, f_22⟩)
    · rw [bI_f hw5]
      refine cx_v (cx_S (ct_X1_raF hG) ss_X1_131 rfl dX1_offerValue_15 rfl rfl ⟨by decide, by decide⟩ (Nat.le_of_ble_eq_true rfl) (Nat.le_of_ble_eq_true rfl) (Nat.le_of_ble_eq_true rfl)) (fun X_15 q_15 g_15 hx_15 => wq_out hQ hT (Nat.le_of_ble_eq_true rfl) (Nat.le_of_ble_eq_true rfl) (hx_15.go Ex.rf (fun X e => Or.inr ⟨e, hr, hw5⟩))) (fun h_15 hp_15 => ?_)
      exact hp_15.elim
  · refine cx_v (cx_V (ct_X1_rbF hG hC k hk n hn hr) sv_X1_186 rfl dX1_offerValue_3 hx rfl rfl rfl rfl ⟨by decide, by decide⟩ (Nat.le_of_ble_eq_true rfl) (Nat.le_of_ble_eq_true rfl) (Nat.le_of_ble_eq_true rfl)) (fun X_3 q_3 g_3 hx_3 => wq_out hQ hT (Nat.le_of_ble_eq_true rfl) (Nat.le_of_ble_eq_true rfl) (hx_3.go Ex.rf (fun X e => Or.inl ⟨e, hr⟩))) (fun h_3 hp_3 => ?_)
    exact hp_3.elim

set_option maxHeartbeats 4000000 in
theorem ct_X1_offerForward {G : GT} {h : AH} (hG : GOK G) {x bf hd a r : Nat} {xs : List Nat} {B : Int → Int} {bl eo : Int} {cur : HV} {hist : List HV} (hC : CWd G h x bf hd a r xs B bl eo cur hist) (k : Int) (hk : inI k) (n : Int) (hn : inI n) (w : Int) (hw : inI w) : CX G (MX1_offerForward 1606 51468 901 16206) h [.ref x, .int (iI k), .int (iI n), .int (iI w)] (pI (fun z h' => (((0 ≤ k ∧ k < (cur.lb.length : Int)) ∧ (0 ≤ n ∧ n < (cur.nm.length : Int))) ∧ (0 ≤ w ∧ w < (cur.nm.length : Int))) ∧ (∃ W Wi T O V S B, QE (vOf cur (o2 cur.of k n (-2 - w))) W Wi T O V S B ∧ z = Wi n) ∧ CW G h' x B bl eo (vOf cur (o2 cur.of k n (-2 - w))) (hpush hist cur) ∧ FX x h h')) (XJ h (fun X => X = ioN ∧ ¬ (((0 ≤ k ∧ k < (cur.lb.length : Int)) ∧ (0 ≤ n ∧ n < (cur.nm.length : Int))) ∧ (0 ≤ w ∧ w < (cur.nm.length : Int))))) := by
  refine CX.of rfl hG (Nat.le_of_ble_eq_true rfl) rfl (fun E hQ hT => ?_)
  obtain ⟨⟨hx0, hx⟩, ⟨hbf, hBr⟩, hdq, hS, hok, hI, hbl, heo, hL⟩ := id hC
  have h8 := hok.2.1
  have h12 := hok.1
  refine ww_aload_n 0 dX1_offerForward_0 rfl ?_
  refine ww_iload_n 1 dX1_offerForward_1 rfl ?_
  refine ww_iload_n 2 dX1_offerForward_2 rfl ?_
  rcases Classical.em ((0 ≤ k ∧ k < (cur.lb.length : Int)) ∧ (0 ≤ n ∧ n < (cur.nm.length : Int))) with hr | hr
  · refine cr_pv (cr_V (ct_X1_rbT hG hC k hk n hn hr) sv_X1_186 rfl dX1_offerForward_3 hx rfl rfl rfl rfl ⟨by decide, by decide⟩ (Nat.le_of_ble_eq_true rfl) (Nat.le_of_ble_eq_true rfl) (Nat.le_of_ble_eq_true rfl)) ?_
    refine ww_aload_n 0 dX1_offerForward_6 rfl ?_
    refine ww_iload_n 3 dX1_offerForward_7 rfl ?_
    rcases Classical.em (0 ≤ w ∧ w < (cur.nm.length : Int)) with hw5 | hw5
    · refine cr_pv (cr_V (ct_X1_rnT hG hC w hw hw5) sv_X1_98 rfl dX1_offerForward_8 hx rfl rfl rfl rfl ⟨by decide, by decide⟩ (Nat.le_of_ble_eq_true rfl) (Nat.le_of_ble_eq_true rfl) (Nat.le_of_ble_eq_true rfl)) ?_
      refine ww_aload_n 0 dX1_offerForward_11 rfl ?_
      refine ww_iload_n 1 dX1_offerForward_12 rfl ?_
      refine ww_iload_n 2 dX1_offerForward_13 rfl ?_
      refine ww_bipush dX1_offerForward_14 (by decide) ?_
      refine ww_iload_n 3 dX1_offerForward_16 rfl ?_
      refine ww_isub dX1_offerForward_17 ?_
      refine cr_i (cr_V (ct_X1_offers hG hC k hk n hn hr (-2 - w) (by omega)) sv_X1_256 rfl dX1_offerForward_18 hx rfl rfl rfl rfl ⟨by decide, by decide⟩ (Nat.le_of_ble_eq_true rfl) (Nat.le_of_ble_eq_true rfl) (Nat.le_of_ble_eq_true rfl)) (fun r_18 h_18 hp_18 => ?_)
      obtain ⟨hw_18, hCW_18, f_18⟩ := hp_18
      exact ww_x hQ (ww_iret rfl dX1_offerForward_21 rfl (Nat.le_of_ble_eq_true rfl) (Nat.le_of_ble_eq_true rfl) ⟨_, rfl, ⟨hr, hw5⟩, hw_18, hCW_18, f_18⟩)
    · refine cx_v (cx_V (ct_X1_rnF hG hC w hw hw5) sv_X1_98 rfl dX1_offerForward_8 hx rfl rfl rfl rfl ⟨by decide, by decide⟩ (Nat.le_of_ble_eq_true rfl) (Nat.le_of_ble_eq_true rfl) (Nat.le_of_ble_eq_true rfl)) (fun X_8 q_8 g_8 hx_8 => wq_out hQ hT (Nat.le_of_ble_eq_true rfl) (Nat.le_of_ble_eq_true rfl) (hx_8.go Ex.rf (fun X e => ⟨e, fun z => hw5 z.2⟩))) (fun h_8 hp_8 => ?_)
      exact hp_8.elim
  · refine cx_v (cx_V (ct_X1_rbF hG hC k hk n hn hr) sv_X1_186 rfl dX1_offerForward_3 hx rfl rfl rfl rfl ⟨by decide, by decide⟩ (Nat.le_of_ble_eq_true rfl) (Nat.le_of_ble_eq_true rfl) (Nat.le_of_ble_eq_true rfl)) (fun X_3 q_3 g_3 hx_3 => wq_out hQ hT (Nat.le_of_ble_eq_true rfl) (Nat.le_of_ble_eq_true rfl) (hx_3.go Ex.rf (fun X e => ⟨e, fun z => hr z.1⟩))) (fun h_3 hp_3 => ?_)
    exact hp_3.elim

set_option maxHeartbeats 4000000 in
theorem ct_X1_withdraw {G : GT} {h : AH} (hG : GOK G) {x bf hd a r : Nat} {xs : List Nat} {B : Int → Int} {bl eo : Int} {cur : HV} {hist : List HV} (hC : CWd G h x bf hd a r xs B bl eo cur hist) (k : Int) (hk : inI k) (n : Int) (hn : inI n) : CX G (MX1_withdraw 1606 51468 903 16220) h [.ref x, .int (iI k), .int (iI n)] (pI (fun z h' => (((0 ≤ k ∧ k < (cur.lb.length : Int)) ∧ (0 ≤ n ∧ n < (cur.nm.length : Int))) ∧ cur.of k n ≠ -1) ∧ (∃ W Wi T O V S B, QE (vOf cur (o2 cur.of k n (-1))) W Wi T O V S B ∧ z = Wi n) ∧ CW G h' x B bl eo (vOf cur (o2 cur.of k n (-1))) (hpush hist cur) ∧ FX x h h')) (XJ h (fun X => (X = ioN ∧ ¬ ((0 ≤ k ∧ k < (cur.lb.length : Int)) ∧ (0 ≤ n ∧ n < (cur.nm.length : Int)))) ∨ (X = isN ∧ ((0 ≤ k ∧ k < (cur.lb.length : Int)) ∧ (0 ≤ n ∧ n < (cur.nm.length : Int))) ∧ ¬ cur.of k n ≠ -1))) := by
  refine CX.of rfl hG (Nat.le_of_ble_eq_true rfl) rfl (fun E hQ hT => ?_)
  obtain ⟨⟨hx0, hx⟩, ⟨hbf, hBr⟩, hdq, hS, hok, hI, hbl, heo, hL⟩ := id hC
  have h8 := hok.2.1
  have h12 := hok.1
  refine ww_aload_n 0 dX1_withdraw_0 rfl ?_
  refine ww_iload_n 1 dX1_withdraw_1 rfl ?_
  refine ww_iload_n 2 dX1_withdraw_2 rfl ?_
  refine cx_i (cx_V (ct_X1_offer hG hC k hk n hn) sv_X1_259 rfl dX1_withdraw_3 hx rfl rfl rfl rfl ⟨by decide, by decide⟩ (Nat.le_of_ble_eq_true rfl) (Nat.le_of_ble_eq_true rfl) (Nat.le_of_ble_eq_true rfl)) (fun X_3 q_3 g_3 hx_3 => wq_out hQ hT (Nat.le_of_ble_eq_true rfl) (Nat.le_of_ble_eq_true rfl) (hx_3.go Ex.rf (fun X e => Or.inl e))) (fun r_3 h_3 hp_3 => ?_)
  obtain ⟨hr, er_3, e_3⟩ := hp_3
  subst er_3
  have hC := hC.ex e_3
  have hx := hC.1.2
  refine ww_iconst dX1_withdraw_6 ?_
  refine ww_icmp_eq 14 dX1_withdraw_7 (by decide) (hok.ofi _ _) (inI.mk (by decide) (by decide)) (fun c_7 => ?_) (fun c_7 => ?_)
  · refine ww_iconst dX1_withdraw_14 ?_
    refine cx_v (cx_S (ct_X1_rsF hG) ss_X1_235 rfl dX1_withdraw_15 rfl rfl ⟨by decide, by decide⟩ (Nat.le_of_ble_eq_true rfl) (Nat.le_of_ble_eq_true rfl) (Nat.le_of_ble_eq_true rfl)) (fun X_15 q_15 g_15 hx_15 => wq_out hQ hT (Nat.le_of_ble_eq_true rfl) (Nat.le_of_ble_eq_true rfl) (hx_15.go e_3 (fun X e => Or.inr ⟨e, hr, fun z => z c_7⟩))) (fun h_15 hp_15 => ?_)
    exact hp_15.elim
  · refine ww_iconst dX1_withdraw_10 ?_
    refine ww_goto 15 dX1_withdraw_11 (by decide) ?_
    refine cr_pv (cr_S (ct_X1_rsT hG) ss_X1_235 rfl dX1_withdraw_15 rfl rfl ⟨by decide, by decide⟩ (Nat.le_of_ble_eq_true rfl) (Nat.le_of_ble_eq_true rfl) (Nat.le_of_ble_eq_true rfl)) ?_
    refine ww_aload_n 0 dX1_withdraw_18 rfl ?_
    refine ww_iload_n 1 dX1_withdraw_19 rfl ?_
    refine ww_iload_n 2 dX1_withdraw_20 rfl ?_
    refine ww_iconst dX1_withdraw_21 ?_
    refine cr_i (cr_V (ct_X1_offers hG hC k hk n hn hr (-1) (by omega)) sv_X1_256 rfl dX1_withdraw_22 hx rfl rfl rfl rfl ⟨by decide, by decide⟩ (Nat.le_of_ble_eq_true rfl) (Nat.le_of_ble_eq_true rfl) (Nat.le_of_ble_eq_true rfl)) (fun r_22 h_22 hp_22 => ?_)
    obtain ⟨hw_22, hCW_22, f_22⟩ := hp_22
    exact ww_x hQ (ww_iret rfl dX1_withdraw_25 rfl (Nat.le_of_ble_eq_true rfl) (Nat.le_of_ble_eq_true rfl) ⟨_, rfl, ⟨hr, c_7⟩, hw_22, hCW_22, (e_3.fo).tr f_22⟩)

set_option maxHeartbeats 4000000 in
theorem ct_X1_setShare {G : GT} {h : AH} (hG : GOK G) {x bf hd a r : Nat} {xs : List Nat} {B : Int → Int} {bl eo : Int} {cur : HV} {hist : List HV} (hC : CWd G h x bf hd a r xs B bl eo cur hist) (w : Int) (hw : inI w) : CX G (MX1_setShare 1605 51445 1100 17000) h [.ref x, .int (iI w)] (pI (fun z h' => (0 ≤ w ∧ w ≤ 100) ∧ (MOV cur (vSh cur w) (-1) z) ∧ CW G h' x B bl eo (vSh cur w) (hpush hist cur) ∧ FX x h h')) (XJ h (fun X => X = iaN ∧ ¬ (0 ≤ w ∧ w ≤ 100))) := by
  refine CX.of rfl hG (Nat.le_of_ble_eq_true rfl) rfl (fun E hQ hT => ?_)
  obtain ⟨⟨hx0, hx⟩, ⟨hbf, hBr⟩, hdq, hS, hok, hI, hbl, heo, hL⟩ := id hC
  have h8 := hok.2.1
  have h12 := hok.1
  refine ww_iload_n 1 dX1_setShare_0 rfl ?_
  refine ww_i2l dX1_setShare_1 hw ?_
  refine ww_lconst 0 dX1_setShare_2 rfl ?_
  refine ww_ldc2 q2024 dX1_setShare_3 (z := 100) rfl ?_
  have hwi1 := hw.1
  have hwi2 := hw.2
  refine cr_pi (cr_S (ct_X1_isBetween hG w 0 100 (inL.mk (by omega) (by omega)) (inL.mk (by omega) (by omega)) (inL.mk (by omega) (by omega))) ss_X1_64 rfl dX1_setShare_6 rfl rfl ⟨by decide, by decide⟩ (Nat.le_of_ble_eq_true rfl) (Nat.le_of_ble_eq_true rfl) (Nat.le_of_ble_eq_true rfl)) ?_
  rcases Classical.em (0 ≤ w ∧ w ≤ 100) with hw5 | hw5
  · rw [bI_t hw5]
    refine cr_pv (cr_S (ct_X1_raT hG) ss_X1_131 rfl dX1_setShare_9 rfl rfl ⟨by decide, by decide⟩ (Nat.le_of_ble_eq_true rfl) (Nat.le_of_ble_eq_true rfl) (Nat.le_of_ble_eq_true rfl)) ?_
    refine ww_aload_n 0 dX1_setShare_12 rfl ?_
    refine cr_r (cr_V (ct_X1_election hG hC) sv_X1_178 rfl dX1_setShare_13 hx rfl rfl rfl rfl ⟨by decide, by decide⟩ (Nat.le_of_ble_eq_true rfl) (Nat.le_of_ble_eq_true rfl) (Nat.le_of_ble_eq_true rfl)) (fun r_13 h_13 hp_13 => ?_)
    obtain ⟨hEL_13, e_13, n_13⟩ := hp_13
    have hC := hC.ex e_13
    have hx := hC.1.2
    refine ww_astore_n [(2, _), (0, _), (1, _)] dX1_setShare_16 (by decide) rfl ?_
    refine ww_aload_n 1 dX1_setShare_17 rfl ?_
    refine cr_r (cr_V (ct_X1_change hG hC) sv_X1_238 rfl dX1_setShare_18 hx rfl rfl rfl rfl ⟨by decide, by decide⟩ (Nat.le_of_ble_eq_true rfl) (Nat.le_of_ble_eq_true rfl) (Nat.le_of_ble_eq_true rfl)) (fun r_18 h_18 hp_18 => ?_)
    obtain ⟨xs2, hC, hIn, hra, n_18, f_18⟩ := hp_18
    have hEL_13 := hEL_13.fo f_18 (by omega)
    have hx := hC.1.2
    obtain ⟨nl, al, am, ll, w9, nxs, lx, dx, ha2, hr2, hho, hR2, hMp, h82⟩ := id hC.2.2.2.1
    refine ww_iload_n 2 dX1_setShare_21 rfl ?_
    refine wx_putf pf_X1_154 rfl dX1_setShare_22 hho ha2 (Nat.le_of_ble_eq_true rfl) rfl rfl (fun h_22 hho f_22 => ?_)
    have hok2 : HVok (vSh cur w) := hok.shr hw5
    have hC := hC.mut hIn f_22.fo (show HSv G h_22 _ r (vSh cur w) from ⟨nl, al, am, ll, w9, nxs, lx, dx, ha2, hr2, hho, hR2.fo f_22.fo ha2 h82 (by omega), hMp.kt f_22 ha2 (by omega), h82⟩) hok2 (by omega)
    have hx := hC.1.2
    have hEL_13 := hEL_13.fo f_22.fo (by omega)
    refine ww_aload_n 1 dX1_setShare_25 rfl ?_
    refine cr_r (cr_V (ct_X1_election hG hC) sv_X1_178 rfl dX1_setShare_26 hx rfl rfl rfl rfl ⟨by decide, by decide⟩ (Nat.le_of_ble_eq_true rfl) (Nat.le_of_ble_eq_true rfl) (Nat.le_of_ble_eq_true rfl)) (fun r_26 h_26 hp_26 => ?_)
    obtain ⟨hEL_26, e_26, n_26⟩ := hp_26
    have hC := hC.ex e_26
    have hx := hC.1.2
    refine ww_aload_n 0 dX1_setShare_29 rfl ?_
    refine ww_iconst dX1_setShare_30 ?_
    obtain ⟨y1, y2, y3, y4, y5, y6, y7, RO, RV, RS, RB, W, Wi, T, O, V, S, B5, ⟨hE, hO, hV, hS6, hB⟩, hq⟩ := hEL_13
    have hg := QE.rg (v := cur) hq hok
    obtain ⟨z1, z2, z3, z4, z5, z6, z7, SO, SV, SS, SB9, W2, Wi2, T2, O2, V2, S2, B2, ⟨hEb, hOb, hVb, hSb, hBb⟩, hqb⟩ := hEL_26
    have hgb := QE.rg (v := vSh cur w) hqb hok2
    have hE := hE.ex e_26
    have hB := hB.ex e_26
    obtain ⟨he0b, -, -, heb, -, -, -⟩ := id hEb
    refine cr_pi (cr_V (ct_X8_moved hG hEb hqb.2.1 hBb (ERg.bi hgb hok2.2.1) hE hB (ERg.bi hg hok.2.1) (-1) (inI.mk (by decide) (by decide))) sv_X1_244 rfl dX1_setShare_31 heb rfl rfl rfl rfl ⟨by decide, by decide⟩ (Nat.le_of_ble_eq_true rfl) (Nat.le_of_ble_eq_true rfl) (Nat.le_of_ble_eq_true rfl)) ?_
    exact ww_x hQ (ww_iret rfl dX1_setShare_34 rfl (Nat.le_of_ble_eq_true rfl) (Nat.le_of_ble_eq_true rfl) ⟨_, rfl, hw5, ⟨W, Wi, T, O, V, S, B5, hq, W2, Wi2, T2, O2, V2, S2, B2, hqb, rfl⟩, hC.cw, ((e_13.fo (o := x) (k1 := 10570) (k2 := 10575)).tr (FO.nwf f_18 f_22.fo n_18)).ex e_26⟩)
  · rw [bI_f hw5]
    refine cx_v (cx_S (ct_X1_raF hG) ss_X1_131 rfl dX1_setShare_9 rfl rfl ⟨by decide, by decide⟩ (Nat.le_of_ble_eq_true rfl) (Nat.le_of_ble_eq_true rfl) (Nat.le_of_ble_eq_true rfl)) (fun X_9 q_9 g_9 hx_9 => wq_out hQ hT (Nat.le_of_ble_eq_true rfl) (Nat.le_of_ble_eq_true rfl) (hx_9.go Ex.rf (fun X e => ⟨e, hw5⟩))) (fun h_9 hp_9 => ?_)
    exact hp_9.elim

/-- the libraries with one trust, or whether it keeps, set -/
def lbT (lb : List LV) (k w : Int) : List LV := lb.set k.toNat ((lb.getD k.toNat ([], 0, 0, [])).1, w, (lb.getD k.toNat ([], 0, 0, [])).2.2.1, (lb.getD k.toNat ([], 0, 0, [])).2.2.2)
def lbK (lb : List LV) (k w : Int) : List LV := lb.set k.toNat ((lb.getD k.toNat ([], 0, 0, [])).1, (lb.getD k.toNat ([], 0, 0, [])).2.1, w, (lb.getD k.toNat ([], 0, 0, [])).2.2.2)
theorem hTv {lb : List LV} {k w : Int} {v : LV} (h : lb[k.toNat]? = some v) : lbT lb k w = lb.set k.toNat (v.1, w, v.2.2.1, v.2.2.2) := by unfold lbT; rw [List.getD_eq_getElem?_getD, h]; rfl
theorem hKv {lb : List LV} {k w : Int} {v : LV} (h : lb[k.toNat]? = some v) : lbK lb k w = lb.set k.toNat (v.1, v.2.1, w, v.2.2.2) := by unfold lbK; rw [List.getD_eq_getElem?_getD, h]; rfl
set_option maxHeartbeats 4000000 in
theorem ct_X1_setTrust {G : GT} {h : AH} (hG : GOK G) {x bf hd a r : Nat} {xs : List Nat} {B : Int → Int} {bl eo : Int} {cur : HV} {hist : List HV} (hC : CWd G h x bf hd a r xs B bl eo cur hist) (k : Int) (hk : inI k) (w : Int) (hw : inI w) : CX G (MX1_setTrust 14 3286 605 14986) h [.ref x, .int (iI k), .int (iI w)] (pI (fun z h' => ((0 ≤ k ∧ k < (cur.lb.length : Int)) ∧ (0 ≤ w ∧ w ≤ 999)) ∧ (z = hTr cur.lb k) ∧ CW G h' x B bl eo (vLb cur (lbT cur.lb k w)) (hpush hist cur) ∧ FX x h h')) (XJ h (fun X => (X = ioN ∧ ¬ (0 ≤ k ∧ k < (cur.lb.length : Int))) ∨ (X = iaN ∧ (0 ≤ k ∧ k < (cur.lb.length : Int)) ∧ ¬ (0 ≤ w ∧ w ≤ 999)))) := by
  refine CX.of rfl hG (Nat.le_of_ble_eq_true rfl) rfl (fun E hQ hT => ?_)
  obtain ⟨⟨hx0, hx⟩, ⟨hbf, hBr⟩, hdq, hS, hok, hI, hbl, heo, hL⟩ := id hC
  have h8 := hok.2.1
  have h12 := hok.1
  refine ww_aload_n 0 dX1_setTrust_0 rfl ?_
  refine ww_iload_n 1 dX1_setTrust_1 rfl ?_
  rcases Classical.em (0 ≤ k ∧ k < (cur.lb.length : Int)) with hr | hr
  · have hv : cur.lb[k.toNat]? = some (cur.lb[k.toNat]'(by omega)) := List.getElem?_eq_getElem (by omega)
    generalize hve : cur.lb[k.toNat]'(by omega) = v at *
    refine cr_r (cr_V (ct_X1_laT hG hC k hk hr hv) sv_X1_157 rfl dX1_setTrust_2 hx rfl rfl rfl rfl ⟨by decide, by decide⟩ (Nat.le_of_ble_eq_true rfl) (Nat.le_of_ble_eq_true rfl) (Nat.le_of_ble_eq_true rfl)) (fun r_2 h_2 hp_2 => ?_)
    obtain ⟨eh_2, ws_2, pl_2, px_2, hb_2, hpa_2, hpl_2⟩ := hp_2
    subst eh_2
    refine ww_getf gf_X1_163 rfl dX1_setTrust_5 hb_2 rfl ?_
    refine ww_istore_n [(3, _), (0, _), (1, _), (2, _)] dX1_setTrust_8 (by decide) rfl ?_
    refine ww_iload_n 3 dX1_setTrust_9 rfl ?_
    refine ww_i2l dX1_setTrust_10 hw ?_
    refine ww_lconst 0 dX1_setTrust_11 rfl ?_
    refine ww_ldc2 q2009 dX1_setTrust_12 (z := 999) rfl ?_
    have hwi1 := hw.1
    have hwi2 := hw.2
    refine cr_pi (cr_S (ct_X1_isBetween hG w 0 999 (inL.mk (by omega) (by omega)) (inL.mk (by omega) (by omega)) (inL.mk (by omega) (by omega))) ss_X1_64 rfl dX1_setTrust_15 rfl rfl ⟨by decide, by decide⟩ (Nat.le_of_ble_eq_true rfl) (Nat.le_of_ble_eq_true rfl) (Nat.le_of_ble_eq_true rfl)) ?_
    rcases Classical.em (0 ≤ w ∧ w ≤ 999) with hw5 | hw5
    · rw [bI_t hw5]
      refine cr_pv (cr_S (ct_X1_raT hG) ss_X1_131 rfl dX1_setTrust_18 rfl rfl ⟨by decide, by decide⟩ (Nat.le_of_ble_eq_true rfl) (Nat.le_of_ble_eq_true rfl) (Nat.le_of_ble_eq_true rfl)) ?_
      refine ww_aload_n 1 dX1_setTrust_21 rfl ?_
      refine cr_r (cr_V (ct_X1_change hG hC) sv_X1_238 rfl dX1_setTrust_22 hx rfl rfl rfl rfl ⟨by decide, by decide⟩ (Nat.le_of_ble_eq_true rfl) (Nat.le_of_ble_eq_true rfl) (Nat.le_of_ble_eq_true rfl)) (fun r_22 h_22 hp_22 => ?_)
      obtain ⟨xs2, hC, hIn, hra, n_22, f_22⟩ := hp_22
      have hx := hC.1.2
      obtain ⟨nl, al, am, ll, w9, nxs, lx, dx, ha2, hr2, hho, hR2, hMp, h82⟩ := id hC.2.2.2.1
      obtain ⟨⟨hA1, hZ1⟩, ⟨hA2, hB2⟩, ⟨hA3, hZ3⟩, hWt⟩ := id hR2
      have hln2 := hB2.1
      obtain ⟨x8, hx8⟩ := gx_get (xs := lx) (i := k) hr.1 (by omega)
      obtain ⟨ws, pl, px, hb, hsw, hpa, hpz, hkp⟩ := hB2.2 _ _ _ hx8 hv
      obtain ⟨fs9, hao⟩ := hA2.obj
      have hb0 := hb
      have hB0 := hB2
      refine ww_getf gf_X1_84 rfl dX1_setTrust_25 hho rfl ?_
      refine ww_iload_n 2 dX1_setTrust_28 rfl ?_
      refine cr5_pr (cr_F (ct_J3_get hG hA2 _ x8 hr.1 hx8) sf_X1_87 rfl dX1_setTrust_29 hao rfl rfl rfl rfl ⟨by decide, by decide⟩ (Nat.le_of_ble_eq_true rfl) (Nat.le_of_ble_eq_true rfl) (Nat.le_of_ble_eq_true rfl)) ?_
      refine ww_cast dX1_setTrust_34 hb rfl q1191 rfl ?_
      refine ww_iload_n 3 dX1_setTrust_37 rfl ?_
      refine wx_putf pf_X1_163 rfl dX1_setTrust_38 hb ha2 (Nat.le_of_ble_eq_true rfl) rfl rfl (fun h_38 hb f_38 => ?_)
      have hok2 : HVok (vLb cur (cur.lb.set k.toNat (v.1, w, v.2.2.1, v.2.2.2))) := hok.lib hv rfl hw5
      have hC := hC.mut hIn f_38.fo (show HSv G h_38 _ r (vLb cur (cur.lb.set k.toNat (v.1, w, v.2.2.1, v.2.2.2))) from ⟨nl, al, am, ll, w9, nxs, lx, dx, ha2, hr2, f_38.at hho (by omega), ⟨⟨hA1.kt f_38 ha2 (by omega), hZ1.mono (fun _ _ q => q.kt f_38 (by omega))⟩, ⟨hA2.kt f_38 ha2 (by omega), LBs.setv hB0 h82 ha2 hx8 hv hb0 hb rfl rfl hkp f_38⟩, ⟨hA3.kt f_38 ha2 (by omega), hZ3.mono (fun _ _ q => q.kt f_38 ha2 (by omega))⟩, hWt.fo f_38.fo ha2 (by omega)⟩, hMp.kt f_38 ha2 (by omega), by show (cur.lb.set _ _).length ≤ 8; rw [List.length_set]; exact h82⟩) hok2 (by omega)
      have hx := hC.1.2
      refine ww_iload_n 0 dX1_setTrust_41 rfl ?_
      exact ww_x hQ (ww_iret rfl dX1_setTrust_42 rfl (Nat.le_of_ble_eq_true rfl) (Nat.le_of_ble_eq_true rfl) ⟨_, rfl, ⟨hr, hw5⟩, (hTr_at hv).symm, by rw [hTv hv]; exact hC.cw, FO.nwf f_22 f_38.fo n_22⟩)
    · rw [bI_f hw5]
      refine cx_v (cx_S (ct_X1_raF hG) ss_X1_131 rfl dX1_setTrust_18 rfl rfl ⟨by decide, by decide⟩ (Nat.le_of_ble_eq_true rfl) (Nat.le_of_ble_eq_true rfl) (Nat.le_of_ble_eq_true rfl)) (fun X_18 q_18 g_18 hx_18 => wq_out hQ hT (Nat.le_of_ble_eq_true rfl) (Nat.le_of_ble_eq_true rfl) (hx_18.go Ex.rf (fun X e => Or.inr ⟨e, hr, hw5⟩))) (fun h_18 hp_18 => ?_)
      exact hp_18.elim
  · refine cx_r (cx_V (ct_X1_laF hG hC k hk hr) sv_X1_157 rfl dX1_setTrust_2 hx rfl rfl rfl rfl ⟨by decide, by decide⟩ (Nat.le_of_ble_eq_true rfl) (Nat.le_of_ble_eq_true rfl) (Nat.le_of_ble_eq_true rfl)) (fun X_2 q_2 g_2 hx_2 => wq_out hQ hT (Nat.le_of_ble_eq_true rfl) (Nat.le_of_ble_eq_true rfl) (hx_2.go Ex.rf (fun X e => Or.inl ⟨e, hr⟩))) (fun r_2 h_2 hp_2 => ?_)
    exact hp_2.elim

set_option maxHeartbeats 4000000 in
theorem ct_X1_setKeeps {G : GT} {h : AH} (hG : GOK G) {x bf hd a r : Nat} {xs : List Nat} {B : Int → Int} {bl eo : Int} {cur : HV} {hist : List HV} (hC : CWd G h x bf hd a r xs B bl eo cur hist) (k : Int) (hk : inI k) (w : Int) (hw : w = 0 ∨ w = 1) : CX G (MX1_setKeeps 1605 51445 1100 17000) h [.ref x, .int (iI k), .int (iI w)] (pI (fun z h' => (0 ≤ k ∧ k < (cur.lb.length : Int)) ∧ (MOV cur (vLb cur (lbK cur.lb k w)) (-1) z) ∧ CW G h' x B bl eo (vLb cur (lbK cur.lb k w)) (hpush hist cur) ∧ FX x h h')) (XJ h (fun X => X = ioN ∧ ¬ (0 ≤ k ∧ k < (cur.lb.length : Int)))) := by
  refine CX.of rfl hG (Nat.le_of_ble_eq_true rfl) rfl (fun E hQ hT => ?_)
  obtain ⟨⟨hx0, hx⟩, ⟨hbf, hBr⟩, hdq, hS, hok, hI, hbl, heo, hL⟩ := id hC
  have h8 := hok.2.1
  have h12 := hok.1
  refine ww_aload_n 0 dX1_setKeeps_0 rfl ?_
  refine ww_iload_n 1 dX1_setKeeps_1 rfl ?_
  rcases Classical.em (0 ≤ k ∧ k < (cur.lb.length : Int)) with hr | hr
  · have hv : cur.lb[k.toNat]? = some (cur.lb[k.toNat]'(by omega)) := List.getElem?_eq_getElem (by omega)
    generalize hve : cur.lb[k.toNat]'(by omega) = v at *
    refine cr_r (cr_V (ct_X1_laT hG hC k hk hr hv) sv_X1_157 rfl dX1_setKeeps_2 hx rfl rfl rfl rfl ⟨by decide, by decide⟩ (Nat.le_of_ble_eq_true rfl) (Nat.le_of_ble_eq_true rfl) (Nat.le_of_ble_eq_true rfl)) (fun r_2 h_2 hp_2 => ?_)
    obtain ⟨eh_2, ws_2, pl_2, px_2, hb_2, hpa_2, hpl_2⟩ := hp_2
    subst eh_2
    refine ww_astore_n [(3, _), (0, _), (1, _), (2, _)] dX1_setKeeps_5 (by decide) rfl ?_
    refine ww_aload_n 1 dX1_setKeeps_6 rfl ?_
    refine cr_r (cr_V (ct_X1_election hG hC) sv_X1_178 rfl dX1_setKeeps_7 hx rfl rfl rfl rfl ⟨by decide, by decide⟩ (Nat.le_of_ble_eq_true rfl) (Nat.le_of_ble_eq_true rfl) (Nat.le_of_ble_eq_true rfl)) (fun r_7 h_7 hp_7 => ?_)
    obtain ⟨hEL_7, e_7, n_7⟩ := hp_7
    have hC := hC.ex e_7
    have hx := hC.1.2
    refine ww_astore [(4, _), (3, _), (0, _), (1, _), (2, _)] dX1_setKeeps_10 (by decide) rfl ?_
    refine ww_aload_n 2 dX1_setKeeps_12 rfl ?_
    refine cr_r (cr_V (ct_X1_change hG hC) sv_X1_238 rfl dX1_setKeeps_13 hx rfl rfl rfl rfl ⟨by decide, by decide⟩ (Nat.le_of_ble_eq_true rfl) (Nat.le_of_ble_eq_true rfl) (Nat.le_of_ble_eq_true rfl)) (fun r_13 h_13 hp_13 => ?_)
    obtain ⟨xs2, hC, hIn, hra, n_13, f_13⟩ := hp_13
    have hEL_7 := hEL_7.fo f_13 (by omega)
    have hx := hC.1.2
    obtain ⟨nl, al, am, ll, w9, nxs, lx, dx, ha2, hr2, hho, hR2, hMp, h82⟩ := id hC.2.2.2.1
    obtain ⟨⟨hA1, hZ1⟩, ⟨hA2, hB2⟩, ⟨hA3, hZ3⟩, hWt⟩ := id hR2
    have hln2 := hB2.1
    obtain ⟨x8, hx8⟩ := gx_get (xs := lx) (i := k) hr.1 (by omega)
    obtain ⟨ws, pl, px, hb, hsw, hpa, hpz, hkp⟩ := hB2.2 _ _ _ hx8 hv
    obtain ⟨fs9, hao⟩ := hA2.obj
    have hb0 := hb
    have hB0 := hB2
    refine ww_getf gf_X1_84 rfl dX1_setKeeps_16 hho rfl ?_
    refine ww_iload_n 3 dX1_setKeeps_19 rfl ?_
    refine cr5_pr (cr_F (ct_J3_get hG hA2 _ x8 hr.1 hx8) sf_X1_87 rfl dX1_setKeeps_20 hao rfl rfl rfl rfl ⟨by decide, by decide⟩ (Nat.le_of_ble_eq_true rfl) (Nat.le_of_ble_eq_true rfl) (Nat.le_of_ble_eq_true rfl)) ?_
    refine ww_cast dX1_setKeeps_25 hb rfl q1191 rfl ?_
    refine ww_iload_n 4 dX1_setKeeps_28 rfl ?_
    refine wx_putf pf_X1_165 rfl dX1_setKeeps_29 hb ha2 (Nat.le_of_ble_eq_true rfl) (by rcases hw with e | e <;> rw [e] <;> rfl) (by rcases hw with e | e <;> rw [e] <;> rfl) (fun h_29 hb f_29 => ?_)
    have hok2 : HVok (vLb cur (cur.lb.set k.toNat (v.1, v.2.1, w, v.2.2.2))) := hok.lib hv rfl (hok.2.2.2.2.2.1 v (List.mem_of_getElem? hv))
    have hC := hC.mut hIn f_29.fo (show HSv G h_29 _ r (vLb cur (cur.lb.set k.toNat (v.1, v.2.1, w, v.2.2.2))) from ⟨nl, al, am, ll, w9, nxs, lx, dx, ha2, hr2, f_29.at hho (by omega), ⟨⟨hA1.kt f_29 ha2 (by omega), hZ1.mono (fun _ _ q => q.kt f_29 (by omega))⟩, ⟨hA2.kt f_29 ha2 (by omega), LBs.setv hB0 h82 ha2 hx8 hv hb0 hb rfl rfl hw f_29⟩, ⟨hA3.kt f_29 ha2 (by omega), hZ3.mono (fun _ _ q => q.kt f_29 ha2 (by omega))⟩, hWt.fo f_29.fo ha2 (by omega)⟩, hMp.kt f_29 ha2 (by omega), by show (cur.lb.set _ _).length ≤ 8; rw [List.length_set]; exact h82⟩) hok2 (by omega)
    have hx := hC.1.2
    have hEL_7 := hEL_7.fo f_29.fo (by omega)
    refine ww_aload_n 2 dX1_setKeeps_32 rfl ?_
    refine cr_r (cr_V (ct_X1_election hG hC) sv_X1_178 rfl dX1_setKeeps_33 hx rfl rfl rfl rfl ⟨by decide, by decide⟩ (Nat.le_of_ble_eq_true rfl) (Nat.le_of_ble_eq_true rfl) (Nat.le_of_ble_eq_true rfl)) (fun r_33 h_33 hp_33 => ?_)
    obtain ⟨hEL_33, e_33, n_33⟩ := hp_33
    have hC := hC.ex e_33
    have hx := hC.1.2
    refine ww_aload 0 dX1_setKeeps_36 rfl ?_
    refine ww_iconst dX1_setKeeps_38 ?_
    obtain ⟨y1, y2, y3, y4, y5, y6, y7, RO, RV, RS, RB, W, Wi, T, O, V, S, B5, ⟨hE, hO, hV, hS6, hB⟩, hq⟩ := hEL_7
    have hg := QE.rg (v := cur) hq hok
    obtain ⟨z1, z2, z3, z4, z5, z6, z7, SO, SV, SS, SB9, W2, Wi2, T2, O2, V2, S2, B2, ⟨hEb, hOb, hVb, hSb, hBb⟩, hqb⟩ := hEL_33
    have hgb := QE.rg (v := vLb cur (cur.lb.set k.toNat (v.1, v.2.1, w, v.2.2.2))) hqb hok2
    have hE := hE.ex e_33
    have hB := hB.ex e_33
    obtain ⟨he0b, -, -, heb, -, -, -⟩ := id hEb
    have hlse : (vLb cur (cur.lb.set k.toNat (v.1, v.2.1, w, v.2.2.2))).lb.length = cur.lb.length := List.length_set
    rw [hlse] at hEb hBb
    refine cr_pi (cr_V (ct_X8_moved hG hEb hqb.2.1 hBb (fun k n k0 k1 => ERg.bi hgb hok2.2.1 k n k0 (by rw [hlse]; exact k1)) hE hB (ERg.bi hg hok.2.1) (-1) (inI.mk (by decide) (by decide))) sv_X1_244 rfl dX1_setKeeps_39 heb rfl rfl rfl rfl ⟨by decide, by decide⟩ (Nat.le_of_ble_eq_true rfl) (Nat.le_of_ble_eq_true rfl) (Nat.le_of_ble_eq_true rfl)) ?_
    exact ww_x hQ (ww_iret rfl dX1_setKeeps_42 rfl (Nat.le_of_ble_eq_true rfl) (Nat.le_of_ble_eq_true rfl) ⟨_, rfl, hr, by rw [hKv hv]; exact ⟨W, Wi, T, O, V, S, B5, hq, W2, Wi2, T2, O2, V2, S2, B2, hqb, rfl⟩, by rw [hKv hv]; exact hC.cw, ((e_7.fo (o := x) (k1 := 10570) (k2 := 10575)).tr (FO.nwf f_13 f_29.fo n_13)).ex e_33⟩)
  · refine cx_r (cx_V (ct_X1_laF hG hC k hk hr) sv_X1_157 rfl dX1_setKeeps_2 hx rfl rfl rfl rfl ⟨by decide, by decide⟩ (Nat.le_of_ble_eq_true rfl) (Nat.le_of_ble_eq_true rfl) (Nat.le_of_ble_eq_true rfl)) (fun X_2 q_2 g_2 hx_2 => wq_out hQ hT (Nat.le_of_ble_eq_true rfl) (Nat.le_of_ble_eq_true rfl) (hx_2.go Ex.rf (fun X e => ⟨e, hr⟩))) (fun r_2 h_2 hp_2 => ?_)
    exact hp_2.elim
