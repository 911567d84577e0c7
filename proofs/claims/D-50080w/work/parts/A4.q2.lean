set_option maxRecDepth 100000
set_option maxHeartbeats 4000000 in
theorem ct_X1_election {G : GT} {h : AH} (hG : GOK G) {x bf hd a r : Nat} {xs : List Nat} {B : Int → Int} {bl eo : Int} {cur : HV} {hist : List HV} (hC : CWd G h x bf hd a r xs B bl eo cur hist) : CT G (MX1_election 1604 51425 241 848) h [.ref x] (pR (fun e h' => EL G h' e a cur.nm.length cur.lb cur.of cur.ld cur.sh cur.fn ∧ Ex h h' ∧ Nw h e)) := by
  refine CT.of rfl hG (Nat.le_of_ble_eq_true rfl) rfl (fun E hQ => ?_)
  obtain ⟨⟨hx0, hx⟩, ⟨hbf, hBr⟩, hdq, hS, hok, hI, hbl, heo, hL⟩ := id hC
  refine wx_new (fun q => (q, 10600)) nw_X1_102 rfl dX1_election_0 (fun q hq => ⟨hq.1, Nat.le_refl _⟩) (Nat.le_of_ble_eq_true rfl) (Nat.le_of_ble_eq_true rfl) (fun q_0 h_0 n_0 e_0 he => ?_)
  have hx := e_0 _ _ hx
  refine ww_dup dX1_election_3 rfl ?_
  refine ww_aload_n 0 dX1_election_4 rfl ?_
  refine ww_getf gf_X1_56 rfl dX1_election_5 hx rfl ?_
  refine cr_v (cr_I (ct_X8_init hG (hS.ex e_0) n_0.1 he hok.1 hok.2.2.1 hok.2.2.2.2.1 hok.2.2.2.2.2.1 hok.ofi hok.2.2.2.2.2.2.2.2.2) si_X1_104 rfl rfl dX1_election_8 rfl rfl ⟨Nat.le_of_ble_eq_true rfl, Nat.le_of_ble_eq_true rfl⟩ (Nat.le_of_ble_eq_true rfl) (Nat.le_of_ble_eq_true rfl) (Nat.le_of_ble_eq_true rfl)) (fun h_8 hp_8 => ?_)
  obtain ⟨hEL, f_8⟩ := hp_8
  exact ww_aret hQ dX1_election_11 rfl rfl (Nat.le_of_ble_eq_true rfl) (Nat.le_of_ble_eq_true rfl) ⟨_, rfl, hEL, ((e_0.fo).tr f_8).nw n_0, n_0⟩

theorem hsn {G : GT} {h : AH} {q a r : Nat} {xs : List Nat} {hist : List HV} {v : HV} (hI : HISn G h q xs hist) (hS : HSv G h a r v) (hn : a ≠ q ∧ r ≠ q) (hok : HVok v) : HISn G h q (xs ++ [a]) (hist ++ [v]) := Z2.snoc (P := fun y v => (∃ r, HSv G h y r v ∧ y ≠ q ∧ r ≠ q) ∧ HVok v) ⟨⟨r, hS, hn⟩, hok⟩ hI
set_option maxHeartbeats 4000000 in
theorem ct_X1_replace {G : GT} {h : AH} (hG : GOK G) {x bf hd a r : Nat} {xs : List Nat} {B : Int → Int} {bl eo : Int} {cur : HV} {hist : List HV} (hC : CWd G h x bf hd a r xs B bl eo cur hist) {a2 r2 : Nat} {v2 : HV} (hS2 : HSv G h a2 r2 v2) (hok2 : HVok v2) (hIn : HISn G h a2 xs hist) (hna : a ≠ a2 ∧ r ≠ a2) : CT G (MX1_replace 3 65 0 0) h [.ref x, .ref a2] (pV (fun h' => ∃ xs', CWd G h' x bf hd a2 r2 xs' B bl eo v2 (hpush hist cur) ∧ HISn G h' a2 xs' (hpush hist cur) ∧ FX x h h')) := by
  refine CT.of rfl hG (Nat.le_of_ble_eq_true rfl) rfl (fun E hQ => ?_)
  obtain ⟨⟨hx0, hx⟩, ⟨hbf, hBr⟩, hdq, hS, hok, hI, hbl, heo, hL⟩ := id hC
  have hF : FX x h h := FO.rf
  obtain ⟨ha0, fsH, hho⟩ := hS.obj
  have hil := hI.len
  have hdl0 : xs.length ≤ 8 := by obtain ⟨q1, q2, q3, q4, q5, q6, q7, q8, q9, q10⟩ := id hdq; exact q9
  refine ww_aload_n 0 dX1_replace_0 rfl ?_
  refine ww_getf gf_X1_44 rfl dX1_replace_1 hx rfl ?_
  obtain ⟨rr, hd9, ff, -, hdo, -⟩ := id hdq
  refine cr_pi (cr_V (ct_J1_size hG hdq) sv_X1_107 rfl dX1_replace_4 hdo rfl rfl rfl rfl ⟨by decide, by decide⟩ (Nat.le_of_ble_eq_true rfl) (Nat.le_of_ble_eq_true rfl) (Nat.le_of_ble_eq_true rfl)) ?_
  refine ww_bipush dX1_replace_7 (by decide) ?_
  refine ww_icmp_ne 20 dX1_replace_9 (by decide) (inI.mk (by omega) (by omega)) (inI.mk (by omega) (by omega)) (fun c_9 => ?_) (fun c_9 => ?_)
  · have hdl : xs.length ≤ 8 := by obtain ⟨q1, q2, q3, q4, q5, q6, q7, q8, q9, q10⟩ := id hdq; exact q9
    have hpu : hpush hist cur = hist ++ [cur] := by unfold hpush; rw [if_neg (by omega)]
    refine ww_aload_n 0 dX1_replace_20 rfl ?_
    refine ww_getf gf_X1_44 rfl dX1_replace_21 hx rfl ?_
    refine ww_aload_n 0 dX1_replace_24 rfl ?_
    refine ww_getf gf_X1_56 rfl dX1_replace_25 hx rfl ?_
    obtain ⟨rr, hd9, ff, -, hdo, -⟩ := id hdq
    refine cr_v (cr_V (ct_J1_addLast hG hdq (by omega) (ci := 1) rfl q2462 hho (by omega)) sv_X1_114 rfl dX1_replace_28 hdo rfl rfl rfl rfl ⟨by decide, by decide⟩ (Nat.le_of_ble_eq_true rfl) (Nat.le_of_ble_eq_true rfl) (Nat.le_of_ble_eq_true rfl)) (fun h_28 hp_28 => ?_)
    obtain ⟨hdq, f_28⟩ := hp_28
    have hF := hF.tr (FO.w f_28 (by omega) (by omega))
    have hx := f_28.at hx (by omega)
    have hbf := f_28.at hbf (by omega)
    refine ww_aload_n 0 dX1_replace_31 rfl ?_
    refine ww_aload_n 1 dX1_replace_32 rfl ?_
    refine wx_putf pf_X1_56 rfl dX1_replace_33 hx hx0 (Nat.le_of_ble_eq_true rfl) rfl rfl (fun h_33 hx f_33 => ?_)
    have hbf := f_33.at hbf (by omega)
    have hF := hF.kt f_33 ⟨rfl, by omega, by omega⟩
    exact ww_vret hQ dX1_replace_36 rfl (Nat.le_of_ble_eq_true rfl) (Nat.le_of_ble_eq_true rfl) ⟨rfl, xs ++ [a], by rw [hpu]; exact ⟨⟨hx0, hx⟩, ⟨hbf, hBr⟩, hdq.kt f_33 (by omega), hS2.fo hF hx0 (by omega), hok2, HISn.his (hsn (hIn.fx hF hx0 (by omega)) (hS.fo hF hx0 (by omega)) hna hok), hbl, heo, hL.fo hF hx0⟩, by rw [hpu]; exact hsn (hIn.fx hF hx0 (by omega)) (hS.fo hF hx0 (by omega)) hna hok, hF⟩
  · have hh8 : hist.length = 8 := by omega
    obtain ⟨x0, xs1, rfl⟩ : ∃ x0 xs1, xs = x0 :: xs1 := by cases xs with | nil => simp at c_9 | cons a b => exact ⟨a, b, rfl⟩
    obtain ⟨v0, hs1, rfl⟩ : ∃ v0 hs1, hist = v0 :: hs1 := by cases hist with | nil => simp at hh8 | cons a b => exact ⟨a, b, rfl⟩
    simp only [List.length_cons] at c_9 hh8
    have hpu : hpush (v0 :: hs1) cur = hs1 ++ [cur] := by unfold hpush; rw [if_pos (by simp only [List.length_cons]; omega)]; rfl
    refine ww_aload_n 0 dX1_replace_12 rfl ?_
    refine ww_getf gf_X1_44 rfl dX1_replace_13 hx rfl ?_
    refine cr_r (cr_V (ct_J1_removeFirst hG hdq) sv_X1_110 rfl dX1_replace_16 hdo rfl rfl rfl rfl ⟨by decide, by decide⟩ (Nat.le_of_ble_eq_true rfl) (Nat.le_of_ble_eq_true rfl) (Nat.le_of_ble_eq_true rfl)) (fun r_16 h_16 hp_16 => ?_)
    obtain ⟨rfl, hdq, f_16⟩ := hp_16
    have hF := hF.tr (FO.w f_16 (by omega) (by omega))
    have hx := f_16.at hx (by omega)
    have hbf := f_16.at hbf (by omega)
    have hho := f_16.at hho (by omega)
    refine ww_pop dX1_replace_19 rfl ?_
    refine ww_aload_n 0 dX1_replace_20 rfl ?_
    refine ww_getf gf_X1_44 rfl dX1_replace_21 hx rfl ?_
    refine ww_aload_n 0 dX1_replace_24 rfl ?_
    refine ww_getf gf_X1_56 rfl dX1_replace_25 hx rfl ?_
    obtain ⟨rr, hd9, ff, -, hdo, -⟩ := id hdq
    refine cr_v (cr_V (ct_J1_addLast hG hdq (by omega) (ci := 1) rfl q2462 hho (by omega)) sv_X1_114 rfl dX1_replace_28 hdo rfl rfl rfl rfl ⟨by decide, by decide⟩ (Nat.le_of_ble_eq_true rfl) (Nat.le_of_ble_eq_true rfl) (Nat.le_of_ble_eq_true rfl)) (fun h_28 hp_28 => ?_)
    obtain ⟨hdq, f_28⟩ := hp_28
    have hF := hF.tr (FO.w f_28 (by omega) (by omega))
    have hx := f_28.at hx (by omega)
    have hbf := f_28.at hbf (by omega)
    refine ww_aload_n 0 dX1_replace_31 rfl ?_
    refine ww_aload_n 1 dX1_replace_32 rfl ?_
    refine wx_putf pf_X1_56 rfl dX1_replace_33 hx hx0 (Nat.le_of_ble_eq_true rfl) rfl rfl (fun h_33 hx f_33 => ?_)
    have hbf := f_33.at hbf (by omega)
    have hF := hF.kt f_33 ⟨rfl, by omega, by omega⟩
    exact ww_vret hQ dX1_replace_36 rfl (Nat.le_of_ble_eq_true rfl) (Nat.le_of_ble_eq_true rfl) ⟨rfl, xs1 ++ [a], by rw [hpu]; exact ⟨⟨hx0, hx⟩, ⟨hbf, hBr⟩, hdq.kt f_33 (by omega), hS2.fo hF hx0 (by omega), hok2, HISn.his (hsn (HISn.fx (show HISn G h a2 xs1 hs1 from hIn.2) hF hx0 (by omega)) (hS.fo hF hx0 (by omega)) hna hok), hbl, heo, hL.fo hF hx0⟩, by rw [hpu]; exact hsn (HISn.fx (show HISn G h a2 xs1 hs1 from hIn.2) hF hx0 (by omega)) (hS.fo hF hx0 (by omega)) hna hok, hF⟩

set_option maxHeartbeats 4000000 in
theorem ct_X1_change {G : GT} {h : AH} (hG : GOK G) {x bf hd a r : Nat} {xs : List Nat} {B : Int → Int} {bl eo : Int} {cur : HV} {hist : List HV} (hC : CWd G h x bf hd a r xs B bl eo cur hist) : CT G (MX1_change 13 3266 604 14980) h [.ref x] (pR (fun a2 h' => ∃ xs', CWd G h' x bf hd a2 r xs' B bl eo cur (hpush hist cur) ∧ HISn G h' a2 xs' (hpush hist cur) ∧ r ≠ a2 ∧ Nw h a2 ∧ FX x h h')) := by
  refine CT.of rfl hG (Nat.le_of_ble_eq_true rfl) rfl (fun E hQ => ?_)
  obtain ⟨⟨hx0, hx⟩, ⟨hbf, hBr⟩, hdq, hS, hok, hI, hbl, heo, hL⟩ := id hC
  obtain ⟨ha0, fsH, hho⟩ := hS.obj
  refine ww_aload_n 0 dX1_change_0 rfl ?_
  refine ww_aload_n 0 dX1_change_1 rfl ?_
  refine ww_getf gf_X1_56 rfl dX1_change_2 hx rfl ?_
  refine cr_r (cr_V (ct_X2_copy hG hS hL hok.1 hok.ld8 hok.ofi hok.2.2.2.2.2.2.2.2.1) sv_X1_118 rfl dX1_change_5 hho rfl rfl rfl rfl ⟨by decide, by decide⟩ (Nat.le_of_ble_eq_true rfl) (Nat.le_of_ble_eq_true rfl) (Nat.le_of_ble_eq_true rfl)) (fun r_5 h_5 hp_5 => ?_)
  obtain ⟨hS9, e_5, n_5⟩ := hp_5
  have hx := e_5 _ _ hx
  refine cr_v (cr_V (ct_X1_replace hG (hC.ex e_5) hS9 hok (hI.nx n_5 e_5) (hS.own n_5)) sv_X1_122 rfl dX1_change_8 hx rfl rfl rfl rfl ⟨by decide, by decide⟩ (Nat.le_of_ble_eq_true rfl) (Nat.le_of_ble_eq_true rfl) (Nat.le_of_ble_eq_true rfl)) (fun h_8 hp_8 => ?_)
  obtain ⟨xs2, hC, hIn, f_8⟩ := hp_8
  have hx := hC.1.2
  refine ww_aload_n 0 dX1_change_11 rfl ?_
  refine ww_getf gf_X1_56 rfl dX1_change_12 hx rfl ?_
  exact ww_aret hQ dX1_change_15 rfl rfl (Nat.le_of_ble_eq_true rfl) (Nat.le_of_ble_eq_true rfl) ⟨_, rfl, xs2, hC, hIn, (hS.own n_5).2, n_5, (e_5.fo).tr f_8⟩

set_option maxHeartbeats 4000000 in
theorem ct_X1_undo {G : GT} {h : AH} (hG : GOK G) {x bf hd a r : Nat} {xs : List Nat} {B : Int → Int} {bl eo : Int} {cur : HV} {hist : List HV} (hC : CWd G h x bf hd a r xs B bl eo cur hist) : CT G (MX1_undo 3 65 0 0) h [.ref x] (pI (fun z h' => (hist = [] ∧ z = -1 ∧ h' = h) ∨ ∃ hs v, hist = hs ++ [v] ∧ z = hs.length ∧ CW G h' x B bl eo v hs ∧ FX x h h')) := by
  refine CT.of rfl hG (Nat.le_of_ble_eq_true rfl) rfl (fun E hQ => ?_)
  obtain ⟨⟨hx0, hx⟩, ⟨hbf, hBr⟩, hdq, hS, hok, hI, hbl, heo, hL⟩ := id hC
  have hF : FX x h h := FO.rf
  have hil := hI.len
  obtain ⟨rr, hd9, ff, -, hdo, -⟩ := id hdq
  refine ww_aload_n 0 dX1_undo_0 rfl ?_
  refine ww_getf gf_X1_44 rfl dX1_undo_1 hx rfl ?_
  refine cr_pi (cr_V (ct_J1_isEmpty hG hdq) sv_X1_264 rfl dX1_undo_4 hdo rfl rfl rfl rfl ⟨by decide, by decide⟩ (Nat.le_of_ble_eq_true rfl) (Nat.le_of_ble_eq_true rfl) (Nat.le_of_ble_eq_true rfl)) ?_
  refine ww_ifb_eq 12 dX1_undo_7 (by decide) (fun c_7 => ?_) (fun c_7 => ?_)
  · have hne : hist ≠ [] := fun e => c_7 (List.length_eq_zero_iff.mp (by rw [hil, e]; rfl))
    obtain ⟨ys, y0, hs, v, rfl, rfl, hIy, hy⟩ := Z2.last hI hne
    obtain ⟨⟨r9, hSy⟩, hoky⟩ := hy
    obtain ⟨hy0, fsy, hyo⟩ := hSy.obj
    refine ww_aload_n 0 dX1_undo_12 rfl ?_
    refine ww_aload_n 0 dX1_undo_13 rfl ?_
    refine ww_getf gf_X1_44 rfl dX1_undo_14 hx rfl ?_
    refine cr_r (cr_V (ct_J1_removeLast hG hdq) sv_X1_268 rfl dX1_undo_17 hdo rfl rfl rfl rfl ⟨by decide, by decide⟩ (Nat.le_of_ble_eq_true rfl) (Nat.le_of_ble_eq_true rfl) (Nat.le_of_ble_eq_true rfl)) (fun r_17 h_17 hp_17 => ?_)
    obtain ⟨rfl, hdq, f_17⟩ := hp_17
    have hF := hF.tr (FO.w f_17 (by omega) (by omega))
    have hx := f_17.at hx (by omega)
    have hbf := f_17.at hbf (by omega)
    have hyo := f_17.at hyo (by omega)
    refine ww_cast dX1_undo_20 hyo rfl q152 rfl ?_
    refine wx_putf pf_X1_56 rfl dX1_undo_23 hx hx0 (Nat.le_of_ble_eq_true rfl) rfl rfl (fun h_23 hx f_23 => ?_)
    have hbf := f_23.at hbf (by omega)
    have hF := hF.kt f_23 ⟨rfl, by omega, by omega⟩
    have hdq := hdq.kt f_23 (by omega)
    obtain ⟨rr, hd9, ff, -, hdo, -⟩ := id hdq
    have hil2 : ys.length = hs.length := Z2.len hIy
    refine ww_aload_n 0 dX1_undo_26 rfl ?_
    refine ww_getf gf_X1_44 rfl dX1_undo_27 hx rfl ?_
    refine cr_pi (cr_V (ct_J1_size hG hdq) sv_X1_107 rfl dX1_undo_30 hdo rfl rfl rfl rfl ⟨by decide, by decide⟩ (Nat.le_of_ble_eq_true rfl) (Nat.le_of_ble_eq_true rfl) (Nat.le_of_ble_eq_true rfl)) ?_
    rw [hil2]
    exact ww_iret hQ dX1_undo_33 rfl (Nat.le_of_ble_eq_true rfl) (Nat.le_of_ble_eq_true rfl) ⟨_, rfl, Or.inr ⟨hs, v, rfl, rfl, ⟨bf, hd, _, r9, ys, ⟨hx0, hx⟩, ⟨hbf, hBr⟩, hdq, hSy.fo hF hx0 (by omega), hoky, HIS.fx (show HIS G h ys hs from hIy) hF hx0 (by omega), hbl, heo, hL.fo hF hx0⟩, hF⟩⟩
  · refine ww_iconst dX1_undo_10 ?_
    exact ww_iret hQ dX1_undo_11 rfl (Nat.le_of_ble_eq_true rfl) (Nat.le_of_ble_eq_true rfl) ⟨_, rfl, Or.inl ⟨List.length_eq_zero_iff.mp (by rw [← hil, c_7]; rfl), rfl, rfl⟩⟩

set_option maxHeartbeats 4000000 in
theorem ct_X1_put {G : GT} {h : AH} (hG : GOK G) {x bf hd a r : Nat} {xs : List Nat} {B : Int → Int} {bl eo : Int} {cur : HV} {hist : List HV} (hC : CWd G h x bf hd a r xs B bl eo cur hist) (w : Int) (hw : inI w) (hb4 : bl + 4 ≤ 800) : CT G (MX1_put 0 0 0 0) h [.ref x, .int (iI w)] (pV (fun h' => ∃ B', CWd G h' x bf hd a r xs B' (bl + 4) eo cur hist ∧ (∀ q : Int, q < bl → B' q = B q) ∧ (∀ i : Nat, i < 4 → B' (bl + i) % 256 = wby w i) ∧ FX x h h')) := by
  refine CT.of rfl hG (Nat.le_of_ble_eq_true rfl) rfl (fun E hQ => ?_)
  obtain ⟨⟨hx0, hx⟩, ⟨hbf, hBr⟩, hdq, hS, hok, hI, hbl, heo, hL⟩ := id hC
  refine ww_bipush dX1_put_0 (by decide) ?_
  refine ww_istore_n [(2, _), (0, _), (1, _)] dX1_put_2 (by decide) rfl ?_
  have loop_3 : ∀ (f : Nat) (j : Nat) (B1 : Int → Int) (h1 : AH), (FX x h h1) → (h1 x = some ((x, 10570), ob 0 [.ref bf, .ref hd, .ref a, .int (iI (bl + j)), .int (iI eo)])) → (h1 bf = some ((x, 10571), aA G 1 800 B1)) → (∀ q : Int, 0 ≤ q → q < 800 → -128 ≤ B1 q ∧ B1 q ≤ 127) → (∀ q : Int, q < bl → B1 q = B q) → (∀ i : Nat, i < j → B1 (bl + i) % 256 = wby w i) → (DQ G h1 x 10572 hd xs) → (j ≤ 4) → (4 - j < f) → WW G E (MX1_put 0 0 0 0) h1 0 0 3 [(0, .ref x), (1, .int (iI w)), (2, .int (iI (24 - 8 * (j : Int))))] [] := by
    intro f
    induction f with
    | zero => intro j B1 h1 hF hx hb hB1 hB2 hB3 hdq hj hf; exact absurd hf (by omega)
    | succ f ih =>
      intro j B1 h1 hF hx hb hB1 hB2 hB3 hdq hj hf
      refine ww_iload_n 2 dX1_put_3 rfl ?_
      refine ww_if_lt 36 dX1_put_4 (by decide) (inI.mk (by omega) (by omega)) (fun c_4 => ?_) (fun c_4 => ?_)
      · exact ww_vret hQ dX1_put_36 rfl (Nat.le_of_ble_eq_true rfl) (Nat.le_of_ble_eq_true rfl) ⟨rfl, B1, ⟨⟨hx0, by rw [show bl + 4 = bl + (j : Int) by omega]; exact hx⟩, ⟨hb, hB1⟩, hdq, hS.fo hF hx0 (by omega), hok, hI.fx hF hx0 (by omega), ⟨by omega, by omega⟩, heo, hL.fo hF hx0⟩, hB2, fun i i1 => hB3 i (by omega), hF⟩
      · refine ww_aload_n 0 dX1_put_7 rfl ?_
        refine ww_getf gf_X1_37 rfl dX1_put_8 hx rfl ?_
        refine ww_aload_n 0 dX1_put_11 rfl ?_
        refine ww_getf gf_X1_125 rfl dX1_put_12 hx rfl ?_
        refine ww_iload_n 1 dX1_put_15 rfl ?_
        refine ww_iload_n 2 dX1_put_16 rfl ?_
        refine ww_ishrI (b := 24 - 8 * j) (by omega) dX1_put_17 hw (by omega) ?_
        refine ww_i2b dX1_put_18 (i2b_m _) ?_
        refine wx_bast dX1_put_19 hb hx0 (by omega) (by omega) (by omega) (nar_byte (by8_rg _).1 (by8_rg _).2.1) (fun h_19 hb f_19 => ?_)
        have hx := f_19.at hx (by omega)
        have hF := hF.kt f_19 ⟨rfl, by omega, by omega⟩
        have hdq := hdq.kt f_19 (by omega)
        refine ww_aload_n 0 dX1_put_20 rfl ?_
        refine ww_dup dX1_put_21 rfl ?_
        refine ww_getf gf_X1_125 rfl dX1_put_22 hx rfl ?_
        refine ww_iconst dX1_put_25 ?_
        refine ww_iadd dX1_put_26 ?_
        refine wx_putf pf_X1_125 rfl dX1_put_27 hx hx0 (Nat.le_of_ble_eq_true rfl) rfl rfl (fun h_27 hx f_27 => ?_)
        have hb := f_27.at hb (by omega)
        have hF := hF.kt f_27 ⟨rfl, by omega, by omega⟩
        have hdq := hdq.kt f_27 (by omega)
        refine ww_iinc (j := 2) [(2, _), (0, _), (1, _)] dX1_put_30 rfl (by decide) rfl ?_
        refine ww_goto 3 dX1_put_33 (by decide) ?_
        refine ww_sub [1, 2, 0] rfl ?_
        rw [show 24 - 8 * (j : Int) + -8 = 24 - 8 * ((j + 1 : Nat) : Int) by omega]
        exact ih (j + 1) _ _ hF (by rw [show bl + ((j + 1 : Nat) : Int) = bl + (j : Int) + 1 by omega]; exact hx) hb (fun q q0 q1 => by by_cases e9 : q = bl + (j : Int); rw [e9, iup_s]; have := by8_rg (w / 2 ^ (24 - 8 * j)); omega; rw [iup_n e9]; exact hB1 q q0 q1) (fun q hq => by rw [iup_n (by omega)]; exact hB2 q hq) (fun i i1 => by by_cases e9 : i = j; rw [e9, iup_s, (by8_rg (w / 2 ^ (24 - 8 * j))).2.2]; rfl; rw [iup_n (by omega)]; exact hB3 i (by omega)) hdq (by omega) (by omega)
  refine ww_sub [1, 2, 0] rfl ?_
  exact loop_3 5 0 B h FO.rf (by rw [show bl + ((0 : Nat) : Int) = bl by omega]; exact hx) hbf hBr (fun q _ => rfl) (fun i i1 => by omega) hdq (by omega) (by omega)

theorem app20 {bl w0 w1 w2 w3 w4 : Int} {B0 B1 B2 B3 B4 : Int → Int} (v0 : ∀ i : Nat, i < 4 → B0 (bl + i) % 256 = wby w0 i) (q1 : ∀ q : Int, q < bl + 4 → B1 q = B0 q) (v1 : ∀ i : Nat, i < 4 → B1 (bl + 4 + i) % 256 = wby w1 i) (q2 : ∀ q : Int, q < bl + 4 + 4 → B2 q = B1 q) (v2 : ∀ i : Nat, i < 4 → B2 (bl + 4 + 4 + i) % 256 = wby w2 i) (q3 : ∀ q : Int, q < bl + 4 + 4 + 4 → B3 q = B2 q) (v3 : ∀ i : Nat, i < 4 → B3 (bl + 4 + 4 + 4 + i) % 256 = wby w3 i) (q4 : ∀ q : Int, q < bl + 4 + 4 + 4 + 4 → B4 q = B3 q) (v4 : ∀ i : Nat, i < 4 → B4 (bl + 4 + 4 + 4 + 4 + i) % 256 = wby w4 i) (q : Nat) (hq : q < 20) : B4 (bl + q) % 256 = wby (wsl w0 w1 w2 w3 w4 q) (q % 4) := by
  unfold wsl
  by_cases c0 : q < 4
  · rw [if_pos c0, q4 _ (by omega), q3 _ (by omega), q2 _ (by omega), q1 _ (by omega), v0 q c0, Nat.mod_eq_of_lt c0]
  · rw [if_neg c0]
    by_cases c1 : q < 8
    · rw [if_pos c1, q4 _ (by omega), q3 _ (by omega), q2 _ (by omega), show bl + (q : Int) = bl + 4 + ((q % 4 : Nat) : Int) by omega, v1 _ (by omega)]
    · rw [if_neg c1]
      by_cases c2 : q < 12
      · rw [if_pos c2, q4 _ (by omega), q3 _ (by omega), show bl + (q : Int) = bl + 4 + 4 + ((q % 4 : Nat) : Int) by omega, v2 _ (by omega)]
      · rw [if_neg c2]
        by_cases c3 : q < 16
        · rw [if_pos c3, q4 _ (by omega), show bl + (q : Int) = bl + 4 + 4 + 4 + ((q % 4 : Nat) : Int) by omega, v3 _ (by omega)]
        · rw [if_neg c3, show bl + (q : Int) = bl + 4 + 4 + 4 + 4 + ((q % 4 : Nat) : Int) by omega, v4 _ (by omega)]
set_option maxHeartbeats 4000000 in
theorem ct_X1_append {G : GT} {h : AH} (hG : GOK G) {x bf hd a r : Nat} {xs : List Nat} {B : Int → Int} {bl eo : Int} {cur : HV} {hist : List HV} (hC : CWd G h x bf hd a r xs B bl eo cur hist) (w0 w1 w2 w3 w4 : Int) (i0 : inI w0) (i1 : inI w1) (i2 : inI w2) (i3 : inI w3) (i4 : inI w4) : CT G (MX1_append 1 22 0 0) h [.ref x, .int (iI w0), .int (iI w1), .int (iI w2), .int (iI w3), .int (iI w4)] (pI (fun z h' => (bl + 20 > 800 ∧ z = -1 ∧ h' = h) ∨ (bl + 20 ≤ 800 ∧ z = bl + 20 ∧ ∃ B', CWd G h' x bf hd a r xs B' (bl + 20) eo cur hist ∧ (∀ q : Int, q < bl → B' q = B q) ∧ (∀ q : Nat, q < 20 → B' (bl + q) % 256 = wby (wsl w0 w1 w2 w3 w4 q) (q % 4)) ∧ FX x h h'))) := by
  refine CT.of rfl hG (Nat.le_of_ble_eq_true rfl) rfl (fun E hQ => ?_)
  obtain ⟨⟨hx0, hx⟩, ⟨hbf, hBr⟩, hdq, hS, hok, hI, hbl, heo, hL⟩ := id hC
  have hF : FX x h h := FO.rf
  refine ww_aload_n 0 dX1_append_0 rfl ?_
  refine ww_getf gf_X1_125 rfl dX1_append_1 hx rfl ?_
  refine ww_bipush dX1_append_4 (by decide) ?_
  refine ww_iadd dX1_append_6 ?_
  refine ww_sipush dX1_append_7 (by decide) ?_
  refine ww_icmp_le 15 dX1_append_10 (by decide) (inI.mk (by omega) (by omega)) (inI.mk (by omega) (by omega)) (fun c_10 => ?_) (fun c_10 => ?_)
  · refine ww_aload_n 0 dX1_append_15 rfl ?_
    refine ww_iload_n 1 dX1_append_16 rfl ?_
    refine cr_v (cr_V (ct_X1_put hG hC w0 i0 (by omega)) sv_X1_128 rfl dX1_append_17 hC.1.2 rfl rfl rfl rfl ⟨by decide, by decide⟩ (Nat.le_of_ble_eq_true rfl) (Nat.le_of_ble_eq_true rfl) (Nat.le_of_ble_eq_true rfl)) (fun h_17 hp_17 => ?_)
    obtain ⟨B_17, hC, hb_17, hw_17, f_17⟩ := hp_17
    have hF := hF.tr f_17
    have hq0 := hb_17
    have hv0 := hw_17
    have hC0 := hC
    refine ww_aload_n 0 dX1_append_20 rfl ?_
    refine ww_iload_n 2 dX1_append_21 rfl ?_
    refine cr_v (cr_V (ct_X1_put hG hC w1 i1 (by omega)) sv_X1_128 rfl dX1_append_22 hC.1.2 rfl rfl rfl rfl ⟨by decide, by decide⟩ (Nat.le_of_ble_eq_true rfl) (Nat.le_of_ble_eq_true rfl) (Nat.le_of_ble_eq_true rfl)) (fun h_22 hp_22 => ?_)
    obtain ⟨B_22, hC, hb_22, hw_22, f_22⟩ := hp_22
    have hF := hF.tr f_22
    have hq1 := hb_22
    have hv1 := hw_22
    have hC1 := hC
    refine ww_aload_n 0 dX1_append_25 rfl ?_
    refine ww_iload_n 3 dX1_append_26 rfl ?_
    refine cr_v (cr_V (ct_X1_put hG hC w2 i2 (by omega)) sv_X1_128 rfl dX1_append_27 hC.1.2 rfl rfl rfl rfl ⟨by decide, by decide⟩ (Nat.le_of_ble_eq_true rfl) (Nat.le_of_ble_eq_true rfl) (Nat.le_of_ble_eq_true rfl)) (fun h_27 hp_27 => ?_)
    obtain ⟨B_27, hC, hb_27, hw_27, f_27⟩ := hp_27
    have hF := hF.tr f_27
    have hq2 := hb_27
    have hv2 := hw_27
    have hC2 := hC
    refine ww_aload_n 0 dX1_append_30 rfl ?_
    refine ww_iload 4 dX1_append_31 rfl ?_
    refine cr_v (cr_V (ct_X1_put hG hC w3 i3 (by omega)) sv_X1_128 rfl dX1_append_33 hC.1.2 rfl rfl rfl rfl ⟨by decide, by decide⟩ (Nat.le_of_ble_eq_true rfl) (Nat.le_of_ble_eq_true rfl) (Nat.le_of_ble_eq_true rfl)) (fun h_33 hp_33 => ?_)
    obtain ⟨B_33, hC, hb_33, hw_33, f_33⟩ := hp_33
    have hF := hF.tr f_33
    have hq3 := hb_33
    have hv3 := hw_33
    have hC3 := hC
    refine ww_aload_n 0 dX1_append_36 rfl ?_
    refine ww_iload 5 dX1_append_37 rfl ?_
    refine cr_v (cr_V (ct_X1_put hG hC w4 i4 (by omega)) sv_X1_128 rfl dX1_append_39 hC.1.2 rfl rfl rfl rfl ⟨by decide, by decide⟩ (Nat.le_of_ble_eq_true rfl) (Nat.le_of_ble_eq_true rfl) (Nat.le_of_ble_eq_true rfl)) (fun h_39 hp_39 => ?_)
    obtain ⟨B_39, hC, hb_39, hw_39, f_39⟩ := hp_39
    have hF := hF.tr f_39
    have hq4 := hb_39
    have hv4 := hw_39
    have hC4 := hC
    refine ww_aload_n 0 dX1_append_42 rfl ?_
    refine ww_getf gf_X1_125 rfl dX1_append_43 hC.1.2 rfl ?_
    exact ww_iret hQ dX1_append_46 rfl (Nat.le_of_ble_eq_true rfl) (Nat.le_of_ble_eq_true rfl) ⟨_, rfl, Or.inr ⟨by omega, by omega, _, by rw [show bl + 20 = bl + 4 + 4 + 4 + 4 + 4 by omega]; exact hC, fun q hq => by rw [hq4 q (by omega), hq3 q (by omega), hq2 q (by omega), hq1 q (by omega), hq0 q hq], fun q hq => app20 hv0 hq1 hv1 hq2 hv2 hq3 hv3 hq4 hv4 q hq, hF⟩⟩
  · refine ww_iconst dX1_append_13 ?_
    exact ww_iret hQ dX1_append_14 rfl (Nat.le_of_ble_eq_true rfl) (Nat.le_of_ble_eq_true rfl) ⟨_, rfl, Or.inl ⟨by omega, rfl, rfl⟩⟩
