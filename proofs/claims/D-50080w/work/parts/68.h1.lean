set_option maxRecDepth 100000
set_option maxHeartbeats 4000000 in
theorem ct_X2_offer {G : GT} {h : AH} (hG : GOK G) {a r : Nat} {nm : List (List Int)} {lb : List LV} {of : Int → Int → Int} {ld : List Int} {sh : Int} {fn : EF} (hS : HS G h a r nm lb of ld sh fn) (k n : Int) (k0 : 0 ≤ k) (k1 : k < 8) (n0 : 0 ≤ n) (n1 : n < 12) : CT G (MX2_offer 4 90 1 2) h [.ref a, .int (iI k), .int (iI n)] (pI (fun z h' => z = of k n ∧ Ex h h')) := by
  refine CT.of rfl hG (Nat.le_of_ble_eq_true rfl) rfl (fun E hQ => ?_)
  obtain ⟨nl, al, am, ll, w, nx, lx, dx, ha0, hr0, ha, hR, hM, h8⟩ := hS
  obtain ⟨c, hc, hc2, ek, en⟩ := code_of k0 k1 n0 n1
  refine ww_aload_n 0 dX2_offer_0 rfl ?_
  refine ww_getf gf_X2_21 rfl dX2_offer_1 ha rfl ?_
  refine wx_new (fun q => (q, 10004)) nw_X2_77 rfl dX2_offer_4 (fun q hq => ⟨hq.1, Nat.le_refl _⟩) (Nat.le_of_ble_eq_true rfl) (Nat.le_of_ble_eq_true rfl) (fun q_4 h_4 n_4 e_4 hq => ?_)
  refine ww_dup dX2_offer_7 rfl ?_
  refine ww_iload_n 1 dX2_offer_8 rfl ?_
  refine ww_iload_n 2 dX2_offer_9 rfl ?_
  refine cr_v (cr_I (ct_X7_init hG n_4.1 hq k n) si_X2_79 rfl rfl dX2_offer_10 rfl rfl ⟨by decide, by decide⟩ (Nat.le_of_ble_eq_true rfl) (Nat.le_of_ble_eq_true rfl) (Nat.le_of_ble_eq_true rfl)) (fun h_10 hp_10 => ?_)
  obtain ⟨hq, f_10⟩ := hp_10
  have e9 := f_10.nw e_4 n_4
  rw [← ek, ← en] at hq
  obtain ⟨N, tr, mc, tb, X, A, K, V, bk, hMd, hth⟩ := hM.ex e9
  refine cr_o (cr_V (ct_J5_get hG hMd c hc hq) sv_X2_82 rfl dX2_offer_13 hMd.2.1 rfl rfl rfl rfl ⟨by decide, by decide⟩ (Nat.le_of_ble_eq_true rfl) (Nat.le_of_ble_eq_true rfl) (Nat.le_of_ble_eq_true rfl)) (fun r_13 h_13 hp_13 => ?_)
  obtain ⟨eh_13, hcs⟩ := hp_13
  subst eh_13
  rcases hcs with ⟨hl, hr⟩ | ⟨hl, hr⟩
  · subst hr
    have ez := lvo_of hc hc2 hl
    rw [ek, en] at ez
    refine ww_castN dX2_offer_16 ?_
    refine ww_astore_nN [(3, _), (0, _), (1, _), (2, _)] dX2_offer_19 (by decide) rfl ?_
    refine ww_aload_nN 0 dX2_offer_20 rfl ?_
    refine ww_ifnonnullN dX2_offer_21 ?_
    refine ww_iconst dX2_offer_24 ?_
    refine ww_goto 32 dX2_offer_25 (by decide) ?_
    exact ww_iret hQ dX2_offer_32 rfl (Nat.le_of_ble_eq_true rfl) (Nat.le_of_ble_eq_true rfl) ⟨_, rfl, ez.symm, e9⟩
  · subst hr
    obtain ⟨o9, k9, hx9, -⟩ := (hMd.2.2.2 c hl).2
    refine ww_cast dX2_offer_16 hx9 rfl q764 rfl ?_
    refine ww_astore_n [(3, _), (0, _), (1, _), (2, _)] dX2_offer_19 (by decide) rfl ?_
    refine ww_aload_n 0 dX2_offer_20 rfl ?_
    refine ww_ifnonnull 28 dX2_offer_21 (by decide) ?_
    refine ww_aload_n 0 dX2_offer_28 rfl ?_
    refine cr_pi (cr_V (ct_J20_intValue hG hx9) sv_X2_85 rfl dX2_offer_29 hx9 rfl rfl rfl rfl ⟨by decide, by decide⟩ (Nat.le_of_ble_eq_true rfl) (Nat.le_of_ble_eq_true rfl) (Nat.le_of_ble_eq_true rfl)) ?_
    exact ww_iret hQ dX2_offer_32 rfl (Nat.le_of_ble_eq_true rfl) (Nat.le_of_ble_eq_true rfl) ⟨_, rfl, by rw [ek, en], e9⟩

set_option maxHeartbeats 4000000 in
theorem ct_X2_put {G : GT} {h : AH} (hG : GOK G) {a r : Nat} {nm : List (List Int)} {lb : List LV} {of : Int → Int → Int} {ld : List Int} {sh : Int} {fn : EF} (hS : HS G h a r nm lb of ld sh fn) (k n : Int) (k0 : 0 ≤ k) (k1 : k < 8) (n0 : 0 ≤ n) (n1 : n < 12) (v : Int) (hv : inI v) (hL : LitC G h) : CT G (MX2_put 5 122 5 151) h [.ref a, .int (iI k), .int (iI n), .int (iI v)] (pV (fun h' => HS G h' a r nm lb (o2 of k n v) ld sh fn ∧ FO a 10200 10459 h h')) := by
  refine CT.of rfl hG (Nat.le_of_ble_eq_true rfl) rfl (fun E hQ => ?_)
  obtain ⟨nl, al, am, ll, w, nx, lx, dx, ha0, hr0, ha, hR, hM, h8⟩ := hS
  obtain ⟨c, hc, hc2, ek, en⟩ := code_of k0 k1 n0 n1
  refine ww_iload_n 3 dX2_put_0 rfl ?_
  refine ww_iconst dX2_put_1 ?_
  refine ww_icmp_ne 27 dX2_put_2 (by decide) hv (inI.mk (by decide) (by decide)) (fun c_2 => ?_) (fun c_2 => ?_)
  · refine ww_aload_n 0 dX2_put_27 rfl ?_
    refine ww_getf gf_X2_21 rfl dX2_put_28 ha rfl ?_
    refine wx_new (fun q => (q, 10004)) nw_X2_77 rfl dX2_put_31 (fun q hq => ⟨hq.1, Nat.le_refl _⟩) (Nat.le_of_ble_eq_true rfl) (Nat.le_of_ble_eq_true rfl) (fun q_31 h_31 n_31 e_31 hq => ?_)
    refine ww_dup dX2_put_34 rfl ?_
    refine ww_iload_n 1 dX2_put_35 rfl ?_
    refine ww_iload_n 2 dX2_put_36 rfl ?_
    refine cr_v (cr_I (ct_X7_init hG n_31.1 hq k n) si_X2_79 rfl rfl dX2_put_37 rfl rfl ⟨by decide, by decide⟩ (Nat.le_of_ble_eq_true rfl) (Nat.le_of_ble_eq_true rfl) (Nat.le_of_ble_eq_true rfl)) (fun h_37 hp_37 => ?_)
    obtain ⟨hq, f_37⟩ := hp_37
    have e9 := f_37.nw e_31 n_31
    rw [← ek, ← en] at hq
    have ha := e9 _ _ ha
    have hR := hR.ex e9
    have hM := hM.ex e9
    have hL := hL.ex e9
    obtain ⟨fs9, hm⟩ := hM.obj
    have hF : FO a 10200 10459 h _ := e9.fo
    refine ww_iload_n 3 dX2_put_40 rfl ?_
    refine cr_r (cr_S (ct_J20_valueOf hG hL.2.1 v hv) ss_X2_91 rfl dX2_put_41 rfl rfl ⟨by decide, by decide⟩ (Nat.le_of_ble_eq_true rfl) (Nat.le_of_ble_eq_true rfl) (Nat.le_of_ble_eq_true rfl)) (fun r_41 h_41 hp_41 => ?_)
    obtain ⟨e_41, hI_41⟩ := hp_41
    have ha := e_41 _ _ ha
    have hR := hR.ex e_41
    have hM := hM.ex e_41
    have hq := e_41 _ _ hq
    have hF := hF.ex e_41
    obtain ⟨fs8, hm⟩ := hM.obj
    refine cr_o (cr_V (ct_J5_put hG hM c hc hc2 hq hI_41 c_2) sv_X2_95 rfl dX2_put_44 hm rfl rfl rfl rfl ⟨by decide, by decide⟩ (Nat.le_of_ble_eq_true rfl) (Nat.le_of_ble_eq_true rfl) (Nat.le_of_ble_eq_true rfl)) (fun r_44 h_44 hp_44 => ?_)
    obtain ⟨hM, f_44, hiv_44⟩ := hp_44
    have ha := f_44.at ha (by omega)
    have hR := hR.fo f_44 ha0 h8 (by omega)
    have hF := hF.tr f_44
    have hrr : r_44 = none ∨ ∃ x9, r_44 = some x9 := by cases r_44 with | none => exact Or.inl rfl | some x9 => exact Or.inr ⟨x9, rfl⟩
    rcases hrr with hr9 | ⟨x9, hr9⟩
    · subst hr9
      refine ww_castN dX2_put_47 ?_
      refine ww_astoreN [(4, _), (0, _), (1, _), (2, _), (3, _)] dX2_put_50 (by decide) rfl ?_
      exact ww_vret hQ dX2_put_52 rfl (Nat.le_of_ble_eq_true rfl) (Nat.le_of_ble_eq_true rfl) ⟨rfl, ⟨nl, al, am, ll, w, nx, lx, dx, ha0, hr0, ha, hR, by rw [← ek, ← en]; exact hM, h8⟩, hF⟩
    · obtain ⟨v9, o9, k9, hx9, -⟩ := hiv_44 x9 hr9
      subst hr9
      refine ww_cast dX2_put_47 hx9 rfl q764 rfl ?_
      refine ww_astore [(4, _), (0, _), (1, _), (2, _), (3, _)] dX2_put_50 (by decide) rfl ?_
      exact ww_vret hQ dX2_put_52 rfl (Nat.le_of_ble_eq_true rfl) (Nat.le_of_ble_eq_true rfl) ⟨rfl, ⟨nl, al, am, ll, w, nx, lx, dx, ha0, hr0, ha, hR, by rw [← ek, ← en]; exact hM, h8⟩, hF⟩
  · subst c_2
    refine ww_aload_n 0 dX2_put_5 rfl ?_
    refine ww_getf gf_X2_21 rfl dX2_put_6 ha rfl ?_
    refine wx_new (fun q => (q, 10004)) nw_X2_77 rfl dX2_put_9 (fun q hq => ⟨hq.1, Nat.le_refl _⟩) (Nat.le_of_ble_eq_true rfl) (Nat.le_of_ble_eq_true rfl) (fun q_9 h_9 n_9 e_9 hq => ?_)
    refine ww_dup dX2_put_12 rfl ?_
    refine ww_iload_n 1 dX2_put_13 rfl ?_
    refine ww_iload_n 2 dX2_put_14 rfl ?_
    refine cr_v (cr_I (ct_X7_init hG n_9.1 hq k n) si_X2_79 rfl rfl dX2_put_15 rfl rfl ⟨by decide, by decide⟩ (Nat.le_of_ble_eq_true rfl) (Nat.le_of_ble_eq_true rfl) (Nat.le_of_ble_eq_true rfl)) (fun h_15 hp_15 => ?_)
    obtain ⟨hq, f_15⟩ := hp_15
    have e9 := f_15.nw e_9 n_9
    rw [← ek, ← en] at hq
    have ha := e9 _ _ ha
    have hR := hR.ex e9
    have hM := hM.ex e9
    have hL := hL.ex e9
    obtain ⟨fs9, hm⟩ := hM.obj
    have hF : FO a 10200 10459 h _ := e9.fo
    refine cr_o (cr_V (ct_J5_remove hG hM c hc hc2 hq) sv_X2_88 rfl dX2_put_18 hm rfl rfl rfl rfl ⟨by decide, by decide⟩ (Nat.le_of_ble_eq_true rfl) (Nat.le_of_ble_eq_true rfl) (Nat.le_of_ble_eq_true rfl)) (fun r_18 h_18 hp_18 => ?_)
    obtain ⟨hM, f_18, hiv_18⟩ := hp_18
    have ha := f_18.at ha (by omega)
    have hR := hR.fo f_18 ha0 h8 (by omega)
    have hF := hF.tr f_18
    have hrr : r_18 = none ∨ ∃ x9, r_18 = some x9 := by cases r_18 with | none => exact Or.inl rfl | some x9 => exact Or.inr ⟨x9, rfl⟩
    rcases hrr with hr9 | ⟨x9, hr9⟩
    · subst hr9
      refine ww_castN dX2_put_21 ?_
      refine ww_goto 50 dX2_put_24 (by decide) ?_
      refine ww_astoreN [(4, _), (0, _), (1, _), (2, _), (3, _)] dX2_put_50 (by decide) rfl ?_
      exact ww_vret hQ dX2_put_52 rfl (Nat.le_of_ble_eq_true rfl) (Nat.le_of_ble_eq_true rfl) ⟨rfl, ⟨nl, al, am, ll, w, nx, lx, dx, ha0, hr0, ha, hR, by rw [← ek, ← en]; exact hM, h8⟩, hF⟩
    · obtain ⟨v9, o9, k9, hx9, -⟩ := hiv_18 x9 hr9
      subst hr9
      refine ww_cast dX2_put_21 hx9 rfl q764 rfl ?_
      refine ww_goto 50 dX2_put_24 (by decide) ?_
      refine ww_astore [(4, _), (0, _), (1, _), (2, _), (3, _)] dX2_put_50 (by decide) rfl ?_
      exact ww_vret hQ dX2_put_52 rfl (Nat.le_of_ble_eq_true rfl) (Nat.le_of_ble_eq_true rfl) ⟨rfl, ⟨nl, al, am, ll, w, nx, lx, dx, ha0, hr0, ha, hR, by rw [← ek, ← en]; exact hM, h8⟩, hF⟩

set_option maxHeartbeats 4000000 in
theorem ct_X2_offered {G : GT} {h : AH} (hG : GOK G) {a r : Nat} {nm : List (List Int)} {lb : List LV} {of : Int → Int → Int} {ld : List Int} {sh : Int} {fn : EF} (hS : HS G h a r nm lb of ld sh fn) (k : Int) (k0 : 0 ≤ k) (k1 : k < 8) (h12 : nm.length ≤ 12) (hof : ∀ n : Int, inI (of k n)) : CT G (MX2_offered 5 113 12 24) h [.ref a, .int (iI k)] (pI (fun z h' => z = smI (nm.length : Int) (fun n => bI (of k n ≠ -1)) ∧ Ex h h')) := by
  refine CT.of rfl hG (Nat.le_of_ble_eq_true rfl) rfl (fun E hQ => ?_)
  have hS0 := hS
  obtain ⟨nl, al, am, ll, w, nx, lx, dx, ha0, hr0, ha, hR, hM, h8⟩ := hS
  have hR0 := hR
  have ha1 := ha
  have hln := hR.1.2.len
  refine ww_iconst dX2_offered_0 ?_
  refine ww_istore_n [(2, _), (0, _), (1, _)] dX2_offered_1 (by decide) rfl ?_
  refine ww_iconst dX2_offered_2 ?_
  refine ww_istore_n [(3, _), (2, _), (0, _), (1, _)] dX2_offered_3 (by decide) rfl ?_
  have loop_4 : ∀ (f : Nat) (j : Nat) (hx : AH), (j ≤ nm.length) → (Ex h hx) → (nm.length - j < f) → WW G E (MX2_offered 5 113 12 24) hx j (2 * j) 4 [(0, .ref a), (1, .int (iI k)), (2, .int (iI (smI (j : Int) (fun n => bI (of k n ≠ -1))))), (3, .int (iI (j : Int)))] [] := by
    intro f
    induction f with
    | zero => intro j hx hj hE9 hf; exact absurd hf (by omega)
    | succ f ih =>
      intro j hx hj hE9 hf
      have hS := hS0.ex hE9
      have hR := hR0.ex hE9
      have ha := hE9 _ _ ha1
      have hbd := smI_bd (z := (j : Int)) (f := fun n => bI (of k n ≠ -1)) (c := 1) (by omega) (fun i _ _ => by unfold bI; split <;> omega)
      refine ww_iload_n 3 dX2_offered_4 rfl ?_
      refine ww_aload_n 0 dX2_offered_5 rfl ?_
      refine ww_getf gf_X2_42 rfl dX2_offered_6 ha rfl ?_
      obtain ⟨fs9, hnl⟩ := hR.1.1.obj
      refine cr5_pi (cr_F (ct_J3_size hG hR.1.1) sf_X2_48 rfl dX2_offered_9 hnl rfl rfl rfl rfl ⟨by decide, by decide⟩ (Nat.le_of_ble_eq_true rfl) (by show j + 0 ≤ 12; omega) (by show 2 * j + 0 ≤ 24; omega)) ?_
      refine ww_icmp_ge 41 dX2_offered_14 (by decide) (inI.mk (by omega) (by omega)) (inI.mk (by omega) (by omega)) (fun c_14 => ?_) (fun c_14 => ?_)
      · have ej : (j : Int) = nm.length := by omega
        rw [ej]
        refine ww_iload_n 2 dX2_offered_41 rfl ?_
        exact ww_iret hQ dX2_offered_42 rfl (by show j ≤ 12; omega) (by show 2 * j ≤ 24; omega) ⟨_, rfl, rfl, hE9⟩
      · refine ww_iload_n 2 dX2_offered_17 rfl ?_
        refine ww_aload_n 0 dX2_offered_18 rfl ?_
        refine ww_iload_n 1 dX2_offered_19 rfl ?_
        refine ww_iload_n 3 dX2_offered_20 rfl ?_
        refine cr_i (cr_V (ct_X2_offer hG hS k (j : Int) k0 k1 (by omega) (by omega)) sv_X2_67 rfl dX2_offered_21 ha rfl rfl rfl rfl ⟨by decide, by decide⟩ (Nat.le_of_ble_eq_true rfl) (by show j + 1 ≤ 12; omega) (by show 2 * j + 2 ≤ 24; omega)) (fun r_21 h_21 hp_21 => ?_)
        obtain ⟨er_21, e_21⟩ := hp_21
        subst er_21
        refine ww_iconst dX2_offered_24 ?_
        refine ww_icmp_ne 32 dX2_offered_25 (by decide) (hof _) (inI.mk (by decide) (by decide)) (fun c_25 => ?_) (fun c_25 => ?_)
        · refine ww_iconst dX2_offered_32 ?_
          refine ww_iadd dX2_offered_33 ?_
          refine ww_istore_n [(2, _), (0, _), (1, _), (3, _)] dX2_offered_34 (by decide) rfl ?_
          refine ww_iinc (j := 3) [(3, _), (2, _), (0, _), (1, _)] dX2_offered_35 rfl (by decide) rfl ?_
          refine ww_goto 4 dX2_offered_38 (by decide) ?_
          refine ww_sub [2, 3, 1, 0] rfl ?_
          rw [show smI (j : Int) (fun n => bI (of k n ≠ -1)) + 1 = smI ((j : Int) + 1) (fun n => bI (of k n ≠ -1)) by rw [smI_s (by omega), bI_t c_25]]
          exact ih (j + 1) _ (by omega) (hE9.tr e_21) (by omega)
        · refine ww_iconst dX2_offered_28 ?_
          refine ww_goto 33 dX2_offered_29 (by decide) ?_
          refine ww_iadd dX2_offered_33 ?_
          refine ww_istore_n [(2, _), (0, _), (1, _), (3, _)] dX2_offered_34 (by decide) rfl ?_
          refine ww_iinc (j := 3) [(3, _), (2, _), (0, _), (1, _)] dX2_offered_35 rfl (by decide) rfl ?_
          refine ww_goto 4 dX2_offered_38 (by decide) ?_
          refine ww_sub [2, 3, 1, 0] rfl ?_
          rw [show smI (j : Int) (fun n => bI (of k n ≠ -1)) + 0 = smI ((j : Int) + 1) (fun n => bI (of k n ≠ -1)) by rw [smI_s (by omega), bI_f (fun z => z c_25)]]
          exact ih (j + 1) _ (by omega) (hE9.tr e_21) (by omega)
  refine ww_sub [2, 3, 1, 0] rfl ?_
  exact loop_4 (nm.length + 1) 0 _ (by omega) Ex.rf (by omega)

set_option maxHeartbeats 4000000 in
theorem ct_X2_rank {G : GT} {h : AH} (hG : GOK G) {a r : Nat} {nm : List (List Int)} {lb : List LV} {of : Int → Int → Int} {ld : List Int} {sh : Int} {fn : EF} (hS : HS G h a r nm lb of ld sh fn) (k : Int) (hk : inI k) (hld : ∀ x ∈ ld, inI x) : CT G (MX2_rank 3 64 0 0) h [.ref a, .int (iI k)] (pI (fun z h' => z = fi ld k ∧ h' = h)) := by
  refine CT.of rfl hG (Nat.le_of_ble_eq_true rfl) rfl (fun E hQ => ?_)
  obtain ⟨nl, al, am, ll, w, nx, lx, dx, ha0, hr0, ha, hR, hM, h8⟩ := hS
  have hln := hR.2.2.1.2.len
  have hl100 := hR.2.2.1.1.len
  obtain ⟨fs9, hnl⟩ := hR.2.2.1.1.obj
  refine ww_iconst dX2_rank_0 ?_
  refine ww_istore_n [(2, _), (0, _), (1, _)] dX2_rank_1 (by decide) rfl ?_
  have loop_2 : ∀ (f : Nat) (j : Nat), (j ≤ ld.length) → (∀ i : Nat, i < j → ld[i]? ≠ some k) → (ld.length - j < f) → WW G E (MX2_rank 3 64 0 0) h 0 0 2 [(0, .ref a), (1, .int (iI k)), (2, .int (iI (j : Int)))] [] := by
    intro f
    induction f with
    | zero => intro j hj hno hf; exact absurd hf (by omega)
    | succ f ih =>
      intro j hj hno hf
      refine ww_iload_n 2 dX2_rank_2 rfl ?_
      refine ww_aload_n 0 dX2_rank_3 rfl ?_
      refine ww_getf gf_X2_25 rfl dX2_rank_4 ha rfl ?_
      refine cr5_pi (cr_F (ct_J3_size hG hR.2.2.1.1) sf_X2_48 rfl dX2_rank_7 hnl rfl rfl rfl rfl ⟨by decide, by decide⟩ (Nat.le_of_ble_eq_true rfl) (Nat.le_of_ble_eq_true rfl) (Nat.le_of_ble_eq_true rfl)) ?_
      refine ww_icmp_ge 43 dX2_rank_12 (by decide) (inI.mk (by omega) (by omega)) (inI.mk (by omega) (by omega)) (fun c_12 => ?_) (fun c_12 => ?_)
      · refine ww_iconst dX2_rank_43 ?_
        exact ww_iret hQ dX2_rank_44 rfl (Nat.le_of_ble_eq_true rfl) (Nat.le_of_ble_eq_true rfl) ⟨_, rfl, (fi_none (fun i hi => hno i (by omega))).symm, rfl⟩
      · refine ww_aload_n 0 dX2_rank_15 rfl ?_
        refine ww_getf gf_X2_25 rfl dX2_rank_16 ha rfl ?_
        refine ww_iload_n 2 dX2_rank_19 rfl ?_
        obtain ⟨x9, hx9⟩ := gx_get (xs := dx) (i := (j : Int)) (by omega) (by omega)
        obtain ⟨v9, hv9, o9, k9, hi9, -⟩ := hR.2.2.1.2.get hx9
        rw [Int.toNat_natCast] at hv9
        have hin9 := hld v9 (List.mem_of_getElem? hv9)
        refine cr5_pr (cr_F (ct_J3_get hG hR.2.2.1.1 _ x9 (by omega) hx9) sf_X2_56 rfl dX2_rank_20 hnl rfl rfl rfl rfl ⟨by decide, by decide⟩ (Nat.le_of_ble_eq_true rfl) (Nat.le_of_ble_eq_true rfl) (Nat.le_of_ble_eq_true rfl)) ?_
        refine ww_cast dX2_rank_25 hi9 rfl q764 rfl ?_
        refine cr_pi (cr_V (ct_J20_intValue hG hi9) sv_X2_85 rfl dX2_rank_28 hi9 rfl rfl rfl rfl ⟨by decide, by decide⟩ (Nat.le_of_ble_eq_true rfl) (Nat.le_of_ble_eq_true rfl) (Nat.le_of_ble_eq_true rfl)) ?_
        refine ww_iload_n 1 dX2_rank_31 rfl ?_
        refine ww_icmp_ne 37 dX2_rank_32 (by decide) hin9 hk (fun c_32 => ?_) (fun c_32 => ?_)
        · refine ww_iinc (j := 2) [(2, _), (0, _), (1, _)] dX2_rank_37 rfl (by decide) rfl ?_
          refine ww_goto 2 dX2_rank_40 (by decide) ?_
          refine ww_sub [1, 2, 0] rfl ?_
          exact ih (j + 1) (by omega) (fun i hi => if e9 : i = j then (by rw [e9, hv9]; exact fun z => c_32 (Option.some.inj z)) else hno i (by omega)) (by omega)
        · refine ww_iload_n 2 dX2_rank_35 rfl ?_
          exact ww_iret hQ dX2_rank_36 rfl (Nat.le_of_ble_eq_true rfl) (Nat.le_of_ble_eq_true rfl) ⟨_, rfl, (fi_at hno (by rw [hv9, c_32])).symm, rfl⟩
  refine ww_sub [1, 2, 0] rfl ?_
  exact loop_2 (ld.length + 1) 0 (by omega) (fun i hi => absurd hi (Nat.not_lt_zero i)) (by omega)

set_option maxHeartbeats 4000000 in
theorem ct_X2_prefers {G : GT} {h : AH} (hG : GOK G) {a r : Nat} {nm : List (List Int)} {lb : List LV} {of : Int → Int → Int} {ld : List Int} {sh : Int} {fn : EF} (hS : HS G h a r nm lb of ld sh fn) (k o : Int) (v : LV) (k0 : 0 ≤ k) (hv : lb[k.toNat]? = some v) (ho : inI o) (hpf : ∀ x ∈ v.2.2.2, inI x) : CT G (MX2_prefers 3 64 0 0) h [.ref a, .int (iI k), .int (iI o)] (pI (fun z h' => z = bI (o ∈ v.2.2.2) ∧ h' = h)) := by
  refine CT.of rfl hG (Nat.le_of_ble_eq_true rfl) rfl (fun E hQ => ?_)
  obtain ⟨nl, al, am, ll, w, nx, lx, dx, ha0, hr0, ha, hR, hM, h8⟩ := hS
  have hkl := (List.getElem?_eq_some_iff.mp hv).1
  obtain ⟨x8, hx8⟩ := gx_get (xs := lx) (i := k) k0 (by rw [hR.2.1.2.1]; omega)
  obtain ⟨ws, pl, px, hb, -, hpa, hpz, -⟩ := hR.2.1.2.2 _ _ _ hx8 hv
  obtain ⟨fs9, hal⟩ := hR.2.1.1.obj
  obtain ⟨fs8, hpo⟩ := hpa.obj
  have hl100 := hpa.len
  have hln := hpz.len
  refine ww_aload_n 0 dX2_prefers_0 rfl ?_
  refine ww_getf gf_X2_12 rfl dX2_prefers_1 ha rfl ?_
  refine ww_iload_n 1 dX2_prefers_4 rfl ?_
  refine cr5_pr (cr_F (ct_J3_get hG hR.2.1.1 _ x8 k0 hx8) sf_X2_56 rfl dX2_prefers_5 hal rfl rfl rfl rfl ⟨by decide, by decide⟩ (Nat.le_of_ble_eq_true rfl) (Nat.le_of_ble_eq_true rfl) (Nat.le_of_ble_eq_true rfl)) ?_
  refine ww_cast dX2_prefers_10 hb rfl q1118 rfl ?_
  refine ww_getf gf_X2_98 rfl dX2_prefers_13 hb rfl ?_
  refine ww_astore_n [(3, _), (0, _), (1, _), (2, _)] dX2_prefers_16 (by decide) rfl ?_
  refine ww_iconst dX2_prefers_17 ?_
  refine ww_istore [(4, _), (3, _), (0, _), (1, _), (2, _)] dX2_prefers_18 (by decide) rfl ?_
  have loop_20 : ∀ (f : Nat) (j : Nat), (j ≤ px.length) → (∀ i : Nat, i < j → v.2.2.2[i]? ≠ some o) → (px.length - j < f) → WW G E (MX2_prefers 3 64 0 0) h 0 0 20 [(2, .int (iI o)), (3, .ref pl), (4, .int (iI (j : Int)))] [] := by
    intro f
    induction f with
    | zero => intro j hj hno hf; exact absurd hf (by omega)
    | succ f ih =>
      intro j hj hno hf
      refine ww_iload 2 dX2_prefers_20 rfl ?_
      refine ww_aload_n 1 dX2_prefers_22 rfl ?_
      refine cr5_pi (cr_F (ct_J3_size hG hpa) sf_X2_48 rfl dX2_prefers_23 hpo rfl rfl rfl rfl ⟨by decide, by decide⟩ (Nat.le_of_ble_eq_true rfl) (Nat.le_of_ble_eq_true rfl) (Nat.le_of_ble_eq_true rfl)) ?_
      refine ww_icmp_ge 57 dX2_prefers_28 (by decide) (inI.mk (by omega) (by omega)) (inI.mk (by omega) (by omega)) (fun c_28 => ?_) (fun c_28 => ?_)
      · refine ww_iconst dX2_prefers_57 ?_
        exact ww_zret hQ dX2_prefers_58 rfl (Nat.le_of_ble_eq_true rfl) (Nat.le_of_ble_eq_true rfl) (by first | exact Or.inl rfl | exact Or.inr rfl | (unfold bI; split <;> simp)) ⟨_, rfl, (bI_f (fun z => by obtain ⟨i, hi⟩ := List.getElem?_of_mem z; exact hno i (by have := (List.getElem?_eq_some_iff.mp hi).1; omega) hi)).symm, rfl⟩
      · refine ww_aload_n 1 dX2_prefers_31 rfl ?_
        refine ww_iload 2 dX2_prefers_32 rfl ?_
        obtain ⟨x9, hx9⟩ := gx_get (xs := px) (i := (j : Int)) (by omega) (by omega)
        obtain ⟨v9, hv9, o9, k9, hi9, -⟩ := hpz.get hx9
        rw [Int.toNat_natCast] at hv9
        have hin9 := hpf v9 (List.mem_of_getElem? hv9)
        refine cr5_pr (cr_F (ct_J3_get hG hpa _ x9 (by omega) hx9) sf_X2_56 rfl dX2_prefers_34 hpo rfl rfl rfl rfl ⟨by decide, by decide⟩ (Nat.le_of_ble_eq_true rfl) (Nat.le_of_ble_eq_true rfl) (Nat.le_of_ble_eq_true rfl)) ?_
        refine ww_cast dX2_prefers_39 hi9 rfl q764 rfl ?_
        refine cr_pi (cr_V (ct_J20_intValue hG hi9) sv_X2_85 rfl dX2_prefers_42 hi9 rfl rfl rfl rfl ⟨by decide, by decide⟩ (Nat.le_of_ble_eq_true rfl) (Nat.le_of_ble_eq_true rfl) (Nat.le_of_ble_eq_true rfl)) ?_
        refine ww_iload_n 0 dX2_prefers_45 rfl ?_
        refine ww_icmp_ne 51 dX2_prefers_46 (by decide) hin9 ho (fun c_46 => ?_) (fun c_46 => ?_)
        · refine ww_iinc (j := 2) [(4, _), (2, _), (3, _)] dX2_prefers_51 rfl (by decide) rfl ?_
          refine ww_goto 20 dX2_prefers_54 (by decide) ?_
          refine ww_sub [1, 2, 0] rfl ?_
          exact ih (j + 1) (by omega) (fun i hi => if e9 : i = j then (by rw [e9, hv9]; exact fun z => c_46 (Option.some.inj z)) else hno i (by omega)) (by omega)
        · refine ww_iconst dX2_prefers_49 ?_
          exact ww_zret hQ dX2_prefers_50 rfl (Nat.le_of_ble_eq_true rfl) (Nat.le_of_ble_eq_true rfl) (by first | exact Or.inl rfl | exact Or.inr rfl | (unfold bI; split <;> simp)) ⟨_, rfl, (bI_t (by rw [← c_46]; exact List.mem_of_getElem? hv9)).symm, rfl⟩
  refine ww_sub [4, 1, 0] rfl ?_
  exact loop_20 (px.length + 1) 0 (by omega) (fun i hi => absurd hi (Nat.not_lt_zero i)) (by omega)

set_option maxHeartbeats 4000000 in
theorem ct_X2_friends {G : GT} {h : AH} (hG : GOK G) {a r : Nat} {nm : List (List Int)} {lb : List LV} {of : Int → Int → Int} {ld : List Int} {sh : Int} {fn : EF} (hS : HS G h a r nm lb of ld sh fn) (k : Int) (hk : inI k) (hld : ∀ x ∈ ld, 0 ≤ x ∧ x < lb.length) (hpf : ∀ v ∈ lb, ∀ x ∈ v.2.2.2, inI x) : CT G (MX2_friends 4 88 0 0) h [.ref a, .int (iI k)] (pI (fun z h' => z = fri lb ld k ∧ h' = h)) := by
  refine CT.of rfl hG (Nat.le_of_ble_eq_true rfl) rfl (fun E hQ => ?_)
  have hS0 := hS
  obtain ⟨nl, al, am, ll, w, nx, lx, dx, ha0, hr0, ha, hR, hM, h8⟩ := hS
  have hln := hR.2.2.1.2.len
  have hl100 := hR.2.2.1.1.len
  obtain ⟨fs9, hnl⟩ := hR.2.2.1.1.obj
  refine ww_iconst dX2_friends_0 ?_
  refine ww_istore_n [(2, _), (0, _), (1, _)] dX2_friends_1 (by decide) rfl ?_
  refine ww_iconst dX2_friends_2 ?_
  refine ww_istore_n [(3, _), (2, _), (0, _), (1, _)] dX2_friends_3 (by decide) rfl ?_
  have loop_4 : ∀ (f : Nat) (j : Nat), (j ≤ ld.length) → (ld.length - j < f) → WW G E (MX2_friends 4 88 0 0) h 0 0 4 [(0, .ref a), (1, .int (iI k)), (2, .int (iI (smI (j : Int) (fun i => bI (k ∈ prf lb (ld.getD i.toNat 0)))))), (3, .int (iI (j : Int)))] [] := by
    intro f
    induction f with
    | zero => intro j hj hf; exact absurd hf (by omega)
    | succ f ih =>
      intro j hj hf
      refine ww_iload_n 3 dX2_friends_4 rfl ?_
      refine ww_aload_n 0 dX2_friends_5 rfl ?_
      refine ww_getf gf_X2_25 rfl dX2_friends_6 ha rfl ?_
      refine cr5_pi (cr_F (ct_J3_size hG hR.2.2.1.1) sf_X2_48 rfl dX2_friends_9 hnl rfl rfl rfl rfl ⟨by decide, by decide⟩ (Nat.le_of_ble_eq_true rfl) (Nat.le_of_ble_eq_true rfl) (Nat.le_of_ble_eq_true rfl)) ?_
      refine ww_icmp_ge 55 dX2_friends_14 (by decide) (inI.mk (by omega) (by omega)) (inI.mk (by omega) (by omega)) (fun c_14 => ?_) (fun c_14 => ?_)
      · have ej : (j : Int) = ld.length := by omega
        rw [ej]
        refine ww_iload_n 2 dX2_friends_55 rfl ?_
        exact ww_iret hQ dX2_friends_56 rfl (Nat.le_of_ble_eq_true rfl) (Nat.le_of_ble_eq_true rfl) ⟨_, rfl, rfl, rfl⟩
      · refine ww_iload_n 2 dX2_friends_17 rfl ?_
        refine ww_aload_n 0 dX2_friends_18 rfl ?_
        refine ww_aload_n 0 dX2_friends_19 rfl ?_
        refine ww_getf gf_X2_25 rfl dX2_friends_20 ha rfl ?_
        refine ww_iload_n 3 dX2_friends_23 rfl ?_
        obtain ⟨x9, hx9⟩ := gx_get (xs := dx) (i := (j : Int)) (by omega) (by omega)
        obtain ⟨v9, hv9, o9, k9, hi9, -⟩ := hR.2.2.1.2.get hx9
        rw [Int.toNat_natCast] at hv9
        have hin9 := hld v9 (List.mem_of_getElem? hv9)
        have hlv : v9.toNat < lb.length := by omega
        have hv8 := List.getElem?_eq_getElem hlv
        have egd : ld.getD j 0 = v9 := by rw [List.getD_eq_getElem?_getD, hv9]; rfl
        have eprf : prf lb v9 = (lb[v9.toNat]).2.2.2 := by unfold prf; rw [List.getD_eq_getElem?_getD, hv8]; rfl
        refine cr5_pr (cr_F (ct_J3_get hG hR.2.2.1.1 _ x9 (by omega) hx9) sf_X2_56 rfl dX2_friends_24 hnl rfl rfl rfl rfl ⟨by decide, by decide⟩ (Nat.le_of_ble_eq_true rfl) (Nat.le_of_ble_eq_true rfl) (Nat.le_of_ble_eq_true rfl)) ?_
        refine ww_cast dX2_friends_29 hi9 rfl q764 rfl ?_
        refine cr_pi (cr_V (ct_J20_intValue hG hi9) sv_X2_85 rfl dX2_friends_32 hi9 rfl rfl rfl rfl ⟨by decide, by decide⟩ (Nat.le_of_ble_eq_true rfl) (Nat.le_of_ble_eq_true rfl) (Nat.le_of_ble_eq_true rfl)) ?_
        refine ww_iload_n 1 dX2_friends_35 rfl ?_
        refine cr_pi (cr_V (ct_X2_prefers hG hS0 v9 k _ hin9.1 hv8 hk (hpf _ (List.mem_of_getElem? hv8))) sv_X2_101 rfl dX2_friends_36 ha rfl rfl rfl rfl ⟨by decide, by decide⟩ (Nat.le_of_ble_eq_true rfl) (Nat.le_of_ble_eq_true rfl) (Nat.le_of_ble_eq_true rfl)) ?_
        refine ww_ifb_eq 46 dX2_friends_39 (by decide) (fun c_39 => ?_) (fun c_39 => ?_)
        · refine ww_iconst dX2_friends_46 ?_
          refine ww_iadd dX2_friends_47 ?_
          refine ww_istore_n [(2, _), (0, _), (1, _), (3, _)] dX2_friends_48 (by decide) rfl ?_
          refine ww_iinc (j := 3) [(3, _), (2, _), (0, _), (1, _)] dX2_friends_49 rfl (by decide) rfl ?_
          refine ww_goto 4 dX2_friends_52 (by decide) ?_
          refine ww_sub [2, 3, 1, 0] rfl ?_
          rw [show smI (j : Int) (fun i => bI (k ∈ prf lb (ld.getD i.toNat 0))) + 0 = smI ((j : Int) + 1) (fun i => bI (k ∈ prf lb (ld.getD i.toNat 0))) by rw [smI_s (by omega), bI_f (by rw [Int.toNat_natCast, egd, eprf]; exact c_39)]]
          exact ih (j + 1) (by omega) (by omega)
        · refine ww_iconst dX2_friends_42 ?_
          refine ww_goto 47 dX2_friends_43 (by decide) ?_
          refine ww_iadd dX2_friends_47 ?_
          refine ww_istore_n [(2, _), (0, _), (1, _), (3, _)] dX2_friends_48 (by decide) rfl ?_
          refine ww_iinc (j := 3) [(3, _), (2, _), (0, _), (1, _)] dX2_friends_49 rfl (by decide) rfl ?_
          refine ww_goto 4 dX2_friends_52 (by decide) ?_
          refine ww_sub [2, 3, 1, 0] rfl ?_
          rw [show smI (j : Int) (fun i => bI (k ∈ prf lb (ld.getD i.toNat 0))) + 1 = smI ((j : Int) + 1) (fun i => bI (k ∈ prf lb (ld.getD i.toNat 0))) by rw [smI_s (by omega), bI_t (by rw [Int.toNat_natCast, egd, eprf]; exact c_39)]]
          exact ih (j + 1) (by omega) (by omega)
  refine ww_sub [2, 3, 1, 0] rfl ?_
  exact loop_4 (ld.length + 1) 0 (by omega) (by omega)

set_option maxHeartbeats 4000000 in
theorem ct_X2_reload {G : GT} {h : AH} (hG : GOK G) {a r : Nat} {nm : List (List Int)} {lb : List LV} {of : Int → Int → Int} {ld : List Int} {sh : Int} {fn : EF} (hS : HS G h a r nm lb of ld sh fn) (k : Int) (k0 : 0 ≤ k) (k1 : k < 100) (h7 : ld.length ≤ 12) (hL : LitC G h) : CT G (MX2_reload 7 181 2 16) h [.ref a, .int (iI k)] (pV (fun h' => HS G h' a r nm lb of (ld ++ [k]) sh fn ∧ FO a 10030 10031 h h')) := by
  refine CT.of rfl hG (Nat.le_of_ble_eq_true rfl) rfl (fun E hQ => ?_)
  obtain ⟨nl, al, am, ll, w, nx, lx, dx, ha0, hr0, ha, hR, hM, h8⟩ := hS
  refine ww_aload_n 0 dX2_reload_0 rfl ?_
  refine ww_getf gf_X2_25 rfl dX2_reload_1 ha rfl ?_
  refine ww_iload_n 1 dX2_reload_4 rfl ?_
  refine cr_r (cr_S (ct_J20_valueOf hG hL.2.1 k (inI.mk (by omega) (by omega))) ss_X2_91 rfl dX2_reload_5 rfl rfl ⟨by decide, by decide⟩ (Nat.le_of_ble_eq_true rfl) (Nat.le_of_ble_eq_true rfl) (Nat.le_of_ble_eq_true rfl)) (fun r_5 h_5 hp_5 => ?_)
  obtain ⟨e_5, hI⟩ := hp_5
  have ha := e_5 _ _ ha
  have hR := hR.ex e_5
  have hM := hM.ex e_5
  have hL := hL.ex e_5
  obtain ⟨⟨a1, a2⟩, ⟨a3, a4⟩, ⟨a5, a6⟩, a7⟩ := hR
  obtain ⟨fs9, hnl⟩ := a5.obj
  have hln := a6.len
  obtain ⟨u1, u2, hu9, hu⟩ := id hI
  refine cr5_i (cr_F (ct_J3_add hG a5 hL.2.1 (by omega) (ci := 15) rfl q2473 (IVs.el a6 (by decide)) hu9 (by omega)) sf_X2_63 rfl dX2_reload_8 hnl rfl rfl rfl rfl ⟨by decide, by decide⟩ (Nat.le_of_ble_eq_true rfl) (Nat.le_of_ble_eq_true rfl) (Nat.le_of_ble_eq_true rfl)) (fun r_8 h_8 hp_8 => ?_)
  obtain ⟨er_8, hA_8, f_8⟩ := hp_8
  subst er_8
  refine ww_pop dX2_reload_13 rfl ?_
  exact ww_vret hQ dX2_reload_14 rfl (Nat.le_of_ble_eq_true rfl) (Nat.le_of_ble_eq_true rfl) ⟨rfl, ⟨nl, al, am, ll, w, nx, lx, dx ++ [r_5], ha0, hr0, f_8.at ha (by omega), ⟨⟨a1.fo f_8 ha0 (by omega), a2.mono (fun _ _ q => q.fo f_8 (by omega))⟩, ⟨a3.fo f_8 ha0 (by omega), a4.fo f_8 ha0 h8 (by omega)⟩, ⟨hA_8, (Z2.snoc hI a6).mono (fun _ _ q => q.fo f_8 ha0 (by omega))⟩, a7.fo f_8 ha0 (by omega)⟩, hM.fo f_8 ha0 (by omega), h8⟩, e_5.fo.tr f_8⟩

set_option maxHeartbeats 4000000 in
theorem ct_X2_unload {G : GT} {h : AH} (hG : GOK G) {a r : Nat} {nm : List (List Int)} {lb : List LV} {of : Int → Int → Int} {ld : List Int} {sh : Int} {fn : EF} (hS : HS G h a r nm lb of ld sh fn) (k : Int) (hk : inI k) (hld : ∀ x ∈ ld, inI x) (hin : fi ld k ≠ -1) : CT G (MX2_unload 4 106 0 0) h [.ref a, .int (iI k)] (pV (fun h' => HS G h' a r nm lb of (ld.eraseIdx (fi ld k).toNat) sh fn ∧ FO a 10030 10031 h h')) := by
  refine CT.of rfl hG (Nat.le_of_ble_eq_true rfl) rfl (fun E hQ => ?_)
  have hS0 := hS
  obtain ⟨nl, al, am, ll, w, nx, lx, dx, ha0, hr0, ha, hR, hM, h8⟩ := hS
  obtain ⟨⟨a1, a2⟩, ⟨a3, a4⟩, ⟨a5, a6⟩, a7⟩ := hR
  obtain ⟨fs9, hnl⟩ := a5.obj
  have hln := a6.len
  have hrg := fi_rg (l := ld) (w := k)
  obtain ⟨x9, hx9⟩ := gx_get (xs := dx) (i := fi ld k) (by omega) (by omega)
  obtain ⟨v9, hv9, o9, k9, hi9, hi8⟩ := a6.get hx9
  refine ww_aload_n 0 dX2_unload_0 rfl ?_
  refine ww_getf gf_X2_25 rfl dX2_unload_1 ha rfl ?_
  refine ww_aload_n 0 dX2_unload_4 rfl ?_
  refine ww_iload_n 1 dX2_unload_5 rfl ?_
  refine cr_pi (cr_V (ct_X2_rank hG hS0 k hk hld) sv_X2_105 rfl dX2_unload_6 ha rfl rfl rfl rfl ⟨by decide, by decide⟩ (Nat.le_of_ble_eq_true rfl) (Nat.le_of_ble_eq_true rfl) (Nat.le_of_ble_eq_true rfl)) ?_
  refine cr5_r (cr_F (ct_J3_remove hG a5 (ci := 15) rfl q2473 (IVs.el a6 (by decide)) (fi ld k) x9 (by omega) hx9) sf_X2_109 rfl dX2_unload_9 hnl rfl rfl rfl rfl ⟨by decide, by decide⟩ (Nat.le_of_ble_eq_true rfl) (Nat.le_of_ble_eq_true rfl) (Nat.le_of_ble_eq_true rfl)) (fun r_9 h_9 hp_9 => ?_)
  obtain ⟨er_9, hA_9, f_9⟩ := hp_9
  subst er_9
  have hi9 := f_9.at hi9 (by omega)
  refine ww_cast dX2_unload_14 hi9 rfl q764 rfl ?_
  refine ww_astore_n [(2, _), (0, _), (1, _)] dX2_unload_17 (by decide) rfl ?_
  exact ww_vret hQ dX2_unload_18 rfl (Nat.le_of_ble_eq_true rfl) (Nat.le_of_ble_eq_true rfl) ⟨rfl, ⟨nl, al, am, ll, w, nx, lx, dx.eraseIdx (fi ld k).toNat, ha0, hr0, f_9.at ha (by omega), ⟨⟨a1.fo f_9 ha0 (by omega), a2.mono (fun _ _ q => q.fo f_9 (by omega))⟩, ⟨a3.fo f_9 ha0 (by omega), a4.fo f_9 ha0 h8 (by omega)⟩, ⟨hA_9, (Z2.erase a6).mono (fun _ _ q => q.fo f_9 ha0 (by omega))⟩, a7.fo f_9 ha0 (by omega)⟩, hM.fo f_9 ha0 (by omega), h8⟩, f_9⟩
