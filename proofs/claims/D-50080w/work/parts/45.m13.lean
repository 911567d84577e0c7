set_option maxRecDepth 100000
set_option maxHeartbeats 4000000 in
theorem ct_X3_placeOf {G : GT} {h : AH} {a N : Nat} {tg : Tg} {f : Int → Int} (hG : GOK G) (ha : h a = some (tg, aJ G N f)) (hr : ∀ z, inL (f z)) (w many : Int) (hw : inL w) (h0 : 0 ≤ many) (h1 : many ≤ N) (hN : N < 1000) : CPi G (MX3_placeOf 0 0 0 0) h [.long (lI w), .ref a, .int (iI many)] (fi (lsI many f) w) := by
  refine CT.of rfl hG (Nat.le_of_ble_eq_true rfl) rfl (fun E hQ => ?_)
  refine ww_iconst dX3_placeOf_0 ?_
  refine ww_istore [(4, _), (0, _), (2, _), (3, _)] dX3_placeOf_1 (by decide) rfl ?_
  have loop_3 : ∀ (e : Nat) (i : Nat), ((i : Int) ≤ many) → (∀ j : Nat, j < i → (lsI many f)[j]? ≠ some w) → (many - i < e) → WW G E (MX3_placeOf 0 0 0 0) h 0 0 3 [(4, .int (iI (i : Int))), (0, .long (lI w)), (2, .ref a), (3, .int (iI many))] [] := by
    intro e
    induction e with
    | zero => intro i hi1 hno he; exact absurd he (by omega)
    | succ e ie =>
      intro i hi1 hno he
      have hd := fi_drop hno (by rw [lsI_len]; omega)
      refine ww_iload 0 dX3_placeOf_3 rfl ?_
      refine ww_iload_n 3 dX3_placeOf_5 rfl ?_
      refine ww_icmp_ge 27 dX3_placeOf_6 (by decide) (inI.mk (by omega) (by omega)) (inI.mk (by omega) (by omega)) (fun c_6 => ?_) (fun c_6 => ?_)
      · refine ww_iconst dX3_placeOf_27 ?_
        exact ww_iret hQ dX3_placeOf_28 rfl (Nat.le_of_ble_eq_true rfl) (Nat.le_of_ble_eq_true rfl) ⟨_, rfl, by rw [hd, show (lsI many f).drop i = [] by have := lsI_end (g := f) (n := many) (i := i) (by omega); simpa using this]; rfl, rfl⟩
      · refine ww_aload_n 2 dX3_placeOf_9 rfl ?_
        refine ww_iload 0 dX3_placeOf_10 rfl ?_
        refine ww_lald dX3_placeOf_12 ha (by omega) (by omega) (by omega) ?_
        refine ww_lload_n 1 dX3_placeOf_13 rfl ?_
        refine ww_lif_ne 21 dX3_placeOf_14 dX3_placeOf_15 (by decide) (by first | assumption | exact hr _ | exact inL.mk (by omega) (by omega)) (by first | assumption | exact hr _ | exact inL.mk (by omega) (by omega)) (fun c_14 => ?_) (fun c_14 => ?_)
        · refine ww_iinc (j := 0) [(4, _), (0, _), (2, _), (3, _)] dX3_placeOf_21 rfl (by decide) rfl ?_
          refine ww_goto 3 dX3_placeOf_24 (by decide) ?_
          refine ww_sub [0, 1, 2, 3] rfl ?_
          rw [show (i : Int) + 1 = ((i + 1 : Nat) : Int) by omega]
          exact ie (i + 1) (by omega) (fun j x => if q : j = i then by (rw [q, lsI_get (by omega)]; exact fun z => c_14 (Option.some.inj z)) else hno j (by omega)) (by omega)
        · refine ww_iload 0 dX3_placeOf_18 rfl ?_
          exact ww_iret hQ dX3_placeOf_20 rfl (Nat.le_of_ble_eq_true rfl) (Nat.le_of_ble_eq_true rfl) ⟨_, rfl, by rw [hd, show (lsI many f).drop i = f i :: (lsI many f).drop (i + 1) by have := lsI_at (g := f) (n := many) (i := i) (by omega) (by omega); simpa using this]; simp [fi, c_14], rfl⟩
  refine ww_sub [0, 1, 2, 3] rfl ?_
  exact loop_3 1001 0 (by omega) (fun j x => by omega) (by omega)

theorem mLs {j N : Nat} (h : mLng j = some N) : N ≤ 1300 := by
  unfold mLng at h
  split at h <;> first | (cases h; done) | (cases h; decide)

set_option maxHeartbeats 4000000 in
theorem ct_X3_readKnown {G : GT} {h0 h : AH} {m : Nat} {A : Nat → Nat} {B : Nat → Int → Nat} {D : Int → Int} {σ : MS} (hG : GOK G) (hM : MWF G h0 h m A B D σ) {t : Int → Int} {n : Int} (hT : TX σ t n) (p : Int) (hp : σ 4 0 0 = p) (hp0 : 0 ≤ p) (hp1 : p ≤ n) (hg : σ 5 0 0 = 0) {j : Nat} {N : Nat} (hj : mLng j = some N) {ws : List (List Int)} (hws : ∀ (i : Nat) (w : List Int), ws[i]? = some w → σ j 0 i = wn w) (hwd : ∀ x ∈ ws, Wd x) (hwn : ws.length ≤ N) (hN : N < 1000) : CSi G (MX3_readKnown 3 63 0 0) h m A B D [.ref m, .ref (A j), .int (iI (ws.length : Int))] (fun r σ' => (∀ j, j ≠ 4 → j ≠ 5 → j ≠ 6 → j ≠ 17 → σ' j = σ j) ∧ ((∃ c o, pkn t p ws = .error (c, o) ∧ c ≠ 0 ∧ σ' 5 0 0 = c ∧ σ' 6 0 0 = o ∧ r = 0) ∨ (∃ k s e, pkn t p ws = .ok (k, s, e) ∧ σ' 5 0 0 = 0 ∧ σ' 4 0 0 = e ∧ σ' 17 0 0 = s ∧ r = k ∧ 0 ≤ k ∧ k < ws.length ∧ p ≤ e ∧ e ≤ n ∧ σ' 6 = σ 6))) := by
  refine CT.of rfl hG (Nat.le_of_ble_eq_true rfl) rfl (fun E hQ => ?_)
  have hM := hM.1.f
  have hx := hT.1
  have hn8 := hx.2.1
  have hk := hx.k1 hp1
  have hj17 : j ≠ 4 ∧ j ≠ 5 ∧ j ≠ 6 ∧ j ≠ 17 := ⟨fun e => (by rw [e] at hj; cases hj), fun e => (by rw [e] at hj; cases hj), fun e => (by rw [e] at hj; cases hj), fun e => (by rw [e] at hj; cases hj)⟩
  refine ww_aload_n 0 dX3_readKnown_0 rfl ?_
  refine cr_sl hM (cr_V (ct_X3_readWord hG hM hT _ hp hp0 hp1 hg) sv_X3_162 rfl dX3_readKnown_1 hM.obj rfl rfl rfl rfl ⟨by decide, by decide⟩ (Nat.le_of_ble_eq_true rfl) (Nat.le_of_ble_eq_true rfl) (Nat.le_of_ble_eq_true rfl)) (fun r_1 σ_1 hh hM hp_1 => ?_)
  obtain ⟨hk_1, h17_1, hr_1, hc_1⟩ := hp_1
  refine ww_aload_n 1 dX3_readKnown_4 rfl ?_
  refine ww_iload_n 2 dX3_readKnown_5 rfl ?_
  refine cr_pi (cr_S (ct_X3_placeOf hG (hM.lng hj) (fun z => hM.rl _ _ _) _ _ (inL.mk (by omega) (by omega)) (by omega) (by omega) hN) ss_X3_166 rfl dX3_readKnown_6 rfl rfl ⟨by decide, by decide⟩ (Nat.le_of_ble_eq_true rfl) (Nat.le_of_ble_eq_true rfl) (Nat.le_of_ble_eq_true rfl)) ?_
  have hfr := fi_rg (l := lsI (ws.length : Int) (σ_1 j 0)) (w := r_1)
  rw [lsI_len] at hfr
  refine ww_istore_n [(3, _), (0, _), (1, _), (2, _)] dX3_readKnown_9 (by decide) rfl ?_
  refine ww_aload_n 1 dX3_readKnown_10 rfl ?_
  refine cr_pi (cr_V (ct_X3_isGood hG hM) sv_X3_85 rfl dX3_readKnown_11 hM.obj rfl rfl rfl rfl ⟨by decide, by decide⟩ (Nat.le_of_ble_eq_true rfl) (Nat.le_of_ble_eq_true rfl) (Nat.le_of_ble_eq_true rfl)) ?_
  refine ww_ifb_eq 32 dX3_readKnown_14 (by decide) (fun c_14 => ?_) (fun c_14 => ?_)
  · have hc_1 := hc_1.resolve_right (fun ⟨w, s, e, hpt, h5, _⟩ => c_14 h5)
    obtain ⟨c, o, hpt, hc, h5, h6⟩ := hc_1
    refine ww_aload_n 1 dX3_readKnown_32 rfl ?_
    refine cr_pi (cr_V (ct_X3_isGood hG hM) sv_X3_85 rfl dX3_readKnown_33 hM.obj rfl rfl rfl rfl ⟨by decide, by decide⟩ (Nat.le_of_ble_eq_true rfl) (Nat.le_of_ble_eq_true rfl) (Nat.le_of_ble_eq_true rfl)) ?_
    refine ww_ifb_eq 43 dX3_readKnown_36 (by decide) (fun c_36 => ?_) (fun c_36 => ?_)
    · refine ww_iconst dX3_readKnown_43 ?_
      exact ww_iret hQ dX3_readKnown_44 rfl (Nat.le_of_ble_eq_true rfl) (Nat.le_of_ble_eq_true rfl) (by first | exact ⟨_, rfl, _, hM, hk_1, Or.inl ⟨c, o, by unfold pkn; rw [hpt], hc, h5, h6, rfl⟩⟩ | exact ⟨_, rfl, _, hM, fun j a b c d => by rw [su_off c, su_off b]; exact hk_1 j a b c d, Or.inl ⟨-4, sk t p, by unfold pkn; rw [hpt]; simp only; rw [if_pos (by omega)], by decide, by rw [su_off (by decide), su_s], su_s, rfl⟩⟩ | exact ⟨_, rfl, _, hM, hk_1, Or.inr ⟨fi ws w, sk t p, e, by unfold pkn; rw [hpt]; simp only; rw [if_neg (by omega)], h5, h4, h17_1, hfw, by omega, by omega, g1, g2, g6⟩⟩ | (exfalso; first | exact c_36 h5 | exact hc (h5.symm.trans c_36) | (rw [su_off (by decide), su_s] at c_36; omega)))
    · refine ww_iload_n 0 dX3_readKnown_39 rfl ?_
      refine ww_goto 44 dX3_readKnown_40 (by decide) ?_
      exact ww_iret hQ dX3_readKnown_44 rfl (Nat.le_of_ble_eq_true rfl) (Nat.le_of_ble_eq_true rfl) (by first | exact ⟨_, rfl, _, hM, hk_1, Or.inl ⟨c, o, by unfold pkn; rw [hpt], hc, h5, h6, rfl⟩⟩ | exact ⟨_, rfl, _, hM, fun j a b c d => by rw [su_off c, su_off b]; exact hk_1 j a b c d, Or.inl ⟨-4, sk t p, by unfold pkn; rw [hpt]; simp only; rw [if_pos (by omega)], by decide, by rw [su_off (by decide), su_s], su_s, rfl⟩⟩ | exact ⟨_, rfl, _, hM, hk_1, Or.inr ⟨fi ws w, sk t p, e, by unfold pkn; rw [hpt]; simp only; rw [if_neg (by omega)], h5, h4, h17_1, hfw, by omega, by omega, g1, g2, g6⟩⟩ | (exfalso; first | exact c_36 h5 | exact hc (h5.symm.trans c_36) | (rw [su_off (by decide), su_s] at c_36; omega)))
  · have hc_1 := hc_1.resolve_left (fun ⟨c, o, hpt, hc, h5, h6⟩ => hc (h5.symm.trans c_14))
    obtain ⟨w, s, e, hpt, h5, h4, rfl, rfl, g1, g2, g3, g4, g5, g6⟩ := hc_1
    have hfw := fi_wn (f := σ_1 j 0) (fun i x hx => by rw [hk_1 j hj17.1 hj17.2.1 hj17.2.2.1 hj17.2.2.2]; exact hws i x hx) g3 hwd
    refine ww_iload_n 0 dX3_readKnown_17 rfl ?_
    refine ww_iconst dX3_readKnown_18 ?_
    refine ww_icmp_ne 32 dX3_readKnown_19 (by decide) (inI.mk (by omega) (by omega)) (by first | exact hM.rd _ | exact hM.ri rfl _ _ | exact ⟨by omega, by omega⟩ | assumption | exact bI_in _ | exact inI.mk (by omega) (by omega)) (fun c_19 => ?_) (fun c_19 => ?_)
    · refine ww_aload_n 1 dX3_readKnown_32 rfl ?_
      refine cr_pi (cr_V (ct_X3_isGood hG hM) sv_X3_85 rfl dX3_readKnown_33 hM.obj rfl rfl rfl rfl ⟨by decide, by decide⟩ (Nat.le_of_ble_eq_true rfl) (Nat.le_of_ble_eq_true rfl) (Nat.le_of_ble_eq_true rfl)) ?_
      refine ww_ifb_eq 43 dX3_readKnown_36 (by decide) (fun c_36 => ?_) (fun c_36 => ?_)
      · refine ww_iconst dX3_readKnown_43 ?_
        exact ww_iret hQ dX3_readKnown_44 rfl (Nat.le_of_ble_eq_true rfl) (Nat.le_of_ble_eq_true rfl) (by first | exact ⟨_, rfl, _, hM, hk_1, Or.inl ⟨c, o, by unfold pkn; rw [hpt], hc, h5, h6, rfl⟩⟩ | exact ⟨_, rfl, _, hM, fun j a b c d => by rw [su_off c, su_off b]; exact hk_1 j a b c d, Or.inl ⟨-4, sk t p, by unfold pkn; rw [hpt]; simp only; rw [if_pos (by omega)], by decide, by rw [su_off (by decide), su_s], su_s, rfl⟩⟩ | exact ⟨_, rfl, _, hM, hk_1, Or.inr ⟨fi ws w, sk t p, e, by unfold pkn; rw [hpt]; simp only; rw [if_neg (by omega)], h5, h4, h17_1, hfw, by omega, by omega, g1, g2, g6⟩⟩ | (exfalso; first | exact c_36 h5 | exact hc (h5.symm.trans c_36) | (rw [su_off (by decide), su_s] at c_36; omega)))
      · refine ww_iload_n 0 dX3_readKnown_39 rfl ?_
        refine ww_goto 44 dX3_readKnown_40 (by decide) ?_
        exact ww_iret hQ dX3_readKnown_44 rfl (Nat.le_of_ble_eq_true rfl) (Nat.le_of_ble_eq_true rfl) (by first | exact ⟨_, rfl, _, hM, hk_1, Or.inl ⟨c, o, by unfold pkn; rw [hpt], hc, h5, h6, rfl⟩⟩ | exact ⟨_, rfl, _, hM, fun j a b c d => by rw [su_off c, su_off b]; exact hk_1 j a b c d, Or.inl ⟨-4, sk t p, by unfold pkn; rw [hpt]; simp only; rw [if_pos (by omega)], by decide, by rw [su_off (by decide), su_s], su_s, rfl⟩⟩ | exact ⟨_, rfl, _, hM, hk_1, Or.inr ⟨fi ws w, sk t p, e, by unfold pkn; rw [hpt]; simp only; rw [if_neg (by omega)], h5, h4, h17_1, hfw, by omega, by omega, g1, g2, g6⟩⟩ | (exfalso; first | exact c_36 h5 | exact hc (h5.symm.trans c_36) | (rw [su_off (by decide), su_s] at c_36; omega)))
    · refine ww_aload_n 1 dX3_readKnown_22 rfl ?_
      refine ww_bipush dX3_readKnown_23 (by decide) ?_
      refine ww_aload_n 1 dX3_readKnown_25 rfl ?_
      refine ww_getf gf_X3_155 rfl dX3_readKnown_26 hM.obj rfl ?_
      rw [h17_1]
      refine cr_sv hM (cr_V (ct_X3_report hG hM _ _ (inI.mk (by decide) (by decide)) (inI.mk (by omega) (by omega))) sv_X3_102 rfl dX3_readKnown_29 hM.obj rfl rfl rfl rfl ⟨by decide, by decide⟩ (Nat.le_of_ble_eq_true rfl) (Nat.le_of_ble_eq_true rfl) (Nat.le_of_ble_eq_true rfl)) (fun σ_29 hh hM hp_29 => ?_)
      subst hp_29
      rw [if_pos h5] at hM
      refine ww_aload_n 1 dX3_readKnown_32 rfl ?_
      refine cr_pi (cr_V (ct_X3_isGood hG hM) sv_X3_85 rfl dX3_readKnown_33 hM.obj rfl rfl rfl rfl ⟨by decide, by decide⟩ (Nat.le_of_ble_eq_true rfl) (Nat.le_of_ble_eq_true rfl) (Nat.le_of_ble_eq_true rfl)) ?_
      refine ww_ifb_eq 43 dX3_readKnown_36 (by decide) (fun c_36 => ?_) (fun c_36 => ?_)
      · refine ww_iconst dX3_readKnown_43 ?_
        exact ww_iret hQ dX3_readKnown_44 rfl (Nat.le_of_ble_eq_true rfl) (Nat.le_of_ble_eq_true rfl) (by first | exact ⟨_, rfl, _, hM, hk_1, Or.inl ⟨c, o, by unfold pkn; rw [hpt], hc, h5, h6, rfl⟩⟩ | exact ⟨_, rfl, _, hM, fun j a b c d => by rw [su_off c, su_off b]; exact hk_1 j a b c d, Or.inl ⟨-4, sk t p, by unfold pkn; rw [hpt]; simp only; rw [if_pos (by omega)], by decide, by rw [su_off (by decide), su_s], su_s, rfl⟩⟩ | exact ⟨_, rfl, _, hM, hk_1, Or.inr ⟨fi ws w, sk t p, e, by unfold pkn; rw [hpt]; simp only; rw [if_neg (by omega)], h5, h4, h17_1, hfw, by omega, by omega, g1, g2, g6⟩⟩ | (exfalso; first | exact c_36 h5 | exact hc (h5.symm.trans c_36) | (rw [su_off (by decide), su_s] at c_36; omega)))
      · refine ww_iload_n 0 dX3_readKnown_39 rfl ?_
        refine ww_goto 44 dX3_readKnown_40 (by decide) ?_
        exact ww_iret hQ dX3_readKnown_44 rfl (Nat.le_of_ble_eq_true rfl) (Nat.le_of_ble_eq_true rfl) (by first | exact ⟨_, rfl, _, hM, hk_1, Or.inl ⟨c, o, by unfold pkn; rw [hpt], hc, h5, h6, rfl⟩⟩ | exact ⟨_, rfl, _, hM, fun j a b c d => by rw [su_off c, su_off b]; exact hk_1 j a b c d, Or.inl ⟨-4, sk t p, by unfold pkn; rw [hpt]; simp only; rw [if_pos (by omega)], by decide, by rw [su_off (by decide), su_s], su_s, rfl⟩⟩ | exact ⟨_, rfl, _, hM, hk_1, Or.inr ⟨fi ws w, sk t p, e, by unfold pkn; rw [hpt]; simp only; rw [if_neg (by omega)], h5, h4, h17_1, hfw, by omega, by omega, g1, g2, g6⟩⟩ | (exfalso; first | exact c_36 h5 | exact hc (h5.symm.trans c_36) | (rw [su_off (by decide), su_s] at c_36; omega)))

set_option maxHeartbeats 4000000 in
theorem ct_X3_readKnownB {G : GT} {h0 h : AH} {m : Nat} {A : Nat → Nat} {B : Nat → Int → Nat} {D : Int → Int} {σ : MS} (hG : GOK G) (hM : MWF G h0 h m A B D σ) (hg : ¬ σ 5 0 0 = 0) {j : Nat} {N : Nat} (hj : mLng j = some N) (many : Int) (hm0 : 0 ≤ many) (hm1 : many ≤ N) (hN : N < 1000) : CPi G (MX3_readKnown 3 63 0 0) h [.ref m, .ref (A j), .int (iI many)] (0) := by
  refine CT.of rfl hG (Nat.le_of_ble_eq_true rfl) rfl (fun E hQ => ?_)
  have hM := hM.1.f
  refine ww_aload_n 0 dX3_readKnown_0 rfl ?_
  refine cr_pl (cr_V (ct_X3_readWordB hG hM hg) sv_X3_162 rfl dX3_readKnown_1 hM.obj rfl rfl rfl rfl ⟨by decide, by decide⟩ (Nat.le_of_ble_eq_true rfl) (Nat.le_of_ble_eq_true rfl) (Nat.le_of_ble_eq_true rfl)) ?_
  refine ww_aload_n 1 dX3_readKnown_4 rfl ?_
  refine ww_iload_n 2 dX3_readKnown_5 rfl ?_
  refine cr_pi (cr_S (ct_X3_placeOf hG (hM.lng hj) (fun z => hM.rl _ _ _) _ _ (inL.mk (by omega) (by omega)) (by omega) (by omega) hN) ss_X3_166 rfl dX3_readKnown_6 rfl rfl ⟨by decide, by decide⟩ (Nat.le_of_ble_eq_true rfl) (Nat.le_of_ble_eq_true rfl) (Nat.le_of_ble_eq_true rfl)) ?_
  refine ww_istore_n [(3, _), (0, _), (1, _), (2, _)] dX3_readKnown_9 (by decide) rfl ?_
  refine ww_aload_n 1 dX3_readKnown_10 rfl ?_
  refine cr_pi (cr_V (ct_X3_isGood hG hM) sv_X3_85 rfl dX3_readKnown_11 hM.obj rfl rfl rfl rfl ⟨by decide, by decide⟩ (Nat.le_of_ble_eq_true rfl) (Nat.le_of_ble_eq_true rfl) (Nat.le_of_ble_eq_true rfl)) ?_
  refine ww_ifb_eq 32 dX3_readKnown_14 (by decide) (fun c_14 => ?_) (fun c_14 => ?_)
  · refine ww_aload_n 1 dX3_readKnown_32 rfl ?_
    refine cr_pi (cr_V (ct_X3_isGood hG hM) sv_X3_85 rfl dX3_readKnown_33 hM.obj rfl rfl rfl rfl ⟨by decide, by decide⟩ (Nat.le_of_ble_eq_true rfl) (Nat.le_of_ble_eq_true rfl) (Nat.le_of_ble_eq_true rfl)) ?_
    refine ww_ifb_eq 43 dX3_readKnown_36 (by decide) (fun c_36 => ?_) (fun c_36 => ?_)
    · refine ww_iconst dX3_readKnown_43 ?_
      exact ww_iret hQ dX3_readKnown_44 rfl (Nat.le_of_ble_eq_true rfl) (Nat.le_of_ble_eq_true rfl) ⟨_, rfl, rfl, rfl⟩
    · exact absurd c_36 hg
  · exact absurd c_14 hg

set_option maxHeartbeats 4000000 in
theorem ct_X3_isFresh {G : GT} {h0 h : AH} {m : Nat} {A : Nat → Nat} {B : Nat → Int → Nat} {D : Int → Int} {σ : MS} (hG : GOK G) (hM : MWF G h0 h m A B D σ) (hg : σ 5 0 0 = 0) {j : Nat} {N : Nat} (hj : mLng j = some N) (many w : Int) (hm0 : 0 ≤ many) (hm1 : many ≤ N) (hN : N < 1000) (hw : inL w) : CSi G (MX3_isFresh 1 24 0 0) h m A B D [.ref m, .ref (A j), .int (iI many), .long (lI w)] (fun r σ' => (fi (lsI many (σ j 0)) w = -1 ∧ σ = σ' ∧ r = 1) ∨ (fi (lsI many (σ j 0)) w ≠ -1 ∧ su (su σ 5 0 0 (-5)) 6 0 0 (σ 17 0 0) = σ' ∧ r = 0)) := by
  refine CT.of rfl hG (Nat.le_of_ble_eq_true rfl) rfl (fun E hQ => ?_)
  have hM := hM.1.f
  refine ww_aload_n 0 dX3_isFresh_0 rfl ?_
  refine cr_pi (cr_V (ct_X3_isGood hG hM) sv_X3_85 rfl dX3_isFresh_1 hM.obj rfl rfl rfl rfl ⟨by decide, by decide⟩ (Nat.le_of_ble_eq_true rfl) (Nat.le_of_ble_eq_true rfl) (Nat.le_of_ble_eq_true rfl)) ?_
  refine ww_ifb_eq 27 dX3_isFresh_4 (by decide) (fun c_4 => ?_) (fun c_4 => ?_)
  · exact absurd hg c_4
  · refine ww_lload_n 3 dX3_isFresh_7 rfl ?_
    refine ww_aload_n 1 dX3_isFresh_8 rfl ?_
    refine ww_iload_n 2 dX3_isFresh_9 rfl ?_
    refine cr_pi (cr_S (ct_X3_placeOf hG (hM.lng hj) (fun z => hM.rl _ _ _) _ _ hw (by omega) (by omega) hN) ss_X3_166 rfl dX3_isFresh_10 rfl rfl ⟨by decide, by decide⟩ (Nat.le_of_ble_eq_true rfl) (Nat.le_of_ble_eq_true rfl) (Nat.le_of_ble_eq_true rfl)) ?_
    have hfr := fi_rg (l := lsI many (σ j 0)) (w := w)
    rw [lsI_len] at hfr
    refine ww_iconst dX3_isFresh_13 ?_
    refine ww_icmp_eq 27 dX3_isFresh_14 (by decide) (inI.mk (by omega) (by omega)) (by first | exact hM.rd _ | exact hM.ri rfl _ _ | exact ⟨by omega, by omega⟩ | assumption | exact bI_in _ | exact inI.mk (by omega) (by omega)) (fun c_14 => ?_) (fun c_14 => ?_)
    · refine ww_aload_n 0 dX3_isFresh_27 rfl ?_
      refine cr_pi (cr_V (ct_X3_isGood hG hM) sv_X3_85 rfl dX3_isFresh_28 hM.obj rfl rfl rfl rfl ⟨by decide, by decide⟩ (Nat.le_of_ble_eq_true rfl) (Nat.le_of_ble_eq_true rfl) (Nat.le_of_ble_eq_true rfl)) ?_
      exact ww_zret hQ dX3_isFresh_31 rfl (Nat.le_of_ble_eq_true rfl) (Nat.le_of_ble_eq_true rfl) (by unfold bI; split <;> simp) (by first | exact ⟨_, rfl, _, hM, Or.inl ⟨c_14, rfl, bI_t hg⟩⟩ | exact ⟨_, rfl, _, hM, Or.inr ⟨c_14, rfl, bI_f (by rw [su_off (by decide), su_s]; decide)⟩⟩)
    · refine ww_aload_n 0 dX3_isFresh_17 rfl ?_
      refine ww_bipush dX3_isFresh_18 (by decide) ?_
      refine ww_aload_n 0 dX3_isFresh_20 rfl ?_
      refine ww_getf gf_X3_155 rfl dX3_isFresh_21 hM.obj rfl ?_
      refine cr_sv hM (cr_V (ct_X3_report hG hM _ _ (inI.mk (by decide) (by decide)) (hM.ri rfl _ _)) sv_X3_102 rfl dX3_isFresh_24 hM.obj rfl rfl rfl rfl ⟨by decide, by decide⟩ (Nat.le_of_ble_eq_true rfl) (Nat.le_of_ble_eq_true rfl) (Nat.le_of_ble_eq_true rfl)) (fun σ_24 hh hM hp_24 => ?_)
      subst hp_24
      rw [if_pos hg] at hM
      refine ww_aload_n 0 dX3_isFresh_27 rfl ?_
      refine cr_pi (cr_V (ct_X3_isGood hG hM) sv_X3_85 rfl dX3_isFresh_28 hM.obj rfl rfl rfl rfl ⟨by decide, by decide⟩ (Nat.le_of_ble_eq_true rfl) (Nat.le_of_ble_eq_true rfl) (Nat.le_of_ble_eq_true rfl)) ?_
      exact ww_zret hQ dX3_isFresh_31 rfl (Nat.le_of_ble_eq_true rfl) (Nat.le_of_ble_eq_true rfl) (by unfold bI; split <;> simp) (by first | exact ⟨_, rfl, _, hM, Or.inl ⟨c_14, rfl, bI_t hg⟩⟩ | exact ⟨_, rfl, _, hM, Or.inr ⟨c_14, rfl, bI_f (by rw [su_off (by decide), su_s]; decide)⟩⟩)

set_option maxHeartbeats 4000000 in
theorem ct_X3_isFreshB {G : GT} {h0 h : AH} {m : Nat} {A : Nat → Nat} {B : Nat → Int → Nat} {D : Int → Int} {σ : MS} (hG : GOK G) (hM : MWF G h0 h m A B D σ) (hg : ¬ σ 5 0 0 = 0) {j : Nat} {N : Nat} (hj : mLng j = some N) (many w : Int) : CPi G (MX3_isFresh 1 20 0 0) h [.ref m, .ref (A j), .int (iI many), .long (lI w)] (0) := by
  refine CT.of rfl hG (Nat.le_of_ble_eq_true rfl) rfl (fun E hQ => ?_)
  have hM := hM.1.f
  refine ww_aload_n 0 dX3_isFresh_0 rfl ?_
  refine cr_pi (cr_V (ct_X3_isGood hG hM) sv_X3_85 rfl dX3_isFresh_1 hM.obj rfl rfl rfl rfl ⟨by decide, by decide⟩ (Nat.le_of_ble_eq_true rfl) (Nat.le_of_ble_eq_true rfl) (Nat.le_of_ble_eq_true rfl)) ?_
  refine ww_ifb_eq 27 dX3_isFresh_4 (by decide) (fun c_4 => ?_) (fun c_4 => ?_)
  · refine ww_aload_n 0 dX3_isFresh_27 rfl ?_
    refine cr_pi (cr_V (ct_X3_isGood hG hM) sv_X3_85 rfl dX3_isFresh_28 hM.obj rfl rfl rfl rfl ⟨by decide, by decide⟩ (Nat.le_of_ble_eq_true rfl) (Nat.le_of_ble_eq_true rfl) (Nat.le_of_ble_eq_true rfl)) ?_
    exact ww_zret hQ dX3_isFresh_31 rfl (Nat.le_of_ble_eq_true rfl) (Nat.le_of_ble_eq_true rfl) (by first | exact Or.inl rfl | exact Or.inr rfl | (unfold bI; split <;> simp)) ⟨_, rfl, bI_f hg, rfl⟩
  · exact absurd c_4 hg
