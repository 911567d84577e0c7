set_option maxRecDepth 100000
set_option maxHeartbeats 4000000 in
theorem ct_X3_readName {G : GT} {h0 h : AH} {m : Nat} {A : Nat → Nat} {B : Nat → Int → Nat} {D : Int → Int} {σ : MS} (hG : GOK G) (hM : MWF G h0 h m A B D σ) {t : Int → Int} {n : Int} (hT : TX σ t n) (p : Int) (hp : σ 4 0 0 = p) (hp0 : 0 ≤ p) (hp1 : p ≤ n) (hg : σ 5 0 0 = 0) {s : PS} (hs : PSok s) (hR : MRep σ s) (q : Int) (hq0 : 0 ≤ q) (hq1 : q ≤ n) : CSv G (MX3_readName 3 63 0 0) h m A B D [.ref m, .int (iI q)] (fun σ' => NP σ σ' ∧ ((∃ c o, pName t q p s = .error (c, o) ∧ c ≠ 0 ∧ σ' 5 0 0 = c ∧ σ' 6 0 0 = o) ∨ (∃ e s', pName t q p s = .ok (e, s') ∧ σ' 5 0 0 = 0 ∧ σ' 4 0 0 = e ∧ p ≤ e ∧ e ≤ n ∧ PSok s' ∧ MRep σ' s' ∧ σ' 6 = σ 6))) := by
  refine CT.of rfl hG (Nat.le_of_ble_eq_true rfl) rfl (fun E hQ => ?_)
  have hM := hM.1.f
  have hx := hT.1
  have hn8 := hx.2.1
  have l8 := hs.lbl
  have l12 := hs.nml
  have hrn := hR.hn
  have hrl := hR.hl
  refine ww_aload_n 0 dX3_readName_0 rfl ?_
  refine ww_getf gf_X3_20 rfl dX3_readName_1 hM.obj rfl ?_
  refine ww_iconst dX3_readName_4 ?_
  refine mw_ld dX3_readName_5 hM rfl (by omega) (by omega) ?_
  rw [hrn]
  refine ww_bipush dX3_readName_6 (by decide) ?_
  refine ww_icmp_ne 18 dX3_readName_8 (by decide) (inI.mk (by omega) (by omega)) (inI.mk (by omega) (by omega)) (fun c_8 => ?_) (fun c_8 => ?_)
  · have hlt : s.nm.length < 12 := by omega
    refine ww_aload_n 0 dX3_readName_18 rfl ?_
    refine cr_sl hM (cr_V (ct_X3_readWord hG hM hT _ hp hp0 hp1 hg) sv_X3_162 rfl dX3_readName_19 hM.obj rfl rfl rfl rfl ⟨by decide, by decide⟩ (Nat.le_of_ble_eq_true rfl) (Nat.le_of_ble_eq_true rfl) (Nat.le_of_ble_eq_true rfl)) (fun r_19 σ_19 hh hM hp_19 => ?_)
    obtain ⟨hk_1, h17_1, hr_1, hc_1⟩ := hp_19
    have hn9 : σ_19 9 = σ 9 := hk_1 9 (by decide) (by decide) (by decide) (by decide)
    have hn16 : σ_19 16 = σ 16 := hk_1 16 (by decide) (by decide) (by decide) (by decide)
    rcases hc_1 with ⟨c, o, hpt, hc, h5, h6⟩ | ⟨w, b, e, hpt, h5, h4, rfl, rfl, g1, g2, g3, g4, g5, g6⟩
    · refine ww_lstore_n [(2, _), (0, _), (1, _)] dX3_readName_22 (by decide) rfl ?_
      refine ww_aload_n 1 dX3_readName_23 rfl ?_
      refine ww_aload_n 1 dX3_readName_24 rfl ?_
      refine ww_getf gf_X3_32 rfl dX3_readName_25 hM.obj rfl ?_
      refine ww_aload_n 1 dX3_readName_28 rfl ?_
      refine ww_getf gf_X3_20 rfl dX3_readName_29 hM.obj rfl ?_
      refine ww_iconst dX3_readName_32 ?_
      refine mw_ld dX3_readName_33 hM rfl (by omega) (by omega) ?_
      rw [hn9, hrn]
      refine ww_lload_n 0 dX3_readName_34 rfl ?_
      refine cr_pi (cr_V (ct_X3_isFreshB hG hM (fun e => hc (h5.symm.trans e)) (j := 16) rfl _ _) sv_X3_170 rfl dX3_readName_35 hM.obj rfl rfl rfl rfl ⟨by decide, by decide⟩ (Nat.le_of_ble_eq_true rfl) (Nat.le_of_ble_eq_true rfl) (Nat.le_of_ble_eq_true rfl)) ?_
      refine ww_if_ne 42 dX3_readName_38 (by decide) (inI.mk (by decide) (by decide)) (fun c_38 => ?_) (fun c_38 => ?_)
      · exact absurd c_38 (by decide)
      · exact ww_vret hQ dX3_readName_41 rfl (Nat.le_of_ble_eq_true rfl) (Nat.le_of_ble_eq_true rfl) ⟨rfl, _, hM, fun j hj => hk_1 j (by omega) (by omega) (by omega) (by omega), Or.inl ⟨c, o, by unfold pName; rw [if_pos hlt, hpt], hc, h5, h6⟩⟩
    · refine ww_lstore_n [(2, _), (0, _), (1, _)] dX3_readName_22 (by decide) rfl ?_
      refine ww_aload_n 1 dX3_readName_23 rfl ?_
      refine ww_aload_n 1 dX3_readName_24 rfl ?_
      refine ww_getf gf_X3_32 rfl dX3_readName_25 hM.obj rfl ?_
      refine ww_aload_n 1 dX3_readName_28 rfl ?_
      refine ww_getf gf_X3_20 rfl dX3_readName_29 hM.obj rfl ?_
      refine ww_iconst dX3_readName_32 ?_
      refine mw_ld dX3_readName_33 hM rfl (by omega) (by omega) ?_
      rw [hn9, hrn]
      refine ww_lload_n 0 dX3_readName_34 rfl ?_
      refine cr_si hM (cr_V (ct_X3_isFresh hG hM h5 (j := 16) rfl (s.nm.length : Int) _ (by omega) (by omega) (by decide) (inL.mk (by omega) (by omega))) sv_X3_170 rfl dX3_readName_35 hM.obj rfl rfl rfl rfl ⟨by decide, by decide⟩ (Nat.le_of_ble_eq_true rfl) (Nat.le_of_ble_eq_true rfl) (Nat.le_of_ble_eq_true rfl)) (fun r_35 σ_35 hh hM hp_35 => ?_)
      rcases hp_35 with ⟨c0_35, rfl, rfl⟩ | ⟨c0_35, rfl, rfl⟩
      · rw [hn16, fi_wn hR.wnm g3 hs.nmw] at c0_35
        refine ww_if_ne 42 dX3_readName_38 (by decide) (inI.mk (by decide) (by decide)) (fun c_38 => ?_) (fun c_38 => ?_)
        · refine ww_aload_n 1 dX3_readName_42 rfl ?_
          refine ww_getf gf_X3_32 rfl dX3_readName_43 hM.obj rfl ?_
          refine ww_aload_n 1 dX3_readName_46 rfl ?_
          refine ww_getf gf_X3_20 rfl dX3_readName_47 hM.obj rfl ?_
          refine ww_iconst dX3_readName_50 ?_
          refine mw_ld dX3_readName_51 hM rfl (by omega) (by omega) ?_
          rw [hn9, hrn]
          refine ww_lload_n 0 dX3_readName_52 rfl ?_
          refine mw_lst dX3_readName_53 hM rfl (by omega) (by omega) (inL.mk (by omega) (by omega)) (fun hh hM => ?_)
          refine ww_aload_n 1 dX3_readName_54 rfl ?_
          refine ww_getf gf_X3_20 rfl dX3_readName_55 hM.obj rfl ?_
          refine ww_iconst dX3_readName_58 ?_
          refine ww_dup2 dX3_readName_59 rfl rfl ?_
          refine mw_ld dX3_readName_60 hM rfl (by omega) (by omega) ?_
          rw [su_off (by decide), hn9, hrn]
          refine ww_iconst dX3_readName_61 ?_
          refine ww_iadd dX3_readName_62 ?_
          refine mw_st dX3_readName_63 hM rfl (by omega) (by omega) (inI.mk (by omega) (by omega)) (fun hh hM => ?_)
          exact ww_vret hQ dX3_readName_64 rfl (Nat.le_of_ble_eq_true rfl) (Nat.le_of_ble_eq_true rfl) ⟨rfl, _, hM, fun j hj => by rw [su_off (by omega), su_off (by omega)]; exact hk_1 j (by omega) (by omega) (by omega) (by omega), Or.inr ⟨_, _, by unfold pName; rw [if_pos hlt, hpt]; simp only; rw [if_pos c0_35], by rw [su_off (by decide), su_off (by decide)]; exact h5, by rw [su_off (by decide), su_off (by decide)]; exact h4, g1, g2, hs.addN hlt ⟨g3, g4, g5⟩, hR.addN hlt su_s (fun z hz => by rw [su_n (by omega), su_off (by decide), hn9]) (by rw [su_off (by decide), su_s]) (fun z hz => by rw [su_off (by decide), su_n (by omega), hn16]) (by rw [su_off (by decide), su_off (by decide)]; exact hk_1 _ (by decide) (by decide) (by decide) (by decide)) (by rw [su_off (by decide), su_off (by decide)]; exact hk_1 _ (by decide) (by decide) (by decide) (by decide)) (by rw [su_off (by decide), su_off (by decide)]; exact hk_1 _ (by decide) (by decide) (by decide) (by decide)), by rw [su_off (by decide), su_off (by decide)]; exact g6⟩⟩
        · exact absurd c_38 (by decide)
      · rw [hn16, fi_wn hR.wnm g3 hs.nmw] at c0_35
        refine ww_if_ne 42 dX3_readName_38 (by decide) (inI.mk (by decide) (by decide)) (fun c_38 => ?_) (fun c_38 => ?_)
        · exact absurd c_38 (by decide)
        · exact ww_vret hQ dX3_readName_41 rfl (Nat.le_of_ble_eq_true rfl) (Nat.le_of_ble_eq_true rfl) ⟨rfl, _, hM, fun j hj => by rw [su_off (by omega), su_off (by omega)]; exact hk_1 j (by omega) (by omega) (by omega) (by omega), Or.inl ⟨-5, sk t p, by unfold pName; rw [if_pos hlt, hpt]; simp only; rw [if_neg c0_35], by decide, by rw [su_off (by decide), su_s], by rw [su_s, h17_1]⟩⟩
  · have hlt : ¬ s.nm.length < 12 := by omega
    refine ww_aload_n 0 dX3_readName_11 rfl ?_
    refine ww_bipush dX3_readName_12 (by decide) ?_
    refine ww_iload_n 1 dX3_readName_14 rfl ?_
    refine cr_sv hM (cr_V (ct_X3_report hG hM _ _ (inI.mk (by decide) (by decide)) (inI.mk (by omega) (by omega))) sv_X3_102 rfl dX3_readName_15 hM.obj rfl rfl rfl rfl ⟨by decide, by decide⟩ (Nat.le_of_ble_eq_true rfl) (Nat.le_of_ble_eq_true rfl) (Nat.le_of_ble_eq_true rfl)) (fun σ_15 hh hM hp_15 => ?_)
    subst hp_15
    rw [if_pos hg] at hM
    have hb : ¬ su (su σ 5 0 0 (-6)) 6 0 0 q 5 0 0 = 0 := by rw [su_off (by decide), su_s]; decide
    refine ww_aload_n 0 dX3_readName_18 rfl ?_
    refine cr_pl (cr_V (ct_X3_readWordB hG hM hb) sv_X3_162 rfl dX3_readName_19 hM.obj rfl rfl rfl rfl ⟨by decide, by decide⟩ (Nat.le_of_ble_eq_true rfl) (Nat.le_of_ble_eq_true rfl) (Nat.le_of_ble_eq_true rfl)) ?_
    refine ww_lstore_n [(2, _), (0, _), (1, _)] dX3_readName_22 (by decide) rfl ?_
    refine ww_aload_n 1 dX3_readName_23 rfl ?_
    refine ww_aload_n 1 dX3_readName_24 rfl ?_
    refine ww_getf gf_X3_32 rfl dX3_readName_25 hM.obj rfl ?_
    refine ww_aload_n 1 dX3_readName_28 rfl ?_
    refine ww_getf gf_X3_20 rfl dX3_readName_29 hM.obj rfl ?_
    refine ww_iconst dX3_readName_32 ?_
    refine mw_ld dX3_readName_33 hM rfl (by omega) (by omega) ?_
    refine ww_lload_n 0 dX3_readName_34 rfl ?_
    refine cr_pi (cr_V (ct_X3_isFreshB hG hM hb (j := 16) rfl _ _) sv_X3_170 rfl dX3_readName_35 hM.obj rfl rfl rfl rfl ⟨by decide, by decide⟩ (Nat.le_of_ble_eq_true rfl) (Nat.le_of_ble_eq_true rfl) (Nat.le_of_ble_eq_true rfl)) ?_
    refine ww_if_ne 42 dX3_readName_38 (by decide) (inI.mk (by decide) (by decide)) (fun c_38 => ?_) (fun c_38 => ?_)
    · exact absurd c_38 (by decide)
    · exact ww_vret hQ dX3_readName_41 rfl (Nat.le_of_ble_eq_true rfl) (Nat.le_of_ble_eq_true rfl) ⟨rfl, _, hM, (NP.rf.sx (by decide)).sx (by decide), Or.inl ⟨-6, q, by unfold pName; rw [if_neg hlt], by decide, by rw [su_off (by decide), su_s], su_s⟩⟩

set_option maxHeartbeats 4000000 in
theorem ct_X3_readLibrary {G : GT} {h0 h : AH} {m : Nat} {A : Nat → Nat} {B : Nat → Int → Nat} {D : Int → Int} {σ : MS} (hG : GOK G) (hM : MWF G h0 h m A B D σ) {t : Int → Int} {n : Int} (hT : TX σ t n) (p : Int) (hp : σ 4 0 0 = p) (hp0 : 0 ≤ p) (hp1 : p ≤ n) (hg : σ 5 0 0 = 0) {s : PS} (hs : PSok s) (hR : MRep σ s) (q : Int) (hq0 : 0 ≤ q) (hq1 : q ≤ n) (hL : LitM G h) : CSv G (MX3_readLibrary 5 107 0 0) h m A B D [.ref m, .int (iI q)] (fun σ' => NP σ σ' ∧ ((∃ c o, pLib t q p s = .error (c, o) ∧ c ≠ 0 ∧ σ' 5 0 0 = c ∧ σ' 6 0 0 = o) ∨ (∃ e s', pLib t q p s = .ok (e, s') ∧ σ' 5 0 0 = 0 ∧ σ' 4 0 0 = e ∧ p ≤ e ∧ e ≤ n ∧ PSok s' ∧ MRep σ' s' ∧ σ' 6 = σ 6))) := by
  refine CT.of rfl hG (Nat.le_of_ble_eq_true rfl) rfl (fun E hQ => ?_)
  have hM := hM.1.f
  have hx := hT.1
  have hn8 := hx.2.1
  have l8 := hs.lbl
  have l12 := hs.nml
  have hrn := hR.hn
  have hrl := hR.hl
  refine ww_aload_n 0 dX3_readLibrary_0 rfl ?_
  refine ww_getf gf_X3_20 rfl dX3_readLibrary_1 hM.obj rfl ?_
  refine ww_iconst dX3_readLibrary_4 ?_
  refine mw_ld dX3_readLibrary_5 hM rfl (by omega) (by omega) ?_
  rw [hrl]
  refine ww_bipush dX3_readLibrary_6 (by decide) ?_
  refine ww_icmp_ne 18 dX3_readLibrary_8 (by decide) (inI.mk (by omega) (by omega)) (inI.mk (by omega) (by omega)) (fun c_8 => ?_) (fun c_8 => ?_)
  · have hlt : s.lb.length < 8 := by omega
    refine ww_aload_n 0 dX3_readLibrary_18 rfl ?_
    refine cr_sl hM (cr_V (ct_X3_readWord hG hM hT _ hp hp0 hp1 hg) sv_X3_162 rfl dX3_readLibrary_19 hM.obj rfl rfl rfl rfl ⟨by decide, by decide⟩ (Nat.le_of_ble_eq_true rfl) (Nat.le_of_ble_eq_true rfl) (Nat.le_of_ble_eq_true rfl)) (fun r_19 σ_19 hh hM hp_19 => ?_)
    obtain ⟨hk_1, h17_1, hr_1, hc_1⟩ := hp_19
    have hn9 : σ_19 9 = σ 9 := hk_1 9 (by decide) (by decide) (by decide) (by decide)
    have hn15 : σ_19 15 = σ 15 := hk_1 15 (by decide) (by decide) (by decide) (by decide)
    rcases hc_1 with ⟨c, o, hpt, hc, h5, h6⟩ | ⟨w, b, e, hpt, h5, h4, rfl, rfl, g1, g2, g3, g4, g5, g6⟩
    · refine ww_lstore_n [(2, _), (0, _), (1, _)] dX3_readLibrary_22 (by decide) rfl ?_
      refine ww_aload_n 1 dX3_readLibrary_23 rfl ?_
      refine ww_aload_n 1 dX3_readLibrary_24 rfl ?_
      refine ww_getf gf_X3_28 rfl dX3_readLibrary_25 hM.obj rfl ?_
      refine ww_aload_n 1 dX3_readLibrary_28 rfl ?_
      refine ww_getf gf_X3_20 rfl dX3_readLibrary_29 hM.obj rfl ?_
      refine ww_iconst dX3_readLibrary_32 ?_
      refine mw_ld dX3_readLibrary_33 hM rfl (by omega) (by omega) ?_
      rw [hn9, hrl]
      refine ww_lload_n 0 dX3_readLibrary_34 rfl ?_
      refine cr_pi (cr_V (ct_X3_isFreshB hG hM (fun e => hc (h5.symm.trans e)) (j := 15) rfl _ _) sv_X3_170 rfl dX3_readLibrary_35 hM.obj rfl rfl rfl rfl ⟨by decide, by decide⟩ (Nat.le_of_ble_eq_true rfl) (Nat.le_of_ble_eq_true rfl) (Nat.le_of_ble_eq_true rfl)) ?_
      refine ww_if_ne 42 dX3_readLibrary_38 (by decide) (inI.mk (by decide) (by decide)) (fun c_38 => ?_) (fun c_38 => ?_)
      · exact absurd c_38 (by decide)
      · exact ww_vret hQ dX3_readLibrary_41 rfl (Nat.le_of_ble_eq_true rfl) (Nat.le_of_ble_eq_true rfl) ⟨rfl, _, hM, fun j hj => hk_1 j (by omega) (by omega) (by omega) (by omega), Or.inl ⟨c, o, by unfold pLib; rw [if_pos hlt, hpt], hc, h5, h6⟩⟩
    · refine ww_lstore_n [(2, _), (0, _), (1, _)] dX3_readLibrary_22 (by decide) rfl ?_
      refine ww_aload_n 1 dX3_readLibrary_23 rfl ?_
      refine ww_aload_n 1 dX3_readLibrary_24 rfl ?_
      refine ww_getf gf_X3_28 rfl dX3_readLibrary_25 hM.obj rfl ?_
      refine ww_aload_n 1 dX3_readLibrary_28 rfl ?_
      refine ww_getf gf_X3_20 rfl dX3_readLibrary_29 hM.obj rfl ?_
      refine ww_iconst dX3_readLibrary_32 ?_
      refine mw_ld dX3_readLibrary_33 hM rfl (by omega) (by omega) ?_
      rw [hn9, hrl]
      refine ww_lload_n 0 dX3_readLibrary_34 rfl ?_
      refine cr_si hM (cr_V (ct_X3_isFresh hG hM h5 (j := 15) rfl (s.lb.length : Int) _ (by omega) (by omega) (by decide) (inL.mk (by omega) (by omega))) sv_X3_170 rfl dX3_readLibrary_35 hM.obj rfl rfl rfl rfl ⟨by decide, by decide⟩ (Nat.le_of_ble_eq_true rfl) (Nat.le_of_ble_eq_true rfl) (Nat.le_of_ble_eq_true rfl)) (fun r_35 σ_35 hh hM hp_35 => ?_)
      rcases hp_35 with ⟨c0_35, rfl, rfl⟩ | ⟨c0_35, rfl, rfl⟩
      · have hfw := fi_wn hR.wl g3 hs.lbw
        rw [List.length_map] at hfw
        rw [hn15, hfw] at c0_35
        refine ww_if_ne 42 dX3_readLibrary_38 (by decide) (inI.mk (by decide) (by decide)) (fun c_38 => ?_) (fun c_38 => ?_)
        · have join_111 : ∀ (τ : MS) (hx1 : AH) (kp : Int), (MWF G h hx1 m A B D τ) → (NP σ τ) → (∀ z : Int, z ≠ (6 + 24 * (s.lb.length : Int)) → τ 9 0 z = σ 9 0 z) → (τ 13 = σ 13 ∧ τ 14 = σ 14 ∧ τ 16 = σ 16) → (τ 15 0 (s.lb.length : Int) = wn w ∧ ∀ z : Int, z ≠ (s.lb.length : Int) → τ 15 0 z = σ 15 0 z) → (kp = 0 ∨ kp = 1) → ((∃ c o, pLib t q p s = .error (c, o) ∧ c ≠ 0 ∧ τ 5 0 0 = c ∧ τ 6 0 0 = o) ∨ (∃ e v, pLib t q p s = .ok (e, PS.mk0 s.nm (s.lb ++ [(w, v, kp, [])]) s.of s.sh s.hs s.hw s.cs s.fn) ∧ τ 5 0 0 = 0 ∧ τ 4 0 0 = e ∧ p ≤ e ∧ e ≤ n ∧ τ 9 0 (6 + 24 * (s.lb.length : Int)) = v ∧ 0 ≤ v ∧ v ≤ 999 ∧ τ 6 = σ 6)) → WW G E (MX3_readLibrary 5 107 0 0) hx1 0 0 111 [(0, .ref m), (4, .int (iI (s.lb.length : Int))), (5, .int (iI (6 + 24 * (s.lb.length : Int))))] [.int (iI kp), .int (iI ((6 + 24 * (s.lb.length : Int)) + 1)), .ref (A 9)] := by
            intro τ hx1 kp hM ho h9 hff h15 hkp hres
            refine mw_st dX3_readLibrary_111 hM rfl (by omega) (by omega) (by rcases hkp with e | e <;> rw [e] <;> exact inI.mk (by decide) (by decide)) (fun hh hM => ?_)
            refine ww_aload_n 0 dX3_readLibrary_112 rfl ?_
            refine ww_getf gf_X3_20 rfl dX3_readLibrary_113 hM.obj rfl ?_
            refine ww_iload 2 dX3_readLibrary_116 rfl ?_
            refine ww_iconst dX3_readLibrary_118 ?_
            refine ww_iadd dX3_readLibrary_119 ?_
            refine ww_iload 1 dX3_readLibrary_120 rfl ?_
            refine ww_iconst dX3_readLibrary_122 ?_
            refine ww_iadd dX3_readLibrary_123 ?_
            refine mw_st dX3_readLibrary_124 hM rfl (by omega) (by omega) (inI.mk (by omega) (by omega)) (fun hh hM => ?_)
            refine ww_iconst dX3_readLibrary_125 ?_
            refine ww_istore [(6, _), (0, _), (4, _), (5, _)] dX3_readLibrary_126 (by decide) rfl ?_
            have loop_128 : ∀ (f : Nat) (i : Int) (τ2 : MS) (hx2 : AH), (MWF G h hx2 m A B D τ2) → (0 ≤ i) → (i ≤ 12) → (∀ j, j ≠ 9 → τ2 j = τ j) → (∀ z : Int, ¬ ((6 + 24 * (s.lb.length : Int)) + 12 ≤ z ∧ z < (6 + 24 * (s.lb.length : Int)) + 12 + i) → τ2 9 0 z = (su (su τ 9 0 ((6 + 24 * (s.lb.length : Int)) + 1) kp) 9 0 ((6 + 24 * (s.lb.length : Int)) + 2) ((s.lb.length : Int) + 1)) 9 0 z) → (∀ u : Int, 0 ≤ u → u < i → τ2 9 0 ((6 + 24 * (s.lb.length : Int)) + 12 + u) = -1) → (12 - i < f) → WW G E (MX3_readLibrary 5 107 0 0) hx2 0 0 128 [(6, .int (iI i)), (0, .ref m), (4, .int (iI (s.lb.length : Int))), (5, .int (iI (6 + 24 * (s.lb.length : Int))))] [] := by
              intro f
              induction f with
              | zero => intro i τ2 hx2 hM hi0 hi1 ho9 hz hd hf; exact absurd hf (by omega)
              | succ f ih =>
                intro i τ2 hx2 hM hi0 hi1 ho9 hz hd hf
                refine ww_iload 0 dX3_readLibrary_128 rfl ?_
                refine ww_bipush dX3_readLibrary_130 (by decide) ?_
                refine ww_icmp_ge 155 dX3_readLibrary_132 (by decide) (by first | exact hM.rd _ | exact hM.ri rfl _ _ | exact ⟨by omega, by omega⟩ | assumption | exact bI_in _ | exact inI.mk (by omega) (by omega)) (by first | exact hM.rd _ | exact hM.ri rfl _ _ | exact ⟨by omega, by omega⟩ | assumption | exact bI_in _ | exact inI.mk (by omega) (by omega)) (fun c_132 => ?_) (fun c_132 => ?_)
                · refine ww_aload_n 1 dX3_readLibrary_155 rfl ?_
                  refine ww_getf gf_X3_20 rfl dX3_readLibrary_156 hM.obj rfl ?_
                  refine ww_iconst dX3_readLibrary_159 ?_
                  refine ww_dup2 dX3_readLibrary_160 rfl rfl ?_
                  refine mw_ld dX3_readLibrary_161 hM rfl (by omega) (by omega) ?_
                  rw [hz 1 (by omega), su_n (by omega), su_n (by omega), h9 1 (by omega), hrl]
                  refine ww_iconst dX3_readLibrary_162 ?_
                  refine ww_iadd dX3_readLibrary_163 ?_
                  refine mw_st dX3_readLibrary_164 hM rfl (by omega) (by omega) (inI.mk (by omega) (by omega)) (fun hh hM => ?_)
                  refine ww_aload_n 1 dX3_readLibrary_165 rfl ?_
                  refine ww_getf gf_X3_20 rfl dX3_readLibrary_166 hM.obj rfl ?_
                  refine ww_iconst dX3_readLibrary_169 ?_
                  refine ww_aload_n 1 dX3_readLibrary_170 rfl ?_
                  refine ww_getf gf_X3_20 rfl dX3_readLibrary_171 hM.obj rfl ?_
                  refine ww_iconst dX3_readLibrary_174 ?_
                  refine mw_ld dX3_readLibrary_175 hM rfl (by omega) (by omega) ?_
                  rw [su_s]
                  refine mw_st dX3_readLibrary_176 hM rfl (by omega) (by omega) (inI.mk (by omega) (by omega)) (fun hh hM => ?_)
                  exact ww_vret hQ dX3_readLibrary_177 rfl (Nat.le_of_ble_eq_true rfl) (Nat.le_of_ble_eq_true rfl) ⟨rfl, _, hM, fun j hj => by rw [su_off (by omega), su_off (by omega), ho9 j (by omega)]; exact ho j hj, hres.elim (fun ⟨c, o, x1, x2, x3, x4⟩ => Or.inl ⟨c, o, x1, x2, by rw [su_off (by decide), su_off (by decide), ho9 5 (by decide)]; exact x3, by rw [su_off (by decide), su_off (by decide), ho9 6 (by decide)]; exact x4⟩) (fun ⟨e, v, x1, x2, x3, x4, x5, x6, x7, x8, x9⟩ => Or.inr ⟨_, _, x1, by rw [su_off (by decide), su_off (by decide), ho9 5 (by decide)]; exact x2, by rw [su_off (by decide), su_off (by decide), ho9 4 (by decide)]; exact x3, x4, x5, hs.addL (by omega) ⟨g3, g4, g5⟩ ⟨x7, x8⟩ hkp, hR.addL hs (by omega) (by rw [su_n (by omega), su_s]) su_s (by rw [su_n (by omega), su_n (by omega), hz _ (by omega), su_n (by omega), su_n (by omega)]; exact x6) (by rw [su_n (by omega), su_n (by omega), hz _ (by omega), su_n (by omega), su_s]) (by rw [su_n (by omega), su_n (by omega), hz _ (by omega), su_s]) (fun u u0 u1 => by rw [su_n (by omega), su_n (by omega)]; exact hd u u0 (by omega)) (fun z z1 z2 z3 z4 => by rw [su_n (by omega), su_n (by omega), hz _ (by omega), su_n (by omega), su_n (by omega)]; exact h9 z (by omega)) (by rw [su_off (by decide), su_off (by decide), ho9 15 (by decide)]; exact h15.1) (fun z hz => by rw [su_off (by decide), su_off (by decide), ho9 15 (by decide)]; exact h15.2 z hz) (by rw [su_off (by decide), su_off (by decide), ho9 13 (by decide)]; exact hff.1) (by rw [su_off (by decide), su_off (by decide), ho9 14 (by decide)]; exact hff.2.1) (by rw [su_off (by decide), su_off (by decide), ho9 16 (by decide)]; exact hff.2.2), by rw [su_off (by decide), su_off (by decide), ho9 6 (by decide)]; exact x9⟩)⟩
                · refine ww_aload_n 1 dX3_readLibrary_135 rfl ?_
                  refine ww_getf gf_X3_20 rfl dX3_readLibrary_136 hM.obj rfl ?_
                  refine ww_iload 3 dX3_readLibrary_139 rfl ?_
                  refine ww_bipush dX3_readLibrary_141 (by decide) ?_
                  refine ww_iadd dX3_readLibrary_143 ?_
                  refine ww_iload 0 dX3_readLibrary_144 rfl ?_
                  refine ww_iadd dX3_readLibrary_146 ?_
                  refine ww_iconst dX3_readLibrary_147 ?_
                  refine mw_st dX3_readLibrary_148 hM rfl (by omega) (by omega) (by first | exact hM.rd _ | exact hM.ri rfl _ _ | exact ⟨by omega, by omega⟩ | assumption | exact bI_in _ | exact inI.mk (by omega) (by omega)) (fun hh hM => ?_)
                  refine ww_iinc (j := 0) [(6, _), (0, _), (4, _), (5, _)] dX3_readLibrary_149 rfl (by decide) rfl ?_
                  refine ww_goto 128 dX3_readLibrary_152 (by decide) ?_
                  refine ww_sub [0, 1, 2, 3] rfl ?_
                  exact ih (i + 1) _ _ hM (by omega) (by omega) (fun j hj => by rw [su_off hj]; exact ho9 j hj) (fun z hz2 => by rw [su_n (by omega)]; exact hz z (by omega)) (fun u u0 u1 => if e : u = i then by (rw [e, su_s]) else by (rw [su_n (by omega)]; exact hd u u0 (by omega))) (by omega)
            refine ww_sub [0, 1, 2, 3] rfl ?_
            exact loop_128 13 0 _ _ hM (by omega) (by omega) (fun j hj => by rw [su_off hj, su_off hj]) (fun z _ => rfl) (fun u _ _ => by omega) (by omega)
          refine ww_aload_n 1 dX3_readLibrary_42 rfl ?_
          refine ww_getf gf_X3_20 rfl dX3_readLibrary_43 hM.obj rfl ?_
          refine ww_iconst dX3_readLibrary_46 ?_
          refine mw_ld dX3_readLibrary_47 hM rfl (by omega) (by omega) ?_
          rw [hn9, hrl]
          refine ww_istore [(4, _), (2, _), (0, _), (1, _)] dX3_readLibrary_48 (by decide) rfl ?_
          refine ww_iload 0 dX3_readLibrary_50 rfl ?_
          refine cr_pi (cr_S (ct_X3_at hG _) ss_X3_174 rfl dX3_readLibrary_52 rfl rfl ⟨by decide, by decide⟩ (Nat.le_of_ble_eq_true rfl) (Nat.le_of_ble_eq_true rfl) (Nat.le_of_ble_eq_true rfl)) ?_
          refine ww_istore [(5, _), (4, _), (2, _), (0, _), (1, _)] dX3_readLibrary_55 (by decide) rfl ?_
          refine ww_aload_n 3 dX3_readLibrary_57 rfl ?_
          refine ww_getf gf_X3_28 rfl dX3_readLibrary_58 hM.obj rfl ?_
          refine ww_iload 1 dX3_readLibrary_61 rfl ?_
          refine ww_lload_n 2 dX3_readLibrary_63 rfl ?_
          refine mw_lst dX3_readLibrary_64 hM rfl (by omega) (by omega) (inL.mk (by omega) (by omega)) (fun hh hM => ?_)
          refine ww_aload_n 3 dX3_readLibrary_65 rfl ?_
          refine ww_getf gf_X3_20 rfl dX3_readLibrary_66 hM.obj rfl ?_
          refine ww_iload 0 dX3_readLibrary_69 rfl ?_
          refine ww_iconst dX3_readLibrary_71 ?_
          refine ww_iadd dX3_readLibrary_72 ?_
          refine ww_aload_n 3 dX3_readLibrary_73 rfl ?_
          refine ww_iconst dX3_readLibrary_74 ?_
          have hT2 := hT.of (σ' := su σ_19 15 0 (s.lb.length : Int) (wn w)) (by rw [su_off (by decide)]; exact hk_1 1 (by decide) (by decide) (by decide) (by decide)) (by rw [su_off (by decide)]; exact hk_1 3 (by decide) (by decide) (by decide) (by decide))
          refine ww_sipush dX3_readLibrary_75 (by decide) ?_
          refine cr_si hM (cr_V (ct_X3_number hG hM hT2 e (by rw [su_off (by decide)]; exact h4) (by omega) g2 (by rw [su_off (by decide)]; exact h5) 0 999 (inI.mk (by decide) (by decide)) (inI.mk (by decide) (by decide))) sv_X3_140 rfl dX3_readLibrary_78 hM.obj rfl rfl rfl rfl ⟨by decide, by decide⟩ (Nat.le_of_ble_eq_true rfl) (Nat.le_of_ble_eq_true rfl) (Nat.le_of_ble_eq_true rfl)) (fun r_78 σ_78 hh hM hp_78 => ?_)
          obtain ⟨hk_78, hr_78, hc_78⟩ := hp_78
          rcases hc_78 with ⟨c, o, hpn, hc, h5c, h6c⟩ | ⟨v, e3, hpn, h5c, h4c, rfl, f1, f2, f3, f4, f6⟩
          · refine mw_st dX3_readLibrary_81 hM rfl (by omega) (by omega) (inI.mk (by omega) (by omega)) (fun hh hM => ?_)
            refine ww_aload_n 3 dX3_readLibrary_82 rfl ?_
            refine ww_getf gf_X3_20 rfl dX3_readLibrary_83 hM.obj rfl ?_
            refine ww_iload 0 dX3_readLibrary_86 rfl ?_
            refine ww_iconst dX3_readLibrary_88 ?_
            refine ww_iadd dX3_readLibrary_89 ?_
            refine ww_aload_n 3 dX3_readLibrary_90 rfl ?_
            refine cr_pi (cr_V (ct_X3_isGood hG hM) sv_X3_85 rfl dX3_readLibrary_91 hM.obj rfl rfl rfl rfl ⟨by decide, by decide⟩ (Nat.le_of_ble_eq_true rfl) (Nat.le_of_ble_eq_true rfl) (Nat.le_of_ble_eq_true rfl)) ?_
            refine ww_ifb_eq 110 dX3_readLibrary_94 (by decide) (fun c_94 => ?_) (fun c_94 => ?_)
            · refine ww_iconst dX3_readLibrary_110 ?_
              refine ww_sub [3, 1, 0] rfl ?_
              exact join_111 _ _ 0 hM (fun j hj => by rw [su_off (by omega)]; rw [hk_78 j (by omega) (by omega) (by omega) (by omega), su_off (by omega)]; exact hk_1 j (by omega) (by omega) (by omega) (by omega)) (fun z hz => by rw [su_n (by omega)]; rw [hk_78 9 (by decide) (by decide) (by decide) (by decide), su_off (by decide), hn9]) ⟨by rw [su_off (by decide), hk_78 13 (by decide) (by decide) (by decide) (by decide), su_off (by decide)]; exact hk_1 13 (by decide) (by decide) (by decide) (by decide), by rw [su_off (by decide), hk_78 14 (by decide) (by decide) (by decide) (by decide), su_off (by decide)]; exact hk_1 14 (by decide) (by decide) (by decide) (by decide), by rw [su_off (by decide), hk_78 16 (by decide) (by decide) (by decide) (by decide), su_off (by decide)]; exact hk_1 16 (by decide) (by decide) (by decide) (by decide)⟩ ⟨by rw [su_off (by decide), hk_78 15 (by decide) (by decide) (by decide) (by decide), su_s], fun z hz => by rw [su_off (by decide), hk_78 15 (by decide) (by decide) (by decide) (by decide), su_n (by omega), hk_1 15 (by decide) (by decide) (by decide) (by decide)]⟩ (Or.inl rfl) (Or.inl ⟨c, o, by unfold pLib; rw [if_pos hlt, hpt]; simp only; rw [if_pos c0_35, hpn], hc, h5c, h6c⟩)
            · exact absurd (h5c.symm.trans c_94) hc
          · refine mw_st dX3_readLibrary_81 hM rfl (by omega) (by omega) (inI.mk (by omega) (by omega)) (fun hh hM => ?_)
            refine ww_aload_n 3 dX3_readLibrary_82 rfl ?_
            refine ww_getf gf_X3_20 rfl dX3_readLibrary_83 hM.obj rfl ?_
            refine ww_iload 0 dX3_readLibrary_86 rfl ?_
            refine ww_iconst dX3_readLibrary_88 ?_
            refine ww_iadd dX3_readLibrary_89 ?_
            refine ww_aload_n 3 dX3_readLibrary_90 rfl ?_
            refine cr_pi (cr_V (ct_X3_isGood hG hM) sv_X3_85 rfl dX3_readLibrary_91 hM.obj rfl rfl rfl rfl ⟨by decide, by decide⟩ (Nat.le_of_ble_eq_true rfl) (Nat.le_of_ble_eq_true rfl) (Nat.le_of_ble_eq_true rfl)) ?_
            refine ww_ifb_eq 110 dX3_readLibrary_94 (by decide) (fun c_94 => ?_) (fun c_94 => ?_)
            · exact absurd h5c c_94
            · have hT3 := hT2.of (σ' := su σ_78 9 0 ((6 + 24 * (s.lb.length : Int)) + 0) r_78) (by rw [su_off (by decide)]; exact hk_78 1 (by decide) (by decide) (by decide) (by decide)) (by rw [su_off (by decide)]; exact hk_78 3 (by decide) (by decide) (by decide) (by decide))
              have hke := hx.k1 f2
              have hwe := hx.w1 hke.2.1
              refine ww_aload_n 3 dX3_readLibrary_97 rfl ?_
              obtain ⟨a_98, tx_98, hz_98, hS_98⟩ := (hL.fr hM) 177 kwKeeps (by decide)
              refine ww_ldcS hz_98 dX3_readLibrary_98 ?_
              refine cr_si hM (cr_V (ct_X3_takeWord hG hM hT3 e3 (by rw [su_off (by decide)]; exact h4c) (by omega) (by omega) (by rw [su_off (by decide)]; exact h5c) hS_98 (fun e => hM.1.1 e.symm)) sv_X3_130 rfl dX3_readLibrary_100 hM.obj rfl rfl rfl rfl ⟨by decide, by decide⟩ (Nat.le_of_ble_eq_true rfl) (Nat.le_of_ble_eq_true rfl) (Nat.le_of_ble_eq_true rfl)) (fun r_100 σ_100 hh hM hp_100 => ?_)
              rcases hp_100 with ⟨c0_100, rfl, rfl⟩ | ⟨c0_100, rfl, rfl⟩
              · refine ww_if_eq 110 dX3_readLibrary_103 (by decide) (inI.mk (by decide) (by decide)) (fun c_103 => ?_) (fun c_103 => ?_)
                · exact absurd c_103 (by decide)
                · refine ww_iconst dX3_readLibrary_106 ?_
                  refine ww_goto 111 dX3_readLibrary_107 (by decide) ?_
                  refine ww_sub [3, 1, 0] rfl ?_
                  exact join_111 _ _ 1 hM (fun j hj => by rw [su_off (by omega), su_off (by omega)]; rw [hk_78 j (by omega) (by omega) (by omega) (by omega), su_off (by omega)]; exact hk_1 j (by omega) (by omega) (by omega) (by omega)) (fun z hz => by rw [su_off (by decide), su_n (by omega)]; rw [hk_78 9 (by decide) (by decide) (by decide) (by decide), su_off (by decide), hn9]) ⟨by rw [su_off (by decide), su_off (by decide), hk_78 13 (by decide) (by decide) (by decide) (by decide), su_off (by decide)]; exact hk_1 13 (by decide) (by decide) (by decide) (by decide), by rw [su_off (by decide), su_off (by decide), hk_78 14 (by decide) (by decide) (by decide) (by decide), su_off (by decide)]; exact hk_1 14 (by decide) (by decide) (by decide) (by decide), by rw [su_off (by decide), su_off (by decide), hk_78 16 (by decide) (by decide) (by decide) (by decide), su_off (by decide)]; exact hk_1 16 (by decide) (by decide) (by decide) (by decide)⟩ ⟨by rw [su_off (by decide), su_off (by decide), hk_78 15 (by decide) (by decide) (by decide) (by decide), su_s], fun z hz => by rw [su_off (by decide), su_off (by decide), hk_78 15 (by decide) (by decide) (by decide) (by decide), su_n (by omega), hk_1 15 (by decide) (by decide) (by decide) (by decide)]⟩ (Or.inr rfl) (Or.inr ⟨_, r_78, by unfold pLib; rw [if_pos hlt, hpt]; simp only; rw [if_pos c0_35, hpn]; simp only; rw [if_pos (show pw t e3 = kwKeeps from c0_100), if_pos (show pw t e3 = kwKeeps from c0_100)], h5c, su_s, by omega, by omega, by rw [su_off (by decide), su_e (by omega)], f3, f4, by rw [su_off (by decide), su_off (by decide), f6, su_off (by decide)]; exact g6⟩)
              · refine ww_if_eq 110 dX3_readLibrary_103 (by decide) (inI.mk (by decide) (by decide)) (fun c_103 => ?_) (fun c_103 => ?_)
                · refine ww_iconst dX3_readLibrary_110 ?_
                  refine ww_sub [3, 1, 0] rfl ?_
                  exact join_111 _ _ 0 hM (fun j hj => by rw [su_off (by omega), su_off (by omega)]; rw [hk_78 j (by omega) (by omega) (by omega) (by omega), su_off (by omega)]; exact hk_1 j (by omega) (by omega) (by omega) (by omega)) (fun z hz => by rw [su_off (by decide), su_n (by omega)]; rw [hk_78 9 (by decide) (by decide) (by decide) (by decide), su_off (by decide), hn9]) ⟨by rw [su_off (by decide), su_off (by decide), hk_78 13 (by decide) (by decide) (by decide) (by decide), su_off (by decide)]; exact hk_1 13 (by decide) (by decide) (by decide) (by decide), by rw [su_off (by decide), su_off (by decide), hk_78 14 (by decide) (by decide) (by decide) (by decide), su_off (by decide)]; exact hk_1 14 (by decide) (by decide) (by decide) (by decide), by rw [su_off (by decide), su_off (by decide), hk_78 16 (by decide) (by decide) (by decide) (by decide), su_off (by decide)]; exact hk_1 16 (by decide) (by decide) (by decide) (by decide)⟩ ⟨by rw [su_off (by decide), su_off (by decide), hk_78 15 (by decide) (by decide) (by decide) (by decide), su_s], fun z hz => by rw [su_off (by decide), su_off (by decide), hk_78 15 (by decide) (by decide) (by decide) (by decide), su_n (by omega), hk_1 15 (by decide) (by decide) (by decide) (by decide)]⟩ (Or.inl rfl) (Or.inr ⟨_, r_78, by unfold pLib; rw [if_pos hlt, hpt]; simp only; rw [if_pos c0_35, hpn]; simp only; rw [if_neg (show ¬ pw t e3 = kwKeeps from c0_100), if_neg (show ¬ pw t e3 = kwKeeps from c0_100)], h5c, su_s, by omega, by omega, by rw [su_off (by decide), su_e (by omega)], f3, f4, by rw [su_off (by decide), su_off (by decide), f6, su_off (by decide)]; exact g6⟩)
                · exact absurd c_103 (by decide)
        · exact absurd c_38 (by decide)
      · have hfw := fi_wn hR.wl g3 hs.lbw
        rw [List.length_map] at hfw
        rw [hn15, hfw] at c0_35
        refine ww_if_ne 42 dX3_readLibrary_38 (by decide) (inI.mk (by decide) (by decide)) (fun c_38 => ?_) (fun c_38 => ?_)
        · exact absurd c_38 (by decide)
        · exact ww_vret hQ dX3_readLibrary_41 rfl (Nat.le_of_ble_eq_true rfl) (Nat.le_of_ble_eq_true rfl) ⟨rfl, _, hM, fun j hj => by rw [su_off (by omega), su_off (by omega)]; exact hk_1 j (by omega) (by omega) (by omega) (by omega), Or.inl ⟨-5, sk t p, by unfold pLib; rw [if_pos hlt, hpt]; simp only; rw [if_neg c0_35], by decide, by rw [su_off (by decide), su_s], by rw [su_s, h17_1]⟩⟩
  · have hlt : ¬ s.lb.length < 8 := by omega
    refine ww_aload_n 0 dX3_readLibrary_11 rfl ?_
    refine ww_bipush dX3_readLibrary_12 (by decide) ?_
    refine ww_iload_n 1 dX3_readLibrary_14 rfl ?_
    refine cr_sv hM (cr_V (ct_X3_report hG hM _ _ (inI.mk (by decide) (by decide)) (inI.mk (by omega) (by omega))) sv_X3_102 rfl dX3_readLibrary_15 hM.obj rfl rfl rfl rfl ⟨by decide, by decide⟩ (Nat.le_of_ble_eq_true rfl) (Nat.le_of_ble_eq_true rfl) (Nat.le_of_ble_eq_true rfl)) (fun σ_15 hh hM hp_15 => ?_)
    subst hp_15
    rw [if_pos hg] at hM
    have hb : ¬ su (su σ 5 0 0 (-6)) 6 0 0 q 5 0 0 = 0 := by rw [su_off (by decide), su_s]; decide
    refine ww_aload_n 0 dX3_readLibrary_18 rfl ?_
    refine cr_pl (cr_V (ct_X3_readWordB hG hM hb) sv_X3_162 rfl dX3_readLibrary_19 hM.obj rfl rfl rfl rfl ⟨by decide, by decide⟩ (Nat.le_of_ble_eq_true rfl) (Nat.le_of_ble_eq_true rfl) (Nat.le_of_ble_eq_true rfl)) ?_
    refine ww_lstore_n [(2, _), (0, _), (1, _)] dX3_readLibrary_22 (by decide) rfl ?_
    refine ww_aload_n 1 dX3_readLibrary_23 rfl ?_
    refine ww_aload_n 1 dX3_readLibrary_24 rfl ?_
    refine ww_getf gf_X3_28 rfl dX3_readLibrary_25 hM.obj rfl ?_
    refine ww_aload_n 1 dX3_readLibrary_28 rfl ?_
    refine ww_getf gf_X3_20 rfl dX3_readLibrary_29 hM.obj rfl ?_
    refine ww_iconst dX3_readLibrary_32 ?_
    refine mw_ld dX3_readLibrary_33 hM rfl (by omega) (by omega) ?_
    refine ww_lload_n 0 dX3_readLibrary_34 rfl ?_
    refine cr_pi (cr_V (ct_X3_isFreshB hG hM hb (j := 15) rfl _ _) sv_X3_170 rfl dX3_readLibrary_35 hM.obj rfl rfl rfl rfl ⟨by decide, by decide⟩ (Nat.le_of_ble_eq_true rfl) (Nat.le_of_ble_eq_true rfl) (Nat.le_of_ble_eq_true rfl)) ?_
    refine ww_if_ne 42 dX3_readLibrary_38 (by decide) (inI.mk (by decide) (by decide)) (fun c_38 => ?_) (fun c_38 => ?_)
    · exact absurd c_38 (by decide)
    · exact ww_vret hQ dX3_readLibrary_41 rfl (Nat.le_of_ble_eq_true rfl) (Nat.le_of_ble_eq_true rfl) ⟨rfl, _, hM, (NP.rf.sx (by decide)).sx (by decide), Or.inl ⟨-6, q, by unfold pLib; rw [if_neg hlt], by decide, by rw [su_off (by decide), su_s], su_s⟩⟩

set_option maxHeartbeats 4000000 in
theorem ct_X3_readOffer {G : GT} {h0 h : AH} {m : Nat} {A : Nat → Nat} {B : Nat → Int → Nat} {D : Int → Int} {σ : MS} (hG : GOK G) (hM : MWF G h0 h m A B D σ) {t : Int → Int} {n : Int} (hT : TX σ t n) (p : Int) (hp : σ 4 0 0 = p) (hp0 : 0 ≤ p) (hp1 : p ≤ n) (hg : σ 5 0 0 = 0) {s : PS} (hs : PSok s) (hR : MRep σ s) (hL : LitM G h) : CSv G (MX3_readOffer 5 107 0 0) h m A B D [.ref m] (fun σ' => NP σ σ' ∧ ((∃ c o, pOff t p s = .error (c, o) ∧ c ≠ 0 ∧ σ' 5 0 0 = c ∧ σ' 6 0 0 = o) ∨ (∃ e s', pOff t p s = .ok (e, s') ∧ σ' 5 0 0 = 0 ∧ σ' 4 0 0 = e ∧ p ≤ e ∧ e ≤ n ∧ PSok s' ∧ MRep σ' s' ∧ σ' 6 = σ 6))) := by
  refine CT.of rfl hG (Nat.le_of_ble_eq_true rfl) rfl (fun E hQ => ?_)
  have hM := hM.1.f
  have hx := hT.1
  have hn8 := hx.2.1
  have l8 := hs.lbl
  have l12 := hs.nml
  have hrn := hR.hn
  have hrl := hR.hl
  refine ww_aload_n 0 dX3_readOffer_0 rfl ?_
  refine ww_aload_n 0 dX3_readOffer_1 rfl ?_
  refine ww_getf gf_X3_28 rfl dX3_readOffer_2 hM.obj rfl ?_
  refine ww_aload_n 0 dX3_readOffer_5 rfl ?_
  refine ww_getf gf_X3_20 rfl dX3_readOffer_6 hM.obj rfl ?_
  refine ww_iconst dX3_readOffer_9 ?_
  refine mw_ld dX3_readOffer_10 hM rfl (by omega) (by omega) ?_
  rw [show σ 9 0 1 = ((s.lb.map (·.1)).length : Int) by rw [hrl, List.length_map]]
  refine cr_si hM (cr_V (ct_X3_readKnown hG hM hT p hp hp0 hp1 hg (j := 15) rfl (ws := s.lb.map (·.1)) hR.wl hs.lbw (by rw [List.length_map]; omega) (by decide)) sv_X3_179 rfl dX3_readOffer_11 hM.obj rfl rfl rfl rfl ⟨by decide, by decide⟩ (Nat.le_of_ble_eq_true rfl) (Nat.le_of_ble_eq_true rfl) (Nat.le_of_ble_eq_true rfl)) (fun r_11 σ_11 hh hM hp_11 => ?_)
  obtain ⟨hk_11, hc_11⟩ := hp_11
  rcases hc_11 with ⟨c, o, hpe, hc, h5, h6, hr0⟩ | ⟨kA, bA, eA, hpkA, h5A, h4A, hbA, rfl, k0A, k1A, l0A, l1A, m6A⟩
  · refine ww_istore_n [(1, _), (0, _)] dX3_readOffer_14 (by decide) rfl ?_
    refine ww_aload_n 1 dX3_readOffer_15 rfl ?_
    refine ww_aload_n 1 dX3_readOffer_16 rfl ?_
    refine ww_getf gf_X3_32 rfl dX3_readOffer_17 hM.obj rfl ?_
    refine ww_aload_n 1 dX3_readOffer_20 rfl ?_
    refine ww_getf gf_X3_20 rfl dX3_readOffer_21 hM.obj rfl ?_
    refine ww_iconst dX3_readOffer_24 ?_
    refine mw_ld dX3_readOffer_25 hM rfl (by omega) (by omega) ?_
    rw [hk_11 9 (by decide) (by decide) (by decide) (by decide), hrn]
    refine cr_pi (cr_V (ct_X3_readKnownB hG hM (fun e => hc (h5.symm.trans e)) (j := 16) rfl _ (by omega) (by omega) (by decide)) sv_X3_179 rfl dX3_readOffer_26 hM.obj rfl rfl rfl rfl ⟨by decide, by decide⟩ (Nat.le_of_ble_eq_true rfl) (Nat.le_of_ble_eq_true rfl) (Nat.le_of_ble_eq_true rfl)) ?_
    refine ww_istore_n [(2, _), (1, _), (0, _)] dX3_readOffer_29 (by decide) rfl ?_
    refine ww_iload_n 1 dX3_readOffer_30 rfl ?_
    refine cr_pi (cr_S (ct_X3_at hG _) ss_X3_174 rfl dX3_readOffer_31 rfl rfl ⟨by decide, by decide⟩ (Nat.le_of_ble_eq_true rfl) (Nat.le_of_ble_eq_true rfl) (Nat.le_of_ble_eq_true rfl)) ?_
    refine ww_bipush dX3_readOffer_34 (by decide) ?_
    refine ww_iadd dX3_readOffer_36 ?_
    refine ww_iload_n 0 dX3_readOffer_37 rfl ?_
    refine ww_iadd dX3_readOffer_38 ?_
    refine ww_istore_n [(3, _), (2, _), (1, _), (0, _)] dX3_readOffer_39 (by decide) rfl ?_
    refine ww_aload_n 3 dX3_readOffer_40 rfl ?_
    refine cr_pi (cr_V (ct_X3_isGood hG hM) sv_X3_85 rfl dX3_readOffer_41 hM.obj rfl rfl rfl rfl ⟨by decide, by decide⟩ (Nat.le_of_ble_eq_true rfl) (Nat.le_of_ble_eq_true rfl) (Nat.le_of_ble_eq_true rfl)) ?_
    refine ww_ifb_eq 67 dX3_readOffer_44 (by decide) (fun c_44 => ?_) (fun c_44 => ?_)
    · refine ww_aload_n 3 dX3_readOffer_67 rfl ?_
      refine cr_pi (cr_V (ct_X3_isGood hG hM) sv_X3_85 rfl dX3_readOffer_68 hM.obj rfl rfl rfl rfl ⟨by decide, by decide⟩ (Nat.le_of_ble_eq_true rfl) (Nat.le_of_ble_eq_true rfl) (Nat.le_of_ble_eq_true rfl)) ?_
      refine ww_ifb_ne 75 dX3_readOffer_71 (by decide) (fun c_71 => ?_) (fun c_71 => ?_)
      · exact absurd (h5.symm.trans c_71) hc
      · exact ww_vret hQ dX3_readOffer_74 rfl (Nat.le_of_ble_eq_true rfl) (Nat.le_of_ble_eq_true rfl) ⟨rfl, _, hM, fun j hj => by rw [hk_11 j (by omega) (by omega) (by omega) (by omega)], Or.inl ⟨c, o, pOff_e1 hpe, hc, h5, h6⟩⟩
    · exact absurd (h5.symm.trans c_44) hc
  · rw [List.length_map] at k1A
    have hTA := hT.of (hk_11 1 (by decide) (by decide) (by decide) (by decide)) (hk_11 3 (by decide) (by decide) (by decide) (by decide))
    refine ww_istore_n [(1, _), (0, _)] dX3_readOffer_14 (by decide) rfl ?_
    refine ww_aload_n 1 dX3_readOffer_15 rfl ?_
    refine ww_aload_n 1 dX3_readOffer_16 rfl ?_
    refine ww_getf gf_X3_32 rfl dX3_readOffer_17 hM.obj rfl ?_
    refine ww_aload_n 1 dX3_readOffer_20 rfl ?_
    refine ww_getf gf_X3_20 rfl dX3_readOffer_21 hM.obj rfl ?_
    refine ww_iconst dX3_readOffer_24 ?_
    refine mw_ld dX3_readOffer_25 hM rfl (by omega) (by omega) ?_
    rw [hk_11 9 (by decide) (by decide) (by decide) (by decide), hrn]
    refine cr_si hM (cr_V (ct_X3_readKnown hG hM hTA eA h4A (by omega) (by omega) h5A (j := 16) rfl (ws := s.nm) (fun i w hw => by rw [hk_11 16 (by decide) (by decide) (by decide) (by decide)]; exact hR.wnm i w hw) hs.nmw (by omega) (by decide)) sv_X3_179 rfl dX3_readOffer_26 hM.obj rfl rfl rfl rfl ⟨by decide, by decide⟩ (Nat.le_of_ble_eq_true rfl) (Nat.le_of_ble_eq_true rfl) (Nat.le_of_ble_eq_true rfl)) (fun r_26 σ_26 hh hM hp_26 => ?_)
    obtain ⟨hk_26, hc_26⟩ := hp_26
    rcases hc_26 with ⟨c, o, hpe, hc, h5, h6, hr0⟩ | ⟨kB, bB, eB, hpkB, h5B, h4B, hbB, rfl, k0B, k1B, l0B, l1B, m6B⟩
    · refine ww_istore_n [(2, _), (1, _), (0, _)] dX3_readOffer_29 (by decide) rfl ?_
      refine ww_iload_n 1 dX3_readOffer_30 rfl ?_
      refine cr_pi (cr_S (ct_X3_at hG _) ss_X3_174 rfl dX3_readOffer_31 rfl rfl ⟨by decide, by decide⟩ (Nat.le_of_ble_eq_true rfl) (Nat.le_of_ble_eq_true rfl) (Nat.le_of_ble_eq_true rfl)) ?_
      refine ww_bipush dX3_readOffer_34 (by decide) ?_
      refine ww_iadd dX3_readOffer_36 ?_
      refine ww_iload_n 0 dX3_readOffer_37 rfl ?_
      refine ww_iadd dX3_readOffer_38 ?_
      refine ww_istore_n [(3, _), (2, _), (1, _), (0, _)] dX3_readOffer_39 (by decide) rfl ?_
      refine ww_aload_n 3 dX3_readOffer_40 rfl ?_
      refine cr_pi (cr_V (ct_X3_isGood hG hM) sv_X3_85 rfl dX3_readOffer_41 hM.obj rfl rfl rfl rfl ⟨by decide, by decide⟩ (Nat.le_of_ble_eq_true rfl) (Nat.le_of_ble_eq_true rfl) (Nat.le_of_ble_eq_true rfl)) ?_
      refine ww_ifb_eq 67 dX3_readOffer_44 (by decide) (fun c_44 => ?_) (fun c_44 => ?_)
      · refine ww_aload_n 3 dX3_readOffer_67 rfl ?_
        refine cr_pi (cr_V (ct_X3_isGood hG hM) sv_X3_85 rfl dX3_readOffer_68 hM.obj rfl rfl rfl rfl ⟨by decide, by decide⟩ (Nat.le_of_ble_eq_true rfl) (Nat.le_of_ble_eq_true rfl) (Nat.le_of_ble_eq_true rfl)) ?_
        refine ww_ifb_ne 75 dX3_readOffer_71 (by decide) (fun c_71 => ?_) (fun c_71 => ?_)
        · exact absurd (h5.symm.trans c_71) hc
        · exact ww_vret hQ dX3_readOffer_74 rfl (Nat.le_of_ble_eq_true rfl) (Nat.le_of_ble_eq_true rfl) ⟨rfl, _, hM, fun j hj => by rw [hk_26 j (by omega) (by omega) (by omega) (by omega), hk_11 j (by omega) (by omega) (by omega) (by omega)], Or.inl ⟨c, o, pOff_e2 hpkA hpe, hc, h5, h6⟩⟩
      · exact absurd (h5.symm.trans c_44) hc
    · have hTB := hTA.of (hk_26 1 (by decide) (by decide) (by decide) (by decide)) (hk_26 3 (by decide) (by decide) (by decide) (by decide))
      have hov := hR.ofv k0A k1A k0B (by omega)
      refine ww_istore_n [(2, _), (1, _), (0, _)] dX3_readOffer_29 (by decide) rfl ?_
      refine ww_iload_n 1 dX3_readOffer_30 rfl ?_
      refine cr_pi (cr_S (ct_X3_at hG _) ss_X3_174 rfl dX3_readOffer_31 rfl rfl ⟨by decide, by decide⟩ (Nat.le_of_ble_eq_true rfl) (Nat.le_of_ble_eq_true rfl) (Nat.le_of_ble_eq_true rfl)) ?_
      refine ww_bipush dX3_readOffer_34 (by decide) ?_
      refine ww_iadd dX3_readOffer_36 ?_
      refine ww_iload_n 0 dX3_readOffer_37 rfl ?_
      refine ww_iadd dX3_readOffer_38 ?_
      refine ww_istore_n [(3, _), (2, _), (1, _), (0, _)] dX3_readOffer_39 (by decide) rfl ?_
      refine ww_aload_n 3 dX3_readOffer_40 rfl ?_
      refine cr_pi (cr_V (ct_X3_isGood hG hM) sv_X3_85 rfl dX3_readOffer_41 hM.obj rfl rfl rfl rfl ⟨by decide, by decide⟩ (Nat.le_of_ble_eq_true rfl) (Nat.le_of_ble_eq_true rfl) (Nat.le_of_ble_eq_true rfl)) ?_
      refine ww_ifb_eq 67 dX3_readOffer_44 (by decide) (fun c_44 => ?_) (fun c_44 => ?_)
      · exact absurd h5B c_44
      · refine ww_aload_n 3 dX3_readOffer_47 rfl ?_
        refine ww_getf gf_X3_20 rfl dX3_readOffer_48 hM.obj rfl ?_
        refine ww_iload_n 0 dX3_readOffer_51 rfl ?_
        refine mw_ld dX3_readOffer_52 hM rfl (by omega) (by omega) ?_
        rw [hk_26 9 (by decide) (by decide) (by decide) (by decide), hk_11 9 (by decide) (by decide) (by decide) (by decide), hov]
        refine ww_iconst dX3_readOffer_53 ?_
        refine ww_icmp_eq 67 dX3_readOffer_54 (by decide) (inI.mk (by have := (hs.2.2.2.2.1 r_11 r_26).1; omega) (by have := (hs.2.2.2.2.1 r_11 r_26).2; omega)) (inI.mk (by decide) (by decide)) (fun c_54 => ?_) (fun c_54 => ?_)
        · refine ww_aload_n 3 dX3_readOffer_67 rfl ?_
          refine cr_pi (cr_V (ct_X3_isGood hG hM) sv_X3_85 rfl dX3_readOffer_68 hM.obj rfl rfl rfl rfl ⟨by decide, by decide⟩ (Nat.le_of_ble_eq_true rfl) (Nat.le_of_ble_eq_true rfl) (Nat.le_of_ble_eq_true rfl)) ?_
          refine ww_ifb_ne 75 dX3_readOffer_71 (by decide) (fun c_71 => ?_) (fun c_71 => ?_)
          · refine ww_aload_n 3 dX3_readOffer_75 rfl ?_
            have hkB := hx.k1 l1B
            have hwB := hx.w1 hkB.2.1
            obtain ⟨a_76, tx_76, hz_76, hS_76⟩ := (hL.fr hM) 183 kwTo (by decide)
            refine ww_ldcS hz_76 dX3_readOffer_76 ?_
            refine cr_si hM (cr_V (ct_X3_takeWord hG hM hTB eB h4B (by omega) (by omega) h5B hS_76 (fun e => hM.1.1 e.symm)) sv_X3_130 rfl dX3_readOffer_78 hM.obj rfl rfl rfl rfl ⟨by decide, by decide⟩ (Nat.le_of_ble_eq_true rfl) (Nat.le_of_ble_eq_true rfl) (Nat.le_of_ble_eq_true rfl)) (fun r_78 σ_78 hh hM hp_78 => ?_)
            rcases hp_78 with ⟨c0_78, rfl, rfl⟩ | ⟨c0_78, rfl, rfl⟩
            · refine ww_if_eq 110 dX3_readOffer_81 (by decide) (inI.mk (by decide) (by decide)) (fun c_81 => ?_) (fun c_81 => ?_)
              · exact absurd c_81 (by decide)
              · refine ww_aload_n 3 dX3_readOffer_84 rfl ?_
                refine ww_getf gf_X3_20 rfl dX3_readOffer_85 hM.obj rfl ?_
                refine ww_iload_n 0 dX3_readOffer_88 rfl ?_
                refine ww_bipush dX3_readOffer_89 (by decide) ?_
                refine ww_aload_n 3 dX3_readOffer_91 rfl ?_
                refine ww_aload_n 3 dX3_readOffer_92 rfl ?_
                refine ww_getf gf_X3_32 rfl dX3_readOffer_93 hM.obj rfl ?_
                refine ww_aload_n 3 dX3_readOffer_96 rfl ?_
                refine ww_getf gf_X3_20 rfl dX3_readOffer_97 hM.obj rfl ?_
                refine ww_iconst dX3_readOffer_100 ?_
                refine mw_ld dX3_readOffer_101 hM rfl (by omega) (by omega) ?_
                rw [su_off (by decide), hk_26 9 (by decide) (by decide) (by decide) (by decide), hk_11 9 (by decide) (by decide) (by decide) (by decide), hrn]
                refine cr_si hM (cr_V (ct_X3_readKnown hG hM (hTB.mv hM (by decide) (by decide)) (we t (sk t eB)) su_s (by omega) (by omega) (by rw [su_off (by decide)]; exact h5B) (j := 16) rfl (ws := s.nm) (fun i w hw => by rw [su_off (by decide), hk_26 16 (by decide) (by decide) (by decide) (by decide), hk_11 16 (by decide) (by decide) (by decide) (by decide)]; exact hR.wnm i w hw) hs.nmw (by omega) (by decide)) sv_X3_179 rfl dX3_readOffer_102 hM.obj rfl rfl rfl rfl ⟨by decide, by decide⟩ (Nat.le_of_ble_eq_true rfl) (Nat.le_of_ble_eq_true rfl) (Nat.le_of_ble_eq_true rfl)) (fun r_102 σ_102 hh hM hp_102 => ?_)
                obtain ⟨hk_102, hc_102⟩ := hp_102
                rcases hc_102 with ⟨c, o, hpe, hc, h5, h6, hr0⟩ | ⟨kC, bC, eC, hpkC, h5C, h4C, hbC, rfl, k0C, k1C, l0C, l1C, m6C⟩
                · have hrr : 0 ≤ r_102 ∧ r_102 ≤ 12 := by omega
                  refine ww_isub dX3_readOffer_105 ?_
                  refine mw_st dX3_readOffer_106 hM rfl (by omega) (by omega) (inI.mk (by omega) (by omega)) (fun hh hM => ?_)
                  refine ww_goto 124 dX3_readOffer_107 (by decide) ?_
                  exact ww_vret hQ dX3_readOffer_124 rfl (Nat.le_of_ble_eq_true rfl) (Nat.le_of_ble_eq_true rfl) ⟨rfl, _, hM, fun j hj => by rw [su_off (by omega), hk_102 j (by omega) (by omega) (by omega) (by omega), su_off (by omega), hk_26 j (by omega) (by omega) (by omega) (by omega), hk_11 j (by omega) (by omega) (by omega) (by omega)], Or.inl ⟨c, o, by rw [pOff_to hpkA hpkB c_54 c0_78, hpe], hc, by rw [su_off (by decide)]; exact h5, by rw [su_off (by decide)]; exact h6⟩⟩
                · have hrr : 0 ≤ r_102 ∧ r_102 ≤ 12 := by omega
                  refine ww_isub dX3_readOffer_105 ?_
                  refine mw_st dX3_readOffer_106 hM rfl (by omega) (by omega) (inI.mk (by omega) (by omega)) (fun hh hM => ?_)
                  refine ww_goto 124 dX3_readOffer_107 (by decide) ?_
                  exact ww_vret hQ dX3_readOffer_124 rfl (Nat.le_of_ble_eq_true rfl) (Nat.le_of_ble_eq_true rfl) ⟨rfl, _, hM, fun j hj => by rw [su_off (by omega), hk_102 j (by omega) (by omega) (by omega) (by omega), su_off (by omega), hk_26 j (by omega) (by omega) (by omega) (by omega), hk_11 j (by omega) (by omega) (by omega) (by omega)], Or.inr ⟨_, _, by rw [pOff_to hpkA hpkB c_54 c0_78, hpkC], by rw [su_off (by decide)]; exact h5C, by rw [su_off (by decide)]; exact h4C, by omega, by omega, hs.addO k1A k1B ⟨by omega, by omega⟩, hR.addO hs k0A k1A k0B k1B su_s (fun z hz => by rw [su_n (by omega), hk_102 9 (by decide) (by decide) (by decide) (by decide), su_off (by decide), hk_26 9 (by decide) (by decide) (by decide) (by decide), hk_11 9 (by decide) (by decide) (by decide) (by decide)]) (by rw [su_off (by decide), hk_102 13 (by decide) (by decide) (by decide) (by decide), su_off (by decide), hk_26 13 (by decide) (by decide) (by decide) (by decide), hk_11 13 (by decide) (by decide) (by decide) (by decide)]) (by rw [su_off (by decide), hk_102 14 (by decide) (by decide) (by decide) (by decide), su_off (by decide), hk_26 14 (by decide) (by decide) (by decide) (by decide), hk_11 14 (by decide) (by decide) (by decide) (by decide)]) (by rw [su_off (by decide), hk_102 15 (by decide) (by decide) (by decide) (by decide), su_off (by decide), hk_26 15 (by decide) (by decide) (by decide) (by decide), hk_11 15 (by decide) (by decide) (by decide) (by decide)]) (by rw [su_off (by decide), hk_102 16 (by decide) (by decide) (by decide) (by decide), su_off (by decide), hk_26 16 (by decide) (by decide) (by decide) (by decide), hk_11 16 (by decide) (by decide) (by decide) (by decide)]), by rw [su_off (by decide), m6C, su_off (by decide), m6B, m6A]⟩⟩
            · refine ww_if_eq 110 dX3_readOffer_81 (by decide) (inI.mk (by decide) (by decide)) (fun c_81 => ?_) (fun c_81 => ?_)
              · refine ww_aload_n 3 dX3_readOffer_110 rfl ?_
                refine ww_getf gf_X3_20 rfl dX3_readOffer_111 hM.obj rfl ?_
                refine ww_iload_n 0 dX3_readOffer_114 rfl ?_
                refine ww_aload_n 3 dX3_readOffer_115 rfl ?_
                refine ww_iconst dX3_readOffer_116 ?_
                refine ww_sipush dX3_readOffer_117 (by decide) ?_
                refine cr_si hM (cr_V (ct_X3_number hG hM (hTB.mv hM (by decide) (by decide)) (sk t eB) su_s (by omega) (by omega) (by rw [su_off (by decide)]; exact h5B) 0 9999 (inI.mk (by decide) (by decide)) (inI.mk (by decide) (by decide))) sv_X3_140 rfl dX3_readOffer_120 hM.obj rfl rfl rfl rfl ⟨by decide, by decide⟩ (Nat.le_of_ble_eq_true rfl) (Nat.le_of_ble_eq_true rfl) (Nat.le_of_ble_eq_true rfl)) (fun r_120 σ_120 hh hM hp_120 => ?_)
                obtain ⟨hk_102, hr_102, hc_102⟩ := hp_120
                rw [pnum_kk hx l1B] at hc_102
                rcases hc_102 with ⟨c, o, hpe, hc, h5, h6⟩ | ⟨v, eC, hpn, h5C, h4C, rfl, f1, f2, f3, f4, f6⟩
                · refine mw_st dX3_readOffer_123 hM rfl (by omega) (by omega) (inI.mk (by omega) (by omega)) (fun hh hM => ?_)
                  exact ww_vret hQ dX3_readOffer_124 rfl (Nat.le_of_ble_eq_true rfl) (Nat.le_of_ble_eq_true rfl) ⟨rfl, _, hM, fun j hj => by rw [su_off (by omega), hk_102 j (by omega) (by omega) (by omega) (by omega), su_off (by omega), hk_26 j (by omega) (by omega) (by omega) (by omega), hk_11 j (by omega) (by omega) (by omega) (by omega)], Or.inl ⟨c, o, by rw [pOff_nu hpkA hpkB c_54 c0_78, hpe], hc, by rw [su_off (by decide)]; exact h5, by rw [su_off (by decide)]; exact h6⟩⟩
                · refine mw_st dX3_readOffer_123 hM rfl (by omega) (by omega) (inI.mk (by omega) (by omega)) (fun hh hM => ?_)
                  exact ww_vret hQ dX3_readOffer_124 rfl (Nat.le_of_ble_eq_true rfl) (Nat.le_of_ble_eq_true rfl) ⟨rfl, _, hM, fun j hj => by rw [su_off (by omega), hk_102 j (by omega) (by omega) (by omega) (by omega), su_off (by omega), hk_26 j (by omega) (by omega) (by omega) (by omega), hk_11 j (by omega) (by omega) (by omega) (by omega)], Or.inr ⟨_, _, by rw [pOff_nu hpkA hpkB c_54 c0_78, hpn], by rw [su_off (by decide)]; exact h5C, by rw [su_off (by decide)]; exact h4C, by omega, by omega, hs.addO k1A k1B ⟨by omega, by omega⟩, hR.addO hs k0A k1A k0B k1B su_s (fun z hz => by rw [su_n (by omega), hk_102 9 (by decide) (by decide) (by decide) (by decide), su_off (by decide), hk_26 9 (by decide) (by decide) (by decide) (by decide), hk_11 9 (by decide) (by decide) (by decide) (by decide)]) (by rw [su_off (by decide), hk_102 13 (by decide) (by decide) (by decide) (by decide), su_off (by decide), hk_26 13 (by decide) (by decide) (by decide) (by decide), hk_11 13 (by decide) (by decide) (by decide) (by decide)]) (by rw [su_off (by decide), hk_102 14 (by decide) (by decide) (by decide) (by decide), su_off (by decide), hk_26 14 (by decide) (by decide) (by decide) (by decide), hk_11 14 (by decide) (by decide) (by decide) (by decide)]) (by rw [su_off (by decide), hk_102 15 (by decide) (by decide) (by decide) (by decide), su_off (by decide), hk_26 15 (by decide) (by decide) (by decide) (by decide), hk_11 15 (by decide) (by decide) (by decide) (by decide)]) (by rw [su_off (by decide), hk_102 16 (by decide) (by decide) (by decide) (by decide), su_off (by decide), hk_26 16 (by decide) (by decide) (by decide) (by decide), hk_11 16 (by decide) (by decide) (by decide) (by decide)]), by rw [su_off (by decide), f6, su_off (by decide), m6B, m6A]⟩⟩
              · exact absurd c_81 (by decide)
          · exact absurd h5B c_71
        · refine ww_aload_n 3 dX3_readOffer_57 rfl ?_
          refine ww_bipush dX3_readOffer_58 (by decide) ?_
          refine ww_aload_n 3 dX3_readOffer_60 rfl ?_
          refine ww_getf gf_X3_155 rfl dX3_readOffer_61 hM.obj rfl ?_
          rw [hbB]
          refine cr_sv hM (cr_V (ct_X3_report hG hM _ _ (inI.mk (by decide) (by decide)) (by have := hM.ri (j := 17) rfl 0 0; rwa [hbB] at this)) sv_X3_102 rfl dX3_readOffer_64 hM.obj rfl rfl rfl rfl ⟨by decide, by decide⟩ (Nat.le_of_ble_eq_true rfl) (Nat.le_of_ble_eq_true rfl) (Nat.le_of_ble_eq_true rfl)) (fun σ_64 hh hM hp_64 => ?_)
          subst hp_64
          rw [if_pos h5B] at hM
          refine ww_aload_n 3 dX3_readOffer_67 rfl ?_
          refine cr_pi (cr_V (ct_X3_isGood hG hM) sv_X3_85 rfl dX3_readOffer_68 hM.obj rfl rfl rfl rfl ⟨by decide, by decide⟩ (Nat.le_of_ble_eq_true rfl) (Nat.le_of_ble_eq_true rfl) (Nat.le_of_ble_eq_true rfl)) ?_
          refine ww_ifb_ne 75 dX3_readOffer_71 (by decide) (fun c_71 => ?_) (fun c_71 => ?_)
          · (rw [su_off (by decide), su_s] at c_71; exact absurd c_71 (by decide))
          · exact ww_vret hQ dX3_readOffer_74 rfl (Nat.le_of_ble_eq_true rfl) (Nat.le_of_ble_eq_true rfl) ⟨rfl, _, hM, fun j hj => by rw [su_off (by omega), su_off (by omega), hk_26 j (by omega) (by omega) (by omega) (by omega), hk_11 j (by omega) (by omega) (by omega) (by omega)], Or.inl ⟨-5, bB, pOff_e3 hpkA hpkB c_54, by decide, by rw [su_off (by decide), su_s], su_s⟩⟩

set_option maxHeartbeats 4000000 in
theorem ct_X3_readPreference {G : GT} {h0 h : AH} {m : Nat} {A : Nat → Nat} {B : Nat → Int → Nat} {D : Int → Int} {σ : MS} (hG : GOK G) (hM : MWF G h0 h m A B D σ) {t : Int → Int} {n : Int} (hT : TX σ t n) (p : Int) (hp : σ 4 0 0 = p) (hp0 : 0 ≤ p) (hp1 : p ≤ n) (hg : σ 5 0 0 = 0) {s : PS} (hs : PSok s) (hR : MRep σ s) : CSv G (MX3_readPreference 4 86 0 0) h m A B D [.ref m] (fun σ' => NP σ σ' ∧ ((∃ c o, pPre t p s = .error (c, o) ∧ c ≠ 0 ∧ σ' 5 0 0 = c ∧ σ' 6 0 0 = o) ∨ (∃ e s', pPre t p s = .ok (e, s') ∧ σ' 5 0 0 = 0 ∧ σ' 4 0 0 = e ∧ p ≤ e ∧ e ≤ n ∧ PSok s' ∧ MRep σ' s' ∧ σ' 6 = σ 6))) := by
  refine CT.of rfl hG (Nat.le_of_ble_eq_true rfl) rfl (fun E hQ => ?_)
  have hM := hM.1.f
  have hx := hT.1
  have hn8 := hx.2.1
  have l8 := hs.lbl
  have l12 := hs.nml
  have hrn := hR.hn
  have hrl := hR.hl
  refine ww_aload_n 0 dX3_readPreference_0 rfl ?_
  refine ww_aload_n 0 dX3_readPreference_1 rfl ?_
  refine ww_getf gf_X3_28 rfl dX3_readPreference_2 hM.obj rfl ?_
  refine ww_aload_n 0 dX3_readPreference_5 rfl ?_
  refine ww_getf gf_X3_20 rfl dX3_readPreference_6 hM.obj rfl ?_
  refine ww_iconst dX3_readPreference_9 ?_
  refine mw_ld dX3_readPreference_10 hM rfl (by omega) (by omega) ?_
  rw [show σ 9 0 1 = ((s.lb.map (·.1)).length : Int) by rw [hrl, List.length_map]]
  refine cr_si hM (cr_V (ct_X3_readKnown hG hM hT p hp hp0 hp1 hg (j := 15) rfl (ws := s.lb.map (·.1)) hR.wl hs.lbw (by rw [List.length_map]; omega) (by decide)) sv_X3_179 rfl dX3_readPreference_11 hM.obj rfl rfl rfl rfl ⟨by decide, by decide⟩ (Nat.le_of_ble_eq_true rfl) (Nat.le_of_ble_eq_true rfl) (Nat.le_of_ble_eq_true rfl)) (fun r_11 σ_11 hh hM hp_11 => ?_)
  obtain ⟨hk_11, hc_11⟩ := hp_11
  rcases hc_11 with ⟨c, o, hpe, hc, h5, h6, hr0⟩ | ⟨kA, bA, eA, hpkA, h5A, h4A, hbA, rfl, k0A, k1A, l0A, l1A, m6A⟩
  · refine ww_istore_n [(1, _), (0, _)] dX3_readPreference_14 (by decide) rfl ?_
    refine ww_aload_n 1 dX3_readPreference_15 rfl ?_
    refine ww_aload_n 1 dX3_readPreference_16 rfl ?_
    refine ww_getf gf_X3_28 rfl dX3_readPreference_17 hM.obj rfl ?_
    refine ww_aload_n 1 dX3_readPreference_20 rfl ?_
    refine ww_getf gf_X3_20 rfl dX3_readPreference_21 hM.obj rfl ?_
    refine ww_iconst dX3_readPreference_24 ?_
    refine mw_ld dX3_readPreference_25 hM rfl (by omega) (by omega) ?_
    rw [hk_11 9 (by decide) (by decide) (by decide) (by decide), hrl]
    refine cr_pi (cr_V (ct_X3_readKnownB hG hM (fun e => hc (h5.symm.trans e)) (j := 15) rfl _ (by omega) (by omega) (by decide)) sv_X3_179 rfl dX3_readPreference_26 hM.obj rfl rfl rfl rfl ⟨by decide, by decide⟩ (Nat.le_of_ble_eq_true rfl) (Nat.le_of_ble_eq_true rfl) (Nat.le_of_ble_eq_true rfl)) ?_
    refine ww_istore_n [(2, _), (1, _), (0, _)] dX3_readPreference_29 (by decide) rfl ?_
    refine ww_aload_n 2 dX3_readPreference_30 rfl ?_
    refine cr_pi (cr_V (ct_X3_isGood hG hM) sv_X3_85 rfl dX3_readPreference_31 hM.obj rfl rfl rfl rfl ⟨by decide, by decide⟩ (Nat.le_of_ble_eq_true rfl) (Nat.le_of_ble_eq_true rfl) (Nat.le_of_ble_eq_true rfl)) ?_
    refine ww_ifb_eq 65 dX3_readPreference_34 (by decide) (fun c_34 => ?_) (fun c_34 => ?_)
    · refine ww_aload_n 2 dX3_readPreference_65 rfl ?_
      refine cr_pi (cr_V (ct_X3_isGood hG hM) sv_X3_85 rfl dX3_readPreference_66 hM.obj rfl rfl rfl rfl ⟨by decide, by decide⟩ (Nat.le_of_ble_eq_true rfl) (Nat.le_of_ble_eq_true rfl) (Nat.le_of_ble_eq_true rfl)) ?_
      refine ww_ifb_ne 73 dX3_readPreference_69 (by decide) (fun c_69 => ?_) (fun c_69 => ?_)
      · exact absurd (h5.symm.trans c_69) hc
      · exact ww_vret hQ dX3_readPreference_72 rfl (Nat.le_of_ble_eq_true rfl) (Nat.le_of_ble_eq_true rfl) ⟨rfl, _, hM, fun j hj => by rw [hk_11 j (by omega) (by omega) (by omega) (by omega)], Or.inl ⟨c, o, pPre_e1 hpe, hc, h5, h6⟩⟩
    · exact absurd (h5.symm.trans c_34) hc
  · rw [List.length_map] at k1A
    have hTA := hT.of (hk_11 1 (by decide) (by decide) (by decide) (by decide)) (hk_11 3 (by decide) (by decide) (by decide) (by decide))
    refine ww_istore_n [(1, _), (0, _)] dX3_readPreference_14 (by decide) rfl ?_
    refine ww_aload_n 1 dX3_readPreference_15 rfl ?_
    refine ww_aload_n 1 dX3_readPreference_16 rfl ?_
    refine ww_getf gf_X3_28 rfl dX3_readPreference_17 hM.obj rfl ?_
    refine ww_aload_n 1 dX3_readPreference_20 rfl ?_
    refine ww_getf gf_X3_20 rfl dX3_readPreference_21 hM.obj rfl ?_
    refine ww_iconst dX3_readPreference_24 ?_
    refine mw_ld dX3_readPreference_25 hM rfl (by omega) (by omega) ?_
    rw [hk_11 9 (by decide) (by decide) (by decide) (by decide), show σ 9 0 1 = ((s.lb.map (·.1)).length : Int) by rw [hrl, List.length_map]]
    refine cr_si hM (cr_V (ct_X3_readKnown hG hM hTA eA h4A (by omega) (by omega) h5A (j := 15) rfl (ws := s.lb.map (·.1)) (fun i w hw => by rw [hk_11 15 (by decide) (by decide) (by decide) (by decide)]; exact hR.wl i w hw) hs.lbw (by rw [List.length_map]; omega) (by decide)) sv_X3_179 rfl dX3_readPreference_26 hM.obj rfl rfl rfl rfl ⟨by decide, by decide⟩ (Nat.le_of_ble_eq_true rfl) (Nat.le_of_ble_eq_true rfl) (Nat.le_of_ble_eq_true rfl)) (fun r_26 σ_26 hh hM hp_26 => ?_)
    obtain ⟨hk_26, hc_26⟩ := hp_26
    rcases hc_26 with ⟨c, o, hpe, hc, h5, h6, hr0⟩ | ⟨kB, bB, eB, hpkB, h5B, h4B, hbB, rfl, k0B, k1B, l0B, l1B, m6B⟩
    · refine ww_istore_n [(2, _), (1, _), (0, _)] dX3_readPreference_29 (by decide) rfl ?_
      refine ww_aload_n 2 dX3_readPreference_30 rfl ?_
      refine cr_pi (cr_V (ct_X3_isGood hG hM) sv_X3_85 rfl dX3_readPreference_31 hM.obj rfl rfl rfl rfl ⟨by decide, by decide⟩ (Nat.le_of_ble_eq_true rfl) (Nat.le_of_ble_eq_true rfl) (Nat.le_of_ble_eq_true rfl)) ?_
      refine ww_ifb_eq 65 dX3_readPreference_34 (by decide) (fun c_34 => ?_) (fun c_34 => ?_)
      · refine ww_aload_n 2 dX3_readPreference_65 rfl ?_
        refine cr_pi (cr_V (ct_X3_isGood hG hM) sv_X3_85 rfl dX3_readPreference_66 hM.obj rfl rfl rfl rfl ⟨by decide, by decide⟩ (Nat.le_of_ble_eq_true rfl) (Nat.le_of_ble_eq_true rfl) (Nat.le_of_ble_eq_true rfl)) ?_
        refine ww_ifb_ne 73 dX3_readPreference_69 (by decide) (fun c_69 => ?_) (fun c_69 => ?_)
        · exact absurd (h5.symm.trans c_69) hc
        · exact ww_vret hQ dX3_readPreference_72 rfl (Nat.le_of_ble_eq_true rfl) (Nat.le_of_ble_eq_true rfl) ⟨rfl, _, hM, fun j hj => by rw [hk_26 j (by omega) (by omega) (by omega) (by omega), hk_11 j (by omega) (by omega) (by omega) (by omega)], Or.inl ⟨c, o, pPre_e2 hpkA hpe, hc, h5, h6⟩⟩
      · exact absurd (h5.symm.trans c_34) hc
    · rw [List.length_map] at k1B
      have hpl := (hR.pfl k0A k1A).1
      have hdp := hR.dpf k0A k1A
      have h98 : σ_26 9 = σ 9 := by rw [hk_26 9 (by decide) (by decide) (by decide) (by decide), hk_11 9 (by decide) (by decide) (by decide) (by decide)]
      refine ww_istore_n [(2, _), (1, _), (0, _)] dX3_readPreference_29 (by decide) rfl ?_
      refine ww_aload_n 2 dX3_readPreference_30 rfl ?_
      refine cr_pi (cr_V (ct_X3_isGood hG hM) sv_X3_85 rfl dX3_readPreference_31 hM.obj rfl rfl rfl rfl ⟨by decide, by decide⟩ (Nat.le_of_ble_eq_true rfl) (Nat.le_of_ble_eq_true rfl) (Nat.le_of_ble_eq_true rfl)) ?_
      refine ww_ifb_eq 65 dX3_readPreference_34 (by decide) (fun c_34 => ?_) (fun c_34 => ?_)
      · exact absurd h5B c_34
      · refine ww_iload_n 1 dX3_readPreference_37 rfl ?_
        refine ww_iload_n 0 dX3_readPreference_38 rfl ?_
        refine ww_icmp_eq 55 dX3_readPreference_39 (by decide) (inI.mk (by omega) (by omega)) (inI.mk (by omega) (by omega)) (fun c_39 => ?_) (fun c_39 => ?_)
        · have hd : ¬ (r_26 ≠ r_11 ∧ r_26 ∉ prf s.lb r_11) := fun q => q.1 c_39.symm
          refine ww_aload_n 2 dX3_readPreference_55 rfl ?_
          refine ww_bipush dX3_readPreference_56 (by decide) ?_
          refine ww_aload_n 2 dX3_readPreference_58 rfl ?_
          refine ww_getf gf_X3_155 rfl dX3_readPreference_59 hM.obj rfl ?_
          rw [hbB]
          refine cr_sv hM (cr_V (ct_X3_report hG hM _ _ (inI.mk (by decide) (by decide)) (by have := hM.ri (j := 17) rfl 0 0; rwa [hbB] at this)) sv_X3_102 rfl dX3_readPreference_62 hM.obj rfl rfl rfl rfl ⟨by decide, by decide⟩ (Nat.le_of_ble_eq_true rfl) (Nat.le_of_ble_eq_true rfl) (Nat.le_of_ble_eq_true rfl)) (fun σ_62 hh hM hp_62 => ?_)
          subst hp_62
          rw [if_pos h5B] at hM
          refine ww_aload_n 2 dX3_readPreference_65 rfl ?_
          refine cr_pi (cr_V (ct_X3_isGood hG hM) sv_X3_85 rfl dX3_readPreference_66 hM.obj rfl rfl rfl rfl ⟨by decide, by decide⟩ (Nat.le_of_ble_eq_true rfl) (Nat.le_of_ble_eq_true rfl) (Nat.le_of_ble_eq_true rfl)) ?_
          refine ww_ifb_ne 73 dX3_readPreference_69 (by decide) (fun c_69 => ?_) (fun c_69 => ?_)
          · (rw [su_off (by decide), su_s] at c_69; exact absurd c_69 (by decide))
          · exact ww_vret hQ dX3_readPreference_72 rfl (Nat.le_of_ble_eq_true rfl) (Nat.le_of_ble_eq_true rfl) ⟨rfl, _, hM, fun j hj => by rw [su_off (by omega), su_off (by omega), hk_26 j (by omega) (by omega) (by omega) (by omega), hk_11 j (by omega) (by omega) (by omega) (by omega)], Or.inl ⟨-5, bB, pPre_e3 hpkA hpkB hd, by decide, by rw [su_off (by decide), su_s], su_s⟩⟩
        · refine ww_aload_n 2 dX3_readPreference_42 rfl ?_
          refine ww_aload_n 2 dX3_readPreference_43 rfl ?_
          refine ww_getf gf_X3_20 rfl dX3_readPreference_44 hM.obj rfl ?_
          refine ww_iload_n 1 dX3_readPreference_47 rfl ?_
          refine ww_iload_n 0 dX3_readPreference_48 rfl ?_
          refine cr_pi (cr_V (ct_X3_prefers hG (hM.arr (j := 9) rfl) (fun z => hM.ri rfl _ _) _ _ (by omega) (by omega) (inI.mk (by omega) (by omega)) (by rw [h98, hpl]; have := hs.pfx k0A k1A; omega)) sv_X3_185 rfl dX3_readPreference_49 hM.obj rfl rfl rfl rfl ⟨by decide, by decide⟩ (Nat.le_of_ble_eq_true rfl) (Nat.le_of_ble_eq_true rfl) (Nat.le_of_ble_eq_true rfl)) ?_
          refine ww_ifb_eq 65 dX3_readPreference_52 (by decide) (fun c_52 => ?_) (fun c_52 => ?_)
          · have hd : r_26 ≠ r_11 ∧ r_26 ∉ prf s.lb r_11 := ⟨fun q => c_39 q.symm, by rw [h98, hdp] at c_52; exact c_52⟩
            have hp7 := hs.pf7 k0A k1A k0B k1B hd
            refine ww_aload_n 2 dX3_readPreference_65 rfl ?_
            refine cr_pi (cr_V (ct_X3_isGood hG hM) sv_X3_85 rfl dX3_readPreference_66 hM.obj rfl rfl rfl rfl ⟨by decide, by decide⟩ (Nat.le_of_ble_eq_true rfl) (Nat.le_of_ble_eq_true rfl) (Nat.le_of_ble_eq_true rfl)) ?_
            refine ww_ifb_ne 73 dX3_readPreference_69 (by decide) (fun c_69 => ?_) (fun c_69 => ?_)
            · refine ww_aload_n 2 dX3_readPreference_73 rfl ?_
              refine ww_getf gf_X3_20 rfl dX3_readPreference_74 hM.obj rfl ?_
              refine ww_iload_n 1 dX3_readPreference_77 rfl ?_
              refine cr_pi (cr_S (ct_X3_at hG _) ss_X3_174 rfl dX3_readPreference_78 rfl rfl ⟨by decide, by decide⟩ (Nat.le_of_ble_eq_true rfl) (Nat.le_of_ble_eq_true rfl) (Nat.le_of_ble_eq_true rfl)) ?_
              refine ww_iconst dX3_readPreference_81 ?_
              refine ww_iadd dX3_readPreference_82 ?_
              refine ww_aload_n 2 dX3_readPreference_83 rfl ?_
              refine ww_getf gf_X3_20 rfl dX3_readPreference_84 hM.obj rfl ?_
              refine ww_iload_n 1 dX3_readPreference_87 rfl ?_
              refine cr_pi (cr_S (ct_X3_at hG _) ss_X3_174 rfl dX3_readPreference_88 rfl rfl ⟨by decide, by decide⟩ (Nat.le_of_ble_eq_true rfl) (Nat.le_of_ble_eq_true rfl) (Nat.le_of_ble_eq_true rfl)) ?_
              refine ww_iconst dX3_readPreference_91 ?_
              refine ww_iadd dX3_readPreference_92 ?_
              refine mw_ld dX3_readPreference_93 hM rfl (by omega) (by omega) ?_
              rw [h98, hpl]
              refine ww_iadd dX3_readPreference_94 ?_
              refine ww_iload_n 0 dX3_readPreference_95 rfl ?_
              refine mw_st dX3_readPreference_96 hM rfl (by omega) (by omega) (inI.mk (by omega) (by omega)) (fun hh hM => ?_)
              refine ww_aload_n 2 dX3_readPreference_97 rfl ?_
              refine ww_getf gf_X3_20 rfl dX3_readPreference_98 hM.obj rfl ?_
              refine ww_iload_n 1 dX3_readPreference_101 rfl ?_
              refine cr_pi (cr_S (ct_X3_at hG _) ss_X3_174 rfl dX3_readPreference_102 rfl rfl ⟨by decide, by decide⟩ (Nat.le_of_ble_eq_true rfl) (Nat.le_of_ble_eq_true rfl) (Nat.le_of_ble_eq_true rfl)) ?_
              refine ww_iconst dX3_readPreference_105 ?_
              refine ww_iadd dX3_readPreference_106 ?_
              refine ww_dup2 dX3_readPreference_107 rfl rfl ?_
              refine mw_ld dX3_readPreference_108 hM rfl (by omega) (by omega) ?_
              rw [su_n (by omega), h98, hpl]
              refine ww_iconst dX3_readPreference_109 ?_
              refine ww_iadd dX3_readPreference_110 ?_
              refine mw_st dX3_readPreference_111 hM rfl (by omega) (by omega) (inI.mk (by omega) (by omega)) (fun hh hM => ?_)
              exact ww_vret hQ dX3_readPreference_112 rfl (Nat.le_of_ble_eq_true rfl) (Nat.le_of_ble_eq_true rfl) ⟨rfl, _, hM, fun j hj => by rw [su_off (by omega), su_off (by omega), hk_26 j (by omega) (by omega) (by omega) (by omega), hk_11 j (by omega) (by omega) (by omega) (by omega)], Or.inr ⟨_, _, pPre_ok hpkA hpkB hd, by rw [su_off (by decide), su_off (by decide)]; exact h5B, by rw [su_off (by decide), su_off (by decide)]; exact h4B, by omega, by omega, hs.addP k0A k0B k1B (fun x hx => by rw [← prf_get hx]; exact ⟨hp7, hd.2⟩) hd.1, hR.addP hs k0A k1A hpl (by omega) (by rw [su_n (by omega), su_s]) su_s (fun z h1 h2 => by rw [su_n (by omega), su_n (by omega), h98]) (by rw [su_off (by decide), su_off (by decide), hk_26 13 (by decide) (by decide) (by decide) (by decide), hk_11 13 (by decide) (by decide) (by decide) (by decide)]) (by rw [su_off (by decide), su_off (by decide), hk_26 14 (by decide) (by decide) (by decide) (by decide), hk_11 14 (by decide) (by decide) (by decide) (by decide)]) (by rw [su_off (by decide), su_off (by decide), hk_26 15 (by decide) (by decide) (by decide) (by decide), hk_11 15 (by decide) (by decide) (by decide) (by decide)]) (by rw [su_off (by decide), su_off (by decide), hk_26 16 (by decide) (by decide) (by decide) (by decide), hk_11 16 (by decide) (by decide) (by decide) (by decide)]), by rw [su_off (by decide), su_off (by decide), m6B, m6A]⟩⟩
            · exact absurd h5B c_69
          · have hd : ¬ (r_26 ≠ r_11 ∧ r_26 ∉ prf s.lb r_11) := fun q => q.2 (by rw [h98, hdp] at c_52; exact c_52)
            refine ww_aload_n 2 dX3_readPreference_55 rfl ?_
            refine ww_bipush dX3_readPreference_56 (by decide) ?_
            refine ww_aload_n 2 dX3_readPreference_58 rfl ?_
            refine ww_getf gf_X3_155 rfl dX3_readPreference_59 hM.obj rfl ?_
            rw [hbB]
            refine cr_sv hM (cr_V (ct_X3_report hG hM _ _ (inI.mk (by decide) (by decide)) (by have := hM.ri (j := 17) rfl 0 0; rwa [hbB] at this)) sv_X3_102 rfl dX3_readPreference_62 hM.obj rfl rfl rfl rfl ⟨by decide, by decide⟩ (Nat.le_of_ble_eq_true rfl) (Nat.le_of_ble_eq_true rfl) (Nat.le_of_ble_eq_true rfl)) (fun σ_62 hh hM hp_62 => ?_)
            subst hp_62
            rw [if_pos h5B] at hM
            refine ww_aload_n 2 dX3_readPreference_65 rfl ?_
            refine cr_pi (cr_V (ct_X3_isGood hG hM) sv_X3_85 rfl dX3_readPreference_66 hM.obj rfl rfl rfl rfl ⟨by decide, by decide⟩ (Nat.le_of_ble_eq_true rfl) (Nat.le_of_ble_eq_true rfl) (Nat.le_of_ble_eq_true rfl)) ?_
            refine ww_ifb_ne 73 dX3_readPreference_69 (by decide) (fun c_69 => ?_) (fun c_69 => ?_)
            · (rw [su_off (by decide), su_s] at c_69; exact absurd c_69 (by decide))
            · exact ww_vret hQ dX3_readPreference_72 rfl (Nat.le_of_ble_eq_true rfl) (Nat.le_of_ble_eq_true rfl) ⟨rfl, _, hM, fun j hj => by rw [su_off (by omega), su_off (by omega), hk_26 j (by omega) (by omega) (by omega) (by omega), hk_11 j (by omega) (by omega) (by omega) (by omega)], Or.inl ⟨-5, bB, pPre_e3 hpkA hpkB hd, by decide, by rw [su_off (by decide), su_s], su_s⟩⟩
