set_option maxRecDepth 100000
set_option maxHeartbeats 4000000 in
theorem ct_X3_number {G : GT} {h0 h : AH} {m : Nat} {A : Nat → Nat} {B : Nat → Int → Nat} {D : Int → Int} {σ : MS} (hG : GOK G) (hM : MWF G h0 h m A B D σ) {t : Int → Int} {n : Int} (hT : TX σ t n) (p : Int) (hp : σ 4 0 0 = p) (hp0 : 0 ≤ p) (hp1 : p ≤ n) (hg : σ 5 0 0 = 0) (lo hi : Int) (hlo : inI lo) (hhi : inI hi) : CSi G (MX3_number 2 42 0 0) h m A B D [.ref m, .int (iI lo), .int (iI hi)] (fun r σ' => (∀ j, j ≠ 4 → j ≠ 5 → j ≠ 6 → j ≠ 12 → σ' j = σ j) ∧ (0 ≤ r ∧ r ≤ 1000000) ∧ ((∃ c o, pnum t p lo hi = .error (c, o) ∧ c ≠ 0 ∧ σ' 5 0 0 = c ∧ σ' 6 0 0 = o) ∨ (∃ v e, pnum t p lo hi = .ok (v, e) ∧ σ' 5 0 0 = 0 ∧ σ' 4 0 0 = e ∧ r = v ∧ p ≤ e ∧ e ≤ n ∧ lo ≤ v ∧ v ≤ hi ∧ σ' 6 = σ 6))) := by
  refine CT.of rfl hG (Nat.le_of_ble_eq_true rfl) rfl (fun E hQ => ?_)
  have hM := hM.1.f
  have hx := hT.1
  have hn8 := hx.2.1
  have hT0 := hT
  refine ww_aload_n 0 dX3_number_0 rfl ?_
  refine cr_pi (cr_V (ct_X3_isGood hG hM) sv_X3_85 rfl dX3_number_1 hM.obj rfl rfl rfl rfl ⟨by decide, by decide⟩ (Nat.le_of_ble_eq_true rfl) (Nat.le_of_ble_eq_true rfl) (Nat.le_of_ble_eq_true rfl)) ?_
  refine ww_ifb_ne 9 dX3_number_4 (by decide) (fun c_4 => ?_) (fun c_4 => ?_)
  · refine ww_aload_n 0 dX3_number_9 rfl ?_
    refine cr_si hM (cr_V (ct_X3_next hG hM hT _ (by first | exact hp | exact su_s | rfl) (by omega) (by omega)) sv_X3_89 rfl dX3_number_10 hM.obj rfl rfl rfl rfl ⟨by decide, by decide⟩ (Nat.le_of_ble_eq_true rfl) (Nat.le_of_ble_eq_true rfl) (Nat.le_of_ble_eq_true rfl)) (fun r_10 σ_10 hh hM hp_10 => ?_)
    obtain ⟨rfl, rfl⟩ := hp_10
    try rw [su_su] at hM
    have hk := hx.k1 hp1
    have hT := hT.mv hM (by decide) (by decide)
    refine cr_pi (cr_S (ct_X3_isDigit hG _ (by have := hx.rg (q := sk t p) (by omega); exact inI.mk (by omega) (by omega))) ss_X3_106 rfl dX3_number_13 rfl rfl ⟨by decide, by decide⟩ (Nat.le_of_ble_eq_true rfl) (Nat.le_of_ble_eq_true rfl) (Nat.le_of_ble_eq_true rfl)) ?_
    refine ww_ifb_ne 31 dX3_number_16 (by decide) (fun c_16 => ?_) (fun c_16 => ?_)
    · refine ww_aload_n 0 dX3_number_31 rfl ?_
      refine ww_aload_n 0 dX3_number_32 rfl ?_
      refine ww_getf gf_X3_68 rfl dX3_number_33 hM.obj rfl ?_
      rw [su_s]
      refine mw_put pf_X3_110 rfl dX3_number_36 hM rfl (inI.mk (by omega) (by omega)) (fun hh hM => ?_)
      refine ww_iconst dX3_number_39 ?_
      refine ww_istore_n [(3, _), (0, _), (1, _), (2, _)] dX3_number_40 (by decide) rfl ?_
      have loop_41 : ∀ (f : Nat) (x v : Int) (τ : MS) (hx1 : AH), (MWF G h hx1 m A B D τ) → (∀ j, j ≠ 4 → j ≠ 12 → τ j = σ j) → (τ 4 0 0 = x) → (τ 12 0 0 = sk t p) → (sk t p ≤ x) → (x ≤ n) → (0 ≤ v ∧ v ≤ 1000000) → (nu t (sk t p) 0 = nu t x v) → (n - x < f) → WW G E (MX3_number 2 42 0 0) hx1 0 0 41 [(3, .int (iI v)), (0, .ref m), (1, .int (iI lo)), (2, .int (iI hi))] [] := by
        intro f
        induction f with
        | zero => intro x v τ hx1 hM ho h4 h12 hx0 hx2 hv0 hnu hf; exact absurd hf (by omega)
        | succ f ih =>
          intro x v τ hx1 hM ho h4 h12 hx0 hx2 hv0 hnu hf
          have hT := hT0.of (ho 1 (by decide) (by decide)) (ho 3 (by decide) (by decide))
          have hrx := hx.rg (q := x) (by omega)
          refine ww_aload_n 1 dX3_number_41 rfl ?_
          refine ww_aload_n 1 dX3_number_42 rfl ?_
          refine ww_getf gf_X3_68 rfl dX3_number_43 hM.obj rfl ?_
          rw [h4]
          refine cr_pi (cr_V (ct_by hG hM hT _ (by omega) (by omega)) sv_X3_71 rfl dX3_number_46 hM.obj rfl rfl rfl rfl ⟨by decide, by decide⟩ (Nat.le_of_ble_eq_true rfl) (Nat.le_of_ble_eq_true rfl) (Nat.le_of_ble_eq_true rfl)) ?_
          refine cr_pi (cr_S (ct_X3_isDigit hG _ (inI.mk (by omega) (by omega))) ss_X3_106 rfl dX3_number_49 rfl rfl ⟨by decide, by decide⟩ (Nat.le_of_ble_eq_true rfl) (Nat.le_of_ble_eq_true rfl) (Nat.le_of_ble_eq_true rfl)) ?_
          refine ww_ifb_eq 90 dX3_number_52 (by decide) (fun c_52 => ?_) (fun c_52 => ?_)
          · have hne : nu t (sk t p) 0 = (x, v) := by rw [hnu]; exact nu_f c_52
            refine ww_iload_n 0 dX3_number_90 rfl ?_
            refine ww_iload_n 2 dX3_number_91 rfl ?_
            refine ww_iload_n 3 dX3_number_92 rfl ?_
            refine cr_pi (cr_S (ct_X3_in hG _ _ _ (inI.mk (by omega) (by omega)) hlo hhi) ss_X3_81 rfl dX3_number_93 rfl rfl ⟨by decide, by decide⟩ (Nat.le_of_ble_eq_true rfl) (Nat.le_of_ble_eq_true rfl) (Nat.le_of_ble_eq_true rfl)) ?_
            refine ww_ifb_ne 109 dX3_number_96 (by decide) (fun c_96 => ?_) (fun c_96 => ?_)
            · refine ww_iload_n 0 dX3_number_109 rfl ?_
              exact ww_iret hQ dX3_number_110 rfl (Nat.le_of_ble_eq_true rfl) (Nat.le_of_ble_eq_true rfl) (by first | exact ⟨_, rfl, _, hM, fun j a b c d => by rw [su_off c, su_off b]; exact ho j a d, by omega, Or.inl ⟨-3, sk t p, by unfold pnum; rw [if_pos c_16, hne, if_neg c_96], by decide, by rw [su_off (by decide), su_s], su_s⟩⟩ | exact ⟨_, rfl, _, hM, fun j a b c d => ho j a d, by omega, Or.inr ⟨v, x, by unfold pnum; rw [if_pos c_16, hne, if_pos c_96], by rw [ho 5 (by decide) (by decide)]; exact hg, h4, rfl, by omega, by omega, c_96.1, c_96.2, ho 6 (by decide) (by decide)⟩⟩)
            · refine ww_aload_n 1 dX3_number_99 rfl ?_
              refine ww_bipush dX3_number_100 (by decide) ?_
              refine ww_aload_n 1 dX3_number_102 rfl ?_
              refine ww_getf gf_X3_110 rfl dX3_number_103 hM.obj rfl ?_
              rw [h12]
              refine cr_sv hM (cr_V (ct_X3_report hG hM _ _ (inI.mk (by decide) (by decide)) (inI.mk (by omega) (by omega))) sv_X3_102 rfl dX3_number_106 hM.obj rfl rfl rfl rfl ⟨by decide, by decide⟩ (Nat.le_of_ble_eq_true rfl) (Nat.le_of_ble_eq_true rfl) (Nat.le_of_ble_eq_true rfl)) (fun σ_106 hh hM hp_106 => ?_)
              subst hp_106
              rw [if_pos (show τ 5 0 0 = 0 by rw [ho 5 (by decide) (by decide)]; exact hg)] at hM
              refine ww_iload_n 0 dX3_number_109 rfl ?_
              exact ww_iret hQ dX3_number_110 rfl (Nat.le_of_ble_eq_true rfl) (Nat.le_of_ble_eq_true rfl) (by first | exact ⟨_, rfl, _, hM, fun j a b c d => by rw [su_off c, su_off b]; exact ho j a d, by omega, Or.inl ⟨-3, sk t p, by unfold pnum; rw [if_pos c_16, hne, if_neg c_96], by decide, by rw [su_off (by decide), su_s], su_s⟩⟩ | exact ⟨_, rfl, _, hM, fun j a b c d => ho j a d, by omega, Or.inr ⟨v, x, by unfold pnum; rw [if_pos c_16, hne, if_pos c_96], by rw [ho 5 (by decide) (by decide)]; exact hg, h4, rfl, by omega, by omega, c_96.1, c_96.2, ho 6 (by decide) (by decide)⟩⟩)
          · refine ww_ldc q2208 dX3_number_55 (z := 1000000) rfl ?_
            refine ww_bipush dX3_number_57 (by decide) ?_
            refine ww_iload_n 0 dX3_number_59 rfl ?_
            refine ww_imul dX3_number_60 ?_
            refine ww_aload_n 1 dX3_number_61 rfl ?_
            refine ww_aload_n 1 dX3_number_62 rfl ?_
            refine ww_getf gf_X3_68 rfl dX3_number_63 hM.obj rfl ?_
            rw [h4]
            refine cr_pi (cr_V (ct_by hG hM hT _ (by omega) (by omega)) sv_X3_71 rfl dX3_number_66 hM.obj rfl rfl rfl rfl ⟨by decide, by decide⟩ (Nat.le_of_ble_eq_true rfl) (Nat.le_of_ble_eq_true rfl) (Nat.le_of_ble_eq_true rfl)) ?_
            refine ww_iadd dX3_number_69 ?_
            refine ww_bipush dX3_number_70 (by decide) ?_
            refine ww_isub dX3_number_72 ?_
            refine cr_pi (cr_S (ct_X3_min hG _ _ (inI.mk (by decide) (by decide)) (inI.mk (by omega) (by omega))) ss_X3_114 rfl dX3_number_73 rfl rfl ⟨by decide, by decide⟩ (Nat.le_of_ble_eq_true rfl) (Nat.le_of_ble_eq_true rfl) (Nat.le_of_ble_eq_true rfl)) ?_
            refine ww_istore_n [(3, _), (0, _), (1, _), (2, _)] dX3_number_76 (by decide) rfl ?_
            refine ww_aload_n 1 dX3_number_77 rfl ?_
            refine ww_dup dX3_number_78 rfl ?_
            refine ww_getf gf_X3_68 rfl dX3_number_79 hM.obj rfl ?_
            rw [h4]
            refine ww_iconst dX3_number_82 ?_
            refine ww_iadd dX3_number_83 ?_
            refine mw_put pf_X3_68 rfl dX3_number_84 hM rfl (inI.mk (by omega) (by omega)) (fun hh hM => ?_)
            refine ww_goto 41 dX3_number_87 (by decide) ?_
            refine ww_sub [0, 1, 2, 3] rfl ?_
            have hxn : x ≠ n := fun e => by rw [e, hx.2.2.1 n (Int.le_refl _)] at c_52; omega
            exact ih (x + 1) _ _ _ hM (fun j a b => by rw [su_off a]; exact ho j a b) su_s (by rw [su_off (by decide)]; exact h12) (by omega) (by omega) (by omega) (by rw [hnu]; exact nu_t c_52 (by omega)) (by omega)
      refine ww_sub [0, 1, 2, 3] rfl ?_
      exact loop_41 801 (sk t p) 0 _ _ hM (fun j a b => by rw [su_off b, su_off a]) (by rw [su_off (by decide), su_s]) su_s (Int.le_refl _) (by omega) (by omega) rfl (by omega)
    · refine ww_aload_n 0 dX3_number_19 rfl ?_
      refine ww_bipush dX3_number_20 (by decide) ?_
      refine ww_aload_n 0 dX3_number_22 rfl ?_
      refine ww_getf gf_X3_68 rfl dX3_number_23 hM.obj rfl ?_
      rw [su_s]
      refine cr_sv hM (cr_V (ct_X3_report hG hM _ _ (inI.mk (by decide) (by decide)) (inI.mk (by omega) (by omega))) sv_X3_102 rfl dX3_number_26 hM.obj rfl rfl rfl rfl ⟨by decide, by decide⟩ (Nat.le_of_ble_eq_true rfl) (Nat.le_of_ble_eq_true rfl) (Nat.le_of_ble_eq_true rfl)) (fun σ_26 hh hM hp_26 => ?_)
      subst hp_26
      rw [if_pos (show su σ 4 0 0 (sk t p) 5 0 0 = 0 from hg)] at hM
      refine ww_iconst dX3_number_29 ?_
      exact ww_iret hQ dX3_number_30 rfl (Nat.le_of_ble_eq_true rfl) (Nat.le_of_ble_eq_true rfl) ⟨_, rfl, _, hM, fun j a b c d => by rw [su_off c, su_off b, su_off a], by omega, Or.inl ⟨-2, sk t p, by unfold pnum; rw [if_neg c_16], by decide, by rw [su_off (by decide), su_s], su_s⟩⟩
  · exact absurd hg c_4

set_option maxHeartbeats 4000000 in
theorem ct_X3_numberB {G : GT} {h0 h : AH} {m : Nat} {A : Nat → Nat} {B : Nat → Int → Nat} {D : Int → Int} {σ : MS} (hG : GOK G) (hM : MWF G h0 h m A B D σ) (hg : ¬ σ 5 0 0 = 0) (lo hi : Int) : CPi G (MX3_number 1 20 0 0) h [.ref m, .int (iI lo), .int (iI hi)] (0) := by
  refine CT.of rfl hG (Nat.le_of_ble_eq_true rfl) rfl (fun E hQ => ?_)
  have hM := hM.1.f
  refine ww_aload_n 0 dX3_number_0 rfl ?_
  refine cr_pi (cr_V (ct_X3_isGood hG hM) sv_X3_85 rfl dX3_number_1 hM.obj rfl rfl rfl rfl ⟨by decide, by decide⟩ (Nat.le_of_ble_eq_true rfl) (Nat.le_of_ble_eq_true rfl) (Nat.le_of_ble_eq_true rfl)) ?_
  refine ww_ifb_ne 9 dX3_number_4 (by decide) (fun c_4 => ?_) (fun c_4 => ?_)
  · exact absurd c_4 hg
  · refine ww_iconst dX3_number_7 ?_
    exact ww_iret hQ dX3_number_8 rfl (Nat.le_of_ble_eq_true rfl) (Nat.le_of_ble_eq_true rfl) ⟨_, rfl, rfl, rfl⟩

set_option maxHeartbeats 4000000 in
theorem ct_X3_emit {G : GT} {h0 h : AH} {m : Nat} {A : Nat → Nat} {B : Nat → Int → Nat} {D : Int → Int} {σ : MS} (hG : GOK G) (hM : MWF G h0 h m A B D σ) (hg : σ 5 0 0 = 0) (v : Int) (hv : inI v) (hc0 : 0 ≤ σ 9 0 5) (hc1 : σ 9 0 5 < 1299) : CSv G (MX3_emit 1 20 0 0) h m A B D [.ref m, .int (iI v)] (fun σ' => su (su σ 9 0 (198 + σ 9 0 5) v) 9 0 5 (σ 9 0 5 + 1) = σ') := by
  refine CT.of rfl hG (Nat.le_of_ble_eq_true rfl) rfl (fun E hQ => ?_)
  have hM := hM.1.f
  refine ww_aload_n 0 dX3_emit_0 rfl ?_
  refine cr_pi (cr_V (ct_X3_isGood hG hM) sv_X3_85 rfl dX3_emit_1 hM.obj rfl rfl rfl rfl ⟨by decide, by decide⟩ (Nat.le_of_ble_eq_true rfl) (Nat.le_of_ble_eq_true rfl) (Nat.le_of_ble_eq_true rfl)) ?_
  refine ww_ifb_ne 8 dX3_emit_4 (by decide) (fun c_4 => ?_) (fun c_4 => ?_)
  · refine ww_aload_n 0 dX3_emit_8 rfl ?_
    refine ww_getf gf_X3_20 rfl dX3_emit_9 hM.obj rfl ?_
    refine ww_sipush dX3_emit_12 (by decide) ?_
    refine ww_aload_n 0 dX3_emit_15 rfl ?_
    refine ww_getf gf_X3_20 rfl dX3_emit_16 hM.obj rfl ?_
    refine ww_iconst dX3_emit_19 ?_
    refine mw_ld dX3_emit_20 hM rfl (by omega) (by omega) ?_
    refine ww_iadd dX3_emit_21 ?_
    refine ww_iload_n 1 dX3_emit_22 rfl ?_
    refine mw_st dX3_emit_23 hM rfl (by omega) (by omega) (by first | exact hM.rd _ | exact hM.ri rfl _ _ | exact ⟨by omega, by omega⟩ | assumption | exact bI_in _ | exact inI.mk (by omega) (by omega)) (fun hh hM => ?_)
    refine ww_aload_n 0 dX3_emit_24 rfl ?_
    refine ww_getf gf_X3_20 rfl dX3_emit_25 hM.obj rfl ?_
    refine ww_iconst dX3_emit_28 ?_
    refine ww_dup2 dX3_emit_29 rfl rfl ?_
    refine mw_ld dX3_emit_30 hM rfl (by omega) (by omega) ?_
    rw [su_n (by omega)]
    refine ww_iconst dX3_emit_31 ?_
    refine ww_iadd dX3_emit_32 ?_
    refine mw_st dX3_emit_33 hM rfl (by omega) (by omega) (inI.mk (by omega) (by omega)) (fun hh hM => ?_)
    exact ww_vret hQ dX3_emit_34 rfl (Nat.le_of_ble_eq_true rfl) (Nat.le_of_ble_eq_true rfl) ⟨rfl, _, hM, rfl⟩
  · exact absurd hg c_4

set_option maxHeartbeats 4000000 in
theorem ct_X3_emitB {G : GT} {h0 h : AH} {m : Nat} {A : Nat → Nat} {B : Nat → Int → Nat} {D : Int → Int} {σ : MS} (hG : GOK G) (hM : MWF G h0 h m A B D σ) (hg : ¬ σ 5 0 0 = 0) (v : Int) : CPv G (MX3_emit 1 20 0 0) h [.ref m, .int (iI v)]  := by
  refine CT.of rfl hG (Nat.le_of_ble_eq_true rfl) rfl (fun E hQ => ?_)
  have hM := hM.1.f
  refine ww_aload_n 0 dX3_emit_0 rfl ?_
  refine cr_pi (cr_V (ct_X3_isGood hG hM) sv_X3_85 rfl dX3_emit_1 hM.obj rfl rfl rfl rfl ⟨by decide, by decide⟩ (Nat.le_of_ble_eq_true rfl) (Nat.le_of_ble_eq_true rfl) (Nat.le_of_ble_eq_true rfl)) ?_
  refine ww_ifb_ne 8 dX3_emit_4 (by decide) (fun c_4 => ?_) (fun c_4 => ?_)
  · exact absurd c_4 hg
  · exact ww_vret hQ dX3_emit_7 rfl (Nat.le_of_ble_eq_true rfl) (Nat.le_of_ble_eq_true rfl) ⟨rfl, rfl⟩

set_option maxHeartbeats 4000000 in
theorem ct_X3_once {G : GT} {h0 h : AH} {m : Nat} {A : Nat → Nat} {B : Nat → Int → Nat} {D : Int → Int} {σ : MS} (hG : GOK G) (hM : MWF G h0 h m A B D σ) (hg : σ 5 0 0 = 0) (b sn : Nat) (s : Int) (hs : inI s) (hb : b < 2) (hsn : sn < 4) (hse : σ 14 0 0 = (sn : Int)) : CSv G (MX3_once 1 22 0 0) h m A B D [.ref m, .int (iI (b : Int)), .int (iI s)] (fun σ' => (∀ j, j ≠ 5 → j ≠ 6 → j ≠ 14 → σ' j = σ j) ∧ σ' 14 0 0 = ((sn ||| 1 * 2 ^ b : Nat) : Int) ∧ ((sn / 2 ^ b % 2 = 1 ∧ σ' 5 0 0 = -2 ∧ σ' 6 0 0 = s) ∨ (¬ sn / 2 ^ b % 2 = 1 ∧ σ' 5 = σ 5 ∧ σ' 6 = σ 6))) := by
  refine CT.of rfl hG (Nat.le_of_ble_eq_true rfl) rfl (fun E hQ => ?_)
  have hM := hM.1.f
  have hpw : 1 * 2 ^ b < 4 := by rcases (show b = 0 ∨ b = 1 by omega) with rfl | rfl <;> decide
  have hor : sn ||| 1 * 2 ^ b < 4 := Nat.or_lt_two_pow (n := 2) hsn hpw
  refine ww_aload_n 0 dX3_once_0 rfl ?_
  refine ww_getf gf_X3_152 rfl dX3_once_1 hM.obj rfl ?_
  rw [hse]
  refine ww_iload_n 1 dX3_once_4 rfl ?_
  refine ww_ishr dX3_once_5 (by omega) (by omega) ?_
  refine ww_iconst dX3_once_6 ?_
  refine ww_iand (m := 0) dX3_once_7 1 (by decide) (Nat.lt_of_le_of_lt (Nat.div_le_self _ _) (by omega)) ?_
  refine ww_iconst dX3_once_8 ?_
  refine ww_icmp_ne 19 dX3_once_9 (by decide) (inI.mk (by omega) (by omega)) (inI.mk (by omega) (by omega)) (fun c_9 => ?_) (fun c_9 => ?_)
  · refine ww_aload_n 0 dX3_once_19 rfl ?_
    refine ww_dup dX3_once_20 rfl ?_
    refine ww_getf gf_X3_152 rfl dX3_once_21 hM.obj rfl ?_
    first | rw [su_off (by decide), su_off (by decide), hse] | rw [hse]
    refine ww_iconst dX3_once_24 ?_
    refine ww_iload_n 1 dX3_once_25 rfl ?_
    refine ww_ishl (a := 1) dX3_once_26 (by omega) (by omega) ?_
    refine ww_ior dX3_once_27 ?_
    refine mw_put pf_X3_152 rfl dX3_once_28 hM rfl (inI.mk (by omega) (by omega)) (fun hh hM => ?_)
    exact ww_vret hQ dX3_once_31 rfl (Nat.le_of_ble_eq_true rfl) (Nat.le_of_ble_eq_true rfl) (by first | exact ⟨rfl, _, hM, fun j a b c => by rw [su_off c, su_off b, su_off a], su_s, Or.inl ⟨by omega, by rw [su_off (by decide), su_off (by decide), su_s], by rw [su_off (by decide), su_s]⟩⟩ | exact ⟨rfl, _, hM, fun j a b c => by rw [su_off c], su_s, Or.inr ⟨by omega, by rw [su_off (by decide)], by rw [su_off (by decide)]⟩⟩)
  · refine ww_aload_n 0 dX3_once_12 rfl ?_
    refine ww_bipush dX3_once_13 (by decide) ?_
    refine ww_iload_n 2 dX3_once_15 rfl ?_
    refine cr_sv hM (cr_V (ct_X3_report hG hM _ _ (inI.mk (by decide) (by decide)) hs) sv_X3_102 rfl dX3_once_16 hM.obj rfl rfl rfl rfl ⟨by decide, by decide⟩ (Nat.le_of_ble_eq_true rfl) (Nat.le_of_ble_eq_true rfl) (Nat.le_of_ble_eq_true rfl)) (fun σ_16 hh hM hp_16 => ?_)
    subst hp_16
    rw [if_pos hg] at hM
    refine ww_aload_n 0 dX3_once_19 rfl ?_
    refine ww_dup dX3_once_20 rfl ?_
    refine ww_getf gf_X3_152 rfl dX3_once_21 hM.obj rfl ?_
    first | rw [su_off (by decide), su_off (by decide), hse] | rw [hse]
    refine ww_iconst dX3_once_24 ?_
    refine ww_iload_n 1 dX3_once_25 rfl ?_
    refine ww_ishl (a := 1) dX3_once_26 (by omega) (by omega) ?_
    refine ww_ior dX3_once_27 ?_
    refine mw_put pf_X3_152 rfl dX3_once_28 hM rfl (inI.mk (by omega) (by omega)) (fun hh hM => ?_)
    exact ww_vret hQ dX3_once_31 rfl (Nat.le_of_ble_eq_true rfl) (Nat.le_of_ble_eq_true rfl) (by first | exact ⟨rfl, _, hM, fun j a b c => by rw [su_off c, su_off b, su_off a], su_s, Or.inl ⟨by omega, by rw [su_off (by decide), su_off (by decide), su_s], by rw [su_off (by decide), su_s]⟩⟩ | exact ⟨rfl, _, hM, fun j a b c => by rw [su_off c], su_s, Or.inr ⟨by omega, by rw [su_off (by decide)], by rw [su_off (by decide)]⟩⟩)

set_option maxHeartbeats 4000000 in
theorem ct_X3_readWord {G : GT} {h0 h : AH} {m : Nat} {A : Nat → Nat} {B : Nat → Int → Nat} {D : Int → Int} {σ : MS} (hG : GOK G) (hM : MWF G h0 h m A B D σ) {t : Int → Int} {n : Int} (hT : TX σ t n) (p : Int) (hp : σ 4 0 0 = p) (hp0 : 0 ≤ p) (hp1 : p ≤ n) (hg : σ 5 0 0 = 0) : CSl G (MX3_readWord 2 41 0 0) h m A B D [.ref m] (fun r σ' => (∀ j, j ≠ 4 → j ≠ 5 → j ≠ 6 → j ≠ 17 → σ' j = σ j) ∧ σ' 17 0 0 = sk t p ∧ (0 ≤ r ∧ r ≤ 1000000000000) ∧ ((∃ c o, ptw t p = .error (c, o) ∧ c ≠ 0 ∧ σ' 5 0 0 = c ∧ σ' 6 0 0 = o) ∨ (∃ w s e, ptw t p = .ok (w, s, e) ∧ σ' 5 0 0 = 0 ∧ σ' 4 0 0 = e ∧ r = wn w ∧ s = sk t p ∧ p ≤ e ∧ e ≤ n ∧ Wd w ∧ 1 ≤ w.length ∧ w.length ≤ 8 ∧ σ' 6 = σ 6))) := by
  refine CT.of rfl hG (Nat.le_of_ble_eq_true rfl) rfl (fun E hQ => ?_)
  have hM := hM.1.f
  have hx := hT.1
  have hn8 := hx.2.1
  have hT0 := hT
  refine ww_aload_n 0 dX3_readWord_0 rfl ?_
  refine cr_pi (cr_V (ct_X3_isGood hG hM) sv_X3_85 rfl dX3_readWord_1 hM.obj rfl rfl rfl rfl ⟨by decide, by decide⟩ (Nat.le_of_ble_eq_true rfl) (Nat.le_of_ble_eq_true rfl) (Nat.le_of_ble_eq_true rfl)) ?_
  refine ww_ifb_ne 9 dX3_readWord_4 (by decide) (fun c_4 => ?_) (fun c_4 => ?_)
  · refine ww_aload_n 0 dX3_readWord_9 rfl ?_
    refine cr_si hM (cr_V (ct_X3_next hG hM hT _ (by first | exact hp | exact su_s | rfl) (by omega) (by omega)) sv_X3_89 rfl dX3_readWord_10 hM.obj rfl rfl rfl rfl ⟨by decide, by decide⟩ (Nat.le_of_ble_eq_true rfl) (Nat.le_of_ble_eq_true rfl) (Nat.le_of_ble_eq_true rfl)) (fun r_10 σ_10 hh hM hp_10 => ?_)
    obtain ⟨rfl, rfl⟩ := hp_10
    try rw [su_su] at hM
    have hk := hx.k1 hp1
    have hT := hT.mv hM (by decide) (by decide)
    refine ww_pop dX3_readWord_13 rfl ?_
    refine ww_aload_n 0 dX3_readWord_14 rfl ?_
    refine ww_aload_n 0 dX3_readWord_15 rfl ?_
    refine ww_getf gf_X3_68 rfl dX3_readWord_16 hM.obj rfl ?_
    rw [su_s]
    refine mw_put pf_X3_155 rfl dX3_readWord_19 hM rfl (inI.mk (by omega) (by omega)) (fun hh hM => ?_)
    refine ww_lconst 0 dX3_readWord_22 rfl ?_
    refine ww_lstore_n [(1, _), (0, _)] dX3_readWord_23 (by decide) rfl ?_
    have loop_24 : ∀ (f : Nat) (x v : Int) (τ : MS) (hx1 : AH), (MWF G h hx1 m A B D τ) → (∀ j, j ≠ 4 → j ≠ 17 → τ j = σ j) → (τ 4 0 0 = x) → (τ 17 0 0 = sk t p) → (sk t p ≤ x) → (x ≤ n) → (we t (sk t p) = we t x) → (x ≤ we t (sk t p)) → (v = wn (wd t (sk t p) (min x (sk t p + 8)))) → (n - x < f) → WW G E (MX3_readWord 2 41 0 0) hx1 0 0 24 [(1, .long (lI v)), (0, .ref m)] [] := by
      intro f
      induction f with
      | zero => intro x v τ hx1 hM ho h4 h17 hx0 hx2 hwe hle hv hf; exact absurd hf (by omega)
      | succ f ih =>
        intro x v τ hx1 hM ho h4 h17 hx0 hx2 hwe hle hv hf
        have hT := hT0.of (ho 1 (by decide) (by decide)) (ho 3 (by decide) (by decide))
        have hrx := hx.rg (q := x) (by omega)
        have hwb := wn_bd (l := wd t (sk t p) (min x (sk t p + 8))) (fun c hc => by unfold wd lsI at hc; obtain ⟨i, hi, rfl⟩ := List.mem_map.mp hc; have := List.mem_range.mp hi; exact we_in (p := sk t p) (by omega) (by omega))
        have hwl : (wd t (sk t p) (min x (sk t p + 8))).length ≤ 8 := by rw [wd_len]; omega
        have hwp : (27 : Int) ^ (wd t (sk t p) (min x (sk t p + 8))).length ≤ 27 ^ 8 := by exact_mod_cast Nat.pow_le_pow_right (n := 27) (by decide) hwl
        have hw8 : (27 : Int) ^ 8 = 282429536481 := by decide
        refine ww_aload_n 1 dX3_readWord_24 rfl ?_
        refine ww_aload_n 1 dX3_readWord_25 rfl ?_
        refine ww_getf gf_X3_68 rfl dX3_readWord_26 hM.obj rfl ?_
        rw [h4]
        refine cr_pi (cr_V (ct_by hG hM hT _ (by omega) (by omega)) sv_X3_71 rfl dX3_readWord_29 hM.obj rfl rfl rfl rfl ⟨by decide, by decide⟩ (Nat.le_of_ble_eq_true rfl) (Nat.le_of_ble_eq_true rfl) (Nat.le_of_ble_eq_true rfl)) ?_
        refine ww_bipush dX3_readWord_32 (by decide) ?_
        refine ww_bipush dX3_readWord_34 (by decide) ?_
        refine cr_pi (cr_S (ct_X3_in hG _ _ _ (inI.mk (by omega) (by omega)) (inI.mk (by decide) (by decide)) (inI.mk (by decide) (by decide))) ss_X3_81 rfl dX3_readWord_36 rfl rfl ⟨by decide, by decide⟩ (Nat.le_of_ble_eq_true rfl) (Nat.le_of_ble_eq_true rfl) (Nat.le_of_ble_eq_true rfl)) ?_
        refine ww_ifb_eq 95 dX3_readWord_39 (by decide) (fun c_39 => ?_) (fun c_39 => ?_)
        · have hwex : we t (sk t p) = x := by rw [hwe]; exact sc_f (by unfold isLt; exact decide_eq_false c_39)
          refine ww_aload_n 1 dX3_readWord_95 rfl ?_
          refine ww_getf gf_X3_68 rfl dX3_readWord_96 hM.obj rfl ?_
          rw [h4]
          refine ww_aload_n 1 dX3_readWord_99 rfl ?_
          refine ww_getf gf_X3_155 rfl dX3_readWord_100 hM.obj rfl ?_
          rw [h17]
          refine ww_icmp_eq 120 dX3_readWord_103 (by decide) (inI.mk (by omega) (by omega)) (inI.mk (by omega) (by omega)) (fun c_103 => ?_) (fun c_103 => ?_)
          · refine ww_aload_n 1 dX3_readWord_120 rfl ?_
            refine ww_bipush dX3_readWord_121 (by decide) ?_
            refine ww_aload_n 1 dX3_readWord_123 rfl ?_
            refine ww_getf gf_X3_155 rfl dX3_readWord_124 hM.obj rfl ?_
            rw [h17]
            refine cr_sv hM (cr_V (ct_X3_report hG hM _ _ (inI.mk (by decide) (by decide)) (inI.mk (by omega) (by omega))) sv_X3_102 rfl dX3_readWord_127 hM.obj rfl rfl rfl rfl ⟨by decide, by decide⟩ (Nat.le_of_ble_eq_true rfl) (Nat.le_of_ble_eq_true rfl) (Nat.le_of_ble_eq_true rfl)) (fun σ_127 hh hM hp_127 => ?_)
            subst hp_127
            rw [if_pos (show τ 5 0 0 = 0 by rw [ho 5 (by decide) (by decide)]; exact hg)] at hM
            refine ww_aload_n 1 dX3_readWord_130 rfl ?_
            refine cr_pi (cr_V (ct_X3_isGood hG hM) sv_X3_85 rfl dX3_readWord_131 hM.obj rfl rfl rfl rfl ⟨by decide, by decide⟩ (Nat.le_of_ble_eq_true rfl) (Nat.le_of_ble_eq_true rfl) (Nat.le_of_ble_eq_true rfl)) ?_
            refine ww_ifb_eq 141 dX3_readWord_134 (by decide) (fun c_134 => ?_) (fun c_134 => ?_)
            · refine ww_lconst 0 dX3_readWord_141 rfl ?_
              exact ww_lret hQ dX3_readWord_142 rfl (Nat.le_of_ble_eq_true rfl) (Nat.le_of_ble_eq_true rfl) (by first | exact ⟨_, rfl, _, hM, fun j a b c d => by rw [su_off c, su_off b]; exact ho j a d, by rw [su_off (by decide), su_off (by decide)]; exact h17, by omega, Or.inl ⟨-2, sk t p, by unfold ptw; rw [if_neg (by omega)], by decide, by rw [su_off (by decide), su_s], su_s⟩⟩ | exact ⟨_, rfl, _, hM, fun j a b c d => ho j a d, h17, by omega, Or.inr ⟨_, _, _, by unfold ptw; rw [if_pos (by omega)], by rw [ho 5 (by decide) (by decide)]; exact hg, by rw [h4, hwex], by rw [hv, hwex, show min x (sk t p + 8) = x by omega], rfl, by omega, by omega, wd_wd, by rw [wd_len]; omega, by rw [wd_len]; omega, ho 6 (by decide) (by decide)⟩⟩ | (exfalso; first | exact c_134 (by rw [ho 5 (by decide) (by decide)]; exact hg) | (rw [su_off (by decide), su_s] at c_134; omega)))
            · refine ww_lload_n 0 dX3_readWord_137 rfl ?_
              refine ww_goto 142 dX3_readWord_138 (by decide) ?_
              exact ww_lret hQ dX3_readWord_142 rfl (Nat.le_of_ble_eq_true rfl) (Nat.le_of_ble_eq_true rfl) (by first | exact ⟨_, rfl, _, hM, fun j a b c d => by rw [su_off c, su_off b]; exact ho j a d, by rw [su_off (by decide), su_off (by decide)]; exact h17, by omega, Or.inl ⟨-2, sk t p, by unfold ptw; rw [if_neg (by omega)], by decide, by rw [su_off (by decide), su_s], su_s⟩⟩ | exact ⟨_, rfl, _, hM, fun j a b c d => ho j a d, h17, by omega, Or.inr ⟨_, _, _, by unfold ptw; rw [if_pos (by omega)], by rw [ho 5 (by decide) (by decide)]; exact hg, by rw [h4, hwex], by rw [hv, hwex, show min x (sk t p + 8) = x by omega], rfl, by omega, by omega, wd_wd, by rw [wd_len]; omega, by rw [wd_len]; omega, ho 6 (by decide) (by decide)⟩⟩ | (exfalso; first | exact c_134 (by rw [ho 5 (by decide) (by decide)]; exact hg) | (rw [su_off (by decide), su_s] at c_134; omega)))
          · refine ww_aload_n 1 dX3_readWord_106 rfl ?_
            refine ww_getf gf_X3_68 rfl dX3_readWord_107 hM.obj rfl ?_
            rw [h4]
            refine ww_aload_n 1 dX3_readWord_110 rfl ?_
            refine ww_getf gf_X3_155 rfl dX3_readWord_111 hM.obj rfl ?_
            rw [h17]
            refine ww_isub dX3_readWord_114 ?_
            refine ww_bipush dX3_readWord_115 (by decide) ?_
            refine ww_icmp_le 130 dX3_readWord_117 (by decide) (inI.mk (by omega) (by omega)) (inI.mk (by omega) (by omega)) (fun c_117 => ?_) (fun c_117 => ?_)
            · refine ww_aload_n 1 dX3_readWord_130 rfl ?_
              refine cr_pi (cr_V (ct_X3_isGood hG hM) sv_X3_85 rfl dX3_readWord_131 hM.obj rfl rfl rfl rfl ⟨by decide, by decide⟩ (Nat.le_of_ble_eq_true rfl) (Nat.le_of_ble_eq_true rfl) (Nat.le_of_ble_eq_true rfl)) ?_
              refine ww_ifb_eq 141 dX3_readWord_134 (by decide) (fun c_134 => ?_) (fun c_134 => ?_)
              · refine ww_lconst 0 dX3_readWord_141 rfl ?_
                exact ww_lret hQ dX3_readWord_142 rfl (Nat.le_of_ble_eq_true rfl) (Nat.le_of_ble_eq_true rfl) (by first | exact ⟨_, rfl, _, hM, fun j a b c d => by rw [su_off c, su_off b]; exact ho j a d, by rw [su_off (by decide), su_off (by decide)]; exact h17, by omega, Or.inl ⟨-2, sk t p, by unfold ptw; rw [if_neg (by omega)], by decide, by rw [su_off (by decide), su_s], su_s⟩⟩ | exact ⟨_, rfl, _, hM, fun j a b c d => ho j a d, h17, by omega, Or.inr ⟨_, _, _, by unfold ptw; rw [if_pos (by omega)], by rw [ho 5 (by decide) (by decide)]; exact hg, by rw [h4, hwex], by rw [hv, hwex, show min x (sk t p + 8) = x by omega], rfl, by omega, by omega, wd_wd, by rw [wd_len]; omega, by rw [wd_len]; omega, ho 6 (by decide) (by decide)⟩⟩ | (exfalso; first | exact c_134 (by rw [ho 5 (by decide) (by decide)]; exact hg) | (rw [su_off (by decide), su_s] at c_134; omega)))
              · refine ww_lload_n 0 dX3_readWord_137 rfl ?_
                refine ww_goto 142 dX3_readWord_138 (by decide) ?_
                exact ww_lret hQ dX3_readWord_142 rfl (Nat.le_of_ble_eq_true rfl) (Nat.le_of_ble_eq_true rfl) (by first | exact ⟨_, rfl, _, hM, fun j a b c d => by rw [su_off c, su_off b]; exact ho j a d, by rw [su_off (by decide), su_off (by decide)]; exact h17, by omega, Or.inl ⟨-2, sk t p, by unfold ptw; rw [if_neg (by omega)], by decide, by rw [su_off (by decide), su_s], su_s⟩⟩ | exact ⟨_, rfl, _, hM, fun j a b c d => ho j a d, h17, by omega, Or.inr ⟨_, _, _, by unfold ptw; rw [if_pos (by omega)], by rw [ho 5 (by decide) (by decide)]; exact hg, by rw [h4, hwex], by rw [hv, hwex, show min x (sk t p + 8) = x by omega], rfl, by omega, by omega, wd_wd, by rw [wd_len]; omega, by rw [wd_len]; omega, ho 6 (by decide) (by decide)⟩⟩ | (exfalso; first | exact c_134 (by rw [ho 5 (by decide) (by decide)]; exact hg) | (rw [su_off (by decide), su_s] at c_134; omega)))
            · refine ww_aload_n 1 dX3_readWord_120 rfl ?_
              refine ww_bipush dX3_readWord_121 (by decide) ?_
              refine ww_aload_n 1 dX3_readWord_123 rfl ?_
              refine ww_getf gf_X3_155 rfl dX3_readWord_124 hM.obj rfl ?_
              rw [h17]
              refine cr_sv hM (cr_V (ct_X3_report hG hM _ _ (inI.mk (by decide) (by decide)) (inI.mk (by omega) (by omega))) sv_X3_102 rfl dX3_readWord_127 hM.obj rfl rfl rfl rfl ⟨by decide, by decide⟩ (Nat.le_of_ble_eq_true rfl) (Nat.le_of_ble_eq_true rfl) (Nat.le_of_ble_eq_true rfl)) (fun σ_127 hh hM hp_127 => ?_)
              subst hp_127
              rw [if_pos (show τ 5 0 0 = 0 by rw [ho 5 (by decide) (by decide)]; exact hg)] at hM
              refine ww_aload_n 1 dX3_readWord_130 rfl ?_
              refine cr_pi (cr_V (ct_X3_isGood hG hM) sv_X3_85 rfl dX3_readWord_131 hM.obj rfl rfl rfl rfl ⟨by decide, by decide⟩ (Nat.le_of_ble_eq_true rfl) (Nat.le_of_ble_eq_true rfl) (Nat.le_of_ble_eq_true rfl)) ?_
              refine ww_ifb_eq 141 dX3_readWord_134 (by decide) (fun c_134 => ?_) (fun c_134 => ?_)
              · refine ww_lconst 0 dX3_readWord_141 rfl ?_
                exact ww_lret hQ dX3_readWord_142 rfl (Nat.le_of_ble_eq_true rfl) (Nat.le_of_ble_eq_true rfl) (by first | exact ⟨_, rfl, _, hM, fun j a b c d => by rw [su_off c, su_off b]; exact ho j a d, by rw [su_off (by decide), su_off (by decide)]; exact h17, by omega, Or.inl ⟨-2, sk t p, by unfold ptw; rw [if_neg (by omega)], by decide, by rw [su_off (by decide), su_s], su_s⟩⟩ | exact ⟨_, rfl, _, hM, fun j a b c d => ho j a d, h17, by omega, Or.inr ⟨_, _, _, by unfold ptw; rw [if_pos (by omega)], by rw [ho 5 (by decide) (by decide)]; exact hg, by rw [h4, hwex], by rw [hv, hwex, show min x (sk t p + 8) = x by omega], rfl, by omega, by omega, wd_wd, by rw [wd_len]; omega, by rw [wd_len]; omega, ho 6 (by decide) (by decide)⟩⟩ | (exfalso; first | exact c_134 (by rw [ho 5 (by decide) (by decide)]; exact hg) | (rw [su_off (by decide), su_s] at c_134; omega)))
              · refine ww_lload_n 0 dX3_readWord_137 rfl ?_
                refine ww_goto 142 dX3_readWord_138 (by decide) ?_
                exact ww_lret hQ dX3_readWord_142 rfl (Nat.le_of_ble_eq_true rfl) (Nat.le_of_ble_eq_true rfl) (by first | exact ⟨_, rfl, _, hM, fun j a b c d => by rw [su_off c, su_off b]; exact ho j a d, by rw [su_off (by decide), su_off (by decide)]; exact h17, by omega, Or.inl ⟨-2, sk t p, by unfold ptw; rw [if_neg (by omega)], by decide, by rw [su_off (by decide), su_s], su_s⟩⟩ | exact ⟨_, rfl, _, hM, fun j a b c d => ho j a d, h17, by omega, Or.inr ⟨_, _, _, by unfold ptw; rw [if_pos (by omega)], by rw [ho 5 (by decide) (by decide)]; exact hg, by rw [h4, hwex], by rw [hv, hwex, show min x (sk t p + 8) = x by omega], rfl, by omega, by omega, wd_wd, by rw [wd_len]; omega, by rw [wd_len]; omega, ho 6 (by decide) (by decide)⟩⟩ | (exfalso; first | exact c_134 (by rw [ho 5 (by decide) (by decide)]; exact hg) | (rw [su_off (by decide), su_s] at c_134; omega)))
        · refine ww_aload_n 1 dX3_readWord_42 rfl ?_
          refine ww_getf gf_X3_68 rfl dX3_readWord_43 hM.obj rfl ?_
          rw [h4]
          refine ww_aload_n 1 dX3_readWord_46 rfl ?_
          refine ww_getf gf_X3_155 rfl dX3_readWord_47 hM.obj rfl ?_
          rw [h17]
          refine ww_isub dX3_readWord_50 ?_
          refine ww_bipush dX3_readWord_51 (by decide) ?_
          refine ww_icmp_ge 80 dX3_readWord_53 (by decide) (inI.mk (by omega) (by omega)) (inI.mk (by omega) (by omega)) (fun c_53 => ?_) (fun c_53 => ?_)
          · refine ww_lload_n 0 dX3_readWord_80 rfl ?_
            refine ww_lstore_n [(1, _), (0, _)] dX3_readWord_81 (by decide) rfl ?_
            refine ww_aload_n 1 dX3_readWord_82 rfl ?_
            refine ww_dup dX3_readWord_83 rfl ?_
            refine ww_getf gf_X3_68 rfl dX3_readWord_84 hM.obj rfl ?_
            rw [h4]
            refine ww_iconst dX3_readWord_87 ?_
            refine ww_iadd dX3_readWord_88 ?_
            refine mw_put pf_X3_68 rfl dX3_readWord_89 hM rfl (inI.mk (by omega) (by omega)) (fun hh hM => ?_)
            refine ww_goto 24 dX3_readWord_92 (by decide) ?_
            refine ww_sub [0, 1] rfl ?_
            have hxn : x ≠ n := fun e => by rw [e, hx.2.2.1 n (Int.le_refl _)] at c_39; omega
            have hwx : we t x = we t (x + 1) := sc_t (by unfold isLt; exact decide_eq_true c_39) (by omega)
            have hge : x + 1 ≤ we t (x + 1) := sc_ge
            exact ih (x + 1) _ _ _ hM (fun j a b => by rw [su_off a]; exact ho j a b) su_s (by rw [su_off (by decide)]; exact h17) (by omega) (by omega) (by rw [hwe, hwx]) (by omega) (by first | (rw [show min (x + 1) (sk t p + 8) = min x (sk t p + 8) by omega]; exact hv) | (rw [hv, show min x (sk t p + 8) = x by omega, show min (x + 1) (sk t p + 8) = x + 1 by omega, wd_snoc hx0, wn_snoc])) (by omega)
          · refine ww_ldc2 q2184 dX3_readWord_56 (z := 27) rfl ?_
            refine ww_lload_n 0 dX3_readWord_59 rfl ?_
            refine ww_lmul dX3_readWord_60 ?_
            refine ww_aload_n 1 dX3_readWord_61 rfl ?_
            refine ww_aload_n 1 dX3_readWord_62 rfl ?_
            refine ww_getf gf_X3_68 rfl dX3_readWord_63 hM.obj rfl ?_
            rw [h4]
            refine cr_pi (cr_V (ct_by hG hM hT _ (by omega) (by omega)) sv_X3_71 rfl dX3_readWord_66 hM.obj rfl rfl rfl rfl ⟨by decide, by decide⟩ (Nat.le_of_ble_eq_true rfl) (Nat.le_of_ble_eq_true rfl) (Nat.le_of_ble_eq_true rfl)) ?_
            refine ww_i2l dX3_readWord_69 (inI.mk (by omega) (by omega)) ?_
            refine ww_ladd dX3_readWord_70 ?_
            refine ww_ldc2 q2185 dX3_readWord_71 (z := 97) rfl ?_
            refine ww_lsub dX3_readWord_74 ?_
            refine ww_lconst 1 dX3_readWord_75 rfl ?_
            refine ww_ladd dX3_readWord_76 ?_
            refine ww_goto 81 dX3_readWord_77 (by decide) ?_
            refine ww_lstore_n [(1, _), (0, _)] dX3_readWord_81 (by decide) rfl ?_
            refine ww_aload_n 1 dX3_readWord_82 rfl ?_
            refine ww_dup dX3_readWord_83 rfl ?_
            refine ww_getf gf_X3_68 rfl dX3_readWord_84 hM.obj rfl ?_
            rw [h4]
            refine ww_iconst dX3_readWord_87 ?_
            refine ww_iadd dX3_readWord_88 ?_
            refine mw_put pf_X3_68 rfl dX3_readWord_89 hM rfl (inI.mk (by omega) (by omega)) (fun hh hM => ?_)
            refine ww_goto 24 dX3_readWord_92 (by decide) ?_
            refine ww_sub [0, 1] rfl ?_
            have hxn : x ≠ n := fun e => by rw [e, hx.2.2.1 n (Int.le_refl _)] at c_39; omega
            have hwx : we t x = we t (x + 1) := sc_t (by unfold isLt; exact decide_eq_true c_39) (by omega)
            have hge : x + 1 ≤ we t (x + 1) := sc_ge
            exact ih (x + 1) _ _ _ hM (fun j a b => by rw [su_off a]; exact ho j a b) su_s (by rw [su_off (by decide)]; exact h17) (by omega) (by omega) (by rw [hwe, hwx]) (by omega) (by first | (rw [show min (x + 1) (sk t p + 8) = min x (sk t p + 8) by omega]; exact hv) | (rw [hv, show min x (sk t p + 8) = x by omega, show min (x + 1) (sk t p + 8) = x + 1 by omega, wd_snoc hx0, wn_snoc])) (by omega)
    refine ww_sub [0, 1] rfl ?_
    exact loop_24 801 (sk t p) 0 _ _ hM (fun j a b => by rw [su_off b, su_off a]) (by rw [su_off (by decide), su_s]) su_s (Int.le_refl _) (by omega) rfl sc_ge (by rw [show min (sk t p) (sk t p + 8) = sk t p by omega]; unfold wd lsI; simp; rfl) (by omega)
  · exact absurd hg c_4

set_option maxHeartbeats 4000000 in
theorem ct_X3_readWordB {G : GT} {h0 h : AH} {m : Nat} {A : Nat → Nat} {B : Nat → Int → Nat} {D : Int → Int} {σ : MS} (hG : GOK G) (hM : MWF G h0 h m A B D σ) (hg : ¬ σ 5 0 0 = 0) : CPl G (MX3_readWord 1 20 0 0) h [.ref m] (0) := by
  refine CT.of rfl hG (Nat.le_of_ble_eq_true rfl) rfl (fun E hQ => ?_)
  have hM := hM.1.f
  refine ww_aload_n 0 dX3_readWord_0 rfl ?_
  refine cr_pi (cr_V (ct_X3_isGood hG hM) sv_X3_85 rfl dX3_readWord_1 hM.obj rfl rfl rfl rfl ⟨by decide, by decide⟩ (Nat.le_of_ble_eq_true rfl) (Nat.le_of_ble_eq_true rfl) (Nat.le_of_ble_eq_true rfl)) ?_
  refine ww_ifb_ne 9 dX3_readWord_4 (by decide) (fun c_4 => ?_) (fun c_4 => ?_)
  · exact absurd c_4 hg
  · refine ww_lconst 0 dX3_readWord_7 rfl ?_
    exact ww_lret hQ dX3_readWord_8 rfl (Nat.le_of_ble_eq_true rfl) (Nat.le_of_ble_eq_true rfl) ⟨_, rfl, rfl, rfl⟩
