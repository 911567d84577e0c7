set_option maxRecDepth 100000
set_option maxHeartbeats 4000000 in
theorem ct_X3_at {G : GT} {h : AH} (hG : GOK G) (k : Int) : CPi G (MX3_at 0 0 0 0) h [.int (iI k)] (6 + 24 * k) := by
  refine CT.of rfl hG (Nat.le_of_ble_eq_true rfl) rfl (fun E hQ => ?_)
  refine ww_bipush dX3_at_0 (by decide) ?_
  refine ww_bipush dX3_at_2 (by decide) ?_
  refine ww_iload_n 0 dX3_at_4 rfl ?_
  refine ww_imul dX3_at_5 ?_
  refine ww_iadd dX3_at_6 ?_
  exact ww_iret hQ dX3_at_7 rfl (Nat.le_of_ble_eq_true rfl) (Nat.le_of_ble_eq_true rfl) ⟨_, rfl, rfl, rfl⟩

set_option maxHeartbeats 4000000 in
theorem ct_X3_in {G : GT} {h : AH} (hG : GOK G) (v a b : Int) (hv : inI v) (ha : inI a) (hb : inI b) : CPi G (MX3_in 0 0 0 0) h [.int (iI v), .int (iI a), .int (iI b)] (bI (a ≤ v ∧ v ≤ b)) := by
  refine CT.of rfl hG (Nat.le_of_ble_eq_true rfl) rfl (fun E hQ => ?_)
  refine ww_iload_n 0 dX3_in_0 rfl ?_
  refine ww_iload_n 1 dX3_in_1 rfl ?_
  refine ww_icmp_lt 14 dX3_in_2 (by decide) (by first | exact hM.rd _ | exact hM.ri rfl _ _ | exact ⟨by omega, by omega⟩ | assumption | exact bI_in _ | exact inI.mk (by omega) (by omega)) (by first | exact hM.rd _ | exact hM.ri rfl _ _ | exact ⟨by omega, by omega⟩ | assumption | exact bI_in _ | exact inI.mk (by omega) (by omega)) (fun c_2 => ?_) (fun c_2 => ?_)
  · refine ww_iconst dX3_in_14 ?_
    exact ww_zret hQ dX3_in_15 rfl (Nat.le_of_ble_eq_true rfl) (Nat.le_of_ble_eq_true rfl) (by first | exact Or.inl rfl | exact Or.inr rfl | (unfold bI; split <;> simp)) ⟨_, rfl, by first | exact (bI_t (by first | assumption | omega)).symm | exact (bI_f (by first | assumption | omega)).symm, rfl⟩
  · refine ww_iload_n 0 dX3_in_5 rfl ?_
    refine ww_iload_n 2 dX3_in_6 rfl ?_
    refine ww_icmp_gt 14 dX3_in_7 (by decide) (by first | exact hM.rd _ | exact hM.ri rfl _ _ | exact ⟨by omega, by omega⟩ | assumption | exact bI_in _ | exact inI.mk (by omega) (by omega)) (by first | exact hM.rd _ | exact hM.ri rfl _ _ | exact ⟨by omega, by omega⟩ | assumption | exact bI_in _ | exact inI.mk (by omega) (by omega)) (fun c_7 => ?_) (fun c_7 => ?_)
    · refine ww_iconst dX3_in_14 ?_
      exact ww_zret hQ dX3_in_15 rfl (Nat.le_of_ble_eq_true rfl) (Nat.le_of_ble_eq_true rfl) (by first | exact Or.inl rfl | exact Or.inr rfl | (unfold bI; split <;> simp)) ⟨_, rfl, by first | exact (bI_t (by first | assumption | omega)).symm | exact (bI_f (by first | assumption | omega)).symm, rfl⟩
    · refine ww_iconst dX3_in_10 ?_
      refine ww_goto 15 dX3_in_11 (by decide) ?_
      exact ww_zret hQ dX3_in_15 rfl (Nat.le_of_ble_eq_true rfl) (Nat.le_of_ble_eq_true rfl) (by first | exact Or.inl rfl | exact Or.inr rfl | (unfold bI; split <;> simp)) ⟨_, rfl, by first | exact (bI_t (by first | assumption | omega)).symm | exact (bI_f (by first | assumption | omega)).symm, rfl⟩

set_option maxHeartbeats 4000000 in
theorem ct_X3_min {G : GT} {h : AH} (hG : GOK G) (a b : Int) (ha : inI a) (hb : inI b) : CPi G (MX3_min 0 0 0 0) h [.int (iI a), .int (iI b)] (min a b) := by
  refine CT.of rfl hG (Nat.le_of_ble_eq_true rfl) rfl (fun E hQ => ?_)
  refine ww_iload_n 0 dX3_min_0 rfl ?_
  refine ww_iload_n 1 dX3_min_1 rfl ?_
  refine ww_icmp_ge 9 dX3_min_2 (by decide) (by first | exact hM.rd _ | exact hM.ri rfl _ _ | exact ⟨by omega, by omega⟩ | assumption | exact bI_in _ | exact inI.mk (by omega) (by omega)) (by first | exact hM.rd _ | exact hM.ri rfl _ _ | exact ⟨by omega, by omega⟩ | assumption | exact bI_in _ | exact inI.mk (by omega) (by omega)) (fun c_2 => ?_) (fun c_2 => ?_)
  · refine ww_iload_n 1 dX3_min_9 rfl ?_
    exact ww_iret hQ dX3_min_10 rfl (Nat.le_of_ble_eq_true rfl) (Nat.le_of_ble_eq_true rfl) ⟨_, rfl, by omega, rfl⟩
  · refine ww_iload_n 0 dX3_min_5 rfl ?_
    refine ww_goto 10 dX3_min_6 (by decide) ?_
    exact ww_iret hQ dX3_min_10 rfl (Nat.le_of_ble_eq_true rfl) (Nat.le_of_ble_eq_true rfl) ⟨_, rfl, by omega, rfl⟩

set_option maxHeartbeats 4000000 in
theorem ct_X3_thrown {G : GT} {h0 h : AH} {m : Nat} {A : Nat → Nat} {B : Nat → Int → Nat} {D : Int → Int} {σ : MS} (hG : GOK G) (hM : MWF G h0 h m A B D σ) : CPi G (MX3_thrown 0 0 0 0) h [.ref m] (σ 0 0 0) := by
  refine CT.of rfl hG (Nat.le_of_ble_eq_true rfl) rfl (fun E hQ => ?_)
  have hM := hM.1.f
  refine ww_aload_n 0 dX3_thrown_0 rfl ?_
  refine ww_getf gf_X3_59 rfl dX3_thrown_1 hM.obj rfl ?_
  exact ww_iret hQ dX3_thrown_4 rfl (Nat.le_of_ble_eq_true rfl) (Nat.le_of_ble_eq_true rfl) ⟨_, rfl, rfl, rfl⟩

set_option maxHeartbeats 4000000 in
theorem ct_X3_fails {G : GT} {h0 h : AH} {m : Nat} {A : Nat → Nat} {B : Nat → Int → Nat} {D : Int → Int} {σ : MS} (hG : GOK G) (hM : MWF G h0 h m A B D σ) (c x : Int) (hc : inI c) (hx : inI x) (hx0 : x ≠ 0) (h0 : σ 0 0 0 = 0) : CSi G (MX3_fails 0 0 0 0) h m A B D [.ref m, .int (iI c), .int (iI x)] (fun r σ' => (c = 0 ∧ σ = σ' ∧ r = 0) ∨ (c ≠ 0 ∧ σ' = su σ 0 0 0 x ∧ r = 1)) := by
  refine CT.of rfl hG (Nat.le_of_ble_eq_true rfl) rfl (fun E hQ => ?_)
  have hM := hM.1.f
  refine ww_iload_n 1 dX3_fails_0 rfl ?_
  refine ww_if_eq 16 dX3_fails_1 (by decide) (by first | exact hM.rd _ | exact hM.ri rfl _ _ | exact ⟨by omega, by omega⟩ | assumption | exact bI_in _ | exact inI.mk (by omega) (by omega)) (fun c_1 => ?_) (fun c_1 => ?_)
  · refine ww_aload_n 0 dX3_fails_16 rfl ?_
    refine ww_getf gf_X3_59 rfl dX3_fails_17 hM.obj rfl ?_
    refine ww_if_eq 27 dX3_fails_20 (by decide) (by first | exact hM.rd _ | exact hM.ri rfl _ _ | exact ⟨by omega, by omega⟩ | assumption | exact bI_in _ | exact inI.mk (by omega) (by omega)) (fun c_20 => ?_) (fun c_20 => ?_)
    · refine ww_iconst dX3_fails_27 ?_
      exact ww_zret hQ dX3_fails_28 rfl (Nat.le_of_ble_eq_true rfl) (Nat.le_of_ble_eq_true rfl) (by first | exact Or.inl rfl | exact Or.inr rfl | (unfold bI; split <;> simp)) ⟨_, rfl, _, hM, by first | exact Or.inl ⟨by omega, rfl, rfl⟩ | exact Or.inr ⟨by omega, rfl, rfl⟩ | (exfalso; simp_all [su])⟩
    · refine ww_iconst dX3_fails_23 ?_
      refine ww_goto 28 dX3_fails_24 (by decide) ?_
      exact ww_zret hQ dX3_fails_28 rfl (Nat.le_of_ble_eq_true rfl) (Nat.le_of_ble_eq_true rfl) (by first | exact Or.inl rfl | exact Or.inr rfl | (unfold bI; split <;> simp)) ⟨_, rfl, _, hM, by first | exact Or.inl ⟨by omega, rfl, rfl⟩ | exact Or.inr ⟨by omega, rfl, rfl⟩ | (exfalso; simp_all [su])⟩
  · refine ww_aload_n 0 dX3_fails_4 rfl ?_
    refine ww_getf gf_X3_59 rfl dX3_fails_5 hM.obj rfl ?_
    refine ww_if_ne 16 dX3_fails_8 (by decide) (by first | exact hM.rd _ | exact hM.ri rfl _ _ | exact ⟨by omega, by omega⟩ | assumption | exact bI_in _ | exact inI.mk (by omega) (by omega)) (fun c_8 => ?_) (fun c_8 => ?_)
    · refine ww_aload_n 0 dX3_fails_16 rfl ?_
      refine ww_getf gf_X3_59 rfl dX3_fails_17 hM.obj rfl ?_
      refine ww_if_eq 27 dX3_fails_20 (by decide) (by first | exact hM.rd _ | exact hM.ri rfl _ _ | exact ⟨by omega, by omega⟩ | assumption | exact bI_in _ | exact inI.mk (by omega) (by omega)) (fun c_20 => ?_) (fun c_20 => ?_)
      · refine ww_iconst dX3_fails_27 ?_
        exact ww_zret hQ dX3_fails_28 rfl (Nat.le_of_ble_eq_true rfl) (Nat.le_of_ble_eq_true rfl) (by first | exact Or.inl rfl | exact Or.inr rfl | (unfold bI; split <;> simp)) ⟨_, rfl, _, hM, by first | exact Or.inl ⟨by omega, rfl, rfl⟩ | exact Or.inr ⟨by omega, rfl, rfl⟩ | (exfalso; simp_all [su])⟩
      · refine ww_iconst dX3_fails_23 ?_
        refine ww_goto 28 dX3_fails_24 (by decide) ?_
        exact ww_zret hQ dX3_fails_28 rfl (Nat.le_of_ble_eq_true rfl) (Nat.le_of_ble_eq_true rfl) (by first | exact Or.inl rfl | exact Or.inr rfl | (unfold bI; split <;> simp)) ⟨_, rfl, _, hM, by first | exact Or.inl ⟨by omega, rfl, rfl⟩ | exact Or.inr ⟨by omega, rfl, rfl⟩ | (exfalso; simp_all [su])⟩
    · refine ww_aload_n 0 dX3_fails_11 rfl ?_
      refine ww_iload_n 2 dX3_fails_12 rfl ?_
      refine mw_put pf_X3_59 rfl dX3_fails_13 hM rfl (by first | exact hM.rd _ | exact hM.ri rfl _ _ | exact ⟨by omega, by omega⟩ | assumption | exact bI_in _ | exact inI.mk (by omega) (by omega)) (fun hh hM => ?_)
      refine ww_aload_n 0 dX3_fails_16 rfl ?_
      refine ww_getf gf_X3_59 rfl dX3_fails_17 hM.obj rfl ?_
      refine ww_if_eq 27 dX3_fails_20 (by decide) (by first | exact hM.rd _ | exact hM.ri rfl _ _ | exact ⟨by omega, by omega⟩ | assumption | exact bI_in _ | exact inI.mk (by omega) (by omega)) (fun c_20 => ?_) (fun c_20 => ?_)
      · refine ww_iconst dX3_fails_27 ?_
        exact ww_zret hQ dX3_fails_28 rfl (Nat.le_of_ble_eq_true rfl) (Nat.le_of_ble_eq_true rfl) (by first | exact Or.inl rfl | exact Or.inr rfl | (unfold bI; split <;> simp)) ⟨_, rfl, _, hM, by first | exact Or.inl ⟨by omega, rfl, rfl⟩ | exact Or.inr ⟨by omega, rfl, rfl⟩ | (exfalso; simp_all [su])⟩
      · refine ww_iconst dX3_fails_23 ?_
        refine ww_goto 28 dX3_fails_24 (by decide) ?_
        exact ww_zret hQ dX3_fails_28 rfl (Nat.le_of_ble_eq_true rfl) (Nat.le_of_ble_eq_true rfl) (by first | exact Or.inl rfl | exact Or.inr rfl | (unfold bI; split <;> simp)) ⟨_, rfl, _, hM, by first | exact Or.inl ⟨by omega, rfl, rfl⟩ | exact Or.inr ⟨by omega, rfl, rfl⟩ | (exfalso; simp_all [su])⟩

set_option maxHeartbeats 4000000 in
theorem ct_X3_isGood {G : GT} {h0 h : AH} {m : Nat} {A : Nat → Nat} {B : Nat → Int → Nat} {D : Int → Int} {σ : MS} (hG : GOK G) (hM : MWF G h0 h m A B D σ) : CPi G (MX3_isGood 0 0 0 0) h [.ref m] (bI (σ 5 0 0 = 0)) := by
  refine CT.of rfl hG (Nat.le_of_ble_eq_true rfl) rfl (fun E hQ => ?_)
  have hM := hM.1.f
  refine ww_aload_n 0 dX3_isGood_0 rfl ?_
  refine ww_getf gf_X3_75 rfl dX3_isGood_1 hM.obj rfl ?_
  refine ww_if_ne 11 dX3_isGood_4 (by decide) (by first | exact hM.rd _ | exact hM.ri rfl _ _ | exact ⟨by omega, by omega⟩ | assumption | exact bI_in _ | exact inI.mk (by omega) (by omega)) (fun c_4 => ?_) (fun c_4 => ?_)
  · refine ww_iconst dX3_isGood_11 ?_
    exact ww_zret hQ dX3_isGood_12 rfl (Nat.le_of_ble_eq_true rfl) (Nat.le_of_ble_eq_true rfl) (by first | exact Or.inl rfl | exact Or.inr rfl | (unfold bI; split <;> simp)) ⟨_, rfl, by first | exact (bI_t (by first | assumption | omega)).symm | exact (bI_f (by first | assumption | omega)).symm, rfl⟩
  · refine ww_iconst dX3_isGood_7 ?_
    refine ww_goto 12 dX3_isGood_8 (by decide) ?_
    exact ww_zret hQ dX3_isGood_12 rfl (Nat.le_of_ble_eq_true rfl) (Nat.le_of_ble_eq_true rfl) (by first | exact Or.inl rfl | exact Or.inr rfl | (unfold bI; split <;> simp)) ⟨_, rfl, by first | exact (bI_t (by first | assumption | omega)).symm | exact (bI_f (by first | assumption | omega)).symm, rfl⟩

set_option maxHeartbeats 4000000 in
theorem ct_X3_isDigit {G : GT} {h : AH} (hG : GOK G) (c : Int) (hc : inI c) : CPi G (MX3_isDigit 1 22 0 0) h [.int (iI c)] (bI (48 ≤ c ∧ c ≤ 57)) := by
  refine CT.of rfl hG (Nat.le_of_ble_eq_true rfl) rfl (fun E hQ => ?_)
  refine ww_iload_n 0 dX3_isDigit_0 rfl ?_
  refine ww_bipush dX3_isDigit_1 (by decide) ?_
  refine ww_bipush dX3_isDigit_3 (by decide) ?_
  refine cr_pi (cr_S (ct_X3_in hG _ _ _ (by first | exact hM.rd _ | exact hM.ri rfl _ _ | exact ⟨by omega, by omega⟩ | assumption | exact bI_in _ | exact inI.mk (by omega) (by omega)) (by first | exact hM.rd _ | exact hM.ri rfl _ _ | exact ⟨by omega, by omega⟩ | assumption | exact bI_in _ | exact inI.mk (by omega) (by omega)) (by first | exact hM.rd _ | exact hM.ri rfl _ _ | exact ⟨by omega, by omega⟩ | assumption | exact bI_in _ | exact inI.mk (by omega) (by omega))) ss_X3_81 rfl dX3_isDigit_5 rfl rfl ⟨by decide, by decide⟩ (Nat.le_of_ble_eq_true rfl) (Nat.le_of_ble_eq_true rfl) (Nat.le_of_ble_eq_true rfl)) ?_
  exact ww_zret hQ dX3_isDigit_8 rfl (Nat.le_of_ble_eq_true rfl) (Nat.le_of_ble_eq_true rfl) (by first | exact Or.inl rfl | exact Or.inr rfl | (unfold bI; split <;> simp)) ⟨_, rfl, rfl, rfl⟩

def byteA (σ : MS) (k : Int) : Int := if k < σ 3 0 0 then σ 1 0 k else -1

set_option maxHeartbeats 4000000 in
theorem ct_X3_byteAt {G : GT} {h0 h : AH} {m : Nat} {A : Nat → Nat} {B : Nat → Int → Nat} {D : Int → Int} {σ : MS} (hG : GOK G) (hM : MWF G h0 h m A B D σ) (k : Int) (h1 : 0 ≤ k) (h2 : σ 3 0 0 ≤ 800) (h3 : inI k) : CPi G (MX3_byteAt 0 0 0 0) h [.ref m, .int (iI k)] (byteA σ k) := by
  refine CT.of rfl hG (Nat.le_of_ble_eq_true rfl) rfl (fun E hQ => ?_)
  have hM := hM.1.f
  refine ww_iload_n 1 dX3_byteAt_0 rfl ?_
  refine ww_aload_n 0 dX3_byteAt_1 rfl ?_
  refine ww_getf gf_X3_65 rfl dX3_byteAt_2 hM.obj rfl ?_
  refine ww_icmp_ge 17 dX3_byteAt_5 (by decide) (by first | exact hM.rd _ | exact hM.ri rfl _ _ | exact ⟨by omega, by omega⟩ | assumption | exact bI_in _ | exact inI.mk (by omega) (by omega)) (by first | exact hM.rd _ | exact hM.ri rfl _ _ | exact ⟨by omega, by omega⟩ | assumption | exact bI_in _ | exact inI.mk (by omega) (by omega)) (fun c_5 => ?_) (fun c_5 => ?_)
  · refine ww_iconst dX3_byteAt_17 ?_
    exact ww_iret hQ dX3_byteAt_18 rfl (Nat.le_of_ble_eq_true rfl) (Nat.le_of_ble_eq_true rfl) ⟨_, rfl, by unfold byteA; first | rw [if_pos (by omega)] | rw [if_neg (by omega)], rfl⟩
  · refine ww_aload_n 0 dX3_byteAt_8 rfl ?_
    refine ww_getf gf_X3_9 rfl dX3_byteAt_9 hM.obj rfl ?_
    refine ww_iload_n 1 dX3_byteAt_12 rfl ?_
    refine mw_ld dX3_byteAt_13 hM rfl (by omega) (by omega) ?_
    refine ww_goto 18 dX3_byteAt_14 (by decide) ?_
    exact ww_iret hQ dX3_byteAt_18 rfl (Nat.le_of_ble_eq_true rfl) (Nat.le_of_ble_eq_true rfl) ⟨_, rfl, by unfold byteA; first | rw [if_pos (by omega)] | rw [if_neg (by omega)], rfl⟩

set_option maxHeartbeats 4000000 in
theorem ct_X3_report {G : GT} {h0 h : AH} {m : Nat} {A : Nat → Nat} {B : Nat → Int → Nat} {D : Int → Int} {σ : MS} (hG : GOK G) (hM : MWF G h0 h m A B D σ) (a b : Int) (ha : inI a) (hb : inI b) : CSv G (MX3_report 0 0 0 0) h m A B D [.ref m, .int (iI a), .int (iI b)] (fun σ' => σ' = (if σ 5 0 0 = 0 then su (su σ 5 0 0 a) 6 0 0 b else σ)) := by
  refine CT.of rfl hG (Nat.le_of_ble_eq_true rfl) rfl (fun E hQ => ?_)
  have hM := hM.1.f
  refine ww_aload_n 0 dX3_report_0 rfl ?_
  refine ww_getf gf_X3_75 rfl dX3_report_1 hM.obj rfl ?_
  refine ww_if_eq 8 dX3_report_4 (by decide) (by first | exact hM.rd _ | exact hM.ri rfl _ _ | exact ⟨by omega, by omega⟩ | assumption | exact bI_in _ | exact inI.mk (by omega) (by omega)) (fun c_4 => ?_) (fun c_4 => ?_)
  · refine ww_aload_n 0 dX3_report_8 rfl ?_
    refine ww_iload_n 1 dX3_report_9 rfl ?_
    refine mw_put pf_X3_75 rfl dX3_report_10 hM rfl (by first | exact hM.rd _ | exact hM.ri rfl _ _ | exact ⟨by omega, by omega⟩ | assumption | exact bI_in _ | exact inI.mk (by omega) (by omega)) (fun hh hM => ?_)
    refine ww_aload_n 0 dX3_report_13 rfl ?_
    refine ww_iload_n 2 dX3_report_14 rfl ?_
    refine mw_put pf_X3_78 rfl dX3_report_15 hM rfl (by first | exact hM.rd _ | exact hM.ri rfl _ _ | exact ⟨by omega, by omega⟩ | assumption | exact bI_in _ | exact inI.mk (by omega) (by omega)) (fun hh hM => ?_)
    exact ww_vret hQ dX3_report_18 rfl (Nat.le_of_ble_eq_true rfl) (Nat.le_of_ble_eq_true rfl) ⟨rfl, _, hM, by simp_all⟩
  · exact ww_vret hQ dX3_report_7 rfl (Nat.le_of_ble_eq_true rfl) (Nat.le_of_ble_eq_true rfl) ⟨rfl, _, hM, by simp_all⟩

set_option maxHeartbeats 4000000 in
theorem ct_X3_isLoaded {G : GT} {h0 h : AH} {m : Nat} {A : Nat → Nat} {B : Nat → Int → Nat} {D : Int → Int} {σ : MS} (hG : GOK G) (hM : MWF G h0 h m A B D σ) (k : Int) (h1 : 0 ≤ k) (h2 : k < 8) : CPi G (MX3_isLoaded 1 20 0 0) h [.ref m, .int (iI k)] (bI (D (6 + 24 * k + 2) > 0)) := by
  refine CT.of rfl hG (Nat.le_of_ble_eq_true rfl) rfl (fun E hQ => ?_)
  have hM := hM.1.f
  refine ww_aload_n 0 dX3_isLoaded_0 rfl ?_
  refine ww_getf gf_X3_17 rfl dX3_isLoaded_1 hM.obj rfl ?_
  refine ww_iload_n 1 dX3_isLoaded_4 rfl ?_
  refine cr_pi (cr_S (ct_X3_at hG _) ss_X3_174 rfl dX3_isLoaded_5 rfl rfl ⟨by decide, by decide⟩ (Nat.le_of_ble_eq_true rfl) (Nat.le_of_ble_eq_true rfl) (Nat.le_of_ble_eq_true rfl)) ?_
  refine ww_iconst dX3_isLoaded_8 ?_
  refine ww_iadd dX3_isLoaded_9 ?_
  refine mw_ldD dX3_isLoaded_10 hM (by omega) (by omega) ?_
  refine ww_if_le 18 dX3_isLoaded_11 (by decide) (by first | exact hM.rd _ | exact hM.ri rfl _ _ | exact ⟨by omega, by omega⟩ | assumption | exact bI_in _ | exact inI.mk (by omega) (by omega)) (fun c_11 => ?_) (fun c_11 => ?_)
  · refine ww_iconst dX3_isLoaded_18 ?_
    exact ww_zret hQ dX3_isLoaded_19 rfl (Nat.le_of_ble_eq_true rfl) (Nat.le_of_ble_eq_true rfl) (by first | exact Or.inl rfl | exact Or.inr rfl | (unfold bI; split <;> simp)) ⟨_, rfl, by first | exact (bI_t (by first | assumption | omega)).symm | exact (bI_f (by first | assumption | omega)).symm, rfl⟩
  · refine ww_iconst dX3_isLoaded_14 ?_
    refine ww_goto 19 dX3_isLoaded_15 (by decide) ?_
    exact ww_zret hQ dX3_isLoaded_19 rfl (Nat.le_of_ble_eq_true rfl) (Nat.le_of_ble_eq_true rfl) (by first | exact Or.inl rfl | exact Or.inr rfl | (unfold bI; split <;> simp)) ⟨_, rfl, by first | exact (bI_t (by first | assumption | omega)).symm | exact (bI_f (by first | assumption | omega)).symm, rfl⟩

set_option maxHeartbeats 4000000 in
theorem ct_X3_isCandidate {G : GT} {h0 h : AH} {m : Nat} {A : Nat → Nat} {B : Nat → Int → Nat} {D : Int → Int} {σ : MS} (hG : GOK G) (hM : MWF G h0 h m A B D σ) (k n : Int) (h1 : 0 ≤ k) (h2 : k < 8) (h3 : 0 ≤ n) (h4 : n < 12) : CPi G (MX3_isCandidate 2 41 0 0) h [.ref m, .int (iI k), .int (iI n)] (bI (D (6 + 24 * k + 2) > 0 ∧ D (6 + 24 * k + 12 + n) ≠ -1)) := by
  refine CT.of rfl hG (Nat.le_of_ble_eq_true rfl) rfl (fun E hQ => ?_)
  have hM := hM.1.f
  refine ww_aload_n 0 dX3_isCandidate_0 rfl ?_
  refine ww_iload_n 1 dX3_isCandidate_1 rfl ?_
  refine cr_pi (cr_V (ct_X3_isLoaded hG hM _ (by omega) (by omega)) sv_X3_232 rfl dX3_isCandidate_2 hM.obj rfl rfl rfl rfl ⟨by decide, by decide⟩ (Nat.le_of_ble_eq_true rfl) (Nat.le_of_ble_eq_true rfl) (Nat.le_of_ble_eq_true rfl)) ?_
  refine ww_ifb_eq 30 dX3_isCandidate_5 (by decide) (fun c_5 => ?_) (fun c_5 => ?_)
  · refine ww_iconst dX3_isCandidate_30 ?_
    exact ww_zret hQ dX3_isCandidate_31 rfl (Nat.le_of_ble_eq_true rfl) (Nat.le_of_ble_eq_true rfl) (by first | exact Or.inl rfl | exact Or.inr rfl | (unfold bI; split <;> simp)) ⟨_, rfl, by first | exact (bI_t (by first | assumption | omega)).symm | exact (bI_f (by first | assumption | omega)).symm, rfl⟩
  · refine ww_aload_n 0 dX3_isCandidate_8 rfl ?_
    refine ww_getf gf_X3_17 rfl dX3_isCandidate_9 hM.obj rfl ?_
    refine ww_iload_n 1 dX3_isCandidate_12 rfl ?_
    refine cr_pi (cr_S (ct_X3_at hG _) ss_X3_174 rfl dX3_isCandidate_13 rfl rfl ⟨by decide, by decide⟩ (Nat.le_of_ble_eq_true rfl) (Nat.le_of_ble_eq_true rfl) (Nat.le_of_ble_eq_true rfl)) ?_
    refine ww_bipush dX3_isCandidate_16 (by decide) ?_
    refine ww_iadd dX3_isCandidate_18 ?_
    refine ww_iload_n 2 dX3_isCandidate_19 rfl ?_
    refine ww_iadd dX3_isCandidate_20 ?_
    refine mw_ldD dX3_isCandidate_21 hM (by omega) (by omega) ?_
    refine ww_iconst dX3_isCandidate_22 ?_
    refine ww_icmp_eq 30 dX3_isCandidate_23 (by decide) (by first | exact hM.rd _ | exact hM.ri rfl _ _ | exact ⟨by omega, by omega⟩ | assumption | exact bI_in _ | exact inI.mk (by omega) (by omega)) (by first | exact hM.rd _ | exact hM.ri rfl _ _ | exact ⟨by omega, by omega⟩ | assumption | exact bI_in _ | exact inI.mk (by omega) (by omega)) (fun c_23 => ?_) (fun c_23 => ?_)
    · refine ww_iconst dX3_isCandidate_30 ?_
      exact ww_zret hQ dX3_isCandidate_31 rfl (Nat.le_of_ble_eq_true rfl) (Nat.le_of_ble_eq_true rfl) (by first | exact Or.inl rfl | exact Or.inr rfl | (unfold bI; split <;> simp)) ⟨_, rfl, by first | exact (bI_t (by first | assumption | omega)).symm | exact (bI_f (by first | assumption | omega)).symm, rfl⟩
    · refine ww_iconst dX3_isCandidate_26 ?_
      refine ww_goto 31 dX3_isCandidate_27 (by decide) ?_
      exact ww_zret hQ dX3_isCandidate_31 rfl (Nat.le_of_ble_eq_true rfl) (Nat.le_of_ble_eq_true rfl) (by first | exact Or.inl rfl | exact Or.inr rfl | (unfold bI; split <;> simp)) ⟨_, rfl, by first | exact (bI_t (by first | assumption | omega)).symm | exact (bI_f (by first | assumption | omega)).symm, rfl⟩
