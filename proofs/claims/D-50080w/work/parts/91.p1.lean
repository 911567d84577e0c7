set_option maxRecDepth 100000
theorem z_us {G : GT} (hG : GOK G) : vx_Zq Bundle.tN "UNASSIGNED_STACK" Bundle.steD (gA G) (g0 G) (g0 G).heap := zx_ref hG q308 (lw_all_tbl q92) (by decide +kernel)
theorem z_ss {G : GT} (hG : GOK G) : vx_Zq Bundle.tN "SUPPRESSED_SENTINEL" Bundle.listD (gA G) (g0 G) (g0 G).heap := zx_ref hG q310 (lw_all_tbl q92) (by decide +kernel)
set_option maxHeartbeats 4000000 in
theorem ct_J10_init_3 {G : GT} {h : AH} (hG : GOK G) {q : Nat} (hq0 : q ≠ 0) (hq : h q = some ((q, 10590), ob 4 [.null, .null, .null, .null, .null, .int 0, .int 0, .int 0])) : CT G (MJ10_init_3 1 20 0 0) h [.ref q, .null, .null, .int (iI 0), .int (iI 0)] (pV (fun h' => h' q = some ((q, 10590), ob 4 [.null, .null, .null, .null, .null, .int 0, .int 0, .int 0]) ∧ FO q 10590 10590 h h')) := by
  refine CT.of rfl hG (Nat.le_of_ble_eq_true rfl) rfl (fun E hQ => ?_)
  have hF : FO q 10590 10590 h h := FO.rf
  refine ww_aload_n 0 dJ10_init_3_0 rfl ?_
  refine ww_objInit q306 q128 q129 rfl dJ10_init_3_1 (Nat.le_of_ble_eq_true rfl) (Nat.le_of_ble_eq_true rfl) ?_
  refine ww_aload_n 0 dJ10_init_3_4 rfl ?_
  refine ww_aload_n 0 dJ10_init_3_5 rfl ?_
  refine wx_putf pf_J10_7 rfl dJ10_init_3_6 hq hq0 (Nat.le_of_ble_eq_true rfl) rfl rfl (fun h_6 hq f_6 => ?_)
  have hF := hF.kt f_6 ⟨rfl, by omega, by omega⟩
  refine ww_aload_n 0 dJ10_init_3_9 rfl ?_
  refine ww_getsq (z_us hG).1 q307 rfl dJ10_init_3_10 (fun r_10 => ?_)
  refine wx_putf pf_J10_17 rfl dJ10_init_3_13 hq hq0 (Nat.le_of_ble_eq_true rfl) (by cases r_10 <;> rfl) (by cases r_10 <;> rfl) (fun h_13 hq f_13 => ?_)
  have hF := hF.kt f_13 ⟨rfl, by omega, by omega⟩
  refine ww_aload_n 0 dJ10_init_3_16 rfl ?_
  refine ww_getsq (z_ss hG).1 q309 rfl dJ10_init_3_17 (fun r_17 => ?_)
  refine wx_putf pf_J10_24 rfl dJ10_init_3_20 hq hq0 (Nat.le_of_ble_eq_true rfl) (by cases r_17 <;> rfl) (by cases r_17 <;> rfl) (fun h_20 hq f_20 => ?_)
  have hF := hF.kt f_20 ⟨rfl, by omega, by omega⟩
  refine ww_iload 4 dJ10_init_3_23 rfl ?_
  refine ww_if_eq 36 dJ10_init_3_25 (by decide) (inI.mk (by decide) (by decide)) (fun c_25 => ?_) (fun c_25 => ?_)
  · refine ww_aload_n 0 dJ10_init_3_36 rfl ?_
    refine ww_null dJ10_init_3_37 ?_
    refine wx_putf pf_J10_17 rfl dJ10_init_3_38 hq hq0 (Nat.le_of_ble_eq_true rfl) rfl rfl (fun h_38 hq f_38 => ?_)
    have hF := hF.kt f_38 ⟨rfl, by omega, by omega⟩
    refine ww_aload_n 0 dJ10_init_3_41 rfl ?_
    refine ww_aload_nN 1 dJ10_init_3_42 rfl ?_
    refine wx_putf pf_J10_31 rfl dJ10_init_3_43 hq hq0 (Nat.le_of_ble_eq_true rfl) rfl rfl (fun h_43 hq f_43 => ?_)
    have hF := hF.kt f_43 ⟨rfl, by omega, by omega⟩
    refine ww_aload_n 0 dJ10_init_3_46 rfl ?_
    refine ww_aload_nN 2 dJ10_init_3_47 rfl ?_
    refine wx_putf pf_J10_7 rfl dJ10_init_3_48 hq hq0 (Nat.le_of_ble_eq_true rfl) rfl rfl (fun h_48 hq f_48 => ?_)
    have hF := hF.kt f_48 ⟨rfl, by omega, by omega⟩
    refine ww_iload_n 3 dJ10_init_3_51 rfl ?_
    refine ww_if_ne 60 dJ10_init_3_52 (by decide) (inI.mk (by decide) (by decide)) (fun c_52 => ?_) (fun c_52 => ?_)
    · exact absurd c_52 (by decide)
    · refine ww_aload_n 0 dJ10_init_3_55 rfl ?_
      refine ww_null dJ10_init_3_56 ?_
      refine wx_putf pf_J10_24 rfl dJ10_init_3_57 hq hq0 (Nat.le_of_ble_eq_true rfl) rfl rfl (fun h_57 hq f_57 => ?_)
      have hF := hF.kt f_57 ⟨rfl, by omega, by omega⟩
      exact ww_vret hQ dJ10_init_3_60 rfl (Nat.le_of_ble_eq_true rfl) (Nat.le_of_ble_eq_true rfl) ⟨rfl, hq, hF⟩
  · exact absurd c_25 (by decide)

set_option maxHeartbeats 4000000 in
theorem ct_J11_init_3 {G : GT} {h : AH} (hG : GOK G) {q : Nat} (hq0 : q ≠ 0) (hq : h q = some ((q, 10590), ob 4 [.null, .null, .null, .null, .null, .int 0, .int 0, .int 0])) : CT G (MJ11_init_3 2 44 0 0) h [.ref q, .null, .null, .int (iI 0), .int (iI 0)] (pV (fun h' => h' q = some ((q, 10590), ob 4 [.null, .null, .null, .null, .null, .int 0, .int 0, .int 0]) ∧ FO q 10590 10590 h h')) := by
  refine CT.of rfl hG (Nat.le_of_ble_eq_true rfl) rfl (fun E hQ => ?_)
  refine ww_aload_n 0 dJ11_init_3_0 rfl ?_
  refine ww_aload_nN 1 dJ11_init_3_1 rfl ?_
  refine ww_aload_nN 2 dJ11_init_3_2 rfl ?_
  refine ww_iload_n 3 dJ11_init_3_3 rfl ?_
  refine ww_iload 4 dJ11_init_3_4 rfl ?_
  refine cr_v (cr_I (ct_J10_init_3 hG hq0 hq) si_J11_16 rfl rfl dJ11_init_3_6 rfl rfl ⟨by decide, by decide⟩ (Nat.le_of_ble_eq_true rfl) (Nat.le_of_ble_eq_true rfl) (Nat.le_of_ble_eq_true rfl)) (fun h_6 hp_6 => ?_)
  obtain ⟨hq, f_6⟩ := hp_6
  exact ww_vret hQ dJ11_init_3_9 rfl (Nat.le_of_ble_eq_true rfl) (Nat.le_of_ble_eq_true rfl) ⟨rfl, hq, f_6⟩

set_option maxHeartbeats 4000000 in
theorem ct_X5_init {G : GT} {h : AH} (hG : GOK G) {q : Nat} (hq0 : q ≠ 0) (hq : h q = some ((q, 10590), ob 4 [.null, .null, .null, .null, .null, .int 0, .int 0, .int 0])) (c o : Int) : CT G (MX5_init 3 68 0 0) h [.ref q, .int (iI c), .int (iI o)] (pV (fun h' => SX h' q c o ∧ FO q 10590 10590 h h')) := by
  refine CT.of rfl hG (Nat.le_of_ble_eq_true rfl) rfl (fun E hQ => ?_)
  have hF : FO q 10590 10590 h h := FO.rf
  refine ww_aload_n 0 dX5_init_0 rfl ?_
  refine ww_null dX5_init_1 ?_
  refine ww_null dX5_init_2 ?_
  refine ww_iconst dX5_init_3 ?_
  refine ww_iconst dX5_init_4 ?_
  refine cr_v (cr_I (ct_J11_init_3 hG hq0 hq) si_X5_1 rfl rfl dX5_init_5 rfl rfl ⟨by decide, by decide⟩ (Nat.le_of_ble_eq_true rfl) (Nat.le_of_ble_eq_true rfl) (Nat.le_of_ble_eq_true rfl)) (fun h_5 hp_5 => ?_)
  obtain ⟨hq, f_5⟩ := hp_5
  have hF := hF.tr (FO.w f_5 (by omega) (by omega))
  refine ww_aload_n 0 dX5_init_8 rfl ?_
  refine ww_iload_n 1 dX5_init_9 rfl ?_
  refine wx_putF pf_X5_7 rfl rfl dX5_init_10 hq hq0 (Nat.le_of_ble_eq_true rfl) rfl rfl (fun h_10 hq f_10 => ?_)
  have hF := hF.kt f_10 ⟨rfl, by omega, by omega⟩
  refine ww_aload_n 0 dX5_init_13 rfl ?_
  refine ww_iload_n 2 dX5_init_14 rfl ?_
  refine wx_putF pf_X5_13 rfl rfl dX5_init_15 hq hq0 (Nat.le_of_ble_eq_true rfl) rfl rfl (fun h_15 hq f_15 => ?_)
  have hF := hF.kt f_15 ⟨rfl, by omega, by omega⟩
  exact ww_vret hQ dX5_init_18 rfl (Nat.le_of_ble_eq_true rfl) (Nat.le_of_ble_eq_true rfl) ⟨rfl, hq, hF⟩

set_option maxHeartbeats 4000000 in
theorem ct_X1_isBetween {G : GT} {h : AH} (hG : GOK G) (v lo hi : Int) (hv : inL v) (hlo : inL lo) (hhi : inL hi) : CPi G (MX1_isBetween 0 0 0 0) h [.long (lI v), .long (lI lo), .long (lI hi)] (bI (lo ≤ v ∧ v ≤ hi)) := by
  refine CT.of rfl hG (Nat.le_of_ble_eq_true rfl) rfl (fun E hQ => ?_)
  refine ww_lload_n 0 dX1_isBetween_0 rfl ?_
  refine ww_lload_n 1 dX1_isBetween_1 rfl ?_
  refine ww_lif_lt 17 dX1_isBetween_2 dX1_isBetween_3 (by decide) hv hlo (fun c_2 => ?_) (fun c_2 => ?_)
  · refine ww_iconst dX1_isBetween_17 ?_
    exact ww_zret hQ dX1_isBetween_18 rfl (Nat.le_of_ble_eq_true rfl) (Nat.le_of_ble_eq_true rfl) (by first | exact Or.inl rfl | exact Or.inr rfl | (unfold bI; split <;> simp)) ⟨_, rfl, (bI_f (fun z => absurd z.1 (by omega))).symm, rfl⟩
  · refine ww_lload_n 0 dX1_isBetween_6 rfl ?_
    refine ww_lload 2 dX1_isBetween_7 rfl ?_
    refine ww_lif_gt 17 dX1_isBetween_9 dX1_isBetween_10 (by decide) hv hhi (fun c_9 => ?_) (fun c_9 => ?_)
    · refine ww_iconst dX1_isBetween_17 ?_
      exact ww_zret hQ dX1_isBetween_18 rfl (Nat.le_of_ble_eq_true rfl) (Nat.le_of_ble_eq_true rfl) (by first | exact Or.inl rfl | exact Or.inr rfl | (unfold bI; split <;> simp)) ⟨_, rfl, (bI_f (fun z => absurd z.2 (by omega))).symm, rfl⟩
    · refine ww_iconst dX1_isBetween_13 ?_
      refine ww_goto 18 dX1_isBetween_14 (by decide) ?_
      exact ww_zret hQ dX1_isBetween_18 rfl (Nat.le_of_ble_eq_true rfl) (Nat.le_of_ble_eq_true rfl) (by first | exact Or.inl rfl | exact Or.inr rfl | (unfold bI; split <;> simp)) ⟨_, rfl, (bI_t ⟨by omega, by omega⟩).symm, rfl⟩

set_option maxHeartbeats 4000000 in
theorem ct_X4_reqT {G : GT} {h : AH} (hG : GOK G) {p : Nat} (z c o : Int) (hz : z ≠ 0) (hzi : inI z) : CPv G (MX4_require 0 0 0 0) h [.ref p, .int (iI z), .int (iI c), .int (iI o)]  := by
  refine CT.of rfl hG (Nat.le_of_ble_eq_true rfl) rfl (fun E hQ => ?_)
  refine ww_iload_n 1 dX4_require_0 rfl ?_
  refine ww_if_ne 14 dX4_require_1 (by decide) hzi (fun c_1 => ?_) (fun c_1 => ?_)
  · exact ww_vret hQ dX4_require_14 rfl (Nat.le_of_ble_eq_true rfl) (Nat.le_of_ble_eq_true rfl) ⟨rfl, rfl⟩
  · exact absurd c_1 hz

set_option maxHeartbeats 4000000 in
theorem ct_X4_reqF {G : GT} {h : AH} (hG : GOK G) (p a : Nat) (c o : Int) (hr : -7 ≤ c ∧ c ≤ -2 ∧ 0 ≤ o ∧ o ≤ 800) : CX G (MX4_require 4 90 1 8) h [.ref p, .int (iI 0), .int (iI c), .int (iI o)] (pV (fun _ => False)) (XS p a h (.error (c, o) : PE Unit)) := by
  refine CX.of rfl hG (Nat.le_of_ble_eq_true rfl) rfl (fun E hQ hT => ?_)
  refine ww_iload_n 1 dX4_require_0 rfl ?_
  refine ww_if_ne 14 dX4_require_1 (by decide) (inI.mk (by decide) (by decide)) (fun c_1 => ?_) (fun c_1 => ?_)
  · exact absurd c_1 (by decide)
  · refine wx_new (fun q => (q, 10590)) nw_X4_50 rfl dX4_require_4 (fun q hq => ⟨hq.1, Nat.le_refl _⟩) (Nat.le_of_ble_eq_true rfl) (Nat.le_of_ble_eq_true rfl) (fun q_4 h_4 n_4 e_4 hq => ?_)
    refine ww_dup dX4_require_7 rfl ?_
    refine ww_iload_n 2 dX4_require_8 rfl ?_
    refine ww_iload_n 3 dX4_require_9 rfl ?_
    refine cr_v (cr_I (ct_X5_init hG n_4.1 hq c o) si_X4_52 rfl rfl dX4_require_10 rfl rfl ⟨by decide, by decide⟩ (Nat.le_of_ble_eq_true rfl) (Nat.le_of_ble_eq_true rfl) (Nat.le_of_ble_eq_true rfl)) (fun h_10 hp_10 => ?_)
    obtain ⟨hS_10, f_10⟩ := hp_10
    exact ww_athrow dX4_require_13 hS_10 n_4.1 rfl rfl (wq_out hQ hT (Nat.le_of_ble_eq_true rfl) (Nat.le_of_ble_eq_true rfl) ⟨rfl, c, o, rfl, hr, hS_10, (((e_4.fo).tr f_10).nw n_4).fp⟩)
