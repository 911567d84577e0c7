set_option maxRecDepth 100000
set_option maxHeartbeats 4000000 in
theorem ct_X8_candidates {G : GT} {h : AH} (hG : GOK G) {a : Nat} {e y1 y2 y3 y4 y5 y6 y7 L N : Nat} {W Wi T : Int → Int} (hE : EO G h e a y1 y2 y3 y4 y5 y6 y7 L N W Wi T) (hW : ∀ i : Int, -1 ≤ W i ∧ W i ≤ 9999) {RO : Int → Nat} {O : Int → Int → Int} (hO : EAr G 6 0 h e y4 10610 L N RO O) (hOi : ∀ i j : Int, inI (O i j)) (n : Int) (n0 : 0 ≤ n) (n1 : n < N) : CPi G (MX8_candidates 2 43 0 0) h [.ref e, .int (iI n)] (smI (L : Int) (fun k => bI (W k ≠ -1 ∧ O k n ≠ -1))) := by
  refine CT.of rfl hG (Nat.le_of_ble_eq_true rfl) rfl (fun E hQ => ?_)
  have hE0 := hE
  obtain ⟨he0, hL8, hN12, he, h1, h2, h3⟩ := hE
  refine ww_iconst dX8_candidates_0 ?_
  refine ww_istore_n [(2, _), (0, _), (1, _)] dX8_candidates_1 (by decide) rfl ?_
  refine ww_iconst dX8_candidates_2 ?_
  refine ww_istore_n [(3, _), (2, _), (0, _), (1, _)] dX8_candidates_3 (by decide) rfl ?_
  have loop_4 : ∀ (f : Nat) (j : Nat), (j ≤ L) → (L - j < f) → WW G E (MX8_candidates 2 43 0 0) h 0 0 4 [(0, .ref e), (1, .int (iI n)), (2, .int (iI (smI (j : Int) (fun k => bI (W k ≠ -1 ∧ O k n ≠ -1))))), (3, .int (iI (j : Int)))] [] := by
    intro f
    induction f with
    | zero => intro j hj hf; exact absurd hf (by omega)
    | succ f ih =>
      intro j hj hf
      refine ww_iload_n 3 dX8_candidates_4 rfl ?_
      refine ww_aload_n 0 dX8_candidates_5 rfl ?_
      refine ww_getf gf_X8_30 rfl dX8_candidates_6 he rfl ?_
      refine ww_alenA dX8_candidates_9 h1 (by omega) ?_
      refine ww_icmp_ge 36 dX8_candidates_10 (by decide) (inI.mk (by omega) (by omega)) (inI.mk (by omega) (by omega)) (fun c_10 => ?_) (fun c_10 => ?_)
      · have ej : (j : Int) = L := by omega
        rw [ej]
        refine ww_iload_n 2 dX8_candidates_36 rfl ?_
        exact ww_iret hQ dX8_candidates_37 rfl (Nat.le_of_ble_eq_true rfl) (Nat.le_of_ble_eq_true rfl) ⟨_, rfl, rfl, rfl⟩
      · refine ww_iload_n 2 dX8_candidates_13 rfl ?_
        refine ww_aload_n 0 dX8_candidates_14 rfl ?_
        refine ww_iload_n 3 dX8_candidates_15 rfl ?_
        refine ww_iload_n 1 dX8_candidates_16 rfl ?_
        refine cr_pi (cr_V (ct_X8_isCandidate hG hE0 hW hO hOi (j : Int) n (by omega) (by omega) n0 n1) sv_X8_109 rfl dX8_candidates_17 he rfl rfl rfl rfl ⟨by decide, by decide⟩ (Nat.le_of_ble_eq_true rfl) (Nat.le_of_ble_eq_true rfl) (Nat.le_of_ble_eq_true rfl)) ?_
        refine ww_ifb_eq 27 dX8_candidates_20 (by decide) (fun c_20 => ?_) (fun c_20 => ?_)
        · refine ww_iconst dX8_candidates_27 ?_
          refine ww_iadd dX8_candidates_28 ?_
          refine ww_istore_n [(2, _), (0, _), (1, _), (3, _)] dX8_candidates_29 (by decide) rfl ?_
          refine ww_iinc (j := 3) [(3, _), (2, _), (0, _), (1, _)] dX8_candidates_30 rfl (by decide) rfl ?_
          refine ww_goto 4 dX8_candidates_33 (by decide) ?_
          refine ww_sub [2, 3, 1, 0] rfl ?_
          rw [smI_z (f := (fun k => bI (W k ≠ -1 ∧ O k n ≠ -1))) (bI_f c_20)]
          exact ih (j + 1) (by omega) (by omega)
        · refine ww_iconst dX8_candidates_23 ?_
          refine ww_goto 28 dX8_candidates_24 (by decide) ?_
          refine ww_iadd dX8_candidates_28 ?_
          refine ww_istore_n [(2, _), (0, _), (1, _), (3, _)] dX8_candidates_29 (by decide) rfl ?_
          refine ww_iinc (j := 3) [(3, _), (2, _), (0, _), (1, _)] dX8_candidates_30 rfl (by decide) rfl ?_
          refine ww_goto 4 dX8_candidates_33 (by decide) ?_
          refine ww_sub [2, 3, 1, 0] rfl ?_
          rw [smI_p (f := (fun k => bI (W k ≠ -1 ∧ O k n ≠ -1))) (bI_t c_20)]
          exact ih (j + 1) (by omega) (by omega)
  refine ww_sub [2, 3, 1, 0] rfl ?_
  exact loop_4 (L + 1) 0 (by omega) (by omega)

set_option maxHeartbeats 4000000 in
theorem ct_X8_margin {G : GT} {h : AH} (hG : GOK G) {a : Nat} {e y1 y2 y3 y4 y5 y6 y7 L N : Nat} {W Wi T : Int → Int} (hE : EO G h e a y1 y2 y3 y4 y5 y6 y7 L N W Wi T) (hW : ∀ i : Int, -1 ≤ W i ∧ W i ≤ 9999) {RO : Int → Nat} {O : Int → Int → Int} (hO : EAr G 6 0 h e y4 10610 L N RO O) (hOi : ∀ i j : Int, inI (O i j)) {RS : Int → Nat} {S : Int → Int → Int} (hS6 : EAr G 6 0 h e y6 10650 L N RS S) (hs : ∀ c n : Int, 0 ≤ c → c < L → 0 ≤ n → n < N → 0 ≤ S c n ∧ S c n ≤ 79992) (n : Int) (n0 : 0 ≤ n) (n1 : n < N) (hw : -1 ≤ Wi n ∧ Wi n < L) : CPi G (MX8_margin 2 43 0 0) h [.ref e, .int (iI n)] (if Wi n = -1 then -1 else S (Wi n) n - (hMx (fun k => hCd W O k n) (fun c => S c n) (Wi n) L)) := by
  refine CT.of rfl hG (Nat.le_of_ble_eq_true rfl) rfl (fun E hQ => ?_)
  have hE0 := hE
  obtain ⟨he0, hL8, hN12, he, h1, h2, h3⟩ := hE
  refine ww_aload_n 0 dX8_margin_0 rfl ?_
  refine ww_getf gf_X8_34 rfl dX8_margin_1 he rfl ?_
  refine ww_iload_n 1 dX8_margin_4 rfl ?_
  refine ww_iald dX8_margin_5 h2 (by omega) (by omega) (by omega) ?_
  refine ww_iconst dX8_margin_6 ?_
  refine ww_icmp_ne 12 dX8_margin_7 (by decide) (inI.mk (by omega) (by omega)) (inI.mk (by decide) (by decide)) (fun c_7 => ?_) (fun c_7 => ?_)
  · refine ww_iconst dX8_margin_12 ?_
    refine ww_istore_n [(2, _), (0, _), (1, _)] dX8_margin_13 (by decide) rfl ?_
    refine ww_iconst dX8_margin_14 ?_
    refine ww_istore_n [(3, _), (2, _), (0, _), (1, _)] dX8_margin_15 (by decide) rfl ?_
    have loop_16 : ∀ (f : Nat) (j : Nat), (j ≤ L) → (L - j < f) → WW G E (MX8_margin 2 43 0 0) h 0 0 16 [(0, .ref e), (1, .int (iI n)), (2, .int (iI (hMx (fun k => hCd W O k n) (fun c => S c n) (Wi n) j))), (3, .int (iI (j : Int)))] [] := by
      intro f
      induction f with
      | zero => intro j hj hf; exact absurd hf (by omega)
      | succ f ih =>
        intro j hj hf
        have hmb := hMx_bd (cd := fun k => hCd W O k n) (sp := fun c => S c n) (b := Wi n) (z := j) (C := 79992) (fun c c0 c1 => hs c n c0 (by omega) n0 n1) (by decide)
        refine ww_iload_n 3 dX8_margin_16 rfl ?_
        refine ww_aload_n 0 dX8_margin_17 rfl ?_
        refine ww_getf gf_X8_30 rfl dX8_margin_18 he rfl ?_
        refine ww_alenA dX8_margin_21 h1 (by omega) ?_
        refine ww_icmp_ge 63 dX8_margin_22 (by decide) (inI.mk (by omega) (by omega)) (inI.mk (by omega) (by omega)) (fun c_22 => ?_) (fun c_22 => ?_)
        · have ej : j = L := by omega
          subst ej
          refine ww_aload_n 0 dX8_margin_63 rfl ?_
          refine ww_getf gf_X8_48 rfl dX8_margin_64 he rfl ?_
          refine ww_aload_n 0 dX8_margin_67 rfl ?_
          refine ww_getf gf_X8_34 rfl dX8_margin_68 he rfl ?_
          refine ww_iload_n 1 dX8_margin_71 rfl ?_
          refine ww_iald dX8_margin_72 h2 (by omega) (by omega) (by omega) ?_
          refine ww_aalds dX8_margin_73 hS6.1 rfl rfl (by omega) (by omega) (by omega) rfl ?_
          refine ww_iload_n 1 dX8_margin_74 rfl ?_
          refine ww_iald dX8_margin_75 (hS6.2 _ (by omega) (by omega)) (by omega) (by omega) (by omega) ?_
          refine ww_iload_n 2 dX8_margin_76 rfl ?_
          refine ww_isub dX8_margin_77 ?_
          exact ww_iret hQ dX8_margin_78 rfl (Nat.le_of_ble_eq_true rfl) (Nat.le_of_ble_eq_true rfl) ⟨_, rfl, by rw [if_neg c_7], rfl⟩
        · refine ww_iload_n 3 dX8_margin_25 rfl ?_
          refine ww_aload_n 0 dX8_margin_26 rfl ?_
          refine ww_getf gf_X8_34 rfl dX8_margin_27 he rfl ?_
          refine ww_iload_n 1 dX8_margin_30 rfl ?_
          refine ww_iald dX8_margin_31 h2 (by omega) (by omega) (by omega) ?_
          refine ww_icmp_eq 57 dX8_margin_32 (by decide) (inI.mk (by omega) (by omega)) (inI.mk (by omega) (by omega)) (fun c_32 => ?_) (fun c_32 => ?_)
          · refine ww_iinc (j := 3) [(3, _), (0, _), (1, _), (2, _)] dX8_margin_57 rfl (by decide) rfl ?_
            refine ww_goto 16 dX8_margin_60 (by decide) ?_
            refine ww_sub [1, 2, 3, 0] rfl ?_
            rw [← hMx_f (cd := fun k => hCd W O k n) (sp := fun c => S c n) (b := Wi n) (z := j) (fun z => z.1 c_32)]
            exact ih (j + 1) (by omega) (by omega)
          · refine ww_aload_n 0 dX8_margin_35 rfl ?_
            refine ww_iload_n 3 dX8_margin_36 rfl ?_
            refine ww_iload_n 1 dX8_margin_37 rfl ?_
            refine cr_pi (cr_V (ct_X8_isCandidate hG hE0 hW hO hOi (j : Int) n (by omega) (by omega) n0 n1) sv_X8_109 rfl dX8_margin_38 he rfl rfl rfl rfl ⟨by decide, by decide⟩ (Nat.le_of_ble_eq_true rfl) (Nat.le_of_ble_eq_true rfl) (Nat.le_of_ble_eq_true rfl)) ?_
            refine ww_ifb_eq 57 dX8_margin_41 (by decide) (fun c_41 => ?_) (fun c_41 => ?_)
            · refine ww_iinc (j := 3) [(3, _), (0, _), (1, _), (2, _)] dX8_margin_57 rfl (by decide) rfl ?_
              refine ww_goto 16 dX8_margin_60 (by decide) ?_
              refine ww_sub [1, 2, 3, 0] rfl ?_
              rw [← hMx_f (cd := fun k => hCd W O k n) (sp := fun c => S c n) (b := Wi n) (z := j) (fun z => c_41 (hCd_t.mp z.2))]
              exact ih (j + 1) (by omega) (by omega)
            · have hs9 := hs (j : Int) n (by omega) (by omega) n0 n1
              refine ww_iload_n 2 dX8_margin_44 rfl ?_
              refine ww_aload_n 0 dX8_margin_45 rfl ?_
              refine ww_getf gf_X8_48 rfl dX8_margin_46 he rfl ?_
              refine ww_iload_n 3 dX8_margin_49 rfl ?_
              refine ww_aalds dX8_margin_50 hS6.1 rfl rfl (by omega) (by omega) (by omega) rfl ?_
              refine ww_iload_n 1 dX8_margin_51 rfl ?_
              refine ww_iald dX8_margin_52 (hS6.2 _ (by omega) (by omega)) (by omega) (by omega) (by omega) ?_
              refine ww_mmax q1873 rfl dX8_margin_53 (by first | assumption | exact inI.mk (by omega) (by omega)) (by first | assumption | exact inI.mk (by omega) (by omega)) (Nat.le_of_ble_eq_true rfl) (Nat.le_of_ble_eq_true rfl) (Nat.le_of_ble_eq_true rfl) (Nat.le_of_ble_eq_true rfl) ?_
              refine ww_istore_n [(2, _), (0, _), (1, _), (3, _)] dX8_margin_56 (by decide) rfl ?_
              refine ww_iinc (j := 3) [(3, _), (2, _), (0, _), (1, _)] dX8_margin_57 rfl (by decide) rfl ?_
              refine ww_goto 16 dX8_margin_60 (by decide) ?_
              refine ww_sub [2, 3, 1, 0] rfl ?_
              rw [← hMx_t (cd := fun k => hCd W O k n) (sp := fun c => S c n) (b := Wi n) ⟨c_32, hCd_t.mpr c_41⟩]
              exact ih (j + 1) (by omega) (by omega)
    refine ww_sub [2, 3, 1, 0] rfl ?_
    exact loop_16 (L + 1) 0 (by omega) (by omega)
  · refine ww_iconst dX8_margin_10 ?_
    exact ww_iret hQ dX8_margin_11 rfl (Nat.le_of_ble_eq_true rfl) (Nat.le_of_ble_eq_true rfl) ⟨_, rfl, by rw [if_pos c_7], rfl⟩

set_option maxHeartbeats 4000000 in
theorem ct_X8_bound_2 {G : GT} {h : AH} (hG : GOK G) {a : Nat} {e y1 y2 y3 y4 y5 y6 y7 L N : Nat} {W Wi T : Int → Int} (hE : EO G h e a y1 y2 y3 y4 y5 y6 y7 L N W Wi T) (hW : ∀ i : Int, -1 ≤ W i ∧ W i ≤ 9999) {RB : Int → Nat} {B : Int → Int → Int} (hB : EAr G 6 0 h e y7 10670 L N RB B) (hBi : ∀ k n : Int, 0 ≤ k → k < L → 0 ≤ n → n < N → inI (B k n)) (n c s : Int) (n0 : 0 ≤ n) (n1 : n < N) (hc : inI c) (hs : s = 0 ∨ s = 1) : CPi G (MX8_bound_2 1 21 0 0) h [.ref e, .int (iI n), .int (iI c), .int (iI s)] (smI (L : Int) (fun k => bI (W k ≠ -1 ∧ (B k n = c ↔ s = 1)))) := by
  refine CT.of rfl hG (Nat.le_of_ble_eq_true rfl) rfl (fun E hQ => ?_)
  have hE0 := hE
  have hsi : inI s := by rcases hs with q | q <;> rw [q] <;> exact inI.mk (by decide) (by decide)
  obtain ⟨he0, hL8, hN12, he, h1, h2, h3⟩ := hE
  refine ww_iconst dX8_bound_2_0 ?_
  refine ww_istore [(4, _), (0, _), (1, _), (2, _), (3, _)] dX8_bound_2_1 (by decide) rfl ?_
  refine ww_iconst dX8_bound_2_3 ?_
  refine ww_istore [(5, _), (4, _), (0, _), (1, _), (2, _), (3, _)] dX8_bound_2_4 (by decide) rfl ?_
  have loop_6 : ∀ (f : Nat) (j : Nat), (j ≤ L) → (L - j < f) → WW G E (MX8_bound_2 1 21 0 0) h 0 0 6 [(0, .ref e), (1, .int (iI n)), (2, .int (iI c)), (3, .int (iI s)), (4, .int (iI (smI (j : Int) (fun k => bI (W k ≠ -1 ∧ (B k n = c ↔ s = 1)))))), (5, .int (iI (j : Int)))] [] := by
    intro f
    induction f with
    | zero => intro j hj hf; exact absurd hf (by omega)
    | succ f ih =>
      intro j hj hf
      refine ww_iload 5 dX8_bound_2_6 rfl ?_
      refine ww_aload_n 0 dX8_bound_2_8 rfl ?_
      refine ww_getf gf_X8_30 rfl dX8_bound_2_9 he rfl ?_
      refine ww_alenA dX8_bound_2_12 h1 (by omega) ?_
      refine ww_icmp_ge 63 dX8_bound_2_13 (by decide) (inI.mk (by omega) (by omega)) (inI.mk (by omega) (by omega)) (fun c_13 => ?_) (fun c_13 => ?_)
      · have ej : (j : Int) = L := by omega
        rw [ej]
        refine ww_iload 4 dX8_bound_2_63 rfl ?_
        exact ww_iret hQ dX8_bound_2_65 rfl (Nat.le_of_ble_eq_true rfl) (Nat.le_of_ble_eq_true rfl) ⟨_, rfl, rfl, rfl⟩
      · refine ww_iload 4 dX8_bound_2_16 rfl ?_
        refine ww_aload_n 0 dX8_bound_2_18 rfl ?_
        refine ww_iload 5 dX8_bound_2_19 rfl ?_
        refine cr_pi (cr_V (ct_X8_isLoaded hG hE0 hW (j : Int) (by omega) (by omega)) sv_X8_105 rfl dX8_bound_2_21 he rfl rfl rfl rfl ⟨by decide, by decide⟩ (Nat.le_of_ble_eq_true rfl) (Nat.le_of_ble_eq_true rfl) (Nat.le_of_ble_eq_true rfl)) ?_
        refine ww_ifb_eq 53 dX8_bound_2_24 (by decide) (fun c_24 => ?_) (fun c_24 => ?_)
        · refine ww_iconst dX8_bound_2_53 ?_
          refine ww_iadd dX8_bound_2_54 ?_
          refine ww_istore [(4, _), (0, _), (1, _), (2, _), (3, _), (5, _)] dX8_bound_2_55 (by decide) rfl ?_
          refine ww_iinc (j := 5) [(5, _), (4, _), (0, _), (1, _), (2, _), (3, _)] dX8_bound_2_57 rfl (by decide) rfl ?_
          refine ww_goto 6 dX8_bound_2_60 (by decide) ?_
          refine ww_sub [2, 3, 4, 5, 1, 0] rfl ?_
          rw [smI_z (f := (fun k => bI (W k ≠ -1 ∧ (B k n = c ↔ s = 1)))) (bI_f (fun z => c_24 z.1))]
          exact ih (j + 1) (by omega) (by omega)
        · refine ww_aload_n 0 dX8_bound_2_27 rfl ?_
          refine ww_getf gf_X8_51 rfl dX8_bound_2_28 he rfl ?_
          refine ww_iload 5 dX8_bound_2_31 rfl ?_
          refine ww_aalds dX8_bound_2_33 hB.1 rfl rfl (by omega) (by omega) (by omega) rfl ?_
          refine ww_iload_n 1 dX8_bound_2_34 rfl ?_
          refine ww_iald dX8_bound_2_35 (hB.2 _ (by omega) (by omega)) (by omega) (by omega) (by omega) ?_
          refine ww_iload_n 2 dX8_bound_2_36 rfl ?_
          refine ww_icmp_ne 44 dX8_bound_2_37 (by decide) (hBi _ _ (by omega) (by omega) n0 n1) hc (fun c_37 => ?_) (fun c_37 => ?_)
          · refine ww_iconst dX8_bound_2_44 ?_
            refine ww_iload_n 3 dX8_bound_2_45 rfl ?_
            refine ww_icmp_ne 53 dX8_bound_2_46 (by decide) (inI.mk (by decide) (by decide)) hsi (fun c_46 => ?_) (fun c_46 => ?_)
            · have hq : ¬ (B (j : Int) n = c ↔ s = 1) := fun z => c_37 (z.mpr (by omega))
              refine ww_iconst dX8_bound_2_53 ?_
              refine ww_iadd dX8_bound_2_54 ?_
              refine ww_istore [(4, _), (0, _), (1, _), (2, _), (3, _), (5, _)] dX8_bound_2_55 (by decide) rfl ?_
              refine ww_iinc (j := 5) [(5, _), (4, _), (0, _), (1, _), (2, _), (3, _)] dX8_bound_2_57 rfl (by decide) rfl ?_
              refine ww_goto 6 dX8_bound_2_60 (by decide) ?_
              refine ww_sub [2, 3, 4, 5, 1, 0] rfl ?_
              rw [smI_z (f := (fun k => bI (W k ≠ -1 ∧ (B k n = c ↔ s = 1)))) (bI_f (fun z => hq z.2))]
              exact ih (j + 1) (by omega) (by omega)
            · have hq : B (j : Int) n = c ↔ s = 1 := ⟨fun z => absurd z c_37, fun z => by omega⟩
              refine ww_iconst dX8_bound_2_49 ?_
              refine ww_goto 54 dX8_bound_2_50 (by decide) ?_
              refine ww_iadd dX8_bound_2_54 ?_
              refine ww_istore [(4, _), (0, _), (1, _), (2, _), (3, _), (5, _)] dX8_bound_2_55 (by decide) rfl ?_
              refine ww_iinc (j := 5) [(5, _), (4, _), (0, _), (1, _), (2, _), (3, _)] dX8_bound_2_57 rfl (by decide) rfl ?_
              refine ww_goto 6 dX8_bound_2_60 (by decide) ?_
              refine ww_sub [2, 3, 4, 5, 1, 0] rfl ?_
              rw [smI_p (f := (fun k => bI (W k ≠ -1 ∧ (B k n = c ↔ s = 1)))) (bI_t ⟨c_24, hq⟩)]
              exact ih (j + 1) (by omega) (by omega)
          · refine ww_iconst dX8_bound_2_40 ?_
            refine ww_goto 45 dX8_bound_2_41 (by decide) ?_
            refine ww_iload_n 3 dX8_bound_2_45 rfl ?_
            refine ww_icmp_ne 53 dX8_bound_2_46 (by decide) (inI.mk (by decide) (by decide)) hsi (fun c_46 => ?_) (fun c_46 => ?_)
            · have hq : ¬ (B (j : Int) n = c ↔ s = 1) := fun z => c_46 (z.mp c_37).symm
              refine ww_iconst dX8_bound_2_53 ?_
              refine ww_iadd dX8_bound_2_54 ?_
              refine ww_istore [(4, _), (0, _), (1, _), (2, _), (3, _), (5, _)] dX8_bound_2_55 (by decide) rfl ?_
              refine ww_iinc (j := 5) [(5, _), (4, _), (0, _), (1, _), (2, _), (3, _)] dX8_bound_2_57 rfl (by decide) rfl ?_
              refine ww_goto 6 dX8_bound_2_60 (by decide) ?_
              refine ww_sub [2, 3, 4, 5, 1, 0] rfl ?_
              rw [smI_z (f := (fun k => bI (W k ≠ -1 ∧ (B k n = c ↔ s = 1)))) (bI_f (fun z => hq z.2))]
              exact ih (j + 1) (by omega) (by omega)
            · have hq : B (j : Int) n = c ↔ s = 1 := ⟨fun _ => c_46.symm, fun _ => c_37⟩
              refine ww_iconst dX8_bound_2_49 ?_
              refine ww_goto 54 dX8_bound_2_50 (by decide) ?_
              refine ww_iadd dX8_bound_2_54 ?_
              refine ww_istore [(4, _), (0, _), (1, _), (2, _), (3, _), (5, _)] dX8_bound_2_55 (by decide) rfl ?_
              refine ww_iinc (j := 5) [(5, _), (4, _), (0, _), (1, _), (2, _), (3, _)] dX8_bound_2_57 rfl (by decide) rfl ?_
              refine ww_goto 6 dX8_bound_2_60 (by decide) ?_
              refine ww_sub [2, 3, 4, 5, 1, 0] rfl ?_
              rw [smI_p (f := (fun k => bI (W k ≠ -1 ∧ (B k n = c ↔ s = 1)))) (bI_t ⟨c_24, hq⟩)]
              exact ih (j + 1) (by omega) (by omega)
  refine ww_sub [2, 3, 4, 5, 1, 0] rfl ?_
  exact loop_6 (L + 1) 0 (by omega) (by omega)
