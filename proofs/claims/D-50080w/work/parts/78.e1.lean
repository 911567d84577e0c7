set_option maxRecDepth 100000
set_option maxHeartbeats 4000000 in
theorem ct_X8_isLoaded {G : GT} {h : AH} (hG : GOK G) {a : Nat} {e y1 y2 y3 y4 y5 y6 y7 L N : Nat} {W Wi T : Int → Int} (hE : EO G h e a y1 y2 y3 y4 y5 y6 y7 L N W Wi T) (hW : ∀ i : Int, -1 ≤ W i ∧ W i ≤ 9999) (k : Int) (k0 : 0 ≤ k) (k1 : k < L) : CPi G (MX8_isLoaded 0 0 0 0) h [.ref e, .int (iI k)] (bI (W k ≠ -1)) := by
  refine CT.of rfl hG (Nat.le_of_ble_eq_true rfl) rfl (fun E hQ => ?_)
  obtain ⟨he0, hL8, hN12, he, h1, h2, h3⟩ := hE
  have hw9 := hW k
  refine ww_aload_n 0 dX8_isLoaded_0 rfl ?_
  refine ww_getf gf_X8_30 rfl dX8_isLoaded_1 he rfl ?_
  refine ww_iload_n 1 dX8_isLoaded_4 rfl ?_
  refine ww_iald dX8_isLoaded_5 h1 (by omega) (by omega) (by omega) ?_
  refine ww_iconst dX8_isLoaded_6 ?_
  refine ww_icmp_eq 14 dX8_isLoaded_7 (by decide) (inI.mk (by omega) (by omega)) (inI.mk (by decide) (by decide)) (fun c_7 => ?_) (fun c_7 => ?_)
  · refine ww_iconst dX8_isLoaded_14 ?_
    exact ww_zret hQ dX8_isLoaded_15 rfl (Nat.le_of_ble_eq_true rfl) (Nat.le_of_ble_eq_true rfl) (by first | exact Or.inl rfl | exact Or.inr rfl | (unfold bI; split <;> simp)) ⟨_, rfl, (bI_f (fun z => z c_7)).symm, rfl⟩
  · refine ww_iconst dX8_isLoaded_10 ?_
    refine ww_goto 15 dX8_isLoaded_11 (by decide) ?_
    exact ww_zret hQ dX8_isLoaded_15 rfl (Nat.le_of_ble_eq_true rfl) (Nat.le_of_ble_eq_true rfl) (by first | exact Or.inl rfl | exact Or.inr rfl | (unfold bI; split <;> simp)) ⟨_, rfl, (bI_t c_7).symm, rfl⟩

set_option maxHeartbeats 4000000 in
theorem ct_X8_isCandidate {G : GT} {h : AH} (hG : GOK G) {a : Nat} {e y1 y2 y3 y4 y5 y6 y7 L N : Nat} {W Wi T : Int → Int} (hE : EO G h e a y1 y2 y3 y4 y5 y6 y7 L N W Wi T) (hW : ∀ i : Int, -1 ≤ W i ∧ W i ≤ 9999) {RO : Int → Nat} {O : Int → Int → Int} (hO : EAr G 6 0 h e y4 10610 L N RO O) (hOi : ∀ i j : Int, inI (O i j)) (k n : Int) (k0 : 0 ≤ k) (k1 : k < L) (n0 : 0 ≤ n) (n1 : n < N) : CPi G (MX8_isCandidate 1 21 0 0) h [.ref e, .int (iI k), .int (iI n)] (bI (W k ≠ -1 ∧ O k n ≠ -1)) := by
  refine CT.of rfl hG (Nat.le_of_ble_eq_true rfl) rfl (fun E hQ => ?_)
  have hE0 := hE
  obtain ⟨he0, hL8, hN12, he, h1, h2, h3⟩ := hE
  refine ww_aload_n 0 dX8_isCandidate_0 rfl ?_
  refine ww_iload_n 1 dX8_isCandidate_1 rfl ?_
  refine cr_pi (cr_V (ct_X8_isLoaded hG hE0 hW k k0 k1) sv_X8_105 rfl dX8_isCandidate_2 he rfl rfl rfl rfl ⟨by decide, by decide⟩ (Nat.le_of_ble_eq_true rfl) (Nat.le_of_ble_eq_true rfl) (Nat.le_of_ble_eq_true rfl)) ?_
  refine ww_ifb_eq 24 dX8_isCandidate_5 (by decide) (fun c_5 => ?_) (fun c_5 => ?_)
  · refine ww_iconst dX8_isCandidate_24 ?_
    exact ww_zret hQ dX8_isCandidate_25 rfl (Nat.le_of_ble_eq_true rfl) (Nat.le_of_ble_eq_true rfl) (by first | exact Or.inl rfl | exact Or.inr rfl | (unfold bI; split <;> simp)) ⟨_, rfl, (bI_f (fun z => c_5 z.1)).symm, rfl⟩
  · refine ww_aload_n 0 dX8_isCandidate_8 rfl ?_
    refine ww_getf gf_X8_42 rfl dX8_isCandidate_9 he rfl ?_
    refine ww_iload_n 1 dX8_isCandidate_12 rfl ?_
    refine ww_aalds dX8_isCandidate_13 hO.1 rfl rfl (by omega) (by omega) (by omega) rfl ?_
    refine ww_iload_n 2 dX8_isCandidate_14 rfl ?_
    refine ww_iald dX8_isCandidate_15 (hO.2 k k0 k1) (by omega) (by omega) (by omega) ?_
    refine ww_iconst dX8_isCandidate_16 ?_
    refine ww_icmp_eq 24 dX8_isCandidate_17 (by decide) (hOi _ _) (inI.mk (by decide) (by decide)) (fun c_17 => ?_) (fun c_17 => ?_)
    · refine ww_iconst dX8_isCandidate_24 ?_
      exact ww_zret hQ dX8_isCandidate_25 rfl (Nat.le_of_ble_eq_true rfl) (Nat.le_of_ble_eq_true rfl) (by first | exact Or.inl rfl | exact Or.inr rfl | (unfold bI; split <;> simp)) ⟨_, rfl, (bI_f (fun z => z.2 c_17)).symm, rfl⟩
    · refine ww_iconst dX8_isCandidate_20 ?_
      refine ww_goto 25 dX8_isCandidate_21 (by decide) ?_
      exact ww_zret hQ dX8_isCandidate_25 rfl (Nat.le_of_ble_eq_true rfl) (Nat.le_of_ble_eq_true rfl) (by first | exact Or.inl rfl | exact Or.inr rfl | (unfold bI; split <;> simp)) ⟨_, rfl, (bI_t ⟨c_5, c_17⟩).symm, rfl⟩

set_option maxHeartbeats 4000000 in
theorem ct_X8_choice {G : GT} {h : AH} (hG : GOK G) {a r : Nat} {nm : List (List Int)} {lb : List LV} {of : Int → Int → Int} {ld : List Int} {sh : Int} {fn : EF} (hS : HS G h a r nm lb of ld sh fn) {e y1 y2 y3 y4 y5 y6 y7 } {W Wi T : Int → Int} (hE : EO G h e a y1 y2 y3 y4 y5 y6 y7 lb.length nm.length W Wi T) (hW : ∀ i : Int, -1 ≤ W i ∧ W i ≤ 9999) {RO : Int → Nat} {O : Int → Int → Int} (hO : EAr G 6 0 h e y4 10610 lb.length nm.length RO O) (hOi : ∀ i j : Int, inI (O i j)) (hpf : ∀ v ∈ lb, ∀ x ∈ v.2.2.2, 0 ≤ x ∧ x < lb.length) (k n : Int) (k0 : 0 ≤ k) (k1 : k < lb.length) (n0 : 0 ≤ n) (n1 : n < nm.length) : CPi G (MX8_choice 3 64 0 0) h [.ref e, .int (iI k), .int (iI n)] (hVt W O lb k n) := by
  refine CT.of rfl hG (Nat.le_of_ble_eq_true rfl) rfl (fun E hQ => ?_)
  have hE0 := hE
  obtain ⟨nl, al, am, ll, w, nx, lx, dx, ha0, hr0, ha, hR, hM, h8⟩ := hS
  obtain ⟨he0, hL8, hN12, he, h1, h2, h3⟩ := hE
  have hkl : k.toNat < lb.length := by omega
  have hv8 := List.getElem?_eq_getElem hkl
  generalize lb[k.toNat] = v at hv8
  obtain ⟨x8, hx8⟩ := gx_get (xs := lx) (i := k) k0 (by rw [hR.2.1.2.1]; omega)
  obtain ⟨ws, pl, px, hb, -, hpa, hpz, hkp⟩ := hR.2.1.2.2 _ _ _ hx8 hv8
  obtain ⟨fs9, hal⟩ := hR.2.1.1.obj
  obtain ⟨fs8, hpo⟩ := hpa.obj
  have hl100 := hpa.len
  have hln := hpz.len
  refine ww_aload_n 0 dX8_choice_0 rfl ?_
  refine ww_iload_n 1 dX8_choice_1 rfl ?_
  refine cr_pi (cr_V (ct_X8_isLoaded hG hE0 hW k k0 k1) sv_X8_105 rfl dX8_choice_2 he rfl rfl rfl rfl ⟨by decide, by decide⟩ (Nat.le_of_ble_eq_true rfl) (Nat.le_of_ble_eq_true rfl) (Nat.le_of_ble_eq_true rfl)) ?_
  refine ww_ifb_ne 10 dX8_choice_5 (by decide) (fun c_5 => ?_) (fun c_5 => ?_)
  · refine ww_aload_n 0 dX8_choice_10 rfl ?_
    refine ww_iload_n 1 dX8_choice_11 rfl ?_
    refine ww_iload_n 2 dX8_choice_12 rfl ?_
    refine cr_pi (cr_V (ct_X8_isCandidate hG hE0 hW hO hOi k n k0 k1 n0 n1) sv_X8_109 rfl dX8_choice_13 he rfl rfl rfl rfl ⟨by decide, by decide⟩ (Nat.le_of_ble_eq_true rfl) (Nat.le_of_ble_eq_true rfl) (Nat.le_of_ble_eq_true rfl)) ?_
    refine ww_ifb_eq 21 dX8_choice_16 (by decide) (fun c_16 => ?_) (fun c_16 => ?_)
    · refine ww_aload_n 0 dX8_choice_21 rfl ?_
      refine ww_getf gf_X8_9 rfl dX8_choice_22 he rfl ?_
      refine ww_getf gf_X8_15 rfl dX8_choice_25 ha rfl ?_
      refine ww_iload_n 1 dX8_choice_28 rfl ?_
      refine cr5_pr (cr_F (ct_J3_get hG hR.2.1.1 _ x8 k0 hx8) sf_X8_74 rfl dX8_choice_29 hal rfl rfl rfl rfl ⟨by decide, by decide⟩ (Nat.le_of_ble_eq_true rfl) (Nat.le_of_ble_eq_true rfl) (Nat.le_of_ble_eq_true rfl)) ?_
      refine ww_cast dX8_choice_34 hb rfl q772 rfl ?_
      refine ww_getf gf_X8_113 rfl dX8_choice_37 hb rfl ?_
      refine ww_astore_n [(3, _), (0, _), (1, _), (2, _)] dX8_choice_40 (by decide) rfl ?_
      refine ww_iconst dX8_choice_41 ?_
      refine ww_istore [(4, _), (3, _), (0, _), (1, _), (2, _)] dX8_choice_42 (by decide) rfl ?_
      have loop_44 : ∀ (f : Nat) (j : Nat), (j ≤ px.length) → ((v.2.2.2.drop j).find? (fun o => hCd W O o n) = v.2.2.2.find? (fun o => hCd W O o n)) → (px.length - j < f) → WW G E (MX8_choice 3 64 0 0) h 0 0 44 [(0, .ref e), (2, .int (iI n)), (3, .ref pl), (4, .int (iI (j : Int)))] [] := by
        intro f
        induction f with
        | zero => intro j hj hfd hf; exact absurd hf (by omega)
        | succ f ih =>
          intro j hj hfd hf
          refine ww_iload 3 dX8_choice_44 rfl ?_
          refine ww_aload_n 2 dX8_choice_46 rfl ?_
          refine cr5_pi (cr_F (ct_J3_size hG hpa) sf_X8_21 rfl dX8_choice_47 hpo rfl rfl rfl rfl ⟨by decide, by decide⟩ (Nat.le_of_ble_eq_true rfl) (Nat.le_of_ble_eq_true rfl) (Nat.le_of_ble_eq_true rfl)) ?_
          refine ww_icmp_ge 90 dX8_choice_52 (by decide) (inI.mk (by omega) (by omega)) (inI.mk (by omega) (by omega)) (fun c_52 => ?_) (fun c_52 => ?_)
          · refine ww_iconst dX8_choice_90 ?_
            exact ww_iret hQ dX8_choice_91 rfl (Nat.le_of_ble_eq_true rfl) (Nat.le_of_ble_eq_true rfl) ⟨_, rfl, by unfold hVt; rw [if_neg c_5, if_neg (fun z => c_16 ⟨c_5, z⟩), prf_at hv8, ← hfd, List.drop_eq_nil_of_le (by omega)]; rfl, rfl⟩
          · refine ww_aload_n 2 dX8_choice_55 rfl ?_
            refine ww_iload 3 dX8_choice_56 rfl ?_
            obtain ⟨x9, hx9⟩ := gx_get (xs := px) (i := (j : Int)) (by omega) (by omega)
            obtain ⟨v9, hv9, o9, k9, hi9, -⟩ := hpz.get hx9
            rw [Int.toNat_natCast] at hv9
            have hin9 := hpf _ (List.mem_of_getElem? hv8) v9 (List.mem_of_getElem? hv9)
            refine cr5_pr (cr_F (ct_J3_get hG hpa _ x9 (by omega) hx9) sf_X8_74 rfl dX8_choice_58 hpo rfl rfl rfl rfl ⟨by decide, by decide⟩ (Nat.le_of_ble_eq_true rfl) (Nat.le_of_ble_eq_true rfl) (Nat.le_of_ble_eq_true rfl)) ?_
            refine ww_cast dX8_choice_63 hi9 rfl q1146 rfl ?_
            refine cr_pi (cr_V (ct_J20_intValue hG hi9) sv_X8_118 rfl dX8_choice_66 hi9 rfl rfl rfl rfl ⟨by decide, by decide⟩ (Nat.le_of_ble_eq_true rfl) (Nat.le_of_ble_eq_true rfl) (Nat.le_of_ble_eq_true rfl)) ?_
            refine ww_istore [(5, _), (0, _), (2, _), (3, _), (4, _)] dX8_choice_69 (by decide) rfl ?_
            refine ww_aload_n 1 dX8_choice_71 rfl ?_
            refine ww_iload 0 dX8_choice_72 rfl ?_
            refine ww_iload_n 2 dX8_choice_74 rfl ?_
            refine cr_pi (cr_V (ct_X8_isCandidate hG hE0 hW hO hOi v9 n hin9.1 hin9.2 n0 n1) sv_X8_109 rfl dX8_choice_75 he rfl rfl rfl rfl ⟨by decide, by decide⟩ (Nat.le_of_ble_eq_true rfl) (Nat.le_of_ble_eq_true rfl) (Nat.le_of_ble_eq_true rfl)) ?_
            refine ww_ifb_eq 84 dX8_choice_78 (by decide) (fun c_78 => ?_) (fun c_78 => ?_)
            · refine ww_iinc (j := 4) [(4, _), (5, _), (0, _), (2, _), (3, _)] dX8_choice_84 rfl (by decide) rfl ?_
              refine ww_goto 44 dX8_choice_87 (by decide) ?_
              refine ww_sub [2, 3, 4, 0] rfl ?_
              exact ih (j + 1) (by omega) (by rw [← hfd, dropc hv9, List.find?_cons_of_neg (by simp only [hCd, decide_eq_true_eq]; exact c_78)]) (by omega)
            · refine ww_iload 0 dX8_choice_81 rfl ?_
              exact ww_iret hQ dX8_choice_83 rfl (Nat.le_of_ble_eq_true rfl) (Nat.le_of_ble_eq_true rfl) ⟨_, rfl, by unfold hVt; rw [if_neg c_5, if_neg (fun z => c_16 ⟨c_5, z⟩), prf_at hv8, ← hfd, dropc hv9, List.find?_cons_of_pos (by simp only [hCd, decide_eq_true_eq]; exact c_78)]; rfl, rfl⟩
      refine ww_sub [2, 4, 1, 0] rfl ?_
      exact loop_44 (px.length + 1) 0 (by omega) rfl (by omega)
    · refine ww_iload_n 1 dX8_choice_19 rfl ?_
      exact ww_iret hQ dX8_choice_20 rfl (Nat.le_of_ble_eq_true rfl) (Nat.le_of_ble_eq_true rfl) ⟨_, rfl, by unfold hVt; rw [if_neg c_5, if_pos c_16.2], rfl⟩
  · refine ww_iconst dX8_choice_8 ?_
    exact ww_iret hQ dX8_choice_9 rfl (Nat.le_of_ble_eq_true rfl) (Nat.le_of_ble_eq_true rfl) ⟨_, rfl, by unfold hVt; rw [if_pos (Classical.byContradiction c_5)], rfl⟩

set_option maxHeartbeats 4000000 in
theorem ct_X8_bound {G : GT} {h : AH} (hG : GOK G) {a r : Nat} {nm : List (List Int)} {lb : List LV} {of : Int → Int → Int} {ld : List Int} {sh : Int} {fn : EF} (hS : HS G h a r nm lb of ld sh fn) {e y1 y2 y3 y4 y5 y6 y7 } {W Wi T : Int → Int} (hE : EO G h e a y1 y2 y3 y4 y5 y6 y7 lb.length nm.length W Wi T) (hW : ∀ i : Int, -1 ≤ W i ∧ W i ≤ 9999) {RV RS : Int → Nat} {V S : Int → Int → Int} (hV : EAr G 6 0 h e y5 10630 lb.length nm.length RV V) (hS6 : EAr G 6 0 h e y6 10650 lb.length nm.length RS S) (k n : Int) (k0 : 0 ≤ k) (k1 : k < lb.length) (n0 : 0 ≤ n) (n1 : n < nm.length) (hv : -1 ≤ V k n ∧ V k n < lb.length) (hs : ∀ c : Int, 0 ≤ c → c < lb.length → 0 ≤ S c n ∧ S c n ≤ 79992) (ht : 0 ≤ T n ∧ T n ≤ 79992) (hsh : 0 ≤ sh ∧ sh ≤ 100) : CPi G (MX8_bound 3 64 0 0) h [.ref e, .int (iI k), .int (iI n)] (hBd W lb sh (fun i => V i n) (fun c => S c n) (T n) (Wi n) k) := by
  refine CT.of rfl hG (Nat.le_of_ble_eq_true rfl) rfl (fun E hQ => ?_)
  have hE0 := hE
  obtain ⟨nl, al, am, ll, w, nx, lx, dx, ha0, hr0, ha, hR, hM, h8⟩ := hS
  obtain ⟨he0, hL8, hN12, he, h1, h2, h3⟩ := hE
  have hkl : k.toNat < lb.length := by omega
  have hv8 := List.getElem?_eq_getElem hkl
  generalize lb[k.toNat] = v at hv8
  obtain ⟨x8, hx8⟩ := gx_get (xs := lx) (i := k) k0 (by rw [hR.2.1.2.1]; omega)
  obtain ⟨ws, pl, px, hb, -, hpa, hpz, hkp⟩ := hR.2.1.2.2 _ _ _ hx8 hv8
  obtain ⟨fs9, hal⟩ := hR.2.1.1.obj
  obtain ⟨fs8, hpo⟩ := hpa.obj
  have hl100 := hpa.len
  have hln := hpz.len
  have hml := mul_bd2 (a := sh) (b := T n) (A := 100) (C := 79992) hsh.1 (by omega) (by omega) (by omega)
  refine ww_aload_n 0 dX8_bound_0 rfl ?_
  refine ww_iload_n 1 dX8_bound_1 rfl ?_
  refine cr_pi (cr_V (ct_X8_isLoaded hG hE0 hW k k0 k1) sv_X8_105 rfl dX8_bound_2 he rfl rfl rfl rfl ⟨by decide, by decide⟩ (Nat.le_of_ble_eq_true rfl) (Nat.le_of_ble_eq_true rfl) (Nat.le_of_ble_eq_true rfl)) ?_
  refine ww_ifb_ne 10 dX8_bound_5 (by decide) (fun c_5 => ?_) (fun c_5 => ?_)
  · refine ww_aload_n 0 dX8_bound_10 rfl ?_
    refine ww_getf gf_X8_45 rfl dX8_bound_11 he rfl ?_
    refine ww_iload_n 1 dX8_bound_14 rfl ?_
    refine ww_aalds dX8_bound_15 hV.1 rfl rfl (by omega) (by omega) (by omega) rfl ?_
    refine ww_iload_n 2 dX8_bound_16 rfl ?_
    refine ww_iald dX8_bound_17 (hV.2 k k0 k1) (by omega) (by omega) (by omega) ?_
    refine ww_istore_n [(3, _), (0, _), (1, _), (2, _)] dX8_bound_18 (by decide) rfl ?_
    refine ww_iload_n 0 dX8_bound_19 rfl ?_
    refine ww_iconst dX8_bound_20 ?_
    refine ww_icmp_eq 56 dX8_bound_21 (by decide) (inI.mk (by omega) (by omega)) (inI.mk (by decide) (by decide)) (fun c_21 => ?_) (fun c_21 => ?_)
    · refine ww_iconst dX8_bound_56 ?_
      refine ww_istore [(4, _), (3, _), (0, _), (1, _), (2, _)] dX8_bound_57 (by decide) rfl ?_
      refine ww_aload_n 2 dX8_bound_59 rfl ?_
      refine ww_getf gf_X8_9 rfl dX8_bound_60 he rfl ?_
      refine ww_getf gf_X8_15 rfl dX8_bound_63 ha rfl ?_
      refine ww_iload_n 3 dX8_bound_66 rfl ?_
      refine cr5_pr (cr_F (ct_J3_get hG hR.2.1.1 _ x8 k0 hx8) sf_X8_74 rfl dX8_bound_67 hal rfl rfl rfl rfl ⟨by decide, by decide⟩ (Nat.le_of_ble_eq_true rfl) (Nat.le_of_ble_eq_true rfl) (Nat.le_of_ble_eq_true rfl)) ?_
      refine ww_cast dX8_bound_72 hb rfl q772 rfl ?_
      refine ww_getf gf_X8_133 rfl dX8_bound_75 hb rfl ?_
      refine ww_if_eq 90 dX8_bound_78 (by decide) (by rcases hkp with q | q <;> rw [q] <;> exact inI.mk (by decide) (by decide)) (fun c_78 => ?_) (fun c_78 => ?_)
      · refine ww_aload_n 2 dX8_bound_90 rfl ?_
        refine ww_getf gf_X8_34 rfl dX8_bound_91 he rfl ?_
        refine ww_iload_n 4 dX8_bound_94 rfl ?_
        refine ww_iald dX8_bound_95 h2 (by omega) (by omega) (by omega) ?_
        exact ww_iret hQ dX8_bound_96 rfl (Nat.le_of_ble_eq_true rfl) (Nat.le_of_ble_eq_true rfl) ⟨_, rfl, (hBd_b c_5 (fun z => by have := z.1; rw [hKp_at hv8] at this; omega)).symm, rfl⟩
      · refine ww_iload 0 dX8_bound_81 rfl ?_
        refine ww_if_eq 90 dX8_bound_83 (by decide) (inI.mk (by decide) (by decide)) (fun c_83 => ?_) (fun c_83 => ?_)
        · refine ww_aload_n 2 dX8_bound_90 rfl ?_
          refine ww_getf gf_X8_34 rfl dX8_bound_91 he rfl ?_
          refine ww_iload_n 4 dX8_bound_94 rfl ?_
          refine ww_iald dX8_bound_95 h2 (by omega) (by omega) (by omega) ?_
          exact ww_iret hQ dX8_bound_96 rfl (Nat.le_of_ble_eq_true rfl) (Nat.le_of_ble_eq_true rfl) ⟨_, rfl, (hBd_b c_5 (fun z => z.2.1 c_21)).symm, rfl⟩
        · exact absurd rfl c_83
    · have hs9 := hs (V k n) (by omega) (by omega)
      refine ww_bipush dX8_bound_24 (by decide) ?_
      refine ww_aload_n 1 dX8_bound_26 rfl ?_
      refine ww_getf gf_X8_48 rfl dX8_bound_27 he rfl ?_
      refine ww_iload_n 0 dX8_bound_30 rfl ?_
      refine ww_aalds dX8_bound_31 hS6.1 rfl rfl (by omega) (by omega) (by omega) rfl ?_
      refine ww_iload_n 3 dX8_bound_32 rfl ?_
      refine ww_iald dX8_bound_33 (hS6.2 _ (by omega) (by omega)) (by omega) (by omega) (by omega) ?_
      refine ww_imul dX8_bound_34 ?_
      refine ww_aload_n 1 dX8_bound_35 rfl ?_
      refine ww_getf gf_X8_9 rfl dX8_bound_36 he rfl ?_
      refine ww_getf gf_X8_130 rfl dX8_bound_39 ha rfl ?_
      refine ww_aload_n 1 dX8_bound_42 rfl ?_
      refine ww_getf gf_X8_37 rfl dX8_bound_43 he rfl ?_
      refine ww_iload_n 3 dX8_bound_46 rfl ?_
      refine ww_iald dX8_bound_47 h3 (by omega) (by omega) (by omega) ?_
      refine ww_imul dX8_bound_48 ?_
      refine ww_icmp_lt 56 dX8_bound_49 (by decide) (inI.mk (by omega) (by omega)) (inI.mk (by omega) (by omega)) (fun c_49 => ?_) (fun c_49 => ?_)
      · refine ww_iconst dX8_bound_56 ?_
        refine ww_istore [(4, _), (3, _), (0, _), (1, _), (2, _)] dX8_bound_57 (by decide) rfl ?_
        refine ww_aload_n 2 dX8_bound_59 rfl ?_
        refine ww_getf gf_X8_9 rfl dX8_bound_60 he rfl ?_
        refine ww_getf gf_X8_15 rfl dX8_bound_63 ha rfl ?_
        refine ww_iload_n 3 dX8_bound_66 rfl ?_
        refine cr5_pr (cr_F (ct_J3_get hG hR.2.1.1 _ x8 k0 hx8) sf_X8_74 rfl dX8_bound_67 hal rfl rfl rfl rfl ⟨by decide, by decide⟩ (Nat.le_of_ble_eq_true rfl) (Nat.le_of_ble_eq_true rfl) (Nat.le_of_ble_eq_true rfl)) ?_
        refine ww_cast dX8_bound_72 hb rfl q772 rfl ?_
        refine ww_getf gf_X8_133 rfl dX8_bound_75 hb rfl ?_
        refine ww_if_eq 90 dX8_bound_78 (by decide) (by rcases hkp with q | q <;> rw [q] <;> exact inI.mk (by decide) (by decide)) (fun c_78 => ?_) (fun c_78 => ?_)
        · refine ww_aload_n 2 dX8_bound_90 rfl ?_
          refine ww_getf gf_X8_34 rfl dX8_bound_91 he rfl ?_
          refine ww_iload_n 4 dX8_bound_94 rfl ?_
          refine ww_iald dX8_bound_95 h2 (by omega) (by omega) (by omega) ?_
          exact ww_iret hQ dX8_bound_96 rfl (Nat.le_of_ble_eq_true rfl) (Nat.le_of_ble_eq_true rfl) ⟨_, rfl, (hBd_b c_5 (fun z => by have := z.1; rw [hKp_at hv8] at this; omega)).symm, rfl⟩
        · refine ww_iload 0 dX8_bound_81 rfl ?_
          refine ww_if_eq 90 dX8_bound_83 (by decide) (inI.mk (by decide) (by decide)) (fun c_83 => ?_) (fun c_83 => ?_)
          · refine ww_aload_n 2 dX8_bound_90 rfl ?_
            refine ww_getf gf_X8_34 rfl dX8_bound_91 he rfl ?_
            refine ww_iload_n 4 dX8_bound_94 rfl ?_
            refine ww_iald dX8_bound_95 h2 (by omega) (by omega) (by omega) ?_
            exact ww_iret hQ dX8_bound_96 rfl (Nat.le_of_ble_eq_true rfl) (Nat.le_of_ble_eq_true rfl) ⟨_, rfl, (hBd_b c_5 (fun z => by have z3 : sh * T n ≤ 100 * S (V k n) n := z.2.2; omega)).symm, rfl⟩
          · exact absurd rfl c_83
      · refine ww_iconst dX8_bound_52 ?_
        refine ww_goto 57 dX8_bound_53 (by decide) ?_
        refine ww_istore [(4, _), (3, _), (0, _), (1, _), (2, _)] dX8_bound_57 (by decide) rfl ?_
        refine ww_aload_n 2 dX8_bound_59 rfl ?_
        refine ww_getf gf_X8_9 rfl dX8_bound_60 he rfl ?_
        refine ww_getf gf_X8_15 rfl dX8_bound_63 ha rfl ?_
        refine ww_iload_n 3 dX8_bound_66 rfl ?_
        refine cr5_pr (cr_F (ct_J3_get hG hR.2.1.1 _ x8 k0 hx8) sf_X8_74 rfl dX8_bound_67 hal rfl rfl rfl rfl ⟨by decide, by decide⟩ (Nat.le_of_ble_eq_true rfl) (Nat.le_of_ble_eq_true rfl) (Nat.le_of_ble_eq_true rfl)) ?_
        refine ww_cast dX8_bound_72 hb rfl q772 rfl ?_
        refine ww_getf gf_X8_133 rfl dX8_bound_75 hb rfl ?_
        refine ww_if_eq 90 dX8_bound_78 (by decide) (by rcases hkp with q | q <;> rw [q] <;> exact inI.mk (by decide) (by decide)) (fun c_78 => ?_) (fun c_78 => ?_)
        · refine ww_aload_n 2 dX8_bound_90 rfl ?_
          refine ww_getf gf_X8_34 rfl dX8_bound_91 he rfl ?_
          refine ww_iload_n 4 dX8_bound_94 rfl ?_
          refine ww_iald dX8_bound_95 h2 (by omega) (by omega) (by omega) ?_
          exact ww_iret hQ dX8_bound_96 rfl (Nat.le_of_ble_eq_true rfl) (Nat.le_of_ble_eq_true rfl) ⟨_, rfl, (hBd_b c_5 (fun z => by have := z.1; rw [hKp_at hv8] at this; omega)).symm, rfl⟩
        · refine ww_iload 0 dX8_bound_81 rfl ?_
          refine ww_if_eq 90 dX8_bound_83 (by decide) (inI.mk (by decide) (by decide)) (fun c_83 => ?_) (fun c_83 => ?_)
          · exact absurd c_83 (by decide)
          · refine ww_iload_n 1 dX8_bound_86 rfl ?_
            refine ww_goto 96 dX8_bound_87 (by decide) ?_
            exact ww_iret hQ dX8_bound_96 rfl (Nat.le_of_ble_eq_true rfl) (Nat.le_of_ble_eq_true rfl) ⟨_, rfl, (hBd_v (sh := sh) (tot := T n) (best := Wi n) (vt := fun i => V i n) (sp := fun c => S c n) c_5 ⟨by rw [hKp_at hv8]; omega, c_21, by show sh * T n ≤ 100 * S (V k n) n; omega⟩).symm, rfl⟩
  · refine ww_iconst dX8_bound_8 ?_
    exact ww_iret hQ dX8_bound_9 rfl (Nat.le_of_ble_eq_true rfl) (Nat.le_of_ble_eq_true rfl) ⟨_, rfl, by unfold hBd; rw [if_pos (Classical.byContradiction c_5)], rfl⟩

set_option maxHeartbeats 4000000 in
theorem ct_X8_weight {G : GT} {h : AH} (hG : GOK G) {a r : Nat} {nm : List (List Int)} {lb : List LV} {of : Int → Int → Int} {ld : List Int} {sh : Int} {fn : EF} (hS : HS G h a r nm lb of ld sh fn) {e y1 y2 y3 y4 y5 y6 y7 } {W Wi T : Int → Int} (hE : EO G h e a y1 y2 y3 y4 y5 y6 y7 lb.length nm.length W Wi T) (hld : ∀ x ∈ ld, 0 ≤ x ∧ x < lb.length) (hpf : ∀ v ∈ lb, ∀ x ∈ v.2.2.2, 0 ≤ x ∧ x < lb.length) (htr : ∀ v ∈ lb, 0 ≤ v.2.1 ∧ v.2.1 ≤ 999) (hof : ∀ k n : Int, inI (of k n)) (k : Int) (k0 : 0 ≤ k) (k1 : k < lb.length) : CT G (MX8_weight 1602 51300 12 24) h [.ref e, .int (iI k)] (pI (fun z h' => z = hWt nm.length lb of ld fn k ∧ Ex h h')) := by
  refine CT.of rfl hG (Nat.le_of_ble_eq_true rfl) rfl (fun E hQ => ?_)
  have hS0 := hS
  obtain ⟨nl, al, am, ll, w, nx, lx, dx, ha0, hr0, ha, hR, hM, h8⟩ := hS
  obtain ⟨he0, hL8, hN12, he, h1, h2, h3⟩ := hE
  have hkl : k.toNat < lb.length := by omega
  have hv8 := List.getElem?_eq_getElem hkl
  generalize lb[k.toNat] = v at hv8
  obtain ⟨x8, hx8⟩ := gx_get (xs := lx) (i := k) k0 (by rw [hR.2.1.2.1]; omega)
  obtain ⟨ws, pl, px, hb, -, hpa, hpz, hkp⟩ := hR.2.1.2.2 _ _ _ hx8 hv8
  obtain ⟨fs9, hal⟩ := hR.2.1.1.obj
  obtain ⟨fs8, hpo⟩ := hpa.obj
  have hl100 := hpa.len
  have hln := hpz.len
  have hldl := hR.2.2.1.2.len
  have hdl := hR.2.2.1.1.len
  have htk := htr _ (List.mem_of_getElem? hv8)
  have hrg := fi_rg (l := ld) (w := k)
  have hfb := fri_bd (lb := lb) (ld := ld) (k := k)
  have hob := ofd_bd (N := nm.length) (of := of) (k := k)
  have hwt := WT.cw hG hR.2.2.2
  refine ww_aload_n 0 dX8_weight_0 rfl ?_
  refine ww_getf gf_X8_9 rfl dX8_weight_1 he rfl ?_
  refine ww_iload_n 1 dX8_weight_4 rfl ?_
  refine cr_pi (cr_V (ct_X2_rank hG hS0 k (inI.mk (by omega) (by omega)) (fun x hx => inI.mk (by have := (hld x hx).1; omega) (by have := (hld x hx).2; omega))) sv_X8_66 rfl dX8_weight_5 ha rfl rfl rfl rfl ⟨by decide, by decide⟩ (Nat.le_of_ble_eq_true rfl) (Nat.le_of_ble_eq_true rfl) (Nat.le_of_ble_eq_true rfl)) ?_
  refine ww_istore_n [(2, _), (0, _), (1, _)] dX8_weight_8 (by decide) rfl ?_
  refine ww_iload_n 0 dX8_weight_9 rfl ?_
  refine ww_iconst dX8_weight_10 ?_
  refine ww_icmp_ne 16 dX8_weight_11 (by decide) (inI.mk (by omega) (by omega)) (inI.mk (by decide) (by decide)) (fun c_11 => ?_) (fun c_11 => ?_)
  · refine ww_lconst 0 dX8_weight_16 rfl ?_
    refine ww_ldc2 q769 dX8_weight_17 (z := 9999) rfl ?_
    refine ww_aload_n 1 dX8_weight_20 rfl ?_
    refine ww_getf gf_X8_9 rfl dX8_weight_21 he rfl ?_
    refine ww_getf gf_X8_71 rfl dX8_weight_24 ha rfl ?_
    refine ww_aload_n 1 dX8_weight_27 rfl ?_
    refine ww_getf gf_X8_9 rfl dX8_weight_28 he rfl ?_
    refine ww_getf gf_X8_15 rfl dX8_weight_31 ha rfl ?_
    refine ww_iload_n 2 dX8_weight_34 rfl ?_
    refine cr5_pr (cr_F (ct_J3_get hG hR.2.1.1 _ x8 k0 hx8) sf_X8_74 rfl dX8_weight_35 hal rfl rfl rfl rfl ⟨by decide, by decide⟩ (Nat.le_of_ble_eq_true rfl) (Nat.le_of_ble_eq_true rfl) (Nat.le_of_ble_eq_true rfl)) ?_
    refine ww_cast dX8_weight_40 hb rfl q772 rfl ?_
    refine ww_getf gf_X8_80 rfl dX8_weight_43 hb rfl ?_
    refine ww_iload_n 0 dX8_weight_46 rfl ?_
    refine ww_aload_n 1 dX8_weight_47 rfl ?_
    refine ww_getf gf_X8_9 rfl dX8_weight_48 he rfl ?_
    refine ww_iload_n 2 dX8_weight_51 rfl ?_
    refine cr_i (cr_V (ct_X2_offered hG hS0 k k0 (by omega) hN12 (hof k)) sv_X8_84 rfl dX8_weight_52 ha rfl rfl rfl rfl ⟨by decide, by decide⟩ (Nat.le_of_ble_eq_true rfl) (Nat.le_of_ble_eq_true rfl) (Nat.le_of_ble_eq_true rfl)) (fun r_52 h_52 hp_52 => ?_)
    obtain ⟨er_52, e_52⟩ := hp_52
    subst er_52
    have he := e_52 _ _ he
    have ha := e_52 _ _ ha
    refine ww_aload_n 1 dX8_weight_55 rfl ?_
    refine ww_getf gf_X8_9 rfl dX8_weight_56 he rfl ?_
    refine ww_iload_n 2 dX8_weight_59 rfl ?_
    refine cr_pi (cr_V (ct_X2_friends hG (hS0.ex e_52) k (inI.mk (by omega) (by omega)) hld (fun v9 hv9 x hx => inI.mk (by have := (hpf v9 hv9 x hx).1; omega) (by have := (hpf v9 hv9 x hx).2; omega))) sv_X8_87 rfl dX8_weight_60 ha rfl rfl rfl rfl ⟨by decide, by decide⟩ (Nat.le_of_ble_eq_true rfl) (Nat.le_of_ble_eq_true rfl) (Nat.le_of_ble_eq_true rfl)) ?_
    refine ww_of (WT.cw hG (hR.2.2.2.ex e_52)) ⟨by omega, by omega⟩ ⟨by omega, by omega⟩ ⟨by omega, by omega⟩ ⟨by omega, by omega⟩ swo_8 rfl dX8_weight_63 rfl (Nat.le_of_ble_eq_true rfl) (Nat.le_of_ble_eq_true rfl) (Nat.le_of_ble_eq_true rfl) (Nat.le_of_ble_eq_true rfl) (Nat.le_of_ble_eq_true rfl) ?_
    have hsm := hR.2.2.2.bd v.2.1 (fi ld k) (smI (nm.length : Int) (fun n => bI (of k n ≠ -1))) (fri lb ld k) ⟨by omega, by omega⟩ ⟨by omega, by omega⟩ ⟨by omega, by omega⟩ ⟨by omega, by omega⟩
    have hs1 := hsm.1
    have hs2 := hsm.2
    refine ww_mminl q1123 rfl dX8_weight_68 (inL.mk (by omega) (by omega)) (inL.mk (by omega) (by omega)) (Nat.le_of_ble_eq_true rfl) (Nat.le_of_ble_eq_true rfl) (Nat.le_of_ble_eq_true rfl) (Nat.le_of_ble_eq_true rfl) ?_
    refine ww_mmaxl q1126 rfl dX8_weight_71 (inL.mk (by omega) (by omega)) (inL.mk (by omega) (by omega)) (Nat.le_of_ble_eq_true rfl) (Nat.le_of_ble_eq_true rfl) (Nat.le_of_ble_eq_true rfl) (Nat.le_of_ble_eq_true rfl) ?_
    refine ww_l2i dX8_weight_74 ?_
    exact ww_iret hQ dX8_weight_75 rfl (Nat.le_of_ble_eq_true rfl) (Nat.le_of_ble_eq_true rfl) ⟨_, rfl, by unfold hWt; rw [if_neg c_11, hTr_at hv8, clw_mm], e_52⟩
  · refine ww_iconst dX8_weight_14 ?_
    exact ww_iret hQ dX8_weight_15 rfl (Nat.le_of_ble_eq_true rfl) (Nat.le_of_ble_eq_true rfl) ⟨_, rfl, by unfold hWt; rw [if_pos c_11], Ex.rf⟩
