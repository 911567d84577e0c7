set_option maxRecDepth 100000
set_option maxHeartbeats 4000000 in
theorem ct_X3_layAll {G : GT} {h0 h : AH} {m : Nat} {A : Nat → Nat} {B : Nat → Int → Nat} {D : Int → Int} {σ : MS} (hG : GOK G) (hM : MWF G h0 h m A B D σ) {fn : EF} (hD : DOK D fn) : CSv G (MX3_layAll 5 113 0 0) h m A B D [.ref m] (fun σ' => (∀ j, j < 18 ∨ 23 < j → σ' j = σ j) ∧ Laid D fn σ') := by
  refine CT.of rfl hG (Nat.le_of_ble_eq_true rfl) rfl (fun E hQ => ?_)
  have hM := hM.1.f
  obtain ⟨⟨hl1, hl2⟩, ⟨hn1, hn2⟩, ⟨hs1, hs2⟩, hpf, hpr, htr, hwt, hof⟩ := hD
  refine ww_iconst dX3_layAll_0 ?_
  refine ww_istore_n [(1, _), (0, _)] dX3_layAll_1 (by decide) rfl ?_
  have loop_2 : ∀ (f : Nat) (i : Int) (τ : MS) (hx : AH), (0 ≤ i) → (i ≤ D 1) → (MWF G h hx m A B D τ) → (∀ j, j < 18 ∨ 20 < j → τ j = σ j) → (∀ k : Int, 0 ≤ k → k < i → τ 19 0 k = dWt D fn k ∧ τ 20 0 k = dRk D k) → (D 1 - i < f) → WW G E (MX3_layAll 5 113 0 0) hx 0 0 2 [(1, .int (iI i)), (0, .ref m)] [] := by
    intro f
    induction f with
    | zero => intro i τ hx hi0 hi1 hM hk hwk hf; exact absurd hf (by omega)
    | succ f ih =>
      intro i τ hx hi0 hi1 hM hk hwk hf
      refine ww_iload_n 0 dX3_layAll_2 rfl ?_
      refine ww_aload_n 1 dX3_layAll_3 rfl ?_
      refine ww_getf gf_X3_17 rfl dX3_layAll_4 hM.obj rfl ?_
      refine ww_iconst dX3_layAll_7 ?_
      refine mw_ldD dX3_layAll_8 hM (by omega) (by omega) ?_
      refine ww_icmp_ge 40 dX3_layAll_9 (by decide) (by first | exact hM.rd _ | exact hM.ri rfl _ _ | exact ⟨by omega, by omega⟩ | assumption | exact bI_in _ | exact inI.mk (by omega) (by omega)) (by first | exact hM.rd _ | exact hM.ri rfl _ _ | exact ⟨by omega, by omega⟩ | assumption | exact bI_in _ | exact inI.mk (by omega) (by omega)) (fun c_9 => ?_) (fun c_9 => ?_)
      · refine ww_iconst dX3_layAll_40 ?_
        refine ww_istore_n [(1, _), (0, _)] dX3_layAll_41 (by decide) rfl ?_
        have loop_42 : ∀ (f : Nat) (n : Int) (τ : MS) (hx : AH), (0 ≤ n) → (n ≤ D 2) → (MWF G h hx m A B D τ) → (∀ j, j < 18 ∨ 23 < j → τ j = σ j) → (∀ k : Int, 0 ≤ k → k < D 1 → τ 19 0 k = dWt D fn k ∧ τ 20 0 k = dRk D k) → (∀ c : Int, 0 ≤ c → c < n → τ 21 0 c = xBs D fn c ∧ ∀ k : Int, 0 ≤ k → k < D 1 → τ 22 k c = xSp D fn k c ∧ τ 23 k c = xBd D fn k c) → (D 2 - n < f) → WW G E (MX3_layAll 5 113 0 0) hx 0 0 42 [(1, .int (iI n)), (0, .ref m)] [] := by
          intro f
          induction f with
          | zero => intro n τ hx hn0 hn3 hM hk hwk hld hf; exact absurd hf (by omega)
          | succ f ih =>
            intro n τ hx hn0 hn3 hM hk hwk hld hf
            refine ww_iload_n 0 dX3_layAll_42 rfl ?_
            refine ww_aload_n 1 dX3_layAll_43 rfl ?_
            refine ww_getf gf_X3_17 rfl dX3_layAll_44 hM.obj rfl ?_
            refine ww_iconst dX3_layAll_47 ?_
            refine mw_ldD dX3_layAll_48 hM (by omega) (by omega) ?_
            refine ww_icmp_ge 63 dX3_layAll_49 (by decide) (by first | exact hM.rd _ | exact hM.ri rfl _ _ | exact ⟨by omega, by omega⟩ | assumption | exact bI_in _ | exact inI.mk (by omega) (by omega)) (by first | exact hM.rd _ | exact hM.ri rfl _ _ | exact ⟨by omega, by omega⟩ | assumption | exact bI_in _ | exact inI.mk (by omega) (by omega)) (fun c_49 => ?_) (fun c_49 => ?_)
            · exact ww_vret hQ dX3_layAll_63 rfl (Nat.le_of_ble_eq_true rfl) (Nat.le_of_ble_eq_true rfl) ⟨rfl, _, hM, hk, hwk, fun c a b => hld c a (by omega)⟩
            · refine ww_aload_n 1 dX3_layAll_52 rfl ?_
              refine ww_iload_n 0 dX3_layAll_53 rfl ?_
              refine cr_sv hM (cr_V (ct_X3_layName hG hM hl1 hl2 hpf hpr (fun k a b => by rw [(hwk k a b).1]; exact dWt_bd) hs1 hs2 _ (by omega) (by omega)) sv_X3_268 rfl dX3_layAll_54 hM.obj rfl rfl rfl rfl ⟨by decide, by decide⟩ (Nat.le_of_ble_eq_true rfl) (Nat.le_of_ble_eq_true rfl) (Nat.le_of_ble_eq_true rfl)) (fun σ_54 hh hM hp_54 => ?_)
              obtain ⟨S, Wn, Bn, rfl, g1, g2, g3, g4, g5, g6⟩ := hp_54
              refine ww_iinc (j := 0) [(1, _), (0, _)] dX3_layAll_57 rfl (by decide) rfl ?_
              refine ww_goto 42 dX3_layAll_60 (by decide) ?_
              refine ww_sub [0, 1] rfl ?_
              have esp : ∀ c, eSup (D 1) (fun k => dVt D k n) (τ 19 0) c = xSp D fn c n := fun c => eSup_congr (fun k a b => (hwk k a b).1)
              have eto : eTot (D 1) (fun k => dVt D k n) (τ 19 0) = xTo D fn n := eTot_congr (fun k a b => (hwk k a b).1)
              have ebs : eBsI (D 1) (fun k => dCd D k n) (eSup (D 1) (fun k => dVt D k n) (τ 19 0)) (τ 20 0) = xBs D fn n := eBsI_congr (fun k a b => esp k) (fun k a b => (hwk k a b).2)
              have esp2 : eSup (D 1) (fun k => dVt D k n) (τ 19 0) = fun c => xSp D fn c n := funext esp
              rw [ebs] at g4 g6
              rw [eto, esp2] at g6
              exact ih (n + 1) _ _ (by omega) (by omega) hM (fun j hj => by rw [sj_n (by omega), sj_n (by omega), sj_n (by omega)]; exact hk j hj) (fun k a b => hwk k a b) (fun c a b => if e : c = n then by (subst e; exact ⟨g4, fun k a b => ⟨(g2 k a b).trans (esp k), g6 k a b⟩⟩) else ⟨(g3 c e).trans (hld c a (by omega)).1, fun k a2 b2 => ⟨(g1 k c e).trans ((hld c a (by omega)).2 k a2 b2).1, (g5 k c e).trans ((hld c a (by omega)).2 k a2 b2).2⟩⟩) (by omega)
        refine ww_sub [0, 1] rfl ?_
        exact loop_42 13 0 τ hx (by omega) (by omega) hM (fun j hj => hk j (by omega)) (fun k a b => hwk k a (by omega)) (fun c a b => by omega) (by omega)
      · refine ww_aload_n 1 dX3_layAll_12 rfl ?_
        refine ww_getf gf_X3_38 rfl dX3_layAll_13 hM.obj rfl ?_
        refine ww_iload_n 0 dX3_layAll_16 rfl ?_
        refine ww_aload_n 1 dX3_layAll_17 rfl ?_
        refine ww_iload_n 0 dX3_layAll_18 rfl ?_
        refine cr_si hM (cr_V (ct_X3_weightOf hG hM hl1 hl2 hn1 hn2 hpf _ (by omega) (by omega) (by have := htr i (by omega) (by omega); omega) (by have := htr i (by omega) (by omega); omega) hwt) sv_X3_265 rfl dX3_layAll_19 hM.obj rfl rfl rfl rfl ⟨by decide, by decide⟩ (Nat.le_of_ble_eq_true rfl) (Nat.le_of_ble_eq_true rfl) (Nat.le_of_ble_eq_true rfl)) (fun r_19 σ_19 hh hM hp_19 => ?_)
        obtain ⟨hk_19, rfl⟩ := hp_19
        have hwb := dWt_bd (D := D) (fn := fn) (k := i)
        have hrb := dRk_bd (k := i) hl1 hl2
        refine mw_st dX3_layAll_22 hM rfl (by omega) (by omega) (inI.mk (by omega) (by omega)) (fun hh hM => ?_)
        refine ww_aload_n 1 dX3_layAll_23 rfl ?_
        refine ww_getf gf_X3_41 rfl dX3_layAll_24 hM.obj rfl ?_
        refine ww_iload_n 0 dX3_layAll_27 rfl ?_
        refine ww_aload_n 1 dX3_layAll_28 rfl ?_
        refine ww_iload_n 0 dX3_layAll_29 rfl ?_
        refine cr_pi (cr_V (ct_X3_rankOf hG hM hl1 hl2 _ (by omega) (by omega)) sv_X3_243 rfl dX3_layAll_30 hM.obj rfl rfl rfl rfl ⟨by decide, by decide⟩ (Nat.le_of_ble_eq_true rfl) (Nat.le_of_ble_eq_true rfl) (Nat.le_of_ble_eq_true rfl)) ?_
        refine mw_st dX3_layAll_33 hM rfl (by omega) (by omega) (inI.mk (by omega) (by omega)) (fun hh hM => ?_)
        refine ww_iinc (j := 0) [(1, _), (0, _)] dX3_layAll_34 rfl (by decide) rfl ?_
        refine ww_goto 2 dX3_layAll_37 (by decide) ?_
        refine ww_sub [0, 1] rfl ?_
        exact ih (i + 1) _ _ (by omega) (by omega) hM (fun j hj => by rw [su_off (by omega), su_off (by omega), hk_19 j (by omega)]; exact hk j hj) (fun k a b => if e : k = i then by (subst e; exact ⟨by rw [su_off (by decide), su_s], su_s⟩) else by (rw [su_off (by decide), su_n (by omega), su_n (by omega), su_off (by decide), hk_19 19 (by decide), hk_19 20 (by decide)]; exact hwk k a (by omega))) (by omega)
  refine ww_sub [0, 1] rfl ?_
  exact loop_2 9 0 σ h (by omega) (by omega) hM (fun _ _ => rfl) (fun k a b => by omega) (by omega)

set_option maxHeartbeats 4000000 in
theorem ct_X3_noLibrary {G : GT} {h0 h : AH} {m : Nat} {A : Nat → Nat} {B : Nat → Int → Nat} {D : Int → Int} {σ : MS} (hG : GOK G) (hM : MWF G h0 h m A B D σ) (k : Int) (hk : inI k) (hl1 : 0 ≤ D 1) (hl2 : D 1 ≤ 8) (h0 : σ 0 0 0 = 0) : CSi G (MX3_noLibrary 1 22 0 0) h m A B D [.ref m, .int (iI k)] (fun r σ' => ((0 ≤ k ∧ k < D 1) ∧ σ = σ' ∧ r = 0) ∨ (¬ (0 ≤ k ∧ k < D 1) ∧ σ' = su σ 0 0 0 1 ∧ r = 1)) := by
  refine CT.of rfl hG (Nat.le_of_ble_eq_true rfl) rfl (fun E hQ => ?_)
  have hM := hM.1.f
  refine ww_aload_n 0 dX3_noLibrary_0 rfl ?_
  refine ww_iload_n 1 dX3_noLibrary_1 rfl ?_
  refine ww_iconst dX3_noLibrary_2 ?_
  refine ww_aload_n 0 dX3_noLibrary_3 rfl ?_
  refine ww_getf gf_X3_17 rfl dX3_noLibrary_4 hM.obj rfl ?_
  refine ww_iconst dX3_noLibrary_7 ?_
  refine mw_ldD dX3_noLibrary_8 hM (by omega) (by omega) ?_
  refine ww_iconst dX3_noLibrary_9 ?_
  refine ww_isub dX3_noLibrary_10 ?_
  refine cr_pi (cr_S (ct_X3_in hG _ _ _ (by first | exact hM.rd _ | exact hM.ri rfl _ _ | exact ⟨by omega, by omega⟩ | assumption | exact bI_in _ | exact inI.mk (by omega) (by omega)) (by first | exact hM.rd _ | exact hM.ri rfl _ _ | exact ⟨by omega, by omega⟩ | assumption | exact bI_in _ | exact inI.mk (by omega) (by omega)) (by first | exact hM.rd _ | exact hM.ri rfl _ _ | exact ⟨by omega, by omega⟩ | assumption | exact bI_in _ | exact inI.mk (by omega) (by omega))) ss_X3_81 rfl dX3_noLibrary_11 rfl rfl ⟨by decide, by decide⟩ (Nat.le_of_ble_eq_true rfl) (Nat.le_of_ble_eq_true rfl) (Nat.le_of_ble_eq_true rfl)) ?_
  refine ww_ifb_ne 21 dX3_noLibrary_14 (by decide) (fun c_14 => ?_) (fun c_14 => ?_)
  · refine ww_iconst dX3_noLibrary_21 ?_
    refine ww_iconst dX3_noLibrary_22 ?_
    refine cr_si hM (cr_V (ct_X3_fails hG hM _ _ (by first | exact hM.rd _ | exact hM.ri rfl _ _ | exact ⟨by omega, by omega⟩ | assumption | exact bI_in _ | exact inI.mk (by omega) (by omega)) (by first | exact hM.rd _ | exact hM.ri rfl _ _ | exact ⟨by omega, by omega⟩ | assumption | exact bI_in _ | exact inI.mk (by omega) (by omega)) (by decide) (by first | assumption | simp [su] | omega)) sv_X3_216 rfl dX3_noLibrary_23 hM.obj rfl rfl rfl rfl ⟨by decide, by decide⟩ (Nat.le_of_ble_eq_true rfl) (Nat.le_of_ble_eq_true rfl) (Nat.le_of_ble_eq_true rfl)) (fun r_23 σ_23 hh hM hp_23 => ?_)
    rcases hp_23 with ⟨c0_23, rfl, rfl⟩ | ⟨c0_23, rfl, rfl⟩
    · exact ww_zret hQ dX3_noLibrary_26 rfl (Nat.le_of_ble_eq_true rfl) (Nat.le_of_ble_eq_true rfl) (by first | exact Or.inl rfl | exact Or.inr rfl | (unfold bI; split <;> simp)) ⟨_, rfl, _, hM, by first | exact Or.inl ⟨by omega, rfl, rfl⟩ | exact Or.inr ⟨by omega, rfl, rfl⟩ | (exfalso; omega)⟩
    · exact ww_zret hQ dX3_noLibrary_26 rfl (Nat.le_of_ble_eq_true rfl) (Nat.le_of_ble_eq_true rfl) (by first | exact Or.inl rfl | exact Or.inr rfl | (unfold bI; split <;> simp)) ⟨_, rfl, _, hM, by first | exact Or.inl ⟨by omega, rfl, rfl⟩ | exact Or.inr ⟨by omega, rfl, rfl⟩ | (exfalso; omega)⟩
  · refine ww_iconst dX3_noLibrary_17 ?_
    refine ww_goto 22 dX3_noLibrary_18 (by decide) ?_
    refine ww_iconst dX3_noLibrary_22 ?_
    refine cr_si hM (cr_V (ct_X3_fails hG hM _ _ (by first | exact hM.rd _ | exact hM.ri rfl _ _ | exact ⟨by omega, by omega⟩ | assumption | exact bI_in _ | exact inI.mk (by omega) (by omega)) (by first | exact hM.rd _ | exact hM.ri rfl _ _ | exact ⟨by omega, by omega⟩ | assumption | exact bI_in _ | exact inI.mk (by omega) (by omega)) (by decide) (by first | assumption | simp [su] | omega)) sv_X3_216 rfl dX3_noLibrary_23 hM.obj rfl rfl rfl rfl ⟨by decide, by decide⟩ (Nat.le_of_ble_eq_true rfl) (Nat.le_of_ble_eq_true rfl) (Nat.le_of_ble_eq_true rfl)) (fun r_23 σ_23 hh hM hp_23 => ?_)
    rcases hp_23 with ⟨c0_23, rfl, rfl⟩ | ⟨c0_23, rfl, rfl⟩
    · exact ww_zret hQ dX3_noLibrary_26 rfl (Nat.le_of_ble_eq_true rfl) (Nat.le_of_ble_eq_true rfl) (by first | exact Or.inl rfl | exact Or.inr rfl | (unfold bI; split <;> simp)) ⟨_, rfl, _, hM, by first | exact Or.inl ⟨by omega, rfl, rfl⟩ | exact Or.inr ⟨by omega, rfl, rfl⟩ | (exfalso; omega)⟩
    · exact ww_zret hQ dX3_noLibrary_26 rfl (Nat.le_of_ble_eq_true rfl) (Nat.le_of_ble_eq_true rfl) (by first | exact Or.inl rfl | exact Or.inr rfl | (unfold bI; split <;> simp)) ⟨_, rfl, _, hM, by first | exact Or.inl ⟨by omega, rfl, rfl⟩ | exact Or.inr ⟨by omega, rfl, rfl⟩ | (exfalso; omega)⟩

set_option maxHeartbeats 4000000 in
theorem ct_X3_noName {G : GT} {h0 h : AH} {m : Nat} {A : Nat → Nat} {B : Nat → Int → Nat} {D : Int → Int} {σ : MS} (hG : GOK G) (hM : MWF G h0 h m A B D σ) (k : Int) (hk : inI k) (hl1 : 0 ≤ D 2) (hl2 : D 2 ≤ 12) (h0 : σ 0 0 0 = 0) : CSi G (MX3_noName 1 22 0 0) h m A B D [.ref m, .int (iI k)] (fun r σ' => ((0 ≤ k ∧ k < D 2) ∧ σ = σ' ∧ r = 0) ∨ (¬ (0 ≤ k ∧ k < D 2) ∧ σ' = su σ 0 0 0 1 ∧ r = 1)) := by
  refine CT.of rfl hG (Nat.le_of_ble_eq_true rfl) rfl (fun E hQ => ?_)
  have hM := hM.1.f
  refine ww_aload_n 0 dX3_noName_0 rfl ?_
  refine ww_iload_n 1 dX3_noName_1 rfl ?_
  refine ww_iconst dX3_noName_2 ?_
  refine ww_aload_n 0 dX3_noName_3 rfl ?_
  refine ww_getf gf_X3_17 rfl dX3_noName_4 hM.obj rfl ?_
  refine ww_iconst dX3_noName_7 ?_
  refine mw_ldD dX3_noName_8 hM (by omega) (by omega) ?_
  refine ww_iconst dX3_noName_9 ?_
  refine ww_isub dX3_noName_10 ?_
  refine cr_pi (cr_S (ct_X3_in hG _ _ _ (by first | exact hM.rd _ | exact hM.ri rfl _ _ | exact ⟨by omega, by omega⟩ | assumption | exact bI_in _ | exact inI.mk (by omega) (by omega)) (by first | exact hM.rd _ | exact hM.ri rfl _ _ | exact ⟨by omega, by omega⟩ | assumption | exact bI_in _ | exact inI.mk (by omega) (by omega)) (by first | exact hM.rd _ | exact hM.ri rfl _ _ | exact ⟨by omega, by omega⟩ | assumption | exact bI_in _ | exact inI.mk (by omega) (by omega))) ss_X3_81 rfl dX3_noName_11 rfl rfl ⟨by decide, by decide⟩ (Nat.le_of_ble_eq_true rfl) (Nat.le_of_ble_eq_true rfl) (Nat.le_of_ble_eq_true rfl)) ?_
  refine ww_ifb_ne 21 dX3_noName_14 (by decide) (fun c_14 => ?_) (fun c_14 => ?_)
  · refine ww_iconst dX3_noName_21 ?_
    refine ww_iconst dX3_noName_22 ?_
    refine cr_si hM (cr_V (ct_X3_fails hG hM _ _ (by first | exact hM.rd _ | exact hM.ri rfl _ _ | exact ⟨by omega, by omega⟩ | assumption | exact bI_in _ | exact inI.mk (by omega) (by omega)) (by first | exact hM.rd _ | exact hM.ri rfl _ _ | exact ⟨by omega, by omega⟩ | assumption | exact bI_in _ | exact inI.mk (by omega) (by omega)) (by decide) (by first | assumption | simp [su] | omega)) sv_X3_216 rfl dX3_noName_23 hM.obj rfl rfl rfl rfl ⟨by decide, by decide⟩ (Nat.le_of_ble_eq_true rfl) (Nat.le_of_ble_eq_true rfl) (Nat.le_of_ble_eq_true rfl)) (fun r_23 σ_23 hh hM hp_23 => ?_)
    rcases hp_23 with ⟨c0_23, rfl, rfl⟩ | ⟨c0_23, rfl, rfl⟩
    · exact ww_zret hQ dX3_noName_26 rfl (Nat.le_of_ble_eq_true rfl) (Nat.le_of_ble_eq_true rfl) (by first | exact Or.inl rfl | exact Or.inr rfl | (unfold bI; split <;> simp)) ⟨_, rfl, _, hM, by first | exact Or.inl ⟨by omega, rfl, rfl⟩ | exact Or.inr ⟨by omega, rfl, rfl⟩ | (exfalso; omega)⟩
    · exact ww_zret hQ dX3_noName_26 rfl (Nat.le_of_ble_eq_true rfl) (Nat.le_of_ble_eq_true rfl) (by first | exact Or.inl rfl | exact Or.inr rfl | (unfold bI; split <;> simp)) ⟨_, rfl, _, hM, by first | exact Or.inl ⟨by omega, rfl, rfl⟩ | exact Or.inr ⟨by omega, rfl, rfl⟩ | (exfalso; omega)⟩
  · refine ww_iconst dX3_noName_17 ?_
    refine ww_goto 22 dX3_noName_18 (by decide) ?_
    refine ww_iconst dX3_noName_22 ?_
    refine cr_si hM (cr_V (ct_X3_fails hG hM _ _ (by first | exact hM.rd _ | exact hM.ri rfl _ _ | exact ⟨by omega, by omega⟩ | assumption | exact bI_in _ | exact inI.mk (by omega) (by omega)) (by first | exact hM.rd _ | exact hM.ri rfl _ _ | exact ⟨by omega, by omega⟩ | assumption | exact bI_in _ | exact inI.mk (by omega) (by omega)) (by decide) (by first | assumption | simp [su] | omega)) sv_X3_216 rfl dX3_noName_23 hM.obj rfl rfl rfl rfl ⟨by decide, by decide⟩ (Nat.le_of_ble_eq_true rfl) (Nat.le_of_ble_eq_true rfl) (Nat.le_of_ble_eq_true rfl)) (fun r_23 σ_23 hh hM hp_23 => ?_)
    rcases hp_23 with ⟨c0_23, rfl, rfl⟩ | ⟨c0_23, rfl, rfl⟩
    · exact ww_zret hQ dX3_noName_26 rfl (Nat.le_of_ble_eq_true rfl) (Nat.le_of_ble_eq_true rfl) (by first | exact Or.inl rfl | exact Or.inr rfl | (unfold bI; split <;> simp)) ⟨_, rfl, _, hM, by first | exact Or.inl ⟨by omega, rfl, rfl⟩ | exact Or.inr ⟨by omega, rfl, rfl⟩ | (exfalso; omega)⟩
    · exact ww_zret hQ dX3_noName_26 rfl (Nat.le_of_ble_eq_true rfl) (Nat.le_of_ble_eq_true rfl) (by first | exact Or.inl rfl | exact Or.inr rfl | (unfold bI; split <;> simp)) ⟨_, rfl, _, hM, by first | exact Or.inl ⟨by omega, rfl, rfl⟩ | exact Or.inr ⟨by omega, rfl, rfl⟩ | (exfalso; omega)⟩
