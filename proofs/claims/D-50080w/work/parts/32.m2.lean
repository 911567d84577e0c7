set_option maxRecDepth 100000
set_option maxHeartbeats 4000000 in
theorem ct_X3_rankOf {G : GT} {h0 h : AH} {m : Nat} {A : Nat → Nat} {B : Nat → Int → Nat} {D : Int → Int} {σ : MS} (hG : GOK G) (hM : MWF G h0 h m A B D σ) (hl1 : 0 ≤ D 1) (hl2 : D 1 ≤ 8) (k : Int) (h1 : 0 ≤ k) (h2 : k < 8) : CPi G (MX3_rankOf 2 41 0 0) h [.ref m, .int (iI k)] (dRk (D) k) := by
  refine CT.of rfl hG (Nat.le_of_ble_eq_true rfl) rfl (fun E hQ => ?_)
  have hM := hM.1.f
  refine ww_aload_n 0 dX3_rankOf_0 rfl ?_
  refine ww_iload_n 1 dX3_rankOf_1 rfl ?_
  refine cr_pi (cr_V (ct_X3_isLoaded hG hM _ (by omega) (by omega)) sv_X3_232 rfl dX3_rankOf_2 hM.obj rfl rfl rfl rfl ⟨by decide, by decide⟩ (Nat.le_of_ble_eq_true rfl) (Nat.le_of_ble_eq_true rfl) (Nat.le_of_ble_eq_true rfl)) ?_
  refine ww_ifb_ne 10 dX3_rankOf_5 (by decide) (fun c_5 => ?_) (fun c_5 => ?_)
  · refine ww_iconst dX3_rankOf_10 ?_
    refine ww_istore_n [(2, _), (0, _), (1, _)] dX3_rankOf_11 (by decide) rfl ?_
    refine ww_iconst dX3_rankOf_12 ?_
    refine ww_istore_n [(3, _), (2, _), (0, _), (1, _)] dX3_rankOf_13 (by decide) rfl ?_
    have loop_14 : ∀ (f : Nat) (i acc : Int), (0 ≤ i) → (i ≤ D 1) → (acc = smI i (fun j => bI (D (6 + 24 * j + 2) > 0 ∧ D (6 + 24 * j + 2) < D (6 + 24 * k + 2)))) → (D 1 - i < f) → WW G E (MX3_rankOf 2 41 0 0) h 0 0 14 [(3, .int (iI i)), (2, .int (iI acc)), (0, .ref m), (1, .int (iI k))] [] := by
      intro f
      induction f with
      | zero => intro i acc hi0 hi1 hacc hf; exact absurd hf (by omega)
      | succ f ih =>
        intro i acc hi0 hi1 hacc hf
        have hie : ¬ i < D 1 → i = D 1 := by omega
        refine ww_iload_n 0 dX3_rankOf_14 rfl ?_
        refine ww_aload_n 2 dX3_rankOf_15 rfl ?_
        refine ww_getf gf_X3_17 rfl dX3_rankOf_16 hM.obj rfl ?_
        refine ww_iconst dX3_rankOf_19 ?_
        refine mw_ldD dX3_rankOf_20 hM (by omega) (by omega) ?_
        refine ww_icmp_ge 71 dX3_rankOf_21 (by decide) (by first | exact hM.rd _ | exact hM.ri rfl _ _ | exact ⟨by omega, by omega⟩ | assumption | exact bI_in _ | exact inI.mk (by omega) (by omega)) (by first | exact hM.rd _ | exact hM.ri rfl _ _ | exact ⟨by omega, by omega⟩ | assumption | exact bI_in _ | exact inI.mk (by omega) (by omega)) (fun c_21 => ?_) (fun c_21 => ?_)
        · refine ww_iload_n 1 dX3_rankOf_71 rfl ?_
          exact ww_iret hQ dX3_rankOf_72 rfl (Nat.le_of_ble_eq_true rfl) (Nat.le_of_ble_eq_true rfl) ⟨_, rfl, by unfold dRk; rw [if_pos (by omega), hacc, hie (by omega)], rfl⟩
        · refine ww_iload_n 1 dX3_rankOf_24 rfl ?_
          refine ww_aload_n 2 dX3_rankOf_25 rfl ?_
          refine ww_iload_n 0 dX3_rankOf_26 rfl ?_
          refine cr_pi (cr_V (ct_X3_isLoaded hG hM _ (by omega) (by omega)) sv_X3_232 rfl dX3_rankOf_27 hM.obj rfl rfl rfl rfl ⟨by decide, by decide⟩ (Nat.le_of_ble_eq_true rfl) (Nat.le_of_ble_eq_true rfl) (Nat.le_of_ble_eq_true rfl)) ?_
          refine ww_ifb_eq 62 dX3_rankOf_30 (by decide) (fun c_30 => ?_) (fun c_30 => ?_)
          · refine ww_iconst dX3_rankOf_62 ?_
            refine ww_iadd dX3_rankOf_63 ?_
            refine ww_istore_n [(2, _), (3, _), (0, _), (1, _)] dX3_rankOf_64 (by decide) rfl ?_
            refine ww_iinc (j := 1) [(3, _), (2, _), (0, _), (1, _)] dX3_rankOf_65 rfl (by decide) rfl ?_
            refine ww_goto 14 dX3_rankOf_68 (by decide) ?_
            refine ww_sub [0, 1, 2, 3] rfl ?_
            exact ih (i + 1) _ (by omega) (by omega) (smI_step hi0 hacc (by first | exact (bI_t (by first | assumption | omega | (constructor <;> assumption))).symm | exact (bI_f (by first | assumption | omega | (rintro ⟨h1, h2⟩; first | exact absurd h1 (by assumption) | exact absurd h2 (by assumption)))).symm)) (by omega)
          · refine ww_aload_n 2 dX3_rankOf_33 rfl ?_
            refine ww_getf gf_X3_17 rfl dX3_rankOf_34 hM.obj rfl ?_
            refine ww_iload_n 0 dX3_rankOf_37 rfl ?_
            refine cr_pi (cr_S (ct_X3_at hG _) ss_X3_174 rfl dX3_rankOf_38 rfl rfl ⟨by decide, by decide⟩ (Nat.le_of_ble_eq_true rfl) (Nat.le_of_ble_eq_true rfl) (Nat.le_of_ble_eq_true rfl)) ?_
            refine ww_iconst dX3_rankOf_41 ?_
            refine ww_iadd dX3_rankOf_42 ?_
            refine mw_ldD dX3_rankOf_43 hM (by omega) (by omega) ?_
            refine ww_aload_n 2 dX3_rankOf_44 rfl ?_
            refine ww_getf gf_X3_17 rfl dX3_rankOf_45 hM.obj rfl ?_
            refine ww_iload_n 3 dX3_rankOf_48 rfl ?_
            refine cr_pi (cr_S (ct_X3_at hG _) ss_X3_174 rfl dX3_rankOf_49 rfl rfl ⟨by decide, by decide⟩ (Nat.le_of_ble_eq_true rfl) (Nat.le_of_ble_eq_true rfl) (Nat.le_of_ble_eq_true rfl)) ?_
            refine ww_iconst dX3_rankOf_52 ?_
            refine ww_iadd dX3_rankOf_53 ?_
            refine mw_ldD dX3_rankOf_54 hM (by omega) (by omega) ?_
            refine ww_icmp_ge 62 dX3_rankOf_55 (by decide) (by first | exact hM.rd _ | exact hM.ri rfl _ _ | exact ⟨by omega, by omega⟩ | assumption | exact bI_in _ | exact inI.mk (by omega) (by omega)) (by first | exact hM.rd _ | exact hM.ri rfl _ _ | exact ⟨by omega, by omega⟩ | assumption | exact bI_in _ | exact inI.mk (by omega) (by omega)) (fun c_55 => ?_) (fun c_55 => ?_)
            · refine ww_iconst dX3_rankOf_62 ?_
              refine ww_iadd dX3_rankOf_63 ?_
              refine ww_istore_n [(2, _), (3, _), (0, _), (1, _)] dX3_rankOf_64 (by decide) rfl ?_
              refine ww_iinc (j := 1) [(3, _), (2, _), (0, _), (1, _)] dX3_rankOf_65 rfl (by decide) rfl ?_
              refine ww_goto 14 dX3_rankOf_68 (by decide) ?_
              refine ww_sub [0, 1, 2, 3] rfl ?_
              exact ih (i + 1) _ (by omega) (by omega) (smI_step hi0 hacc (by first | exact (bI_t (by first | assumption | omega | (constructor <;> assumption))).symm | exact (bI_f (by first | assumption | omega | (rintro ⟨h1, h2⟩; first | exact absurd h1 (by assumption) | exact absurd h2 (by assumption)))).symm)) (by omega)
            · refine ww_iconst dX3_rankOf_58 ?_
              refine ww_goto 63 dX3_rankOf_59 (by decide) ?_
              refine ww_iadd dX3_rankOf_63 ?_
              refine ww_istore_n [(2, _), (3, _), (0, _), (1, _)] dX3_rankOf_64 (by decide) rfl ?_
              refine ww_iinc (j := 1) [(3, _), (2, _), (0, _), (1, _)] dX3_rankOf_65 rfl (by decide) rfl ?_
              refine ww_goto 14 dX3_rankOf_68 (by decide) ?_
              refine ww_sub [0, 1, 2, 3] rfl ?_
              exact ih (i + 1) _ (by omega) (by omega) (smI_step hi0 hacc (by first | exact (bI_t (by first | assumption | omega | (constructor <;> assumption))).symm | exact (bI_f (by first | assumption | omega | (rintro ⟨h1, h2⟩; first | exact absurd h1 (by assumption) | exact absurd h2 (by assumption)))).symm)) (by omega)
    refine ww_sub [0, 1, 2, 3] rfl ?_
    exact loop_14 ((D 1).toNat + 1) 0 0 (by omega) (by omega) rfl (by omega)
  · refine ww_iconst dX3_rankOf_8 ?_
    exact ww_iret hQ dX3_rankOf_9 rfl (Nat.le_of_ble_eq_true rfl) (Nat.le_of_ble_eq_true rfl) ⟨_, rfl, by unfold dRk; rw [if_neg (by omega)], rfl⟩

set_option maxHeartbeats 4000000 in
theorem ct_X3_offersOf {G : GT} {h0 h : AH} {m : Nat} {A : Nat → Nat} {B : Nat → Int → Nat} {D : Int → Int} {σ : MS} (hG : GOK G) (hM : MWF G h0 h m A B D σ) (hn1 : 0 ≤ D 2) (hn2 : D 2 ≤ 12) (k : Int) (h1 : 0 ≤ k) (h2 : k < 8) : CPi G (MX3_offersOf 1 20 0 0) h [.ref m, .int (iI k)] (dNo (D) k) := by
  refine CT.of rfl hG (Nat.le_of_ble_eq_true rfl) rfl (fun E hQ => ?_)
  have hM := hM.1.f
  refine ww_iconst dX3_offersOf_0 ?_
  refine ww_istore_n [(2, _), (0, _), (1, _)] dX3_offersOf_1 (by decide) rfl ?_
  refine ww_iconst dX3_offersOf_2 ?_
  refine ww_istore_n [(3, _), (2, _), (0, _), (1, _)] dX3_offersOf_3 (by decide) rfl ?_
  have loop_4 : ∀ (f : Nat) (i acc : Int), (0 ≤ i) → (i ≤ D 2) → (acc = smI i (fun n => bI (D (6 + 24 * k + 12 + n) ≠ -1))) → (D 2 - i < f) → WW G E (MX3_offersOf 1 20 0 0) h 0 0 4 [(3, .int (iI i)), (2, .int (iI acc)), (0, .ref m), (1, .int (iI k))] [] := by
    intro f
    induction f with
    | zero => intro i acc hi0 hi1 hacc hf; exact absurd hf (by omega)
    | succ f ih =>
      intro i acc hi0 hi1 hacc hf
      have hie : ¬ i < D 2 → i = D 2 := by omega
      refine ww_iload_n 0 dX3_offersOf_4 rfl ?_
      refine ww_aload_n 2 dX3_offersOf_5 rfl ?_
      refine ww_getf gf_X3_17 rfl dX3_offersOf_6 hM.obj rfl ?_
      refine ww_iconst dX3_offersOf_9 ?_
      refine mw_ldD dX3_offersOf_10 hM (by omega) (by omega) ?_
      refine ww_icmp_ge 46 dX3_offersOf_11 (by decide) (by first | exact hM.rd _ | exact hM.ri rfl _ _ | exact ⟨by omega, by omega⟩ | assumption | exact bI_in _ | exact inI.mk (by omega) (by omega)) (by first | exact hM.rd _ | exact hM.ri rfl _ _ | exact ⟨by omega, by omega⟩ | assumption | exact bI_in _ | exact inI.mk (by omega) (by omega)) (fun c_11 => ?_) (fun c_11 => ?_)
      · refine ww_iload_n 1 dX3_offersOf_46 rfl ?_
        exact ww_iret hQ dX3_offersOf_47 rfl (Nat.le_of_ble_eq_true rfl) (Nat.le_of_ble_eq_true rfl) ⟨_, rfl, by unfold dNo; rw [hacc, hie (by omega)], rfl⟩
      · refine ww_iload_n 1 dX3_offersOf_14 rfl ?_
        refine ww_aload_n 2 dX3_offersOf_15 rfl ?_
        refine ww_getf gf_X3_17 rfl dX3_offersOf_16 hM.obj rfl ?_
        refine ww_iload_n 3 dX3_offersOf_19 rfl ?_
        refine cr_pi (cr_S (ct_X3_at hG _) ss_X3_174 rfl dX3_offersOf_20 rfl rfl ⟨by decide, by decide⟩ (Nat.le_of_ble_eq_true rfl) (Nat.le_of_ble_eq_true rfl) (Nat.le_of_ble_eq_true rfl)) ?_
        refine ww_bipush dX3_offersOf_23 (by decide) ?_
        refine ww_iadd dX3_offersOf_25 ?_
        refine ww_iload_n 0 dX3_offersOf_26 rfl ?_
        refine ww_iadd dX3_offersOf_27 ?_
        refine mw_ldD dX3_offersOf_28 hM (by omega) (by omega) ?_
        refine ww_iconst dX3_offersOf_29 ?_
        refine ww_icmp_ne 37 dX3_offersOf_30 (by decide) (by first | exact hM.rd _ | exact hM.ri rfl _ _ | exact ⟨by omega, by omega⟩ | assumption | exact bI_in _ | exact inI.mk (by omega) (by omega)) (by first | exact hM.rd _ | exact hM.ri rfl _ _ | exact ⟨by omega, by omega⟩ | assumption | exact bI_in _ | exact inI.mk (by omega) (by omega)) (fun c_30 => ?_) (fun c_30 => ?_)
        · refine ww_iconst dX3_offersOf_37 ?_
          refine ww_iadd dX3_offersOf_38 ?_
          refine ww_istore_n [(2, _), (3, _), (0, _), (1, _)] dX3_offersOf_39 (by decide) rfl ?_
          refine ww_iinc (j := 1) [(3, _), (2, _), (0, _), (1, _)] dX3_offersOf_40 rfl (by decide) rfl ?_
          refine ww_goto 4 dX3_offersOf_43 (by decide) ?_
          refine ww_sub [0, 1, 2, 3] rfl ?_
          exact ih (i + 1) _ (by omega) (by omega) (smI_step hi0 hacc (by first | exact (bI_t (by first | assumption | omega | (constructor <;> assumption))).symm | exact (bI_f (by first | assumption | omega | (rintro ⟨h1, h2⟩; first | exact absurd h1 (by assumption) | exact absurd h2 (by assumption)))).symm)) (by omega)
        · refine ww_iconst dX3_offersOf_33 ?_
          refine ww_goto 38 dX3_offersOf_34 (by decide) ?_
          refine ww_iadd dX3_offersOf_38 ?_
          refine ww_istore_n [(2, _), (3, _), (0, _), (1, _)] dX3_offersOf_39 (by decide) rfl ?_
          refine ww_iinc (j := 1) [(3, _), (2, _), (0, _), (1, _)] dX3_offersOf_40 rfl (by decide) rfl ?_
          refine ww_goto 4 dX3_offersOf_43 (by decide) ?_
          refine ww_sub [0, 1, 2, 3] rfl ?_
          exact ih (i + 1) _ (by omega) (by omega) (smI_step hi0 hacc (by first | exact (bI_t (by first | assumption | omega | (constructor <;> assumption))).symm | exact (bI_f (by first | assumption | omega | (rintro ⟨h1, h2⟩; first | exact absurd h1 (by assumption) | exact absurd h2 (by assumption)))).symm)) (by omega)
  refine ww_sub [0, 1, 2, 3] rfl ?_
  exact loop_4 ((D 2).toNat + 1) 0 0 (by omega) (by omega) rfl (by omega)

set_option maxHeartbeats 4000000 in
theorem ct_X3_prefers {G : GT} {h : AH} {m a : Nat} {t : Tg} {F : Int → Int} (hG : GOK G) (hF : h a = some (t, aA G 0 1498 F)) (hr : ∀ z, inI (F z)) (k o : Int) (h1 : 0 ≤ k) (h2 : k < 8) (h3 : inI o) (h4 : F (6 + 24 * k + 3) ≤ 8) : CPi G (MX3_prefers 1 20 0 0) h [.ref m, .ref a, .int (iI k), .int (iI o)] (bI (o ∈ dPf (F) k)) := by
  refine CT.of rfl hG (Nat.le_of_ble_eq_true rfl) rfl (fun E hQ => ?_)
  refine ww_iconst dX3_prefers_0 ?_
  refine ww_istore [(4, _), (0, _), (1, _), (2, _), (3, _)] dX3_prefers_1 (by decide) rfl ?_
  have loop_3 : ∀ (f : Nat) (i : Int), (0 ≤ i) → ((o ∈ dPf (F) k) ↔ o ∈ (dPf (F) k).drop i.toNat) → (9 - i ≤ f ∧ i ≤ 8) → WW G E (MX3_prefers 1 20 0 0) h 0 0 3 [(4, .int (iI i)), (0, .ref m), (1, .ref a), (2, .int (iI k)), (3, .int (iI o))] [] := by
    intro f
    induction f with
    | zero => intro i hi0 hiv hf; exact absurd hf (by omega)
    | succ f ih =>
      intro i hi0 hiv hf
      refine ww_iload 0 dX3_prefers_3 rfl ?_
      refine ww_aload_n 2 dX3_prefers_5 rfl ?_
      refine ww_iload_n 3 dX3_prefers_6 rfl ?_
      refine cr_pi (cr_S (ct_X3_at hG _) ss_X3_174 rfl dX3_prefers_7 rfl rfl ⟨by decide, by decide⟩ (Nat.le_of_ble_eq_true rfl) (Nat.le_of_ble_eq_true rfl) (Nat.le_of_ble_eq_true rfl)) ?_
      refine ww_iconst dX3_prefers_10 ?_
      refine ww_iadd dX3_prefers_11 ?_
      refine ww_iald dX3_prefers_12 hF (by decide) (by omega) (by omega) ?_
      refine ww_icmp_ge 39 dX3_prefers_13 (by decide) (by first | exact hM.rd _ | exact hM.ri rfl _ _ | exact ⟨by omega, by omega⟩ | assumption | exact bI_in _ | exact inI.mk (by omega) (by omega)) (hr _) (fun c_13 => ?_) (fun c_13 => ?_)
      · refine ww_iconst dX3_prefers_39 ?_
        exact ww_zret hQ dX3_prefers_40 rfl (Nat.le_of_ble_eq_true rfl) (Nat.le_of_ble_eq_true rfl) (by first | exact Or.inl rfl | exact Or.inr rfl | (unfold bI; split <;> simp)) ⟨_, rfl, (bI_f (by rw [hiv, dPf, lsI_end (by omega)]; simp)).symm, rfl⟩
      · refine ww_aload_n 2 dX3_prefers_16 rfl ?_
        refine ww_iload_n 3 dX3_prefers_17 rfl ?_
        refine cr_pi (cr_S (ct_X3_at hG _) ss_X3_174 rfl dX3_prefers_18 rfl rfl ⟨by decide, by decide⟩ (Nat.le_of_ble_eq_true rfl) (Nat.le_of_ble_eq_true rfl) (Nat.le_of_ble_eq_true rfl)) ?_
        refine ww_iconst dX3_prefers_21 ?_
        refine ww_iadd dX3_prefers_22 ?_
        refine ww_iload 0 dX3_prefers_23 rfl ?_
        refine ww_iadd dX3_prefers_25 ?_
        refine ww_iald dX3_prefers_26 hF (by decide) (by omega) (by omega) ?_
        refine ww_iload_n 4 dX3_prefers_27 rfl ?_
        refine ww_icmp_ne 33 dX3_prefers_28 (by decide) (hr _) (by first | exact hM.rd _ | exact hM.ri rfl _ _ | exact ⟨by omega, by omega⟩ | assumption | exact bI_in _ | exact inI.mk (by omega) (by omega)) (fun c_28 => ?_) (fun c_28 => ?_)
        · refine ww_iinc (j := 0) [(4, _), (0, _), (1, _), (2, _), (3, _)] dX3_prefers_33 rfl (by decide) rfl ?_
          refine ww_goto 3 dX3_prefers_36 (by decide) ?_
          refine ww_sub [0, 1, 2, 3, 4] rfl ?_
          exact ih (i + 1) (by omega) (by rw [hiv, dPf, lsI_at hi0 (by omega), List.mem_cons]; exact ⟨fun h => h.elim (fun e => absurd e.symm c_28) id, Or.inr⟩) (by omega)
        · refine ww_iconst dX3_prefers_31 ?_
          exact ww_zret hQ dX3_prefers_32 rfl (Nat.le_of_ble_eq_true rfl) (Nat.le_of_ble_eq_true rfl) (by first | exact Or.inl rfl | exact Or.inr rfl | (unfold bI; split <;> simp)) ⟨_, rfl, (bI_t (by rw [hiv, dPf, lsI_at hi0 (by omega), c_28]; exact List.mem_cons_self)).symm, rfl⟩
  refine ww_sub [0, 1, 2, 3, 4] rfl ?_
  exact loop_3 9 0 (by omega) (by simp) (by omega)

set_option maxHeartbeats 4000000 in
theorem ct_X3_friendsOf {G : GT} {h0 h : AH} {m : Nat} {A : Nat → Nat} {B : Nat → Int → Nat} {D : Int → Int} {σ : MS} (hG : GOK G) (hM : MWF G h0 h m A B D σ) (hl1 : 0 ≤ D 1) (hl2 : D 1 ≤ 8) (hpf : ∀ k : Int, 0 ≤ k → k < 8 → D (6 + 24 * k + 3) ≤ 8) (k : Int) (h1 : 0 ≤ k) (h2 : k < 8) : CPi G (MX3_friendsOf 2 44 0 0) h [.ref m, .int (iI k)] (dFr (D) k) := by
  refine CT.of rfl hG (Nat.le_of_ble_eq_true rfl) rfl (fun E hQ => ?_)
  have hM := hM.1.f
  refine ww_iconst dX3_friendsOf_0 ?_
  refine ww_istore_n [(2, _), (0, _), (1, _)] dX3_friendsOf_1 (by decide) rfl ?_
  refine ww_iconst dX3_friendsOf_2 ?_
  refine ww_istore_n [(3, _), (2, _), (0, _), (1, _)] dX3_friendsOf_3 (by decide) rfl ?_
  have loop_4 : ∀ (f : Nat) (i acc : Int), (0 ≤ i) → (i ≤ D 1) → (acc = smI i (fun j => bI (D (6 + 24 * j + 2) > 0 ∧ k ∈ dPf (D) j))) → (D 1 - i < f) → WW G E (MX3_friendsOf 2 44 0 0) h 0 0 4 [(3, .int (iI i)), (2, .int (iI acc)), (0, .ref m), (1, .int (iI k))] [] := by
    intro f
    induction f with
    | zero => intro i acc hi0 hi1 hacc hf; exact absurd hf (by omega)
    | succ f ih =>
      intro i acc hi0 hi1 hacc hf
      have hie : ¬ i < D 1 → i = D 1 := by omega
      refine ww_iload_n 0 dX3_friendsOf_4 rfl ?_
      refine ww_aload_n 2 dX3_friendsOf_5 rfl ?_
      refine ww_getf gf_X3_17 rfl dX3_friendsOf_6 hM.obj rfl ?_
      refine ww_iconst dX3_friendsOf_9 ?_
      refine mw_ldD dX3_friendsOf_10 hM (by omega) (by omega) ?_
      refine ww_icmp_ge 49 dX3_friendsOf_11 (by decide) (by first | exact hM.rd _ | exact hM.ri rfl _ _ | exact ⟨by omega, by omega⟩ | assumption | exact bI_in _ | exact inI.mk (by omega) (by omega)) (by first | exact hM.rd _ | exact hM.ri rfl _ _ | exact ⟨by omega, by omega⟩ | assumption | exact bI_in _ | exact inI.mk (by omega) (by omega)) (fun c_11 => ?_) (fun c_11 => ?_)
      · refine ww_iload_n 1 dX3_friendsOf_49 rfl ?_
        exact ww_iret hQ dX3_friendsOf_50 rfl (Nat.le_of_ble_eq_true rfl) (Nat.le_of_ble_eq_true rfl) ⟨_, rfl, by unfold dFr; rw [hacc, hie (by omega)], rfl⟩
      · refine ww_iload_n 1 dX3_friendsOf_14 rfl ?_
        refine ww_aload_n 2 dX3_friendsOf_15 rfl ?_
        refine ww_iload_n 0 dX3_friendsOf_16 rfl ?_
        refine cr_pi (cr_V (ct_X3_isLoaded hG hM _ (by omega) (by omega)) sv_X3_232 rfl dX3_friendsOf_17 hM.obj rfl rfl rfl rfl ⟨by decide, by decide⟩ (Nat.le_of_ble_eq_true rfl) (Nat.le_of_ble_eq_true rfl) (Nat.le_of_ble_eq_true rfl)) ?_
        refine ww_ifb_eq 40 dX3_friendsOf_20 (by decide) (fun c_20 => ?_) (fun c_20 => ?_)
        · refine ww_iconst dX3_friendsOf_40 ?_
          refine ww_iadd dX3_friendsOf_41 ?_
          refine ww_istore_n [(2, _), (3, _), (0, _), (1, _)] dX3_friendsOf_42 (by decide) rfl ?_
          refine ww_iinc (j := 1) [(3, _), (2, _), (0, _), (1, _)] dX3_friendsOf_43 rfl (by decide) rfl ?_
          refine ww_goto 4 dX3_friendsOf_46 (by decide) ?_
          refine ww_sub [0, 1, 2, 3] rfl ?_
          exact ih (i + 1) _ (by omega) (by omega) (smI_step hi0 hacc (by first | exact (bI_t (by first | assumption | omega | (constructor <;> assumption))).symm | exact (bI_f (by first | assumption | omega | (rintro ⟨h1, h2⟩; first | exact absurd h1 (by assumption) | exact absurd h2 (by assumption)))).symm)) (by omega)
        · refine ww_aload_n 2 dX3_friendsOf_23 rfl ?_
          refine ww_aload_n 2 dX3_friendsOf_24 rfl ?_
          refine ww_getf gf_X3_17 rfl dX3_friendsOf_25 hM.obj rfl ?_
          refine ww_iload_n 0 dX3_friendsOf_28 rfl ?_
          refine ww_iload_n 3 dX3_friendsOf_29 rfl ?_
          refine cr_pi (cr_V (ct_X3_prefers hG hM.dat hM.rd _ _ (by omega) (by omega) (by first | exact hM.rd _ | exact hM.ri rfl _ _ | exact ⟨by omega, by omega⟩ | assumption | exact bI_in _ | exact inI.mk (by omega) (by omega)) (by first | assumption | omega | exact hpf _ (by omega) (by omega))) sv_X3_185 rfl dX3_friendsOf_30 hM.obj rfl rfl rfl rfl ⟨by decide, by decide⟩ (Nat.le_of_ble_eq_true rfl) (Nat.le_of_ble_eq_true rfl) (Nat.le_of_ble_eq_true rfl)) ?_
          refine ww_ifb_eq 40 dX3_friendsOf_33 (by decide) (fun c_33 => ?_) (fun c_33 => ?_)
          · refine ww_iconst dX3_friendsOf_40 ?_
            refine ww_iadd dX3_friendsOf_41 ?_
            refine ww_istore_n [(2, _), (3, _), (0, _), (1, _)] dX3_friendsOf_42 (by decide) rfl ?_
            refine ww_iinc (j := 1) [(3, _), (2, _), (0, _), (1, _)] dX3_friendsOf_43 rfl (by decide) rfl ?_
            refine ww_goto 4 dX3_friendsOf_46 (by decide) ?_
            refine ww_sub [0, 1, 2, 3] rfl ?_
            exact ih (i + 1) _ (by omega) (by omega) (smI_step hi0 hacc (by first | exact (bI_t (by first | assumption | omega | (constructor <;> assumption))).symm | exact (bI_f (by first | assumption | omega | (rintro ⟨h1, h2⟩; first | exact absurd h1 (by assumption) | exact absurd h2 (by assumption)))).symm)) (by omega)
          · refine ww_iconst dX3_friendsOf_36 ?_
            refine ww_goto 41 dX3_friendsOf_37 (by decide) ?_
            refine ww_iadd dX3_friendsOf_41 ?_
            refine ww_istore_n [(2, _), (3, _), (0, _), (1, _)] dX3_friendsOf_42 (by decide) rfl ?_
            refine ww_iinc (j := 1) [(3, _), (2, _), (0, _), (1, _)] dX3_friendsOf_43 rfl (by decide) rfl ?_
            refine ww_goto 4 dX3_friendsOf_46 (by decide) ?_
            refine ww_sub [0, 1, 2, 3] rfl ?_
            exact ih (i + 1) _ (by omega) (by omega) (smI_step hi0 hacc (by first | exact (bI_t (by first | assumption | omega | (constructor <;> assumption))).symm | exact (bI_f (by first | assumption | omega | (rintro ⟨h1, h2⟩; first | exact absurd h1 (by assumption) | exact absurd h2 (by assumption)))).symm)) (by omega)
  refine ww_sub [0, 1, 2, 3] rfl ?_
  exact loop_4 ((D 1).toNat + 1) 0 0 (by omega) (by omega) rfl (by omega)

set_option maxHeartbeats 4000000 in
theorem ct_X3_voteOf {G : GT} {h0 h : AH} {m : Nat} {A : Nat → Nat} {B : Nat → Int → Nat} {D : Int → Int} {σ : MS} (hG : GOK G) (hM : MWF G h0 h m A B D σ) (hpf : ∀ k : Int, 0 ≤ k → k < 8 → D (6 + 24 * k + 3) ≤ 8) (hpr : ∀ k i : Int, 0 ≤ k → k < 8 → 0 ≤ i → i < D (6 + 24 * k + 3) → 0 ≤ D (6 + 24 * k + 4 + i) ∧ D (6 + 24 * k + 4 + i) < 8) (k n : Int) (h1 : 0 ≤ k) (h2 : k < 8) (h3 : 0 ≤ n) (h4 : n < 12) : CPi G (MX3_voteOf 3 63 0 0) h [.ref m, .int (iI k), .int (iI n)] (dVt (D) k n) := by
  refine CT.of rfl hG (Nat.le_of_ble_eq_true rfl) rfl (fun E hQ => ?_)
  have hM := hM.1.f
  have hpk := hpf k h1 h2
  refine ww_aload_n 0 dX3_voteOf_0 rfl ?_
  refine ww_iload_n 1 dX3_voteOf_1 rfl ?_
  refine cr_pi (cr_V (ct_X3_isLoaded hG hM _ (by omega) (by omega)) sv_X3_232 rfl dX3_voteOf_2 hM.obj rfl rfl rfl rfl ⟨by decide, by decide⟩ (Nat.le_of_ble_eq_true rfl) (Nat.le_of_ble_eq_true rfl) (Nat.le_of_ble_eq_true rfl)) ?_
  refine ww_ifb_eq 17 dX3_voteOf_5 (by decide) (fun c_5 => ?_) (fun c_5 => ?_)
  · refine ww_aload_n 0 dX3_voteOf_17 rfl ?_
    refine ww_iload_n 1 dX3_voteOf_18 rfl ?_
    refine cr_pi (cr_V (ct_X3_isLoaded hG hM _ (by omega) (by omega)) sv_X3_232 rfl dX3_voteOf_19 hM.obj rfl rfl rfl rfl ⟨by decide, by decide⟩ (Nat.le_of_ble_eq_true rfl) (Nat.le_of_ble_eq_true rfl) (Nat.le_of_ble_eq_true rfl)) ?_
    refine ww_ifb_eq 29 dX3_voteOf_22 (by decide) (fun c_22 => ?_) (fun c_22 => ?_)
    · refine ww_iconst dX3_voteOf_29 ?_
      exact ww_iret hQ dX3_voteOf_30 rfl (Nat.le_of_ble_eq_true rfl) (Nat.le_of_ble_eq_true rfl) ⟨_, rfl, by unfold dVt; first | (exfalso; omega) | rw [if_pos (by omega), if_pos (by omega)] | rw [if_neg (by omega)], rfl⟩
    · refine ww_iload_n 1 dX3_voteOf_25 rfl ?_
      refine ww_goto 30 dX3_voteOf_26 (by decide) ?_
      exact ww_iret hQ dX3_voteOf_30 rfl (Nat.le_of_ble_eq_true rfl) (Nat.le_of_ble_eq_true rfl) ⟨_, rfl, by unfold dVt; first | (exfalso; omega) | rw [if_pos (by omega), if_pos (by omega)] | rw [if_neg (by omega)], rfl⟩
  · refine ww_aload_n 0 dX3_voteOf_8 rfl ?_
    refine ww_iload_n 1 dX3_voteOf_9 rfl ?_
    refine ww_iload_n 2 dX3_voteOf_10 rfl ?_
    refine cr_pi (cr_V (ct_X3_isCandidate hG hM _ _ (by omega) (by omega) (by omega) (by omega)) sv_X3_258 rfl dX3_voteOf_11 hM.obj rfl rfl rfl rfl ⟨by decide, by decide⟩ (Nat.le_of_ble_eq_true rfl) (Nat.le_of_ble_eq_true rfl) (Nat.le_of_ble_eq_true rfl)) ?_
    refine ww_ifb_eq 31 dX3_voteOf_14 (by decide) (fun c_14 => ?_) (fun c_14 => ?_)
    · refine ww_iconst dX3_voteOf_31 ?_
      refine ww_istore_n [(3, _), (0, _), (1, _), (2, _)] dX3_voteOf_32 (by decide) rfl ?_
      have loop_33 : ∀ (f : Nat) (i : Int), (0 ≤ i) → (dVt (D) k n = (((dPf (D) k).drop i.toNat).find? (fun o => dCd (D) o n)).getD (-1)) → (9 - i ≤ f ∧ i ≤ 8) → WW G E (MX3_voteOf 3 63 0 0) h 0 0 33 [(3, .int (iI i)), (0, .ref m), (1, .int (iI k)), (2, .int (iI n))] [] := by
        intro f
        induction f with
        | zero => intro i hi0 hiv hf; exact absurd hf (by omega)
        | succ f ih =>
          intro i hi0 hiv hf
          refine ww_iload_n 0 dX3_voteOf_33 rfl ?_
          refine ww_aload_n 1 dX3_voteOf_34 rfl ?_
          refine ww_getf gf_X3_17 rfl dX3_voteOf_35 hM.obj rfl ?_
          refine ww_iload_n 2 dX3_voteOf_38 rfl ?_
          refine cr_pi (cr_S (ct_X3_at hG _) ss_X3_174 rfl dX3_voteOf_39 rfl rfl ⟨by decide, by decide⟩ (Nat.le_of_ble_eq_true rfl) (Nat.le_of_ble_eq_true rfl) (Nat.le_of_ble_eq_true rfl)) ?_
          refine ww_iconst dX3_voteOf_42 ?_
          refine ww_iadd dX3_voteOf_43 ?_
          refine mw_ldD dX3_voteOf_44 hM (by omega) (by omega) ?_
          refine ww_icmp_ge 82 dX3_voteOf_45 (by decide) (by first | exact hM.rd _ | exact hM.ri rfl _ _ | exact ⟨by omega, by omega⟩ | assumption | exact bI_in _ | exact inI.mk (by omega) (by omega)) (by first | exact hM.rd _ | exact hM.ri rfl _ _ | exact ⟨by omega, by omega⟩ | assumption | exact bI_in _ | exact inI.mk (by omega) (by omega)) (fun c_45 => ?_) (fun c_45 => ?_)
          · refine ww_iconst dX3_voteOf_82 ?_
            exact ww_iret hQ dX3_voteOf_83 rfl (Nat.le_of_ble_eq_true rfl) (Nat.le_of_ble_eq_true rfl) ⟨_, rfl, by rw [hiv, dPf, lsI_end (by omega)]; rfl, rfl⟩
          · have hpo := hpr k i h1 h2 hi0 (by omega)
            refine ww_aload_n 1 dX3_voteOf_48 rfl ?_
            refine ww_getf gf_X3_17 rfl dX3_voteOf_49 hM.obj rfl ?_
            refine ww_iload_n 2 dX3_voteOf_52 rfl ?_
            refine cr_pi (cr_S (ct_X3_at hG _) ss_X3_174 rfl dX3_voteOf_53 rfl rfl ⟨by decide, by decide⟩ (Nat.le_of_ble_eq_true rfl) (Nat.le_of_ble_eq_true rfl) (Nat.le_of_ble_eq_true rfl)) ?_
            refine ww_iconst dX3_voteOf_56 ?_
            refine ww_iadd dX3_voteOf_57 ?_
            refine ww_iload_n 0 dX3_voteOf_58 rfl ?_
            refine ww_iadd dX3_voteOf_59 ?_
            refine mw_ldD dX3_voteOf_60 hM (by omega) (by omega) ?_
            refine ww_istore [(4, _), (3, _), (0, _), (1, _), (2, _)] dX3_voteOf_61 (by decide) rfl ?_
            refine ww_aload_n 2 dX3_voteOf_63 rfl ?_
            refine ww_iload 0 dX3_voteOf_64 rfl ?_
            refine ww_iload_n 4 dX3_voteOf_66 rfl ?_
            refine cr_pi (cr_V (ct_X3_isCandidate hG hM _ _ (by omega) (by omega) (by omega) (by omega)) sv_X3_258 rfl dX3_voteOf_67 hM.obj rfl rfl rfl rfl ⟨by decide, by decide⟩ (Nat.le_of_ble_eq_true rfl) (Nat.le_of_ble_eq_true rfl) (Nat.le_of_ble_eq_true rfl)) ?_
            refine ww_ifb_eq 76 dX3_voteOf_70 (by decide) (fun c_70 => ?_) (fun c_70 => ?_)
            · refine ww_iinc (j := 1) [(3, _), (4, _), (0, _), (1, _), (2, _)] dX3_voteOf_76 rfl (by decide) rfl ?_
              refine ww_goto 33 dX3_voteOf_79 (by decide) ?_
              refine ww_sub [0, 2, 3, 4] rfl ?_
              exact ih (i + 1) (by omega) (by rw [hiv, dPf, lsI_at hi0 (by omega), List.find?_cons_of_neg (by simp only [dCd, decide_eq_true_eq]; exact c_70)]) (by omega)
            · refine ww_iload 0 dX3_voteOf_73 rfl ?_
              exact ww_iret hQ dX3_voteOf_75 rfl (Nat.le_of_ble_eq_true rfl) (Nat.le_of_ble_eq_true rfl) ⟨_, rfl, by rw [hiv, dPf, lsI_at hi0 (by omega), List.find?_cons_of_pos (by simp only [dCd, decide_eq_true_eq]; exact c_70)]; rfl, rfl⟩
      refine ww_sub [0, 1, 2, 3] rfl ?_
      exact loop_33 9 0 (by omega) (by unfold dVt; rw [if_pos (by omega), if_neg (by omega)]; simp) (by omega)
    · refine ww_aload_n 0 dX3_voteOf_17 rfl ?_
      refine ww_iload_n 1 dX3_voteOf_18 rfl ?_
      refine cr_pi (cr_V (ct_X3_isLoaded hG hM _ (by omega) (by omega)) sv_X3_232 rfl dX3_voteOf_19 hM.obj rfl rfl rfl rfl ⟨by decide, by decide⟩ (Nat.le_of_ble_eq_true rfl) (Nat.le_of_ble_eq_true rfl) (Nat.le_of_ble_eq_true rfl)) ?_
      refine ww_ifb_eq 29 dX3_voteOf_22 (by decide) (fun c_22 => ?_) (fun c_22 => ?_)
      · refine ww_iconst dX3_voteOf_29 ?_
        exact ww_iret hQ dX3_voteOf_30 rfl (Nat.le_of_ble_eq_true rfl) (Nat.le_of_ble_eq_true rfl) ⟨_, rfl, by unfold dVt; first | (exfalso; omega) | rw [if_pos (by omega), if_pos (by omega)] | rw [if_neg (by omega)], rfl⟩
      · refine ww_iload_n 1 dX3_voteOf_25 rfl ?_
        refine ww_goto 30 dX3_voteOf_26 (by decide) ?_
        exact ww_iret hQ dX3_voteOf_30 rfl (Nat.le_of_ble_eq_true rfl) (Nat.le_of_ble_eq_true rfl) ⟨_, rfl, by unfold dVt; first | (exfalso; omega) | rw [if_pos (by omega), if_pos (by omega)] | rw [if_neg (by omega)], rfl⟩
