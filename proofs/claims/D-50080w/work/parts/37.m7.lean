set_option maxRecDepth 100000
set_option maxHeartbeats 4000000 in
theorem ct_X3_keepBindings {G : GT} {h0 h : AH} {m : Nat} {A : Nat → Nat} {B : Nat → Int → Nat} {D : Int → Int} {σ : MS} (hG : GOK G) (hM : MWF G h0 h m A B D σ) {fn : EF} (hD : DOK D fn) : CSv G (MX3_keepBindings 6 134 0 0) h m A B D [.ref m] (fun σ' => (∀ j, j < 18 ∨ 24 < j → σ' j = σ j) ∧ ∀ k n : Int, 0 ≤ k → k < D 1 → 0 ≤ n → n < D 2 → σ' 24 k n = xBd D fn k n) := by
  refine CT.of rfl hG (Nat.le_of_ble_eq_true rfl) rfl (fun E hQ => ?_)
  have hM := hM.1.f
  have hD0 := hD
  obtain ⟨⟨hl1, hl2⟩, ⟨hn1, hn2⟩, ⟨hs1, hs2⟩, hpf, hpr, htr, hwt, hof⟩ := hD
  refine ww_aload_n 0 dX3_keepBindings_0 rfl ?_
  refine cr_sv hM (cr_V (ct_X3_layAll hG hM hD0) sv_X3_271 rfl dX3_keepBindings_1 hM.obj rfl rfl rfl rfl ⟨by decide, by decide⟩ (Nat.le_of_ble_eq_true rfl) (Nat.le_of_ble_eq_true rfl) (Nat.le_of_ble_eq_true rfl)) (fun σ_1 hh hM hp_1 => ?_)
  obtain ⟨hk_1, hL_1⟩ := hp_1
  refine ww_iconst dX3_keepBindings_4 ?_
  refine ww_istore_n [(1, _), (0, _)] dX3_keepBindings_5 (by decide) rfl ?_
  have loop_6 : ∀ (f : Nat) (i : Int) (τ : MS) (hx : AH), (0 ≤ i) → (i ≤ D 1) → (MWF G h hx m A B D τ) → ((∀ j, j ≠ 24 → τ j = σ_1 j)) → (∀ a n : Int, 0 ≤ a → a < i → 0 ≤ n → n < D 2 → τ 24 a n = xBd D fn a n) → (D 1 - i < f) → WW G E (MX3_keepBindings 6 134 0 0) hx 0 0 6 [(1, .int (iI i)), (0, .ref m)] [] := by
    intro f
    induction f with
    | zero => intro i τ hx hi0 hi1 hM ho hw hf; exact absurd hf (by omega)
    | succ f ih =>
      intro i τ hx hi0 hi1 hM ho hw hf
      refine ww_iload_n 0 dX3_keepBindings_6 rfl ?_
      refine ww_aload_n 1 dX3_keepBindings_7 rfl ?_
      refine ww_getf gf_X3_17 rfl dX3_keepBindings_8 hM.obj rfl ?_
      refine ww_iconst dX3_keepBindings_11 ?_
      refine mw_ldD dX3_keepBindings_12 hM (by omega) (by omega) ?_
      refine ww_icmp_ge 56 dX3_keepBindings_13 (by decide) (by first | exact hM.rd _ | exact hM.ri rfl _ _ | exact ⟨by omega, by omega⟩ | assumption | exact bI_in _ | exact inI.mk (by omega) (by omega)) (by first | exact hM.rd _ | exact hM.ri rfl _ _ | exact ⟨by omega, by omega⟩ | assumption | exact bI_in _ | exact inI.mk (by omega) (by omega)) (fun c_13 => ?_) (fun c_13 => ?_)
      · exact ww_vret hQ dX3_keepBindings_56 rfl (Nat.le_of_ble_eq_true rfl) (Nat.le_of_ble_eq_true rfl) ⟨rfl, _, hM, fun j hj => by rw [ho j (by omega)]; exact hk_1 j (by omega), fun k n x y z w => hw k n x (by omega) z w⟩
      · refine ww_iconst dX3_keepBindings_16 ?_
        refine ww_istore_n [(2, _), (1, _), (0, _)] dX3_keepBindings_17 (by decide) rfl ?_
        have loop_18 : ∀ (g : Nat) (n : Int) (τ1 : MS) (hx1 : AH), (0 ≤ n) → (n ≤ D 2) → (MWF G h hx1 m A B D τ1) → (∀ j, j ≠ 24 → τ1 j = σ_1 j) → (∀ a n : Int, 0 ≤ a → a < i → 0 ≤ n → n < D 2 → τ1 24 a n = xBd D fn a n) → (∀ c : Int, 0 ≤ c → c < n → τ1 24 i c = xBd D fn i c) → (D 2 - n < g) → WW G E (MX3_keepBindings 6 134 0 0) hx1 0 0 18 [(2, .int (iI n)), (1, .int (iI i)), (0, .ref m)] [] := by
          intro g
          induction g with
          | zero => intro n τ1 hx1 hn0 hn3 hM ho1 hw1 hr hg; exact absurd hg (by omega)
          | succ g ig =>
            intro n τ1 hx1 hn0 hn3 hM ho1 hw1 hr hg
            refine ww_iload_n 0 dX3_keepBindings_18 rfl ?_
            refine ww_aload_n 2 dX3_keepBindings_19 rfl ?_
            refine ww_getf gf_X3_17 rfl dX3_keepBindings_20 hM.obj rfl ?_
            refine ww_iconst dX3_keepBindings_23 ?_
            refine mw_ldD dX3_keepBindings_24 hM (by omega) (by omega) ?_
            refine ww_icmp_ge 50 dX3_keepBindings_25 (by decide) (by first | exact hM.rd _ | exact hM.ri rfl _ _ | exact ⟨by omega, by omega⟩ | assumption | exact bI_in _ | exact inI.mk (by omega) (by omega)) (by first | exact hM.rd _ | exact hM.ri rfl _ _ | exact ⟨by omega, by omega⟩ | assumption | exact bI_in _ | exact inI.mk (by omega) (by omega)) (fun c_25 => ?_) (fun c_25 => ?_)
            · refine ww_iinc (j := 1) [(1, _), (2, _), (0, _)] dX3_keepBindings_50 rfl (by decide) rfl ?_
              refine ww_goto 6 dX3_keepBindings_53 (by decide) ?_
              refine ww_sub [0, 2] rfl ?_
              exact ih (i + 1) τ1 hx1 (by omega) (by omega) hM ho1 (fun a n x y z w => if e : a = i then by (rw [e]; exact hr n z (by omega)) else hw1 a n x (by omega) z w) (by omega)
            · refine ww_aload_n 2 dX3_keepBindings_28 rfl ?_
              refine ww_getf gf_X3_53 rfl dX3_keepBindings_29 hM.obj rfl ?_
              refine ww_iload_n 1 dX3_keepBindings_32 rfl ?_
              refine mw_gld dX3_keepBindings_33 hM rfl (by omega) (by omega) ?_
              refine ww_iload_n 0 dX3_keepBindings_34 rfl ?_
              refine ww_aload_n 2 dX3_keepBindings_35 rfl ?_
              refine ww_getf gf_X3_50 rfl dX3_keepBindings_36 hM.obj rfl ?_
              refine ww_iload_n 1 dX3_keepBindings_39 rfl ?_
              refine mw_gld dX3_keepBindings_40 hM rfl (by omega) (by omega) ?_
              refine ww_iload_n 0 dX3_keepBindings_41 rfl ?_
              refine mw_rld dX3_keepBindings_42 hM rfl (by omega) (by omega) (by omega) (by omega) ?_
              refine mw_rst dX3_keepBindings_43 hM rfl (by omega) (by omega) (by omega) (by omega) (by first | exact hM.rd _ | exact hM.ri rfl _ _ | exact ⟨by omega, by omega⟩ | assumption | exact bI_in _ | exact inI.mk (by omega) (by omega)) (fun hh hM => ?_)
              refine ww_iinc (j := 0) [(2, _), (1, _), (0, _)] dX3_keepBindings_44 rfl (by decide) rfl ?_
              refine ww_goto 18 dX3_keepBindings_47 (by decide) ?_
              refine ww_sub [0, 1, 2] rfl ?_
              exact ig (n + 1) _ _ (by omega) (by omega) hM (fun j hj => by rw [su_off hj]; exact ho1 j hj) (fun a c x y z w => by rw [su_n (by omega)]; exact hw1 a c x y z w) (fun c x y => if e : c = n then by (rw [e, su_s, ho1 23 (by decide)]; exact ((hL_1.2 n (by omega) (by omega)).2 i (by omega) (by omega)).2) else by (rw [su_n (by omega)]; exact hr c x (by omega))) (by omega)
        refine ww_sub [0, 1, 2] rfl ?_
        exact loop_18 13 0 τ hx (by omega) (by omega) hM ho hw (fun c x y => by omega) (by omega)
  refine ww_sub [0, 1] rfl ?_
  exact loop_6 9 0 σ_1 hh (by omega) (by omega) hM (fun _ _ => rfl) (fun a n x y => by omega) (by omega)

set_option maxHeartbeats 4000000 in
theorem ct_X3_changedBut {G : GT} {h0 h : AH} {m : Nat} {A : Nat → Nat} {B : Nat → Int → Nat} {D : Int → Int} {σ : MS} (hG : GOK G) (hM : MWF G h0 h m A B D σ) {fn : EF} (hD : DOK D fn) {w : Int → Int → Int} (hw : ∀ k n : Int, 0 ≤ k → k < D 1 → 0 ≤ n → n < D 2 → σ 24 k n = w k n) (but : Int) (hb : inI but) : CSi G (MX3_changedBut 6 134 0 0) h m A B D [.ref m, .int (iI but)] (fun r σ' => (∀ j, j < 18 ∨ 23 < j → σ' j = σ j) ∧ r = xCh w D fn but) := by
  refine CT.of rfl hG (Nat.le_of_ble_eq_true rfl) rfl (fun E hQ => ?_)
  have hM := hM.1.f
  have hD0 := hD
  obtain ⟨⟨hl1, hl2⟩, ⟨hn1, hn2⟩, ⟨hs1, hs2⟩, hpf, hpr, htr, hwt, hof⟩ := hD
  refine ww_aload_n 0 dX3_changedBut_0 rfl ?_
  refine cr_sv hM (cr_V (ct_X3_layAll hG hM hD0) sv_X3_271 rfl dX3_changedBut_1 hM.obj rfl rfl rfl rfl ⟨by decide, by decide⟩ (Nat.le_of_ble_eq_true rfl) (Nat.le_of_ble_eq_true rfl) (Nat.le_of_ble_eq_true rfl)) (fun σ_1 hh hM hp_1 => ?_)
  obtain ⟨hk_1, hL_1⟩ := hp_1
  refine ww_iconst dX3_changedBut_4 ?_
  refine ww_istore_n [(2, _), (0, _), (1, _)] dX3_changedBut_5 (by decide) rfl ?_
  refine ww_iconst dX3_changedBut_6 ?_
  refine ww_istore_n [(3, _), (2, _), (0, _), (1, _)] dX3_changedBut_7 (by decide) rfl ?_
  have loop_8 : ∀ (f : Nat) (i acc : Int), (0 ≤ i) → (i ≤ D 1) → (acc = smI i (fun k => smI (D 2) (fun n => bI (k ≠ but ∧ D (6 + 24 * k + 2) > 0 ∧ w k n ≠ xBd D fn k n)))) → (D 1 - i < f) → WW G E (MX3_changedBut 6 134 0 0) hh 0 0 8 [(3, .int (iI i)), (2, .int (iI acc)), (0, .ref m), (1, .int (iI but))] [] := by
    intro f
    induction f with
    | zero => intro i acc hi0 hi1 hacc hf; exact absurd hf (by omega)
    | succ f ih =>
      intro i acc hi0 hi1 hacc hf
      refine ww_iload_n 0 dX3_changedBut_8 rfl ?_
      refine ww_aload_n 2 dX3_changedBut_9 rfl ?_
      refine ww_getf gf_X3_17 rfl dX3_changedBut_10 hM.obj rfl ?_
      refine ww_iconst dX3_changedBut_13 ?_
      refine mw_ldD dX3_changedBut_14 hM (by omega) (by omega) ?_
      refine ww_icmp_ge 86 dX3_changedBut_15 (by decide) (by first | exact hM.rd _ | exact hM.ri rfl _ _ | exact ⟨by omega, by omega⟩ | assumption | exact bI_in _ | exact inI.mk (by omega) (by omega)) (by first | exact hM.rd _ | exact hM.ri rfl _ _ | exact ⟨by omega, by omega⟩ | assumption | exact bI_in _ | exact inI.mk (by omega) (by omega)) (fun c_15 => ?_) (fun c_15 => ?_)
      · refine ww_iload_n 1 dX3_changedBut_86 rfl ?_
        exact ww_iret hQ dX3_changedBut_87 rfl (Nat.le_of_ble_eq_true rfl) (Nat.le_of_ble_eq_true rfl) ⟨_, rfl, _, hM, hk_1, by unfold xCh; rw [hacc, show i = D 1 by omega]⟩
      · refine ww_iconst dX3_changedBut_18 ?_
        refine ww_istore [(4, _), (3, _), (2, _), (0, _), (1, _)] dX3_changedBut_19 (by decide) rfl ?_
        have loop_21 : ∀ (g : Nat) (n acc1 : Int), (0 ≤ n) → (n ≤ D 2) → (acc1 = acc + smI n (fun n => bI (i ≠ but ∧ D (6 + 24 * i + 2) > 0 ∧ w i n ≠ xBd D fn i n))) → (D 2 - n < g) → WW G E (MX3_changedBut 6 134 0 0) hh 0 0 21 [(4, .int (iI n)), (3, .int (iI i)), (2, .int (iI acc1)), (0, .ref m), (1, .int (iI but))] [] := by
          intro g
          induction g with
          | zero => intro n acc1 hn0 hn3 hacc1 hg; exact absurd hg (by omega)
          | succ g ig =>
            intro n acc1 hn0 hn3 hacc1 hg
            have e1 : n < D 2 → σ_1 24 i n = w i n := fun q => by rw [hk_1 24 (by decide)]; exact hw i n (by omega) (by omega) (by omega) q
            have e2 : n < D 2 → σ_1 23 i n = xBd D fn i n := fun q => ((hL_1.2 n (by omega) q).2 i (by omega) (by omega)).2
            refine ww_iload 0 dX3_changedBut_21 rfl ?_
            refine ww_aload_n 3 dX3_changedBut_23 rfl ?_
            refine ww_getf gf_X3_17 rfl dX3_changedBut_24 hM.obj rfl ?_
            refine ww_iconst dX3_changedBut_27 ?_
            refine mw_ldD dX3_changedBut_28 hM (by omega) (by omega) ?_
            refine ww_icmp_ge 80 dX3_changedBut_29 (by decide) (by first | exact hM.rd _ | exact hM.ri rfl _ _ | exact ⟨by omega, by omega⟩ | assumption | exact bI_in _ | exact inI.mk (by omega) (by omega)) (by first | exact hM.rd _ | exact hM.ri rfl _ _ | exact ⟨by omega, by omega⟩ | assumption | exact bI_in _ | exact inI.mk (by omega) (by omega)) (fun c_29 => ?_) (fun c_29 => ?_)
            · refine ww_iinc (j := 1) [(3, _), (4, _), (2, _), (0, _), (1, _)] dX3_changedBut_80 rfl (by decide) rfl ?_
              refine ww_goto 8 dX3_changedBut_83 (by decide) ?_
              refine ww_sub [0, 2, 3, 4] rfl ?_
              exact ih (i + 1) acc1 (by omega) (by omega) (by rw [smI_s hi0, hacc1, hacc, show n = D 2 by omega]) (by omega)
            · refine ww_iload_n 2 dX3_changedBut_32 rfl ?_
              refine ww_iload_n 1 dX3_changedBut_33 rfl ?_
              refine ww_iload_n 4 dX3_changedBut_34 rfl ?_
              refine ww_icmp_eq 71 dX3_changedBut_35 (by decide) (by first | exact hM.rd _ | exact hM.ri rfl _ _ | exact ⟨by omega, by omega⟩ | assumption | exact bI_in _ | exact inI.mk (by omega) (by omega)) (by first | exact hM.rd _ | exact hM.ri rfl _ _ | exact ⟨by omega, by omega⟩ | assumption | exact bI_in _ | exact inI.mk (by omega) (by omega)) (fun c_35 => ?_) (fun c_35 => ?_)
              · refine ww_iconst dX3_changedBut_71 ?_
                refine ww_iadd dX3_changedBut_72 ?_
                refine ww_istore_n [(2, _), (4, _), (3, _), (0, _), (1, _)] dX3_changedBut_73 (by decide) rfl ?_
                refine ww_iinc (j := 1) [(4, _), (2, _), (3, _), (0, _), (1, _)] dX3_changedBut_74 rfl (by decide) rfl ?_
                refine ww_goto 21 dX3_changedBut_77 (by decide) ?_
                refine ww_sub [0, 2, 1, 3, 4] rfl ?_
                exact ig (n + 1) _ (by omega) (by omega) (by rw [smI_s hn0, hacc1, Int.add_assoc]; congr 2; first | exact (bI_t ⟨by omega, by omega, by rw [← e1 (by omega), ← e2 (by omega)]; assumption⟩).symm | exact (bI_f (fun q => by have q1 := q.1; have q2 := q.2.1; have q3 := q.2.2; first | omega | (rw [← e1 (by omega), ← e2 (by omega)] at q3; exact q3 (by assumption)))).symm) (by omega)
              · refine ww_aload_n 3 dX3_changedBut_38 rfl ?_
                refine ww_iload_n 1 dX3_changedBut_39 rfl ?_
                refine cr_pi (cr_V (ct_X3_isLoaded hG hM _ (by omega) (by omega)) sv_X3_232 rfl dX3_changedBut_40 hM.obj rfl rfl rfl rfl ⟨by decide, by decide⟩ (Nat.le_of_ble_eq_true rfl) (Nat.le_of_ble_eq_true rfl) (Nat.le_of_ble_eq_true rfl)) ?_
                refine ww_ifb_eq 71 dX3_changedBut_43 (by decide) (fun c_43 => ?_) (fun c_43 => ?_)
                · refine ww_iconst dX3_changedBut_71 ?_
                  refine ww_iadd dX3_changedBut_72 ?_
                  refine ww_istore_n [(2, _), (4, _), (3, _), (0, _), (1, _)] dX3_changedBut_73 (by decide) rfl ?_
                  refine ww_iinc (j := 1) [(4, _), (2, _), (3, _), (0, _), (1, _)] dX3_changedBut_74 rfl (by decide) rfl ?_
                  refine ww_goto 21 dX3_changedBut_77 (by decide) ?_
                  refine ww_sub [0, 2, 1, 3, 4] rfl ?_
                  exact ig (n + 1) _ (by omega) (by omega) (by rw [smI_s hn0, hacc1, Int.add_assoc]; congr 2; first | exact (bI_t ⟨by omega, by omega, by rw [← e1 (by omega), ← e2 (by omega)]; assumption⟩).symm | exact (bI_f (fun q => by have q1 := q.1; have q2 := q.2.1; have q3 := q.2.2; first | omega | (rw [← e1 (by omega), ← e2 (by omega)] at q3; exact q3 (by assumption)))).symm) (by omega)
                · refine ww_aload_n 3 dX3_changedBut_46 rfl ?_
                  refine ww_getf gf_X3_53 rfl dX3_changedBut_47 hM.obj rfl ?_
                  refine ww_iload_n 1 dX3_changedBut_50 rfl ?_
                  refine mw_gld dX3_changedBut_51 hM rfl (by omega) (by omega) ?_
                  refine ww_iload 0 dX3_changedBut_52 rfl ?_
                  refine mw_rld dX3_changedBut_54 hM rfl (by omega) (by omega) (by omega) (by omega) ?_
                  refine ww_aload_n 3 dX3_changedBut_55 rfl ?_
                  refine ww_getf gf_X3_50 rfl dX3_changedBut_56 hM.obj rfl ?_
                  refine ww_iload_n 1 dX3_changedBut_59 rfl ?_
                  refine mw_gld dX3_changedBut_60 hM rfl (by omega) (by omega) ?_
                  refine ww_iload 0 dX3_changedBut_61 rfl ?_
                  refine mw_rld dX3_changedBut_63 hM rfl (by omega) (by omega) (by omega) (by omega) ?_
                  refine ww_icmp_eq 71 dX3_changedBut_64 (by decide) (by first | exact hM.rd _ | exact hM.ri rfl _ _ | exact ⟨by omega, by omega⟩ | assumption | exact bI_in _ | exact inI.mk (by omega) (by omega)) (by first | exact hM.rd _ | exact hM.ri rfl _ _ | exact ⟨by omega, by omega⟩ | assumption | exact bI_in _ | exact inI.mk (by omega) (by omega)) (fun c_64 => ?_) (fun c_64 => ?_)
                  · refine ww_iconst dX3_changedBut_71 ?_
                    refine ww_iadd dX3_changedBut_72 ?_
                    refine ww_istore_n [(2, _), (4, _), (3, _), (0, _), (1, _)] dX3_changedBut_73 (by decide) rfl ?_
                    refine ww_iinc (j := 1) [(4, _), (2, _), (3, _), (0, _), (1, _)] dX3_changedBut_74 rfl (by decide) rfl ?_
                    refine ww_goto 21 dX3_changedBut_77 (by decide) ?_
                    refine ww_sub [0, 2, 1, 3, 4] rfl ?_
                    exact ig (n + 1) _ (by omega) (by omega) (by rw [smI_s hn0, hacc1, Int.add_assoc]; congr 2; first | exact (bI_t ⟨by omega, by omega, by rw [← e1 (by omega), ← e2 (by omega)]; assumption⟩).symm | exact (bI_f (fun q => by have q1 := q.1; have q2 := q.2.1; have q3 := q.2.2; first | omega | (rw [← e1 (by omega), ← e2 (by omega)] at q3; exact q3 (by assumption)))).symm) (by omega)
                  · refine ww_iconst dX3_changedBut_67 ?_
                    refine ww_goto 72 dX3_changedBut_68 (by decide) ?_
                    refine ww_iadd dX3_changedBut_72 ?_
                    refine ww_istore_n [(2, _), (4, _), (3, _), (0, _), (1, _)] dX3_changedBut_73 (by decide) rfl ?_
                    refine ww_iinc (j := 1) [(4, _), (2, _), (3, _), (0, _), (1, _)] dX3_changedBut_74 rfl (by decide) rfl ?_
                    refine ww_goto 21 dX3_changedBut_77 (by decide) ?_
                    refine ww_sub [0, 2, 1, 3, 4] rfl ?_
                    exact ig (n + 1) _ (by omega) (by omega) (by rw [smI_s hn0, hacc1, Int.add_assoc]; congr 2; first | exact (bI_t ⟨by omega, by omega, by rw [← e1 (by omega), ← e2 (by omega)]; assumption⟩).symm | exact (bI_f (fun q => by have q1 := q.1; have q2 := q.2.1; have q3 := q.2.2; first | omega | (rw [← e1 (by omega), ← e2 (by omega)] at q3; exact q3 (by assumption)))).symm) (by omega)
        refine ww_sub [0, 1, 2, 3, 4] rfl ?_
        exact loop_21 13 0 acc (by omega) (by omega) (by rw [smI_0]; omega) (by omega)
  refine ww_sub [0, 1, 2, 3] rfl ?_
  exact loop_8 9 0 0 (by omega) (by omega) rfl (by omega)

theorem cp_step0 {F Gg : Int → Int} {i : Int} (h0 : 0 ≤ i) (j : Int) : iup (fun j => if 0 ≤ j ∧ j < i then F j else Gg j) i (F i) j = if 0 ≤ j ∧ j < i + 1 then F j else Gg j := by
  unfold iup
  by_cases e : j = i
  · rw [if_pos e, if_pos (by omega), e]
  · rw [if_neg e]
    show (if 0 ≤ j ∧ j < i then F j else Gg j) = _
    by_cases e2 : 0 ≤ j ∧ j < i
    · rw [if_pos e2, if_pos (by omega)]
    · rw [if_neg e2, if_neg (by omega)]

set_option maxHeartbeats 4000000 in
theorem ct_X3_copy {G : GT} {h : AH} {a b : Nat} {t u : Tg} {F Gg : Int → Int} (hG : GOK G) (ha : h a = some (t, aA G 0 1498 F)) (hb : h b = some (u, aA G 0 1498 Gg)) (hu : u.1 ≠ 0) (hne : t ≠ u) : CT G (MX3_copy 0 0 0 0) h [.ref a, .ref b] (pV (fun h' => h' = hset h b (u, aA G 0 1498 (fun j => if 0 ≤ j ∧ j < 1498 then F j else Gg j)))) := by
  refine CT.of rfl hG (Nat.le_of_ble_eq_true rfl) rfl (fun E hQ => ?_)
  refine ww_iconst dX3_copy_0 ?_
  refine ww_istore_n [(2, _), (0, _), (1, _)] dX3_copy_1 (by decide) rfl ?_
  have loop_2 : ∀ (f : Nat) (i : Int), (0 ≤ i) → (i ≤ 1498) → (1498 - i < f) → WW G E (MX3_copy 0 0 0 0) (hset h b (u, aA G 0 1498 (fun j => if 0 ≤ j ∧ j < i then F j else Gg j))) 0 0 2 [(2, .int (iI i)), (0, .ref a), (1, .ref b)] [] := by
    intro f
    induction f with
    | zero => intro i hi0 hi1 hf; exact absurd hf (by omega)
    | succ f ih =>
      intro i hi0 hi1 hf
      have ha1 : hset h b (u, aA G 0 1498 (fun j => if 0 ≤ j ∧ j < i then F j else Gg j)) a = some (t, aA G 0 1498 F) := hset_t hb ha hne
      refine ww_iload_n 0 dX3_copy_2 rfl ?_
      refine ww_sipush dX3_copy_3 (by decide) ?_
      refine ww_icmp_ge 21 dX3_copy_6 (by decide) (by first | exact hM.rd _ | exact hM.ri rfl _ _ | exact ⟨by omega, by omega⟩ | assumption | exact bI_in _ | exact inI.mk (by omega) (by omega)) (by first | exact hM.rd _ | exact hM.ri rfl _ _ | exact ⟨by omega, by omega⟩ | assumption | exact bI_in _ | exact inI.mk (by omega) (by omega)) (fun c_6 => ?_) (fun c_6 => ?_)
      · exact ww_vret hQ dX3_copy_21 rfl (Nat.le_of_ble_eq_true rfl) (Nat.le_of_ble_eq_true rfl) ⟨rfl, by rw [show i = 1498 by omega]⟩
      · refine ww_aload_n 2 dX3_copy_9 rfl ?_
        refine ww_iload_n 0 dX3_copy_10 rfl ?_
        refine ww_aload_n 1 dX3_copy_11 rfl ?_
        refine ww_iload_n 0 dX3_copy_12 rfl ?_
        refine ww_iald dX3_copy_13 ha1 (by decide) (by omega) (by omega) ?_
        refine ww_iast dX3_copy_14 hset_s hu (by decide) (by omega) (by omega) ?_
        refine ww_iinc (j := 0) [(2, _), (0, _), (1, _)] dX3_copy_15 rfl (by decide) rfl ?_
        refine ww_goto 2 dX3_copy_18 (by decide) ?_
        refine ww_sub [0, 1, 2] rfl ?_
        rw [hset_hset, show iup (fun j => if 0 ≤ j ∧ j < i then F j else Gg j) i (F i) = (fun j => if 0 ≤ j ∧ j < (i + 1) then F j else Gg j) from funext (fun j => cp_step0 hi0 j)]
        exact ih (i + 1) (by omega) (by omega) (by omega)
  refine ww_sub [0, 1, 2] rfl ?_
  have e0 : hset h b (u, aA G 0 1498 (fun j => if 0 ≤ j ∧ j < 0 then F j else Gg j)) = h := by rw [show (fun j => if 0 ≤ j ∧ j < 0 then F j else Gg j) = Gg from funext (fun j => if_neg (by omega))]; exact hset_same hb
  rw [← e0]
  exact loop_2 1499 0 (by omega) (by omega) (by omega)

section CPY
variable {G : GT} {h h0 : AH} {m : Nat} {A : Nat → Nat} {B : Nat → Int → Nat} {D : Int → Int} {σ : MS} {E : ET} {M : MT} {n k pc : Nat} {L : List (Nat × Value)} {st : List Value}
theorem cp_in {F Gg : Int → Int} (h1 : ∀ z, inI (F z)) (h2 : ∀ z, inI (Gg z)) : ∀ z, inI ((fun j => if 0 ≤ j ∧ j < 1498 then F j else Gg j) z) := fun z => by
  show inI (if 0 ≤ z ∧ z < 1498 then F z else Gg z)
  split <;> first | exact h1 z | exact h2 z
theorem cp_eq {F Gg : Int → Int} : rEq (fun j => if 0 ≤ j ∧ j < 1498 then F j else Gg j) F := fun j a b => if_pos ⟨a, b⟩
theorem mw_cpRR {i j : Int} (d : decode (mcc M) pc = .ok (.invokestatic 228, 3)) (hM : MWF G h0 h m A B D σ) (hG : GOK G) (ho : RX3 = (my M).cls) (hR : RF M (MX3_copy 0 0 0 0)) (hn : n + 0 ≤ mmc M) (hk : k + 0 ≤ mms M) (i0 : 0 ≤ i) (i1 : i < 8) (j0 : 0 ≤ j) (j1 : j < 8) (ne : i ≠ j) (hw : (st.map fun v => v.category).sum ≤ 8)
    (kk : ∀ (g : Int → Int) (h' : AH), MWF G h0 h' m A B D (sa σ 10 j g) → rEq g (σ 10 i) → WW G E M h' (n + 0) (k + 0) (pc + 3) L st) : WW G E M h n k pc L (.ref (B 10 j) :: .ref (B 10 i) :: st) := by
  refine cr_v (p := _) (cr_S (ct_X3_copy hG (hM.row (j := 10) (N := (8, 1498)) rfl i0 i1) (hM.row (j := 10) (N := (8, 1498)) rfl j0 j1) hM.1.1 (tg_ne (by omega))) ss_X3_228 ho d rfl rfl hR hw hn hk) (fun h' hp => ?_)
  subst hp
  exact kk _ _ (hM.stRf (j := 10) (N := (8, 1498)) rfl j0 j1 (cp_in (fun z => hM.ri rfl _ _) (fun z => hM.ri rfl _ _))) cp_eq
theorem mw_cpDR {j : Int} (d : decode (mcc M) pc = .ok (.invokestatic 228, 3)) (hM : MWF G h0 h m A B D σ) (hG : GOK G) (ho : RX3 = (my M).cls) (hR : RF M (MX3_copy 0 0 0 0)) (hn : n + 0 ≤ mmc M) (hk : k + 0 ≤ mms M) (j0 : 0 ≤ j) (j1 : j < 8) (hw : (st.map fun v => v.category).sum ≤ 8)
    (kk : ∀ (g : Int → Int) (h' : AH), MWF G h0 h' m A B D (sa σ 10 j g) → rEq g D → WW G E M h' (n + 0) (k + 0) (pc + 3) L st) : WW G E M h n k pc L (.ref (B 10 j) :: .ref (A 8) :: st) := by
  refine cr_v (p := _) (cr_S (ct_X3_copy hG hM.dat (hM.row (j := 10) (N := (8, 1498)) rfl j0 j1) hM.1.1 (tg_ne (by omega))) ss_X3_228 ho d rfl rfl hR hw hn hk) (fun h' hp => ?_)
  subst hp
  exact kk _ _ (hM.stRf (j := 10) (N := (8, 1498)) rfl j0 j1 (cp_in hM.rd (fun z => hM.ri rfl _ _))) cp_eq
theorem mw_cpRD {i : Int} (d : decode (mcc M) pc = .ok (.invokestatic 228, 3)) (hM : MWF G h0 h m A B D σ) (hG : GOK G) (ho : RX3 = (my M).cls) (hR : RF M (MX3_copy 0 0 0 0)) (hn : n + 0 ≤ mmc M) (hk : k + 0 ≤ mms M) (i0 : 0 ≤ i) (i1 : i < 8) (hw : (st.map fun v => v.category).sum ≤ 8)
    (kk : ∀ (g : Int → Int) (h' : AH), MWF G h0 h' m A B g σ → rEq g (σ 10 i) → WW G E M h' (n + 0) (k + 0) (pc + 3) L st) : WW G E M h n k pc L (.ref (A 8) :: .ref (B 10 i) :: st) := by
  refine cr_v (p := _) (cr_S (ct_X3_copy hG (hM.row (j := 10) (N := (8, 1498)) rfl i0 i1) hM.dat hM.1.1 (tg_ne (by omega))) ss_X3_228 ho d rfl rfl hR hw hn hk) (fun h' hp => ?_)
  subst hp
  exact kk _ _ (hM.stD (cp_in (fun z => hM.ri rfl _ _) hM.rd)) cp_eq
theorem mw_cpFD (d : decode (mcc M) pc = .ok (.invokestatic 228, 3)) (hM : MWF G h0 h m A B D σ) (hG : GOK G) (ho : RX3 = (my M).cls) (hR : RF M (MX3_copy 0 0 0 0)) (hn : n + 0 ≤ mmc M) (hk : k + 0 ≤ mms M) (hw : (st.map fun v => v.category).sum ≤ 8)
    (kk : ∀ (g : Int → Int) (h' : AH), MWF G h0 h' m A B g σ → rEq g (σ 9 0) → WW G E M h' (n + 0) (k + 0) (pc + 3) L st) : WW G E M h n k pc L (.ref (A 8) :: .ref (A 9) :: st) := by
  refine cr_v (p := _) (cr_S (ct_X3_copy hG (hM.arr (j := 9) rfl) hM.dat hM.1.1 (tg_ne (by decide))) ss_X3_228 ho d rfl rfl hR hw hn hk) (fun h' hp => ?_)
  subst hp
  exact kk _ _ (hM.stD (cp_in (fun z => hM.ri rfl _ _) hM.rd)) cp_eq
end CPY
