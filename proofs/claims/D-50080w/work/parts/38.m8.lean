set_option maxRecDepth 100000
set_option maxHeartbeats 4000000 in
theorem ct_X3_remember {G : GT} {h0 h : AH} {m : Nat} {A : Nat → Nat} {B : Nat → Int → Nat} {D : Int → Int} {σ : MS} (hG : GOK G) (hM : MWF G h0 h m A B D σ) (hu1 : 0 ≤ σ 11 0 0) (hu2 : σ 11 0 0 ≤ 8) : CSv G (MX3_remember 1 22 0 0) h m A B D [.ref m] (fun σ' => Rem σ D σ' ∧ ∀ j, j ≠ 10 → j ≠ 11 → σ' j = σ j) := by
  refine CT.of rfl hG (Nat.le_of_ble_eq_true rfl) rfl (fun E hQ => ?_)
  have hM := hM.1.f
  refine ww_aload_n 0 dX3_remember_0 rfl ?_
  refine ww_getf gf_X3_292 rfl dX3_remember_1 hM.obj rfl ?_
  refine ww_bipush dX3_remember_4 (by decide) ?_
  refine ww_icmp_ne 50 dX3_remember_6 (by decide) (by first | exact hM.rd _ | exact hM.ri rfl _ _ | exact ⟨by omega, by omega⟩ | assumption | exact bI_in _ | exact inI.mk (by omega) (by omega)) (by first | exact hM.rd _ | exact hM.ri rfl _ _ | exact ⟨by omega, by omega⟩ | assumption | exact bI_in _ | exact inI.mk (by omega) (by omega)) (fun c_6 => ?_) (fun c_6 => ?_)
  · refine ww_aload_n 0 dX3_remember_50 rfl ?_
    refine ww_getf gf_X3_17 rfl dX3_remember_51 hM.obj rfl ?_
    refine ww_aload_n 0 dX3_remember_54 rfl ?_
    refine ww_getf gf_X3_25 rfl dX3_remember_55 hM.obj rfl ?_
    refine ww_aload_n 0 dX3_remember_58 rfl ?_
    refine ww_getf gf_X3_292 rfl dX3_remember_59 hM.obj rfl ?_
    try rw [su_s]
    refine mw_gld dX3_remember_62 hM rfl (by omega) (by omega) ?_
    refine mw_cpDR dX3_remember_63 hM hG rfl ⟨by decide, by decide⟩ (Nat.le_of_ble_eq_true rfl) (Nat.le_of_ble_eq_true rfl) (by omega) (by omega) (Nat.le_of_ble_eq_true rfl) (fun g hh hM hg => ?_)
    refine ww_aload_n 0 dX3_remember_66 rfl ?_
    refine ww_dup dX3_remember_67 rfl ?_
    refine ww_getf gf_X3_292 rfl dX3_remember_68 hM.obj rfl ?_
    try rw [sa_off (by decide)]
    try rw [su_s]
    refine ww_iconst dX3_remember_71 ?_
    refine ww_iadd dX3_remember_72 ?_
    refine mw_put pf_X3_292 rfl dX3_remember_73 hM rfl (inI.mk (by omega) (by omega)) (fun hh hM => ?_)
    exact ww_vret hQ dX3_remember_76 rfl (Nat.le_of_ble_eq_true rfl) (Nat.le_of_ble_eq_true rfl) ⟨rfl, _, hM, by first | exact Or.inl ⟨by omega, by rw [su_s]; omega, fun r x y => by rw [su_off (by decide), sa_row (by omega), su_off (by decide)]; exact ha r x (by omega), by rw [su_off (by decide), show (7 : Int) = τ 11 0 0 - 1 by omega, sa_s]; exact hg⟩ | exact Or.inr ⟨by omega, by rw [su_s], fun r x y => by (rw [su_off (by decide), sa_row (by omega)]; intro j a b; rfl), by rw [su_off (by decide), sa_s]; exact hg⟩, fun j h1 h2 => by first | rw [su_off h2, sa_off h1, su_off h2]; exact ho j h1 | rw [su_off h2, sa_off h1]⟩
  · refine ww_iconst dX3_remember_9 ?_
    refine ww_istore_n [(1, _), (0, _)] dX3_remember_10 (by decide) rfl ?_
    have loop_11 : ∀ (f : Nat) (i : Int) (τ : MS) (hx : AH), (1 ≤ i) → (i ≤ 8) → (MWF G h hx m A B D τ) → (∀ j, j ≠ 10 → τ j = σ j) → (∀ r : Int, 0 ≤ r → r < i - 1 → rEq (τ 10 r) (σ 10 (r + 1))) → (∀ r : Int, i - 1 ≤ r → τ 10 r = σ 10 r) → (9 - i ≤ f) → WW G E (MX3_remember 1 22 0 0) hx 0 0 11 [(1, .int (iI i)), (0, .ref m)] [] := by
      intro f
      induction f with
      | zero => intro i τ hx hi0 hi1 hM ho ha hb hf; exact absurd hf (by omega)
      | succ f ih =>
        intro i τ hx hi0 hi1 hM ho ha hb hf
        refine ww_iload_n 0 dX3_remember_11 rfl ?_
        refine ww_bipush dX3_remember_12 (by decide) ?_
        refine ww_icmp_ge 40 dX3_remember_14 (by decide) (by first | exact hM.rd _ | exact hM.ri rfl _ _ | exact ⟨by omega, by omega⟩ | assumption | exact bI_in _ | exact inI.mk (by omega) (by omega)) (by first | exact hM.rd _ | exact hM.ri rfl _ _ | exact ⟨by omega, by omega⟩ | assumption | exact bI_in _ | exact inI.mk (by omega) (by omega)) (fun c_14 => ?_) (fun c_14 => ?_)
        · have hd8 : τ 11 0 0 = 8 := by rw [ho 11 (by decide)]; exact c_6
          refine ww_aload_n 1 dX3_remember_40 rfl ?_
          refine ww_dup dX3_remember_41 rfl ?_
          refine ww_getf gf_X3_292 rfl dX3_remember_42 hM.obj rfl ?_
          refine ww_iconst dX3_remember_45 ?_
          refine ww_isub dX3_remember_46 ?_
          refine mw_put pf_X3_292 rfl dX3_remember_47 hM rfl (inI.mk (by omega) (by omega)) (fun hh hM => ?_)
          refine ww_aload_n 1 dX3_remember_50 rfl ?_
          refine ww_getf gf_X3_17 rfl dX3_remember_51 hM.obj rfl ?_
          refine ww_aload_n 1 dX3_remember_54 rfl ?_
          refine ww_getf gf_X3_25 rfl dX3_remember_55 hM.obj rfl ?_
          refine ww_aload_n 1 dX3_remember_58 rfl ?_
          refine ww_getf gf_X3_292 rfl dX3_remember_59 hM.obj rfl ?_
          try rw [su_s]
          refine mw_gld dX3_remember_62 hM rfl (by omega) (by omega) ?_
          refine mw_cpDR dX3_remember_63 hM hG rfl ⟨by decide, by decide⟩ (Nat.le_of_ble_eq_true rfl) (Nat.le_of_ble_eq_true rfl) (by omega) (by omega) (Nat.le_of_ble_eq_true rfl) (fun g hh hM hg => ?_)
          refine ww_aload_n 1 dX3_remember_66 rfl ?_
          refine ww_dup dX3_remember_67 rfl ?_
          refine ww_getf gf_X3_292 rfl dX3_remember_68 hM.obj rfl ?_
          try rw [sa_off (by decide)]
          try rw [su_s]
          refine ww_iconst dX3_remember_71 ?_
          refine ww_iadd dX3_remember_72 ?_
          refine mw_put pf_X3_292 rfl dX3_remember_73 hM rfl (inI.mk (by omega) (by omega)) (fun hh hM => ?_)
          exact ww_vret hQ dX3_remember_76 rfl (Nat.le_of_ble_eq_true rfl) (Nat.le_of_ble_eq_true rfl) ⟨rfl, _, hM, by first | exact Or.inl ⟨by omega, by rw [su_s]; omega, fun r x y => by rw [su_off (by decide), sa_row (by omega), su_off (by decide)]; exact ha r x (by omega), by rw [su_off (by decide), show (7 : Int) = τ 11 0 0 - 1 by omega, sa_s]; exact hg⟩ | exact Or.inr ⟨by omega, by rw [su_s], fun r x y => by (rw [su_off (by decide), sa_row (by omega)]; intro j a b; rfl), by rw [su_off (by decide), sa_s]; exact hg⟩, fun j h1 h2 => by first | rw [su_off h2, sa_off h1, su_off h2]; exact ho j h1 | rw [su_off h2, sa_off h1]⟩
        · refine ww_aload_n 1 dX3_remember_17 rfl ?_
          refine ww_getf gf_X3_25 rfl dX3_remember_18 hM.obj rfl ?_
          refine ww_iload_n 0 dX3_remember_21 rfl ?_
          refine mw_gld dX3_remember_22 hM rfl (by omega) (by omega) ?_
          refine ww_aload_n 1 dX3_remember_23 rfl ?_
          refine ww_getf gf_X3_25 rfl dX3_remember_24 hM.obj rfl ?_
          refine ww_iload_n 0 dX3_remember_27 rfl ?_
          refine ww_iconst dX3_remember_28 ?_
          refine ww_isub dX3_remember_29 ?_
          refine mw_gld dX3_remember_30 hM rfl (by omega) (by omega) ?_
          refine mw_cpRR dX3_remember_31 hM hG rfl ⟨by decide, by decide⟩ (Nat.le_of_ble_eq_true rfl) (Nat.le_of_ble_eq_true rfl) (by omega) (by omega) (by omega) (by omega) (by omega) (Nat.le_of_ble_eq_true rfl) (fun g hh hM hg => ?_)
          refine ww_iinc (j := 0) [(1, _), (0, _)] dX3_remember_34 rfl (by decide) rfl ?_
          refine ww_goto 11 dX3_remember_37 (by decide) ?_
          refine ww_sub [0, 1] rfl ?_
          exact ih (i + 1) _ _ (by omega) (by omega) hM (fun j hj => by rw [sa_off hj]; exact ho j hj) (fun r x y => if e : r = i - 1 then by (rw [e, sa_s, show i - 1 + 1 = i by omega, ← hb i (by omega)]; exact hg) else by (rw [sa_row e]; exact ha r x (by omega))) (fun r x => by rw [sa_row (by omega)]; exact hb r (by omega)) (by omega)
    refine ww_sub [0, 1] rfl ?_
    exact loop_11 8 1 σ h (by omega) (by omega) hM (fun _ _ => rfl) (fun r x y => by omega) (fun _ _ => rfl) (by omega)

set_option maxHeartbeats 4000000 in
theorem ct_X3_undo {G : GT} {h0 h : AH} {m : Nat} {A : Nat → Nat} {B : Nat → Int → Nat} {D : Int → Int} {σ : MS} (hG : GOK G) (hM : MWF G h0 h m A B D σ) (hu1 : 0 ≤ σ 11 0 0) (hu2 : σ 11 0 0 ≤ 8) : CMi G (MX3_undo 1 22 0 0) h m A B [.ref m] (fun r D' σ' => (σ' 1 = σ 1 ∧ σ' 2 = σ 2 ∧ σ' 7 = σ 7 ∧ σ' 10 = σ 10) ∧ ((σ 11 0 0 = 0 ∧ D = D' ∧ σ' 11 = σ 11 ∧ r = -1) ∨ (0 < σ 11 0 0 ∧ rEq D' (σ 10 (σ 11 0 0 - 1)) ∧ σ' 11 0 0 = σ 11 0 0 - 1 ∧ r = σ 11 0 0 - 1))) := by
  refine CT.of rfl hG (Nat.le_of_ble_eq_true rfl) rfl (fun E hQ => ?_)
  have hM := hM.1.f
  refine ww_aload_n 0 dX3_undo_0 rfl ?_
  refine ww_iconst dX3_undo_1 ?_
  refine mw_put pf_X3_59 rfl dX3_undo_2 hM rfl (by first | exact hM.rd _ | exact hM.ri rfl _ _ | exact ⟨by omega, by omega⟩ | assumption | exact bI_in _ | exact inI.mk (by omega) (by omega)) (fun hh hM => ?_)
  refine ww_aload_n 0 dX3_undo_5 rfl ?_
  refine ww_getf gf_X3_292 rfl dX3_undo_6 hM.obj rfl ?_
  rw [su_off (by decide)]
  refine ww_if_ne 14 dX3_undo_9 (by decide) (by first | exact hM.rd _ | exact hM.ri rfl _ _ | exact ⟨by omega, by omega⟩ | assumption | exact bI_in _ | exact inI.mk (by omega) (by omega)) (fun c_9 => ?_) (fun c_9 => ?_)
  · refine ww_aload_n 0 dX3_undo_14 rfl ?_
    refine ww_dup dX3_undo_15 rfl ?_
    refine ww_getf gf_X3_292 rfl dX3_undo_16 hM.obj rfl ?_
    rw [su_off (by decide)]
    refine ww_iconst dX3_undo_19 ?_
    refine ww_isub dX3_undo_20 ?_
    refine mw_put pf_X3_292 rfl dX3_undo_21 hM rfl (inI.mk (by omega) (by omega)) (fun hh hM => ?_)
    refine ww_aload_n 0 dX3_undo_24 rfl ?_
    refine ww_getf gf_X3_25 rfl dX3_undo_25 hM.obj rfl ?_
    refine ww_aload_n 0 dX3_undo_28 rfl ?_
    refine ww_getf gf_X3_292 rfl dX3_undo_29 hM.obj rfl ?_
    rw [su_s]
    refine mw_gld dX3_undo_32 hM rfl (by omega) (by omega) ?_
    refine ww_aload_n 0 dX3_undo_33 rfl ?_
    refine ww_getf gf_X3_17 rfl dX3_undo_34 hM.obj rfl ?_
    refine mw_cpRD dX3_undo_37 hM hG rfl ⟨by decide, by decide⟩ (Nat.le_of_ble_eq_true rfl) (Nat.le_of_ble_eq_true rfl) (by omega) (by omega) (Nat.le_of_ble_eq_true rfl) (fun g hh hM hg => ?_)
    refine ww_aload_n 0 dX3_undo_40 rfl ?_
    refine ww_getf gf_X3_292 rfl dX3_undo_41 hM.obj rfl ?_
    rw [su_s]
    exact ww_iret hQ dX3_undo_44 rfl (Nat.le_of_ble_eq_true rfl) (Nat.le_of_ble_eq_true rfl) ⟨_, rfl, _, _, hM, by simp [su_off], Or.inr ⟨by omega, by rw [su_off (by decide), su_off (by decide)] at hg; exact hg, su_s, rfl⟩⟩
  · refine ww_iconst dX3_undo_12 ?_
    exact ww_iret hQ dX3_undo_13 rfl (Nat.le_of_ble_eq_true rfl) (Nat.le_of_ble_eq_true rfl) ⟨_, rfl, _, _, hM, by simp [su_off], Or.inl ⟨by omega, rfl, su_off (by decide), rfl⟩⟩

set_option maxHeartbeats 4000000 in
theorem ct_X3_put {G : GT} {h0 h : AH} {m : Nat} {A : Nat → Nat} {B : Nat → Int → Nat} {D : Int → Int} {σ : MS} (hG : GOK G) (hM : MWF G h0 h m A B D σ) {fn : EF} (hD : DOK D fn) (hu1 : 0 ≤ σ 11 0 0) (hu2 : σ 11 0 0 ≤ 8) (k n v : Int) (h1 : 0 ≤ k) (h2 : k < D 1) (h3 : 0 ≤ n) (h4 : n < D 2) (h5 : -2 - D 2 < v) (h6 : v ≤ 9999) : CMi G (MX3_put 6 134 0 0) h m A B [.ref m, .int (iI k), .int (iI n), .int (iI v)] (fun r D' σ' => D' = iup D (6 + 24 * k + 12 + n) v ∧ Rem σ D σ' ∧ (∀ j, j < 10 → σ' j = σ j) ∧ r = xBs (iup D (6 + 24 * k + 12 + n) v) fn n) := by
  refine CT.of rfl hG (Nat.le_of_ble_eq_true rfl) rfl (fun E hQ => ?_)
  have hM := hM.1.f
  have hD0 := hD
  obtain ⟨⟨hl1, hl2⟩, ⟨hn1, hn2⟩, ⟨hs1, hs2⟩, hpf, hpr, htr, hwt, hof⟩ := hD
  refine ww_aload_n 0 dX3_put_0 rfl ?_
  refine cr_sv hM (cr_V (ct_X3_remember hG hM (by first | assumption | (simp [su_off]; omega)) (by first | assumption | (simp [su_off]; omega))) sv_X3_225 rfl dX3_put_1 hM.obj rfl rfl rfl rfl ⟨by decide, by decide⟩ (Nat.le_of_ble_eq_true rfl) (Nat.le_of_ble_eq_true rfl) (Nat.le_of_ble_eq_true rfl)) (fun σ_1 hh hM hp_1 => ?_)
  obtain ⟨hR_1, hr_1⟩ := hp_1
  refine ww_aload_n 0 dX3_put_4 rfl ?_
  refine ww_getf gf_X3_17 rfl dX3_put_5 hM.obj rfl ?_
  refine ww_iload_n 1 dX3_put_8 rfl ?_
  refine cr_pi (cr_S (ct_X3_at hG _) ss_X3_174 rfl dX3_put_9 rfl rfl ⟨by decide, by decide⟩ (Nat.le_of_ble_eq_true rfl) (Nat.le_of_ble_eq_true rfl) (Nat.le_of_ble_eq_true rfl)) ?_
  refine ww_bipush dX3_put_12 (by decide) ?_
  refine ww_iadd dX3_put_14 ?_
  refine ww_iload_n 2 dX3_put_15 rfl ?_
  refine ww_iadd dX3_put_16 ?_
  refine ww_iload_n 3 dX3_put_17 rfl ?_
  refine mw_stD dX3_put_18 hM (by omega) (by omega) (inI.mk (by omega) (by omega)) (fun hh hM => ?_)
  refine ww_aload_n 0 dX3_put_19 rfl ?_
  refine cr_sv hM (cr_V (ct_X3_layAll hG hM (hD0.of (by omega) (by omega) (by omega) (by omega) (by omega) (by omega))) sv_X3_271 rfl dX3_put_20 hM.obj rfl rfl rfl rfl ⟨by decide, by decide⟩ (Nat.le_of_ble_eq_true rfl) (Nat.le_of_ble_eq_true rfl) (Nat.le_of_ble_eq_true rfl)) (fun σ_20 hh hM hp_20 => ?_)
  obtain ⟨hk_20, hL_20⟩ := hp_20
  refine ww_aload_n 0 dX3_put_23 rfl ?_
  refine ww_getf gf_X3_44 rfl dX3_put_24 hM.obj rfl ?_
  refine ww_iload_n 2 dX3_put_27 rfl ?_
  refine mw_ld dX3_put_28 hM rfl (by omega) (by omega) ?_
  exact ww_iret hQ dX3_put_29 rfl (Nat.le_of_ble_eq_true rfl) (Nat.le_of_ble_eq_true rfl) ⟨_, rfl, _, _, hM, rfl, hR_1.ext rfl rfl (by simp [hk_20]) (by simp [hk_20]), fun j hj => by rw [hk_20 j (by omega), hr_1 j (by omega) (by omega)], (hL_20.2 n (by omega) (by rw [iup_n (by omega)]; omega)).1⟩

set_option maxHeartbeats 4000000 in
theorem ct_X3_offerValue {G : GT} {h0 h : AH} {m : Nat} {A : Nat → Nat} {B : Nat → Int → Nat} {D : Int → Int} {σ : MS} (hG : GOK G) (hM : MWF G h0 h m A B D σ) {fn : EF} (hD : DOK D fn) (hu1 : 0 ≤ σ 11 0 0) (hu2 : σ 11 0 0 ≤ 8) (k n v : Int) (hk : inI k) (hn : inI n) (hv : inI v) : CMi G (MX3_offerValue 7 157 0 0) h m A B [.ref m, .int (iI k), .int (iI n), .int (iI v)] (fun r D' σ' => (((0 ≤ k ∧ k < D 1) ∧ (0 ≤ n ∧ n < D 2) ∧ (0 ≤ v ∧ v ≤ 9999)) ∧ D' = iup D (6 + 24 * k + 12 + n) v ∧ Chg σ D σ' ∧ σ' 0 0 0 = 0 ∧ r = xBs (iup D (6 + 24 * k + 12 + n) v) fn n) ∨ ((¬ ((0 ≤ k ∧ k < D 1) ∧ (0 ≤ n ∧ n < D 2))) ∧ D' = D ∧ kp σ σ' ∧ σ' 0 0 0 = 1) ∨ (((0 ≤ k ∧ k < D 1) ∧ (0 ≤ n ∧ n < D 2) ∧ ¬ (0 ≤ v ∧ v ≤ 9999)) ∧ D' = D ∧ kp σ σ' ∧ σ' 0 0 0 = 2)) := by
  refine CT.of rfl hG (Nat.le_of_ble_eq_true rfl) rfl (fun E hQ => ?_)
  have hM := hM.1.f
  have hD0 := hD
  obtain ⟨⟨hl1, hl2⟩, ⟨hn1, hn2⟩, ⟨hs1, hs2⟩, hpf, hpr, htr, hwt, hof⟩ := hD
  refine ww_aload_n 0 dX3_offerValue_0 rfl ?_
  refine ww_iconst dX3_offerValue_1 ?_
  refine mw_put pf_X3_59 rfl dX3_offerValue_2 hM rfl (by first | exact hM.rd _ | exact hM.ri rfl _ _ | exact ⟨by omega, by omega⟩ | assumption | exact bI_in _ | exact inI.mk (by omega) (by omega)) (fun hh hM => ?_)
  refine ww_aload_n 0 dX3_offerValue_5 rfl ?_
  refine ww_iload_n 1 dX3_offerValue_6 rfl ?_
  refine cr_si hM (cr_V (ct_X3_noLibrary hG hM _ (by first | exact hM.rd _ | exact hM.ri rfl _ _ | exact ⟨by omega, by omega⟩ | assumption | exact bI_in _ | exact inI.mk (by omega) (by omega)) (by omega) (by omega) (by first | assumption | simp [su])) sv_X3_277 rfl dX3_offerValue_7 hM.obj rfl rfl rfl rfl ⟨by decide, by decide⟩ (Nat.le_of_ble_eq_true rfl) (Nat.le_of_ble_eq_true rfl) (Nat.le_of_ble_eq_true rfl)) (fun r_7 σ_7 hh hM hp_7 => ?_)
  rcases hp_7 with ⟨c0_7, rfl, rfl⟩ | ⟨c0_7, rfl, rfl⟩
  · refine ww_if_ne 45 dX3_offerValue_10 (by decide) (inI.mk (by decide) (by decide)) (fun c_10 => ?_) (fun c_10 => ?_)
    · exact absurd c_10 (by decide)
    · refine ww_aload_n 0 dX3_offerValue_13 rfl ?_
      refine ww_iload_n 2 dX3_offerValue_14 rfl ?_
      refine cr_si hM (cr_V (ct_X3_noName hG hM _ (by first | exact hM.rd _ | exact hM.ri rfl _ _ | exact ⟨by omega, by omega⟩ | assumption | exact bI_in _ | exact inI.mk (by omega) (by omega)) (by omega) (by omega) (by first | assumption | simp [su])) sv_X3_280 rfl dX3_offerValue_15 hM.obj rfl rfl rfl rfl ⟨by decide, by decide⟩ (Nat.le_of_ble_eq_true rfl) (Nat.le_of_ble_eq_true rfl) (Nat.le_of_ble_eq_true rfl)) (fun r_15 σ_15 hh hM hp_15 => ?_)
      rcases hp_15 with ⟨c0_15, rfl, rfl⟩ | ⟨c0_15, rfl, rfl⟩
      · refine ww_if_ne 45 dX3_offerValue_18 (by decide) (inI.mk (by decide) (by decide)) (fun c_18 => ?_) (fun c_18 => ?_)
        · exact absurd c_18 (by decide)
        · refine ww_aload_n 0 dX3_offerValue_21 rfl ?_
          refine ww_iload_n 3 dX3_offerValue_22 rfl ?_
          refine ww_iconst dX3_offerValue_23 ?_
          refine ww_sipush dX3_offerValue_24 (by decide) ?_
          refine cr_pi (cr_S (ct_X3_in hG _ _ _ (by first | exact hM.rd _ | exact hM.ri rfl _ _ | exact ⟨by omega, by omega⟩ | assumption | exact bI_in _ | exact inI.mk (by omega) (by omega)) (by first | exact hM.rd _ | exact hM.ri rfl _ _ | exact ⟨by omega, by omega⟩ | assumption | exact bI_in _ | exact inI.mk (by omega) (by omega)) (by first | exact hM.rd _ | exact hM.ri rfl _ _ | exact ⟨by omega, by omega⟩ | assumption | exact bI_in _ | exact inI.mk (by omega) (by omega))) ss_X3_81 rfl dX3_offerValue_27 rfl rfl ⟨by decide, by decide⟩ (Nat.le_of_ble_eq_true rfl) (Nat.le_of_ble_eq_true rfl) (Nat.le_of_ble_eq_true rfl)) ?_
          refine ww_ifb_ne 37 dX3_offerValue_30 (by decide) (fun c_30 => ?_) (fun c_30 => ?_)
          · refine ww_iconst dX3_offerValue_37 ?_
            refine ww_iconst dX3_offerValue_38 ?_
            refine cr_si hM (cr_V (ct_X3_fails hG hM _ _ (by first | exact hM.rd _ | exact hM.ri rfl _ _ | exact ⟨by omega, by omega⟩ | assumption | exact bI_in _ | exact inI.mk (by omega) (by omega)) (by first | exact hM.rd _ | exact hM.ri rfl _ _ | exact ⟨by omega, by omega⟩ | assumption | exact bI_in _ | exact inI.mk (by omega) (by omega)) (by decide) (by first | assumption | simp [su] | omega)) sv_X3_216 rfl dX3_offerValue_39 hM.obj rfl rfl rfl rfl ⟨by decide, by decide⟩ (Nat.le_of_ble_eq_true rfl) (Nat.le_of_ble_eq_true rfl) (Nat.le_of_ble_eq_true rfl)) (fun r_39 σ_39 hh hM hp_39 => ?_)
            rcases hp_39 with ⟨c0_39, rfl, rfl⟩ | ⟨c0_39, rfl, rfl⟩
            · refine ww_if_eq 49 dX3_offerValue_42 (by decide) (inI.mk (by decide) (by decide)) (fun c_42 => ?_) (fun c_42 => ?_)
              · refine ww_aload_n 0 dX3_offerValue_49 rfl ?_
                refine ww_iload_n 1 dX3_offerValue_50 rfl ?_
                refine ww_iload_n 2 dX3_offerValue_51 rfl ?_
                refine ww_iload_n 3 dX3_offerValue_52 rfl ?_
                refine cr_mi hM (cr_V (ct_X3_put hG hM hD0 (by first | assumption | (simp [su_off]; omega)) (by first | assumption | (simp [su_off]; omega)) _ _ _ (by omega) (by omega) (by omega) (by omega) (by omega) (by omega)) sv_X3_301 rfl dX3_offerValue_53 hM.obj rfl rfl rfl rfl ⟨by decide, by decide⟩ (Nat.le_of_ble_eq_true rfl) (Nat.le_of_ble_eq_true rfl) (Nat.le_of_ble_eq_true rfl)) (fun r_53 D_53 σ_53 hh hM hp_53 => ?_)
                obtain ⟨rfl, hR_53, hr_53, rfl⟩ := hp_53
                exact ww_iret hQ dX3_offerValue_56 rfl (Nat.le_of_ble_eq_true rfl) (Nat.le_of_ble_eq_true rfl) (by first | exact ⟨_, rfl, _, _, hM, Or.inl ⟨by omega, rfl, ⟨hR_53.ext (su_off (by decide)).symm (su_off (by decide)).symm rfl rfl, by rw [hr_53 1 (by decide)]; simp [su_off], by rw [hr_53 2 (by decide)]; simp [su_off], by rw [hr_53 7 (by decide)]; simp [su_off]⟩, by rw [hr_53 0 (by decide)]; simp [su], rfl⟩⟩ | exact ⟨_, rfl, _, _, hM, by first | (exfalso; omega) | exact Or.inr (Or.inl ⟨by omega, rfl, by refine ⟨?_, ?_, ?_, ?_, ?_⟩ <;> simp [su_off], by simp [su]⟩) | exact Or.inr (Or.inr (⟨by omega, rfl, by refine ⟨?_, ?_, ?_, ?_, ?_⟩ <;> simp [su_off], by simp [su]⟩))⟩)
              · exact absurd c_42 (by decide)
            · refine ww_if_eq 49 dX3_offerValue_42 (by decide) (inI.mk (by decide) (by decide)) (fun c_42 => ?_) (fun c_42 => ?_)
              · exact absurd c_42 (by decide)
              · refine ww_iconst dX3_offerValue_45 ?_
                refine ww_goto 56 dX3_offerValue_46 (by decide) ?_
                exact ww_iret hQ dX3_offerValue_56 rfl (Nat.le_of_ble_eq_true rfl) (Nat.le_of_ble_eq_true rfl) (by first | exact ⟨_, rfl, _, _, hM, Or.inl ⟨by omega, rfl, ⟨hR_53.ext (su_off (by decide)).symm (su_off (by decide)).symm rfl rfl, by rw [hr_53 1 (by decide)]; simp [su_off], by rw [hr_53 2 (by decide)]; simp [su_off], by rw [hr_53 7 (by decide)]; simp [su_off]⟩, by rw [hr_53 0 (by decide)]; simp [su], rfl⟩⟩ | exact ⟨_, rfl, _, _, hM, by first | (exfalso; omega) | exact Or.inr (Or.inl ⟨by omega, rfl, by refine ⟨?_, ?_, ?_, ?_, ?_⟩ <;> simp [su_off], by simp [su]⟩) | exact Or.inr (Or.inr (⟨by omega, rfl, by refine ⟨?_, ?_, ?_, ?_, ?_⟩ <;> simp [su_off], by simp [su]⟩))⟩)
          · refine ww_iconst dX3_offerValue_33 ?_
            refine ww_goto 38 dX3_offerValue_34 (by decide) ?_
            refine ww_iconst dX3_offerValue_38 ?_
            refine cr_si hM (cr_V (ct_X3_fails hG hM _ _ (by first | exact hM.rd _ | exact hM.ri rfl _ _ | exact ⟨by omega, by omega⟩ | assumption | exact bI_in _ | exact inI.mk (by omega) (by omega)) (by first | exact hM.rd _ | exact hM.ri rfl _ _ | exact ⟨by omega, by omega⟩ | assumption | exact bI_in _ | exact inI.mk (by omega) (by omega)) (by decide) (by first | assumption | simp [su] | omega)) sv_X3_216 rfl dX3_offerValue_39 hM.obj rfl rfl rfl rfl ⟨by decide, by decide⟩ (Nat.le_of_ble_eq_true rfl) (Nat.le_of_ble_eq_true rfl) (Nat.le_of_ble_eq_true rfl)) (fun r_39 σ_39 hh hM hp_39 => ?_)
            rcases hp_39 with ⟨c0_39, rfl, rfl⟩ | ⟨c0_39, rfl, rfl⟩
            · refine ww_if_eq 49 dX3_offerValue_42 (by decide) (inI.mk (by decide) (by decide)) (fun c_42 => ?_) (fun c_42 => ?_)
              · refine ww_aload_n 0 dX3_offerValue_49 rfl ?_
                refine ww_iload_n 1 dX3_offerValue_50 rfl ?_
                refine ww_iload_n 2 dX3_offerValue_51 rfl ?_
                refine ww_iload_n 3 dX3_offerValue_52 rfl ?_
                refine cr_mi hM (cr_V (ct_X3_put hG hM hD0 (by first | assumption | (simp [su_off]; omega)) (by first | assumption | (simp [su_off]; omega)) _ _ _ (by omega) (by omega) (by omega) (by omega) (by omega) (by omega)) sv_X3_301 rfl dX3_offerValue_53 hM.obj rfl rfl rfl rfl ⟨by decide, by decide⟩ (Nat.le_of_ble_eq_true rfl) (Nat.le_of_ble_eq_true rfl) (Nat.le_of_ble_eq_true rfl)) (fun r_53 D_53 σ_53 hh hM hp_53 => ?_)
                obtain ⟨rfl, hR_53, hr_53, rfl⟩ := hp_53
                exact ww_iret hQ dX3_offerValue_56 rfl (Nat.le_of_ble_eq_true rfl) (Nat.le_of_ble_eq_true rfl) (by first | exact ⟨_, rfl, _, _, hM, Or.inl ⟨by omega, rfl, ⟨hR_53.ext (su_off (by decide)).symm (su_off (by decide)).symm rfl rfl, by rw [hr_53 1 (by decide)]; simp [su_off], by rw [hr_53 2 (by decide)]; simp [su_off], by rw [hr_53 7 (by decide)]; simp [su_off]⟩, by rw [hr_53 0 (by decide)]; simp [su], rfl⟩⟩ | exact ⟨_, rfl, _, _, hM, by first | (exfalso; omega) | exact Or.inr (Or.inl ⟨by omega, rfl, by refine ⟨?_, ?_, ?_, ?_, ?_⟩ <;> simp [su_off], by simp [su]⟩) | exact Or.inr (Or.inr (⟨by omega, rfl, by refine ⟨?_, ?_, ?_, ?_, ?_⟩ <;> simp [su_off], by simp [su]⟩))⟩)
              · exact absurd c_42 (by decide)
            · refine ww_if_eq 49 dX3_offerValue_42 (by decide) (inI.mk (by decide) (by decide)) (fun c_42 => ?_) (fun c_42 => ?_)
              · exact absurd c_42 (by decide)
              · refine ww_iconst dX3_offerValue_45 ?_
                refine ww_goto 56 dX3_offerValue_46 (by decide) ?_
                exact ww_iret hQ dX3_offerValue_56 rfl (Nat.le_of_ble_eq_true rfl) (Nat.le_of_ble_eq_true rfl) (by first | exact ⟨_, rfl, _, _, hM, Or.inl ⟨by omega, rfl, ⟨hR_53.ext (su_off (by decide)).symm (su_off (by decide)).symm rfl rfl, by rw [hr_53 1 (by decide)]; simp [su_off], by rw [hr_53 2 (by decide)]; simp [su_off], by rw [hr_53 7 (by decide)]; simp [su_off]⟩, by rw [hr_53 0 (by decide)]; simp [su], rfl⟩⟩ | exact ⟨_, rfl, _, _, hM, by first | (exfalso; omega) | exact Or.inr (Or.inl ⟨by omega, rfl, by refine ⟨?_, ?_, ?_, ?_, ?_⟩ <;> simp [su_off], by simp [su]⟩) | exact Or.inr (Or.inr (⟨by omega, rfl, by refine ⟨?_, ?_, ?_, ?_, ?_⟩ <;> simp [su_off], by simp [su]⟩))⟩)
      · refine ww_if_ne 45 dX3_offerValue_18 (by decide) (inI.mk (by decide) (by decide)) (fun c_18 => ?_) (fun c_18 => ?_)
        · refine ww_iconst dX3_offerValue_45 ?_
          refine ww_goto 56 dX3_offerValue_46 (by decide) ?_
          exact ww_iret hQ dX3_offerValue_56 rfl (Nat.le_of_ble_eq_true rfl) (Nat.le_of_ble_eq_true rfl) (by first | exact ⟨_, rfl, _, _, hM, Or.inl ⟨by omega, rfl, ⟨hR_53.ext (su_off (by decide)).symm (su_off (by decide)).symm rfl rfl, by rw [hr_53 1 (by decide)]; simp [su_off], by rw [hr_53 2 (by decide)]; simp [su_off], by rw [hr_53 7 (by decide)]; simp [su_off]⟩, by rw [hr_53 0 (by decide)]; simp [su], rfl⟩⟩ | exact ⟨_, rfl, _, _, hM, by first | (exfalso; omega) | exact Or.inr (Or.inl ⟨by omega, rfl, by refine ⟨?_, ?_, ?_, ?_, ?_⟩ <;> simp [su_off], by simp [su]⟩) | exact Or.inr (Or.inr (⟨by omega, rfl, by refine ⟨?_, ?_, ?_, ?_, ?_⟩ <;> simp [su_off], by simp [su]⟩))⟩)
        · exact absurd c_18 (by decide)
  · refine ww_if_ne 45 dX3_offerValue_10 (by decide) (inI.mk (by decide) (by decide)) (fun c_10 => ?_) (fun c_10 => ?_)
    · refine ww_iconst dX3_offerValue_45 ?_
      refine ww_goto 56 dX3_offerValue_46 (by decide) ?_
      exact ww_iret hQ dX3_offerValue_56 rfl (Nat.le_of_ble_eq_true rfl) (Nat.le_of_ble_eq_true rfl) (by first | exact ⟨_, rfl, _, _, hM, Or.inl ⟨by omega, rfl, ⟨hR_53.ext (su_off (by decide)).symm (su_off (by decide)).symm rfl rfl, by rw [hr_53 1 (by decide)]; simp [su_off], by rw [hr_53 2 (by decide)]; simp [su_off], by rw [hr_53 7 (by decide)]; simp [su_off]⟩, by rw [hr_53 0 (by decide)]; simp [su], rfl⟩⟩ | exact ⟨_, rfl, _, _, hM, by first | (exfalso; omega) | exact Or.inr (Or.inl ⟨by omega, rfl, by refine ⟨?_, ?_, ?_, ?_, ?_⟩ <;> simp [su_off], by simp [su]⟩) | exact Or.inr (Or.inr (⟨by omega, rfl, by refine ⟨?_, ?_, ?_, ?_, ?_⟩ <;> simp [su_off], by simp [su]⟩))⟩)
    · exact absurd c_10 (by decide)

set_option maxHeartbeats 4000000 in
theorem ct_X3_offerForward {G : GT} {h0 h : AH} {m : Nat} {A : Nat → Nat} {B : Nat → Int → Nat} {D : Int → Int} {σ : MS} (hG : GOK G) (hM : MWF G h0 h m A B D σ) {fn : EF} (hD : DOK D fn) (hu1 : 0 ≤ σ 11 0 0) (hu2 : σ 11 0 0 ≤ 8) (k n v : Int) (hk : inI k) (hn : inI n) (hv : inI v) : CMi G (MX3_offerForward 7 157 0 0) h m A B [.ref m, .int (iI k), .int (iI n), .int (iI v)] (fun r D' σ' => (((0 ≤ k ∧ k < D 1) ∧ (0 ≤ n ∧ n < D 2) ∧ (0 ≤ v ∧ v < D 2)) ∧ D' = iup D (6 + 24 * k + 12 + n) (-2 - v) ∧ Chg σ D σ' ∧ σ' 0 0 0 = 0 ∧ r = xBs (iup D (6 + 24 * k + 12 + n) (-2 - v)) fn n) ∨ ((¬ ((0 ≤ k ∧ k < D 1) ∧ (0 ≤ n ∧ n < D 2) ∧ (0 ≤ v ∧ v < D 2))) ∧ D' = D ∧ kp σ σ' ∧ σ' 0 0 0 = 1)) := by
  refine CT.of rfl hG (Nat.le_of_ble_eq_true rfl) rfl (fun E hQ => ?_)
  have hM := hM.1.f
  have hD0 := hD
  obtain ⟨⟨hl1, hl2⟩, ⟨hn1, hn2⟩, ⟨hs1, hs2⟩, hpf, hpr, htr, hwt, hof⟩ := hD
  refine ww_aload_n 0 dX3_offerForward_0 rfl ?_
  refine ww_iconst dX3_offerForward_1 ?_
  refine mw_put pf_X3_59 rfl dX3_offerForward_2 hM rfl (by first | exact hM.rd _ | exact hM.ri rfl _ _ | exact ⟨by omega, by omega⟩ | assumption | exact bI_in _ | exact inI.mk (by omega) (by omega)) (fun hh hM => ?_)
  refine ww_aload_n 0 dX3_offerForward_5 rfl ?_
  refine ww_iload_n 1 dX3_offerForward_6 rfl ?_
  refine cr_si hM (cr_V (ct_X3_noLibrary hG hM _ (by first | exact hM.rd _ | exact hM.ri rfl _ _ | exact ⟨by omega, by omega⟩ | assumption | exact bI_in _ | exact inI.mk (by omega) (by omega)) (by omega) (by omega) (by first | assumption | simp [su])) sv_X3_277 rfl dX3_offerForward_7 hM.obj rfl rfl rfl rfl ⟨by decide, by decide⟩ (Nat.le_of_ble_eq_true rfl) (Nat.le_of_ble_eq_true rfl) (Nat.le_of_ble_eq_true rfl)) (fun r_7 σ_7 hh hM hp_7 => ?_)
  rcases hp_7 with ⟨c0_7, rfl, rfl⟩ | ⟨c0_7, rfl, rfl⟩
  · refine ww_if_ne 29 dX3_offerForward_10 (by decide) (inI.mk (by decide) (by decide)) (fun c_10 => ?_) (fun c_10 => ?_)
    · exact absurd c_10 (by decide)
    · refine ww_aload_n 0 dX3_offerForward_13 rfl ?_
      refine ww_iload_n 2 dX3_offerForward_14 rfl ?_
      refine cr_si hM (cr_V (ct_X3_noName hG hM _ (by first | exact hM.rd _ | exact hM.ri rfl _ _ | exact ⟨by omega, by omega⟩ | assumption | exact bI_in _ | exact inI.mk (by omega) (by omega)) (by omega) (by omega) (by first | assumption | simp [su])) sv_X3_280 rfl dX3_offerForward_15 hM.obj rfl rfl rfl rfl ⟨by decide, by decide⟩ (Nat.le_of_ble_eq_true rfl) (Nat.le_of_ble_eq_true rfl) (Nat.le_of_ble_eq_true rfl)) (fun r_15 σ_15 hh hM hp_15 => ?_)
      rcases hp_15 with ⟨c0_15, rfl, rfl⟩ | ⟨c0_15, rfl, rfl⟩
      · refine ww_if_ne 29 dX3_offerForward_18 (by decide) (inI.mk (by decide) (by decide)) (fun c_18 => ?_) (fun c_18 => ?_)
        · exact absurd c_18 (by decide)
        · refine ww_aload_n 0 dX3_offerForward_21 rfl ?_
          refine ww_iload_n 3 dX3_offerForward_22 rfl ?_
          refine cr_si hM (cr_V (ct_X3_noName hG hM _ (by first | exact hM.rd _ | exact hM.ri rfl _ _ | exact ⟨by omega, by omega⟩ | assumption | exact bI_in _ | exact inI.mk (by omega) (by omega)) (by omega) (by omega) (by first | assumption | simp [su])) sv_X3_280 rfl dX3_offerForward_23 hM.obj rfl rfl rfl rfl ⟨by decide, by decide⟩ (Nat.le_of_ble_eq_true rfl) (Nat.le_of_ble_eq_true rfl) (Nat.le_of_ble_eq_true rfl)) (fun r_23 σ_23 hh hM hp_23 => ?_)
          rcases hp_23 with ⟨c0_23, rfl, rfl⟩ | ⟨c0_23, rfl, rfl⟩
          · refine ww_if_eq 33 dX3_offerForward_26 (by decide) (inI.mk (by decide) (by decide)) (fun c_26 => ?_) (fun c_26 => ?_)
            · refine ww_aload_n 0 dX3_offerForward_33 rfl ?_
              refine ww_iload_n 1 dX3_offerForward_34 rfl ?_
              refine ww_iload_n 2 dX3_offerForward_35 rfl ?_
              refine ww_bipush dX3_offerForward_36 (by decide) ?_
              refine ww_iload_n 3 dX3_offerForward_38 rfl ?_
              refine ww_isub dX3_offerForward_39 ?_
              refine cr_mi hM (cr_V (ct_X3_put hG hM hD0 (by first | assumption | (simp [su_off]; omega)) (by first | assumption | (simp [su_off]; omega)) _ _ _ (by omega) (by omega) (by omega) (by omega) (by omega) (by omega)) sv_X3_301 rfl dX3_offerForward_40 hM.obj rfl rfl rfl rfl ⟨by decide, by decide⟩ (Nat.le_of_ble_eq_true rfl) (Nat.le_of_ble_eq_true rfl) (Nat.le_of_ble_eq_true rfl)) (fun r_40 D_40 σ_40 hh hM hp_40 => ?_)
              obtain ⟨rfl, hR_40, hr_40, rfl⟩ := hp_40
              exact ww_iret hQ dX3_offerForward_43 rfl (Nat.le_of_ble_eq_true rfl) (Nat.le_of_ble_eq_true rfl) (by first | exact ⟨_, rfl, _, _, hM, Or.inl ⟨by omega, rfl, ⟨hR_40.ext (su_off (by decide)).symm (su_off (by decide)).symm rfl rfl, by rw [hr_40 1 (by decide)]; simp [su_off], by rw [hr_40 2 (by decide)]; simp [su_off], by rw [hr_40 7 (by decide)]; simp [su_off]⟩, by rw [hr_40 0 (by decide)]; simp [su], rfl⟩⟩ | exact ⟨_, rfl, _, _, hM, by first | (exfalso; omega) | exact Or.inr (⟨by omega, rfl, by refine ⟨?_, ?_, ?_, ?_, ?_⟩ <;> simp [su_off], by simp [su]⟩)⟩)
            · exact absurd c_26 (by decide)
          · refine ww_if_eq 33 dX3_offerForward_26 (by decide) (inI.mk (by decide) (by decide)) (fun c_26 => ?_) (fun c_26 => ?_)
            · exact absurd c_26 (by decide)
            · refine ww_iconst dX3_offerForward_29 ?_
              refine ww_goto 43 dX3_offerForward_30 (by decide) ?_
              exact ww_iret hQ dX3_offerForward_43 rfl (Nat.le_of_ble_eq_true rfl) (Nat.le_of_ble_eq_true rfl) (by first | exact ⟨_, rfl, _, _, hM, Or.inl ⟨by omega, rfl, ⟨hR_40.ext (su_off (by decide)).symm (su_off (by decide)).symm rfl rfl, by rw [hr_40 1 (by decide)]; simp [su_off], by rw [hr_40 2 (by decide)]; simp [su_off], by rw [hr_40 7 (by decide)]; simp [su_off]⟩, by rw [hr_40 0 (by decide)]; simp [su], rfl⟩⟩ | exact ⟨_, rfl, _, _, hM, by first | (exfalso; omega) | exact Or.inr (⟨by omega, rfl, by refine ⟨?_, ?_, ?_, ?_, ?_⟩ <;> simp [su_off], by simp [su]⟩)⟩)
      · refine ww_if_ne 29 dX3_offerForward_18 (by decide) (inI.mk (by decide) (by decide)) (fun c_18 => ?_) (fun c_18 => ?_)
        · refine ww_iconst dX3_offerForward_29 ?_
          refine ww_goto 43 dX3_offerForward_30 (by decide) ?_
          exact ww_iret hQ dX3_offerForward_43 rfl (Nat.le_of_ble_eq_true rfl) (Nat.le_of_ble_eq_true rfl) (by first | exact ⟨_, rfl, _, _, hM, Or.inl ⟨by omega, rfl, ⟨hR_40.ext (su_off (by decide)).symm (su_off (by decide)).symm rfl rfl, by rw [hr_40 1 (by decide)]; simp [su_off], by rw [hr_40 2 (by decide)]; simp [su_off], by rw [hr_40 7 (by decide)]; simp [su_off]⟩, by rw [hr_40 0 (by decide)]; simp [su], rfl⟩⟩ | exact ⟨_, rfl, _, _, hM, by first | (exfalso; omega) | exact Or.inr (⟨by omega, rfl, by refine ⟨?_, ?_, ?_, ?_, ?_⟩ <;> simp [su_off], by simp [su]⟩)⟩)
        · exact absurd c_18 (by decide)
  · refine ww_if_ne 29 dX3_offerForward_10 (by decide) (inI.mk (by decide) (by decide)) (fun c_10 => ?_) (fun c_10 => ?_)
    · refine ww_iconst dX3_offerForward_29 ?_
      refine ww_goto 43 dX3_offerForward_30 (by decide) ?_
      exact ww_iret hQ dX3_offerForward_43 rfl (Nat.le_of_ble_eq_true rfl) (Nat.le_of_ble_eq_true rfl) (by first | exact ⟨_, rfl, _, _, hM, Or.inl ⟨by omega, rfl, ⟨hR_40.ext (su_off (by decide)).symm (su_off (by decide)).symm rfl rfl, by rw [hr_40 1 (by decide)]; simp [su_off], by rw [hr_40 2 (by decide)]; simp [su_off], by rw [hr_40 7 (by decide)]; simp [su_off]⟩, by rw [hr_40 0 (by decide)]; simp [su], rfl⟩⟩ | exact ⟨_, rfl, _, _, hM, by first | (exfalso; omega) | exact Or.inr (⟨by omega, rfl, by refine ⟨?_, ?_, ?_, ?_, ?_⟩ <;> simp [su_off], by simp [su]⟩)⟩)
    · exact absurd c_10 (by decide)

set_option maxHeartbeats 4000000 in
theorem ct_X3_withdraw {G : GT} {h0 h : AH} {m : Nat} {A : Nat → Nat} {B : Nat → Int → Nat} {D : Int → Int} {σ : MS} (hG : GOK G) (hM : MWF G h0 h m A B D σ) {fn : EF} (hD : DOK D fn) (hu1 : 0 ≤ σ 11 0 0) (hu2 : σ 11 0 0 ≤ 8) (k n : Int) (hk : inI k) (hn : inI n) : CMi G (MX3_withdraw 7 157 0 0) h m A B [.ref m, .int (iI k), .int (iI n)] (fun r D' σ' => (((0 ≤ k ∧ k < D 1) ∧ (0 ≤ n ∧ n < D 2) ∧ D (6 + 24 * k + 12 + n) ≠ -1) ∧ D' = iup D (6 + 24 * k + 12 + n) (-1) ∧ Chg σ D σ' ∧ σ' 0 0 0 = 0 ∧ r = xBs (iup D (6 + 24 * k + 12 + n) (-1)) fn n) ∨ ((¬ ((0 ≤ k ∧ k < D 1) ∧ (0 ≤ n ∧ n < D 2))) ∧ D' = D ∧ kp σ σ' ∧ σ' 0 0 0 = 1) ∨ (((0 ≤ k ∧ k < D 1) ∧ (0 ≤ n ∧ n < D 2) ∧ D (6 + 24 * k + 12 + n) = -1) ∧ D' = D ∧ kp σ σ' ∧ σ' 0 0 0 = 2)) := by
  refine CT.of rfl hG (Nat.le_of_ble_eq_true rfl) rfl (fun E hQ => ?_)
  have hM := hM.1.f
  have hD0 := hD
  obtain ⟨⟨hl1, hl2⟩, ⟨hn1, hn2⟩, ⟨hs1, hs2⟩, hpf, hpr, htr, hwt, hof⟩ := hD
  refine ww_aload_n 0 dX3_withdraw_0 rfl ?_
  refine ww_iconst dX3_withdraw_1 ?_
  refine mw_put pf_X3_59 rfl dX3_withdraw_2 hM rfl (by first | exact hM.rd _ | exact hM.ri rfl _ _ | exact ⟨by omega, by omega⟩ | assumption | exact bI_in _ | exact inI.mk (by omega) (by omega)) (fun hh hM => ?_)
  refine ww_aload_n 0 dX3_withdraw_5 rfl ?_
  refine ww_iload_n 1 dX3_withdraw_6 rfl ?_
  refine cr_si hM (cr_V (ct_X3_noLibrary hG hM _ (by first | exact hM.rd _ | exact hM.ri rfl _ _ | exact ⟨by omega, by omega⟩ | assumption | exact bI_in _ | exact inI.mk (by omega) (by omega)) (by omega) (by omega) (by first | assumption | simp [su])) sv_X3_277 rfl dX3_withdraw_7 hM.obj rfl rfl rfl rfl ⟨by decide, by decide⟩ (Nat.le_of_ble_eq_true rfl) (Nat.le_of_ble_eq_true rfl) (Nat.le_of_ble_eq_true rfl)) (fun r_7 σ_7 hh hM hp_7 => ?_)
  rcases hp_7 with ⟨c0_7, rfl, rfl⟩ | ⟨c0_7, rfl, rfl⟩
  · refine ww_if_ne 52 dX3_withdraw_10 (by decide) (inI.mk (by decide) (by decide)) (fun c_10 => ?_) (fun c_10 => ?_)
    · exact absurd c_10 (by decide)
    · refine ww_aload_n 0 dX3_withdraw_13 rfl ?_
      refine ww_iload_n 2 dX3_withdraw_14 rfl ?_
      refine cr_si hM (cr_V (ct_X3_noName hG hM _ (by first | exact hM.rd _ | exact hM.ri rfl _ _ | exact ⟨by omega, by omega⟩ | assumption | exact bI_in _ | exact inI.mk (by omega) (by omega)) (by omega) (by omega) (by first | assumption | simp [su])) sv_X3_280 rfl dX3_withdraw_15 hM.obj rfl rfl rfl rfl ⟨by decide, by decide⟩ (Nat.le_of_ble_eq_true rfl) (Nat.le_of_ble_eq_true rfl) (Nat.le_of_ble_eq_true rfl)) (fun r_15 σ_15 hh hM hp_15 => ?_)
      rcases hp_15 with ⟨c0_15, rfl, rfl⟩ | ⟨c0_15, rfl, rfl⟩
      · refine ww_if_ne 52 dX3_withdraw_18 (by decide) (inI.mk (by decide) (by decide)) (fun c_18 => ?_) (fun c_18 => ?_)
        · exact absurd c_18 (by decide)
        · refine ww_aload_n 0 dX3_withdraw_21 rfl ?_
          refine ww_aload_n 0 dX3_withdraw_22 rfl ?_
          refine ww_getf gf_X3_17 rfl dX3_withdraw_23 hM.obj rfl ?_
          refine ww_iload_n 1 dX3_withdraw_26 rfl ?_
          refine cr_pi (cr_S (ct_X3_at hG _) ss_X3_174 rfl dX3_withdraw_27 rfl rfl ⟨by decide, by decide⟩ (Nat.le_of_ble_eq_true rfl) (Nat.le_of_ble_eq_true rfl) (Nat.le_of_ble_eq_true rfl)) ?_
          refine ww_bipush dX3_withdraw_30 (by decide) ?_
          refine ww_iadd dX3_withdraw_32 ?_
          refine ww_iload_n 2 dX3_withdraw_33 rfl ?_
          refine ww_iadd dX3_withdraw_34 ?_
          refine mw_ldD dX3_withdraw_35 hM (by omega) (by omega) ?_
          refine ww_iconst dX3_withdraw_36 ?_
          refine ww_icmp_ne 44 dX3_withdraw_37 (by decide) (by first | exact hM.rd _ | exact hM.ri rfl _ _ | exact ⟨by omega, by omega⟩ | assumption | exact bI_in _ | exact inI.mk (by omega) (by omega)) (by first | exact hM.rd _ | exact hM.ri rfl _ _ | exact ⟨by omega, by omega⟩ | assumption | exact bI_in _ | exact inI.mk (by omega) (by omega)) (fun c_37 => ?_) (fun c_37 => ?_)
          · refine ww_iconst dX3_withdraw_44 ?_
            refine ww_iconst dX3_withdraw_45 ?_
            refine cr_si hM (cr_V (ct_X3_fails hG hM _ _ (by first | exact hM.rd _ | exact hM.ri rfl _ _ | exact ⟨by omega, by omega⟩ | assumption | exact bI_in _ | exact inI.mk (by omega) (by omega)) (by first | exact hM.rd _ | exact hM.ri rfl _ _ | exact ⟨by omega, by omega⟩ | assumption | exact bI_in _ | exact inI.mk (by omega) (by omega)) (by decide) (by first | assumption | simp [su] | omega)) sv_X3_216 rfl dX3_withdraw_46 hM.obj rfl rfl rfl rfl ⟨by decide, by decide⟩ (Nat.le_of_ble_eq_true rfl) (Nat.le_of_ble_eq_true rfl) (Nat.le_of_ble_eq_true rfl)) (fun r_46 σ_46 hh hM hp_46 => ?_)
            rcases hp_46 with ⟨c0_46, rfl, rfl⟩ | ⟨c0_46, rfl, rfl⟩
            · refine ww_if_eq 56 dX3_withdraw_49 (by decide) (inI.mk (by decide) (by decide)) (fun c_49 => ?_) (fun c_49 => ?_)
              · refine ww_aload_n 0 dX3_withdraw_56 rfl ?_
                refine ww_iload_n 1 dX3_withdraw_57 rfl ?_
                refine ww_iload_n 2 dX3_withdraw_58 rfl ?_
                refine ww_iconst dX3_withdraw_59 ?_
                refine cr_mi hM (cr_V (ct_X3_put hG hM hD0 (by first | assumption | (simp [su_off]; omega)) (by first | assumption | (simp [su_off]; omega)) _ _ _ (by omega) (by omega) (by omega) (by omega) (by omega) (by omega)) sv_X3_301 rfl dX3_withdraw_60 hM.obj rfl rfl rfl rfl ⟨by decide, by decide⟩ (Nat.le_of_ble_eq_true rfl) (Nat.le_of_ble_eq_true rfl) (Nat.le_of_ble_eq_true rfl)) (fun r_60 D_60 σ_60 hh hM hp_60 => ?_)
                obtain ⟨rfl, hR_60, hr_60, rfl⟩ := hp_60
                exact ww_iret hQ dX3_withdraw_63 rfl (Nat.le_of_ble_eq_true rfl) (Nat.le_of_ble_eq_true rfl) (by first | exact ⟨_, rfl, _, _, hM, Or.inl ⟨by omega, rfl, ⟨hR_60.ext (su_off (by decide)).symm (su_off (by decide)).symm rfl rfl, by rw [hr_60 1 (by decide)]; simp [su_off], by rw [hr_60 2 (by decide)]; simp [su_off], by rw [hr_60 7 (by decide)]; simp [su_off]⟩, by rw [hr_60 0 (by decide)]; simp [su], rfl⟩⟩ | exact ⟨_, rfl, _, _, hM, by first | (exfalso; omega) | exact Or.inr (Or.inl ⟨by omega, rfl, by refine ⟨?_, ?_, ?_, ?_, ?_⟩ <;> simp [su_off], by simp [su]⟩) | exact Or.inr (Or.inr (⟨by omega, rfl, by refine ⟨?_, ?_, ?_, ?_, ?_⟩ <;> simp [su_off], by simp [su]⟩))⟩)
              · exact absurd c_49 (by decide)
            · refine ww_if_eq 56 dX3_withdraw_49 (by decide) (inI.mk (by decide) (by decide)) (fun c_49 => ?_) (fun c_49 => ?_)
              · exact absurd c_49 (by decide)
              · refine ww_iconst dX3_withdraw_52 ?_
                refine ww_goto 63 dX3_withdraw_53 (by decide) ?_
                exact ww_iret hQ dX3_withdraw_63 rfl (Nat.le_of_ble_eq_true rfl) (Nat.le_of_ble_eq_true rfl) (by first | exact ⟨_, rfl, _, _, hM, Or.inl ⟨by omega, rfl, ⟨hR_60.ext (su_off (by decide)).symm (su_off (by decide)).symm rfl rfl, by rw [hr_60 1 (by decide)]; simp [su_off], by rw [hr_60 2 (by decide)]; simp [su_off], by rw [hr_60 7 (by decide)]; simp [su_off]⟩, by rw [hr_60 0 (by decide)]; simp [su], rfl⟩⟩ | exact ⟨_, rfl, _, _, hM, by first | (exfalso; omega) | exact Or.inr (Or.inl ⟨by omega, rfl, by refine ⟨?_, ?_, ?_, ?_, ?_⟩ <;> simp [su_off], by simp [su]⟩) | exact Or.inr (Or.inr (⟨by omega, rfl, by refine ⟨?_, ?_, ?_, ?_, ?_⟩ <;> simp [su_off], by simp [su]⟩))⟩)
          · refine ww_iconst dX3_withdraw_40 ?_
            refine ww_goto 45 dX3_withdraw_41 (by decide) ?_
            refine ww_iconst dX3_withdraw_45 ?_
            refine cr_si hM (cr_V (ct_X3_fails hG hM _ _ (by first | exact hM.rd _ | exact hM.ri rfl _ _ | exact ⟨by omega, by omega⟩ | assumption | exact bI_in _ | exact inI.mk (by omega) (by omega)) (by first | exact hM.rd _ | exact hM.ri rfl _ _ | exact ⟨by omega, by omega⟩ | assumption | exact bI_in _ | exact inI.mk (by omega) (by omega)) (by decide) (by first | assumption | simp [su] | omega)) sv_X3_216 rfl dX3_withdraw_46 hM.obj rfl rfl rfl rfl ⟨by decide, by decide⟩ (Nat.le_of_ble_eq_true rfl) (Nat.le_of_ble_eq_true rfl) (Nat.le_of_ble_eq_true rfl)) (fun r_46 σ_46 hh hM hp_46 => ?_)
            rcases hp_46 with ⟨c0_46, rfl, rfl⟩ | ⟨c0_46, rfl, rfl⟩
            · refine ww_if_eq 56 dX3_withdraw_49 (by decide) (inI.mk (by decide) (by decide)) (fun c_49 => ?_) (fun c_49 => ?_)
              · refine ww_aload_n 0 dX3_withdraw_56 rfl ?_
                refine ww_iload_n 1 dX3_withdraw_57 rfl ?_
                refine ww_iload_n 2 dX3_withdraw_58 rfl ?_
                refine ww_iconst dX3_withdraw_59 ?_
                refine cr_mi hM (cr_V (ct_X3_put hG hM hD0 (by first | assumption | (simp [su_off]; omega)) (by first | assumption | (simp [su_off]; omega)) _ _ _ (by omega) (by omega) (by omega) (by omega) (by omega) (by omega)) sv_X3_301 rfl dX3_withdraw_60 hM.obj rfl rfl rfl rfl ⟨by decide, by decide⟩ (Nat.le_of_ble_eq_true rfl) (Nat.le_of_ble_eq_true rfl) (Nat.le_of_ble_eq_true rfl)) (fun r_60 D_60 σ_60 hh hM hp_60 => ?_)
                obtain ⟨rfl, hR_60, hr_60, rfl⟩ := hp_60
                exact ww_iret hQ dX3_withdraw_63 rfl (Nat.le_of_ble_eq_true rfl) (Nat.le_of_ble_eq_true rfl) (by first | exact ⟨_, rfl, _, _, hM, Or.inl ⟨by omega, rfl, ⟨hR_60.ext (su_off (by decide)).symm (su_off (by decide)).symm rfl rfl, by rw [hr_60 1 (by decide)]; simp [su_off], by rw [hr_60 2 (by decide)]; simp [su_off], by rw [hr_60 7 (by decide)]; simp [su_off]⟩, by rw [hr_60 0 (by decide)]; simp [su], rfl⟩⟩ | exact ⟨_, rfl, _, _, hM, by first | (exfalso; omega) | exact Or.inr (Or.inl ⟨by omega, rfl, by refine ⟨?_, ?_, ?_, ?_, ?_⟩ <;> simp [su_off], by simp [su]⟩) | exact Or.inr (Or.inr (⟨by omega, rfl, by refine ⟨?_, ?_, ?_, ?_, ?_⟩ <;> simp [su_off], by simp [su]⟩))⟩)
              · exact absurd c_49 (by decide)
            · refine ww_if_eq 56 dX3_withdraw_49 (by decide) (inI.mk (by decide) (by decide)) (fun c_49 => ?_) (fun c_49 => ?_)
              · exact absurd c_49 (by decide)
              · refine ww_iconst dX3_withdraw_52 ?_
                refine ww_goto 63 dX3_withdraw_53 (by decide) ?_
                exact ww_iret hQ dX3_withdraw_63 rfl (Nat.le_of_ble_eq_true rfl) (Nat.le_of_ble_eq_true rfl) (by first | exact ⟨_, rfl, _, _, hM, Or.inl ⟨by omega, rfl, ⟨hR_60.ext (su_off (by decide)).symm (su_off (by decide)).symm rfl rfl, by rw [hr_60 1 (by decide)]; simp [su_off], by rw [hr_60 2 (by decide)]; simp [su_off], by rw [hr_60 7 (by decide)]; simp [su_off]⟩, by rw [hr_60 0 (by decide)]; simp [su], rfl⟩⟩ | exact ⟨_, rfl, _, _, hM, by first | (exfalso; omega) | exact Or.inr (Or.inl ⟨by omega, rfl, by refine ⟨?_, ?_, ?_, ?_, ?_⟩ <;> simp [su_off], by simp [su]⟩) | exact Or.inr (Or.inr (⟨by omega, rfl, by refine ⟨?_, ?_, ?_, ?_, ?_⟩ <;> simp [su_off], by simp [su]⟩))⟩)
      · refine ww_if_ne 52 dX3_withdraw_18 (by decide) (inI.mk (by decide) (by decide)) (fun c_18 => ?_) (fun c_18 => ?_)
        · refine ww_iconst dX3_withdraw_52 ?_
          refine ww_goto 63 dX3_withdraw_53 (by decide) ?_
          exact ww_iret hQ dX3_withdraw_63 rfl (Nat.le_of_ble_eq_true rfl) (Nat.le_of_ble_eq_true rfl) (by first | exact ⟨_, rfl, _, _, hM, Or.inl ⟨by omega, rfl, ⟨hR_60.ext (su_off (by decide)).symm (su_off (by decide)).symm rfl rfl, by rw [hr_60 1 (by decide)]; simp [su_off], by rw [hr_60 2 (by decide)]; simp [su_off], by rw [hr_60 7 (by decide)]; simp [su_off]⟩, by rw [hr_60 0 (by decide)]; simp [su], rfl⟩⟩ | exact ⟨_, rfl, _, _, hM, by first | (exfalso; omega) | exact Or.inr (Or.inl ⟨by omega, rfl, by refine ⟨?_, ?_, ?_, ?_, ?_⟩ <;> simp [su_off], by simp [su]⟩) | exact Or.inr (Or.inr (⟨by omega, rfl, by refine ⟨?_, ?_, ?_, ?_, ?_⟩ <;> simp [su_off], by simp [su]⟩))⟩)
        · exact absurd c_18 (by decide)
  · refine ww_if_ne 52 dX3_withdraw_10 (by decide) (inI.mk (by decide) (by decide)) (fun c_10 => ?_) (fun c_10 => ?_)
    · refine ww_iconst dX3_withdraw_52 ?_
      refine ww_goto 63 dX3_withdraw_53 (by decide) ?_
      exact ww_iret hQ dX3_withdraw_63 rfl (Nat.le_of_ble_eq_true rfl) (Nat.le_of_ble_eq_true rfl) (by first | exact ⟨_, rfl, _, _, hM, Or.inl ⟨by omega, rfl, ⟨hR_60.ext (su_off (by decide)).symm (su_off (by decide)).symm rfl rfl, by rw [hr_60 1 (by decide)]; simp [su_off], by rw [hr_60 2 (by decide)]; simp [su_off], by rw [hr_60 7 (by decide)]; simp [su_off]⟩, by rw [hr_60 0 (by decide)]; simp [su], rfl⟩⟩ | exact ⟨_, rfl, _, _, hM, by first | (exfalso; omega) | exact Or.inr (Or.inl ⟨by omega, rfl, by refine ⟨?_, ?_, ?_, ?_, ?_⟩ <;> simp [su_off], by simp [su]⟩) | exact Or.inr (Or.inr (⟨by omega, rfl, by refine ⟨?_, ?_, ?_, ?_, ?_⟩ <;> simp [su_off], by simp [su]⟩))⟩)
    · exact absurd c_10 (by decide)

set_option maxHeartbeats 4000000 in
theorem ct_X3_setTrust {G : GT} {h0 h : AH} {m : Nat} {A : Nat → Nat} {B : Nat → Int → Nat} {D : Int → Int} {σ : MS} (hG : GOK G) (hM : MWF G h0 h m A B D σ) {fn : EF} (hD : DOK D fn) (hu1 : 0 ≤ σ 11 0 0) (hu2 : σ 11 0 0 ≤ 8) (k v : Int) (hk : inI k) (hv : inI v) : CMi G (MX3_setTrust 2 43 0 0) h m A B [.ref m, .int (iI k), .int (iI v)] (fun r D' σ' => (((0 ≤ k ∧ k < D 1) ∧ (0 ≤ v ∧ v ≤ 999)) ∧ D' = iup D (6 + 24 * k + 0) v ∧ Chg σ D σ' ∧ σ' 0 0 0 = 0 ∧ r = D (6 + 24 * k + 0)) ∨ ((¬ (0 ≤ k ∧ k < D 1)) ∧ D' = D ∧ kp σ σ' ∧ σ' 0 0 0 = 1) ∨ (((0 ≤ k ∧ k < D 1) ∧ ¬ (0 ≤ v ∧ v ≤ 999)) ∧ D' = D ∧ kp σ σ' ∧ σ' 0 0 0 = 2)) := by
  refine CT.of rfl hG (Nat.le_of_ble_eq_true rfl) rfl (fun E hQ => ?_)
  have hM := hM.1.f
  have hD0 := hD
  obtain ⟨⟨hl1, hl2⟩, ⟨hn1, hn2⟩, ⟨hs1, hs2⟩, hpf, hpr, htr, hwt, hof⟩ := hD
  refine ww_aload_n 0 dX3_setTrust_0 rfl ?_
  refine ww_iconst dX3_setTrust_1 ?_
  refine mw_put pf_X3_59 rfl dX3_setTrust_2 hM rfl (by first | exact hM.rd _ | exact hM.ri rfl _ _ | exact ⟨by omega, by omega⟩ | assumption | exact bI_in _ | exact inI.mk (by omega) (by omega)) (fun hh hM => ?_)
  refine ww_aload_n 0 dX3_setTrust_5 rfl ?_
  refine ww_iload_n 1 dX3_setTrust_6 rfl ?_
  refine cr_si hM (cr_V (ct_X3_noLibrary hG hM _ (by first | exact hM.rd _ | exact hM.ri rfl _ _ | exact ⟨by omega, by omega⟩ | assumption | exact bI_in _ | exact inI.mk (by omega) (by omega)) (by omega) (by omega) (by first | assumption | simp [su])) sv_X3_277 rfl dX3_setTrust_7 hM.obj rfl rfl rfl rfl ⟨by decide, by decide⟩ (Nat.le_of_ble_eq_true rfl) (Nat.le_of_ble_eq_true rfl) (Nat.le_of_ble_eq_true rfl)) (fun r_7 σ_7 hh hM hp_7 => ?_)
  rcases hp_7 with ⟨c0_7, rfl, rfl⟩ | ⟨c0_7, rfl, rfl⟩
  · refine ww_if_ne 37 dX3_setTrust_10 (by decide) (inI.mk (by decide) (by decide)) (fun c_10 => ?_) (fun c_10 => ?_)
    · exact absurd c_10 (by decide)
    · refine ww_aload_n 0 dX3_setTrust_13 rfl ?_
      refine ww_iload_n 2 dX3_setTrust_14 rfl ?_
      refine ww_iconst dX3_setTrust_15 ?_
      refine ww_sipush dX3_setTrust_16 (by decide) ?_
      refine cr_pi (cr_S (ct_X3_in hG _ _ _ (by first | exact hM.rd _ | exact hM.ri rfl _ _ | exact ⟨by omega, by omega⟩ | assumption | exact bI_in _ | exact inI.mk (by omega) (by omega)) (by first | exact hM.rd _ | exact hM.ri rfl _ _ | exact ⟨by omega, by omega⟩ | assumption | exact bI_in _ | exact inI.mk (by omega) (by omega)) (by first | exact hM.rd _ | exact hM.ri rfl _ _ | exact ⟨by omega, by omega⟩ | assumption | exact bI_in _ | exact inI.mk (by omega) (by omega))) ss_X3_81 rfl dX3_setTrust_19 rfl rfl ⟨by decide, by decide⟩ (Nat.le_of_ble_eq_true rfl) (Nat.le_of_ble_eq_true rfl) (Nat.le_of_ble_eq_true rfl)) ?_
      refine ww_ifb_ne 29 dX3_setTrust_22 (by decide) (fun c_22 => ?_) (fun c_22 => ?_)
      · refine ww_iconst dX3_setTrust_29 ?_
        refine ww_iconst dX3_setTrust_30 ?_
        refine cr_si hM (cr_V (ct_X3_fails hG hM _ _ (by first | exact hM.rd _ | exact hM.ri rfl _ _ | exact ⟨by omega, by omega⟩ | assumption | exact bI_in _ | exact inI.mk (by omega) (by omega)) (by first | exact hM.rd _ | exact hM.ri rfl _ _ | exact ⟨by omega, by omega⟩ | assumption | exact bI_in _ | exact inI.mk (by omega) (by omega)) (by decide) (by first | assumption | simp [su] | omega)) sv_X3_216 rfl dX3_setTrust_31 hM.obj rfl rfl rfl rfl ⟨by decide, by decide⟩ (Nat.le_of_ble_eq_true rfl) (Nat.le_of_ble_eq_true rfl) (Nat.le_of_ble_eq_true rfl)) (fun r_31 σ_31 hh hM hp_31 => ?_)
        rcases hp_31 with ⟨c0_31, rfl, rfl⟩ | ⟨c0_31, rfl, rfl⟩
        · refine ww_if_eq 39 dX3_setTrust_34 (by decide) (inI.mk (by decide) (by decide)) (fun c_34 => ?_) (fun c_34 => ?_)
          · refine ww_aload_n 0 dX3_setTrust_39 rfl ?_
            refine cr_sv hM (cr_V (ct_X3_remember hG hM (by first | assumption | (simp [su_off]; omega)) (by first | assumption | (simp [su_off]; omega))) sv_X3_225 rfl dX3_setTrust_40 hM.obj rfl rfl rfl rfl ⟨by decide, by decide⟩ (Nat.le_of_ble_eq_true rfl) (Nat.le_of_ble_eq_true rfl) (Nat.le_of_ble_eq_true rfl)) (fun σ_40 hh hM hp_40 => ?_)
            obtain ⟨hR_40, hr_40⟩ := hp_40
            refine ww_aload_n 0 dX3_setTrust_43 rfl ?_
            refine ww_getf gf_X3_17 rfl dX3_setTrust_44 hM.obj rfl ?_
            refine ww_iload_n 1 dX3_setTrust_47 rfl ?_
            refine cr_pi (cr_S (ct_X3_at hG _) ss_X3_174 rfl dX3_setTrust_48 rfl rfl ⟨by decide, by decide⟩ (Nat.le_of_ble_eq_true rfl) (Nat.le_of_ble_eq_true rfl) (Nat.le_of_ble_eq_true rfl)) ?_
            refine ww_iconst dX3_setTrust_51 ?_
            refine ww_iadd dX3_setTrust_52 ?_
            refine mw_ldD dX3_setTrust_53 hM (by omega) (by omega) ?_
            refine ww_istore_n [(3, _), (0, _), (1, _), (2, _)] dX3_setTrust_54 (by decide) rfl ?_
            refine ww_aload_n 1 dX3_setTrust_55 rfl ?_
            refine ww_getf gf_X3_17 rfl dX3_setTrust_56 hM.obj rfl ?_
            refine ww_iload_n 2 dX3_setTrust_59 rfl ?_
            refine cr_pi (cr_S (ct_X3_at hG _) ss_X3_174 rfl dX3_setTrust_60 rfl rfl ⟨by decide, by decide⟩ (Nat.le_of_ble_eq_true rfl) (Nat.le_of_ble_eq_true rfl) (Nat.le_of_ble_eq_true rfl)) ?_
            refine ww_iconst dX3_setTrust_63 ?_
            refine ww_iadd dX3_setTrust_64 ?_
            refine ww_iload_n 3 dX3_setTrust_65 rfl ?_
            refine mw_stD dX3_setTrust_66 hM (by omega) (by omega) (by first | exact hM.rd _ | exact hM.ri rfl _ _ | exact ⟨by omega, by omega⟩ | assumption | exact bI_in _ | exact inI.mk (by omega) (by omega)) (fun hh hM => ?_)
            refine ww_iload_n 0 dX3_setTrust_67 rfl ?_
            exact ww_iret hQ dX3_setTrust_68 rfl (Nat.le_of_ble_eq_true rfl) (Nat.le_of_ble_eq_true rfl) ⟨_, rfl, _, _, hM, Or.inl ⟨by omega, rfl, ⟨hR_40.ext (su_off (by decide)).symm (su_off (by decide)).symm (by simp [hr_40]) (by simp [hr_40]), by simp [hr_40, su_off], by simp [hr_40, su_off], by simp [hr_40, su_off]⟩, by simp [hr_40, su], rfl⟩⟩
          · exact absurd c_34 (by decide)
        · refine ww_if_eq 39 dX3_setTrust_34 (by decide) (inI.mk (by decide) (by decide)) (fun c_34 => ?_) (fun c_34 => ?_)
          · exact absurd c_34 (by decide)
          · refine ww_iconst dX3_setTrust_37 ?_
            exact ww_iret hQ dX3_setTrust_38 rfl (Nat.le_of_ble_eq_true rfl) (Nat.le_of_ble_eq_true rfl) ⟨_, rfl, _, _, hM, by first | (exfalso; omega) | exact Or.inr (Or.inl ⟨by omega, rfl, by refine ⟨?_, ?_, ?_, ?_, ?_⟩ <;> simp [su_off], by simp [su]⟩) | exact Or.inr (Or.inr (⟨by omega, rfl, by refine ⟨?_, ?_, ?_, ?_, ?_⟩ <;> simp [su_off], by simp [su]⟩))⟩
      · refine ww_iconst dX3_setTrust_25 ?_
        refine ww_goto 30 dX3_setTrust_26 (by decide) ?_
        refine ww_iconst dX3_setTrust_30 ?_
        refine cr_si hM (cr_V (ct_X3_fails hG hM _ _ (by first | exact hM.rd _ | exact hM.ri rfl _ _ | exact ⟨by omega, by omega⟩ | assumption | exact bI_in _ | exact inI.mk (by omega) (by omega)) (by first | exact hM.rd _ | exact hM.ri rfl _ _ | exact ⟨by omega, by omega⟩ | assumption | exact bI_in _ | exact inI.mk (by omega) (by omega)) (by decide) (by first | assumption | simp [su] | omega)) sv_X3_216 rfl dX3_setTrust_31 hM.obj rfl rfl rfl rfl ⟨by decide, by decide⟩ (Nat.le_of_ble_eq_true rfl) (Nat.le_of_ble_eq_true rfl) (Nat.le_of_ble_eq_true rfl)) (fun r_31 σ_31 hh hM hp_31 => ?_)
        rcases hp_31 with ⟨c0_31, rfl, rfl⟩ | ⟨c0_31, rfl, rfl⟩
        · refine ww_if_eq 39 dX3_setTrust_34 (by decide) (inI.mk (by decide) (by decide)) (fun c_34 => ?_) (fun c_34 => ?_)
          · refine ww_aload_n 0 dX3_setTrust_39 rfl ?_
            refine cr_sv hM (cr_V (ct_X3_remember hG hM (by first | assumption | (simp [su_off]; omega)) (by first | assumption | (simp [su_off]; omega))) sv_X3_225 rfl dX3_setTrust_40 hM.obj rfl rfl rfl rfl ⟨by decide, by decide⟩ (Nat.le_of_ble_eq_true rfl) (Nat.le_of_ble_eq_true rfl) (Nat.le_of_ble_eq_true rfl)) (fun σ_40 hh hM hp_40 => ?_)
            obtain ⟨hR_40, hr_40⟩ := hp_40
            refine ww_aload_n 0 dX3_setTrust_43 rfl ?_
            refine ww_getf gf_X3_17 rfl dX3_setTrust_44 hM.obj rfl ?_
            refine ww_iload_n 1 dX3_setTrust_47 rfl ?_
            refine cr_pi (cr_S (ct_X3_at hG _) ss_X3_174 rfl dX3_setTrust_48 rfl rfl ⟨by decide, by decide⟩ (Nat.le_of_ble_eq_true rfl) (Nat.le_of_ble_eq_true rfl) (Nat.le_of_ble_eq_true rfl)) ?_
            refine ww_iconst dX3_setTrust_51 ?_
            refine ww_iadd dX3_setTrust_52 ?_
            refine mw_ldD dX3_setTrust_53 hM (by omega) (by omega) ?_
            refine ww_istore_n [(3, _), (0, _), (1, _), (2, _)] dX3_setTrust_54 (by decide) rfl ?_
            refine ww_aload_n 1 dX3_setTrust_55 rfl ?_
            refine ww_getf gf_X3_17 rfl dX3_setTrust_56 hM.obj rfl ?_
            refine ww_iload_n 2 dX3_setTrust_59 rfl ?_
            refine cr_pi (cr_S (ct_X3_at hG _) ss_X3_174 rfl dX3_setTrust_60 rfl rfl ⟨by decide, by decide⟩ (Nat.le_of_ble_eq_true rfl) (Nat.le_of_ble_eq_true rfl) (Nat.le_of_ble_eq_true rfl)) ?_
            refine ww_iconst dX3_setTrust_63 ?_
            refine ww_iadd dX3_setTrust_64 ?_
            refine ww_iload_n 3 dX3_setTrust_65 rfl ?_
            refine mw_stD dX3_setTrust_66 hM (by omega) (by omega) (by first | exact hM.rd _ | exact hM.ri rfl _ _ | exact ⟨by omega, by omega⟩ | assumption | exact bI_in _ | exact inI.mk (by omega) (by omega)) (fun hh hM => ?_)
            refine ww_iload_n 0 dX3_setTrust_67 rfl ?_
            exact ww_iret hQ dX3_setTrust_68 rfl (Nat.le_of_ble_eq_true rfl) (Nat.le_of_ble_eq_true rfl) ⟨_, rfl, _, _, hM, Or.inl ⟨by omega, rfl, ⟨hR_40.ext (su_off (by decide)).symm (su_off (by decide)).symm (by simp [hr_40]) (by simp [hr_40]), by simp [hr_40, su_off], by simp [hr_40, su_off], by simp [hr_40, su_off]⟩, by simp [hr_40, su], rfl⟩⟩
          · exact absurd c_34 (by decide)
        · refine ww_if_eq 39 dX3_setTrust_34 (by decide) (inI.mk (by decide) (by decide)) (fun c_34 => ?_) (fun c_34 => ?_)
          · exact absurd c_34 (by decide)
          · refine ww_iconst dX3_setTrust_37 ?_
            exact ww_iret hQ dX3_setTrust_38 rfl (Nat.le_of_ble_eq_true rfl) (Nat.le_of_ble_eq_true rfl) ⟨_, rfl, _, _, hM, by first | (exfalso; omega) | exact Or.inr (Or.inl ⟨by omega, rfl, by refine ⟨?_, ?_, ?_, ?_, ?_⟩ <;> simp [su_off], by simp [su]⟩) | exact Or.inr (Or.inr (⟨by omega, rfl, by refine ⟨?_, ?_, ?_, ?_, ?_⟩ <;> simp [su_off], by simp [su]⟩))⟩
  · refine ww_if_ne 37 dX3_setTrust_10 (by decide) (inI.mk (by decide) (by decide)) (fun c_10 => ?_) (fun c_10 => ?_)
    · refine ww_iconst dX3_setTrust_37 ?_
      exact ww_iret hQ dX3_setTrust_38 rfl (Nat.le_of_ble_eq_true rfl) (Nat.le_of_ble_eq_true rfl) ⟨_, rfl, _, _, hM, by first | (exfalso; omega) | exact Or.inr (Or.inl ⟨by omega, rfl, by refine ⟨?_, ?_, ?_, ?_, ?_⟩ <;> simp [su_off], by simp [su]⟩) | exact Or.inr (Or.inr (⟨by omega, rfl, by refine ⟨?_, ?_, ?_, ?_, ?_⟩ <;> simp [su_off], by simp [su]⟩))⟩
    · exact absurd c_10 (by decide)

set_option maxHeartbeats 4000000 in
theorem ct_X3_unload {G : GT} {h0 h : AH} {m : Nat} {A : Nat → Nat} {B : Nat → Int → Nat} {D : Int → Int} {σ : MS} (hG : GOK G) (hM : MWF G h0 h m A B D σ) {fn : EF} (hD : DOK D fn) (hu1 : 0 ≤ σ 11 0 0) (hu2 : σ 11 0 0 ≤ 8) (k : Int) (hk : inI k) : CMi G (MX3_unload 7 158 0 0) h m A B [.ref m, .int (iI k)] (fun r D' σ' => (((0 ≤ k ∧ k < D 1) ∧ D (6 + 24 * k + 2) > 0) ∧ D' = iup D (6 + 24 * k + 2) 0 ∧ Chg σ D σ' ∧ σ' 0 0 0 = 0 ∧ r = xCh (xBd D fn) (iup D (6 + 24 * k + 2) 0) fn (-1)) ∨ ((¬ (0 ≤ k ∧ k < D 1)) ∧ D' = D ∧ kp σ σ' ∧ σ' 0 0 0 = 1) ∨ (((0 ≤ k ∧ k < D 1) ∧ ¬ D (6 + 24 * k + 2) > 0) ∧ D' = D ∧ kp σ σ' ∧ σ' 0 0 0 = 2)) := by
  refine CT.of rfl hG (Nat.le_of_ble_eq_true rfl) rfl (fun E hQ => ?_)
  have hM := hM.1.f
  have hD0 := hD
  obtain ⟨⟨hl1, hl2⟩, ⟨hn1, hn2⟩, ⟨hs1, hs2⟩, hpf, hpr, htr, hwt, hof⟩ := hD
  refine ww_aload_n 0 dX3_unload_0 rfl ?_
  refine ww_iconst dX3_unload_1 ?_
  refine mw_put pf_X3_59 rfl dX3_unload_2 hM rfl (by first | exact hM.rd _ | exact hM.ri rfl _ _ | exact ⟨by omega, by omega⟩ | assumption | exact bI_in _ | exact inI.mk (by omega) (by omega)) (fun hh hM => ?_)
  refine ww_aload_n 0 dX3_unload_5 rfl ?_
  refine ww_iload_n 1 dX3_unload_6 rfl ?_
  refine cr_si hM (cr_V (ct_X3_noLibrary hG hM _ (by first | exact hM.rd _ | exact hM.ri rfl _ _ | exact ⟨by omega, by omega⟩ | assumption | exact bI_in _ | exact inI.mk (by omega) (by omega)) (by omega) (by omega) (by first | assumption | simp [su])) sv_X3_277 rfl dX3_unload_7 hM.obj rfl rfl rfl rfl ⟨by decide, by decide⟩ (Nat.le_of_ble_eq_true rfl) (Nat.le_of_ble_eq_true rfl) (Nat.le_of_ble_eq_true rfl)) (fun r_7 σ_7 hh hM hp_7 => ?_)
  rcases hp_7 with ⟨c0_7, rfl, rfl⟩ | ⟨c0_7, rfl, rfl⟩
  · refine ww_if_ne 34 dX3_unload_10 (by decide) (inI.mk (by decide) (by decide)) (fun c_10 => ?_) (fun c_10 => ?_)
    · exact absurd c_10 (by decide)
    · refine ww_aload_n 0 dX3_unload_13 rfl ?_
      refine ww_aload_n 0 dX3_unload_14 rfl ?_
      refine ww_iload_n 1 dX3_unload_15 rfl ?_
      refine cr_pi (cr_V (ct_X3_isLoaded hG hM _ (by omega) (by omega)) sv_X3_232 rfl dX3_unload_16 hM.obj rfl rfl rfl rfl ⟨by decide, by decide⟩ (Nat.le_of_ble_eq_true rfl) (Nat.le_of_ble_eq_true rfl) (Nat.le_of_ble_eq_true rfl)) ?_
      refine ww_ifb_ne 26 dX3_unload_19 (by decide) (fun c_19 => ?_) (fun c_19 => ?_)
      · refine ww_iconst dX3_unload_26 ?_
        refine ww_iconst dX3_unload_27 ?_
        refine cr_si hM (cr_V (ct_X3_fails hG hM _ _ (by first | exact hM.rd _ | exact hM.ri rfl _ _ | exact ⟨by omega, by omega⟩ | assumption | exact bI_in _ | exact inI.mk (by omega) (by omega)) (by first | exact hM.rd _ | exact hM.ri rfl _ _ | exact ⟨by omega, by omega⟩ | assumption | exact bI_in _ | exact inI.mk (by omega) (by omega)) (by decide) (by first | assumption | simp [su] | omega)) sv_X3_216 rfl dX3_unload_28 hM.obj rfl rfl rfl rfl ⟨by decide, by decide⟩ (Nat.le_of_ble_eq_true rfl) (Nat.le_of_ble_eq_true rfl) (Nat.le_of_ble_eq_true rfl)) (fun r_28 σ_28 hh hM hp_28 => ?_)
        rcases hp_28 with ⟨c0_28, rfl, rfl⟩ | ⟨c0_28, rfl, rfl⟩
        · refine ww_if_eq 36 dX3_unload_31 (by decide) (inI.mk (by decide) (by decide)) (fun c_31 => ?_) (fun c_31 => ?_)
          · refine ww_aload_n 0 dX3_unload_36 rfl ?_
            refine cr_sv hM (cr_V (ct_X3_remember hG hM (by first | assumption | (simp [su_off]; omega)) (by first | assumption | (simp [su_off]; omega))) sv_X3_225 rfl dX3_unload_37 hM.obj rfl rfl rfl rfl ⟨by decide, by decide⟩ (Nat.le_of_ble_eq_true rfl) (Nat.le_of_ble_eq_true rfl) (Nat.le_of_ble_eq_true rfl)) (fun σ_37 hh hM hp_37 => ?_)
            obtain ⟨hR_37, hr_37⟩ := hp_37
            refine ww_aload_n 0 dX3_unload_40 rfl ?_
            refine cr_sv hM (cr_V (ct_X3_keepBindings hG hM hD0) sv_X3_295 rfl dX3_unload_41 hM.obj rfl rfl rfl rfl ⟨by decide, by decide⟩ (Nat.le_of_ble_eq_true rfl) (Nat.le_of_ble_eq_true rfl) (Nat.le_of_ble_eq_true rfl)) (fun σ_41 hh hM hp_41 => ?_)
            obtain ⟨hk_41, hW_41⟩ := hp_41
            refine ww_aload_n 0 dX3_unload_44 rfl ?_
            refine ww_getf gf_X3_17 rfl dX3_unload_45 hM.obj rfl ?_
            refine ww_iload_n 1 dX3_unload_48 rfl ?_
            refine cr_pi (cr_S (ct_X3_at hG _) ss_X3_174 rfl dX3_unload_49 rfl rfl ⟨by decide, by decide⟩ (Nat.le_of_ble_eq_true rfl) (Nat.le_of_ble_eq_true rfl) (Nat.le_of_ble_eq_true rfl)) ?_
            refine ww_iconst dX3_unload_52 ?_
            refine ww_iadd dX3_unload_53 ?_
            refine ww_iconst dX3_unload_54 ?_
            refine mw_stD dX3_unload_55 hM (by omega) (by omega) (by first | exact hM.rd _ | exact hM.ri rfl _ _ | exact ⟨by omega, by omega⟩ | assumption | exact bI_in _ | exact inI.mk (by omega) (by omega)) (fun hh hM => ?_)
            refine ww_aload_n 0 dX3_unload_56 rfl ?_
            refine ww_iconst dX3_unload_57 ?_
            refine cr_si hM (cr_V (ct_X3_changedBut hG hM (hD0.ld (by omega) (by omega)) (w := xBd D fn) (fun a b x y z w => by rw [iup_n (by omega)] at y w; exact hW_41 a b x y z w) _ (by first | exact hM.rd _ | exact hM.ri rfl _ _ | exact ⟨by omega, by omega⟩ | assumption | exact bI_in _ | exact inI.mk (by omega) (by omega))) sv_X3_298 rfl dX3_unload_58 hM.obj rfl rfl rfl rfl ⟨by decide, by decide⟩ (Nat.le_of_ble_eq_true rfl) (Nat.le_of_ble_eq_true rfl) (Nat.le_of_ble_eq_true rfl)) (fun r_58 σ_58 hh hM hp_58 => ?_)
            obtain ⟨hk_58, rfl⟩ := hp_58
            exact ww_iret hQ dX3_unload_61 rfl (Nat.le_of_ble_eq_true rfl) (Nat.le_of_ble_eq_true rfl) ⟨_, rfl, _, _, hM, Or.inl ⟨by omega, rfl, ⟨hR_37.ext (su_off (by decide)).symm (su_off (by decide)).symm (by simp [hk_58, hk_41, hr_37]) (by simp [hk_58, hk_41, hr_37]), by simp [hk_58, hk_41, hr_37, su_off], by simp [hk_58, hk_41, hr_37, su_off], by simp [hk_58, hk_41, hr_37, su_off]⟩, by simp [hk_58, hk_41, hr_37, su], rfl⟩⟩
          · exact absurd c_31 (by decide)
        · refine ww_if_eq 36 dX3_unload_31 (by decide) (inI.mk (by decide) (by decide)) (fun c_31 => ?_) (fun c_31 => ?_)
          · exact absurd c_31 (by decide)
          · refine ww_iconst dX3_unload_34 ?_
            exact ww_iret hQ dX3_unload_35 rfl (Nat.le_of_ble_eq_true rfl) (Nat.le_of_ble_eq_true rfl) ⟨_, rfl, _, _, hM, by first | (exfalso; omega) | exact Or.inr (Or.inl ⟨by omega, rfl, by refine ⟨?_, ?_, ?_, ?_, ?_⟩ <;> simp [su_off], by simp [su]⟩) | exact Or.inr (Or.inr (⟨by omega, rfl, by refine ⟨?_, ?_, ?_, ?_, ?_⟩ <;> simp [su_off], by simp [su]⟩))⟩
      · refine ww_iconst dX3_unload_22 ?_
        refine ww_goto 27 dX3_unload_23 (by decide) ?_
        refine ww_iconst dX3_unload_27 ?_
        refine cr_si hM (cr_V (ct_X3_fails hG hM _ _ (by first | exact hM.rd _ | exact hM.ri rfl _ _ | exact ⟨by omega, by omega⟩ | assumption | exact bI_in _ | exact inI.mk (by omega) (by omega)) (by first | exact hM.rd _ | exact hM.ri rfl _ _ | exact ⟨by omega, by omega⟩ | assumption | exact bI_in _ | exact inI.mk (by omega) (by omega)) (by decide) (by first | assumption | simp [su] | omega)) sv_X3_216 rfl dX3_unload_28 hM.obj rfl rfl rfl rfl ⟨by decide, by decide⟩ (Nat.le_of_ble_eq_true rfl) (Nat.le_of_ble_eq_true rfl) (Nat.le_of_ble_eq_true rfl)) (fun r_28 σ_28 hh hM hp_28 => ?_)
        rcases hp_28 with ⟨c0_28, rfl, rfl⟩ | ⟨c0_28, rfl, rfl⟩
        · refine ww_if_eq 36 dX3_unload_31 (by decide) (inI.mk (by decide) (by decide)) (fun c_31 => ?_) (fun c_31 => ?_)
          · refine ww_aload_n 0 dX3_unload_36 rfl ?_
            refine cr_sv hM (cr_V (ct_X3_remember hG hM (by first | assumption | (simp [su_off]; omega)) (by first | assumption | (simp [su_off]; omega))) sv_X3_225 rfl dX3_unload_37 hM.obj rfl rfl rfl rfl ⟨by decide, by decide⟩ (Nat.le_of_ble_eq_true rfl) (Nat.le_of_ble_eq_true rfl) (Nat.le_of_ble_eq_true rfl)) (fun σ_37 hh hM hp_37 => ?_)
            obtain ⟨hR_37, hr_37⟩ := hp_37
            refine ww_aload_n 0 dX3_unload_40 rfl ?_
            refine cr_sv hM (cr_V (ct_X3_keepBindings hG hM hD0) sv_X3_295 rfl dX3_unload_41 hM.obj rfl rfl rfl rfl ⟨by decide, by decide⟩ (Nat.le_of_ble_eq_true rfl) (Nat.le_of_ble_eq_true rfl) (Nat.le_of_ble_eq_true rfl)) (fun σ_41 hh hM hp_41 => ?_)
            obtain ⟨hk_41, hW_41⟩ := hp_41
            refine ww_aload_n 0 dX3_unload_44 rfl ?_
            refine ww_getf gf_X3_17 rfl dX3_unload_45 hM.obj rfl ?_
            refine ww_iload_n 1 dX3_unload_48 rfl ?_
            refine cr_pi (cr_S (ct_X3_at hG _) ss_X3_174 rfl dX3_unload_49 rfl rfl ⟨by decide, by decide⟩ (Nat.le_of_ble_eq_true rfl) (Nat.le_of_ble_eq_true rfl) (Nat.le_of_ble_eq_true rfl)) ?_
            refine ww_iconst dX3_unload_52 ?_
            refine ww_iadd dX3_unload_53 ?_
            refine ww_iconst dX3_unload_54 ?_
            refine mw_stD dX3_unload_55 hM (by omega) (by omega) (by first | exact hM.rd _ | exact hM.ri rfl _ _ | exact ⟨by omega, by omega⟩ | assumption | exact bI_in _ | exact inI.mk (by omega) (by omega)) (fun hh hM => ?_)
            refine ww_aload_n 0 dX3_unload_56 rfl ?_
            refine ww_iconst dX3_unload_57 ?_
            refine cr_si hM (cr_V (ct_X3_changedBut hG hM (hD0.ld (by omega) (by omega)) (w := xBd D fn) (fun a b x y z w => by rw [iup_n (by omega)] at y w; exact hW_41 a b x y z w) _ (by first | exact hM.rd _ | exact hM.ri rfl _ _ | exact ⟨by omega, by omega⟩ | assumption | exact bI_in _ | exact inI.mk (by omega) (by omega))) sv_X3_298 rfl dX3_unload_58 hM.obj rfl rfl rfl rfl ⟨by decide, by decide⟩ (Nat.le_of_ble_eq_true rfl) (Nat.le_of_ble_eq_true rfl) (Nat.le_of_ble_eq_true rfl)) (fun r_58 σ_58 hh hM hp_58 => ?_)
            obtain ⟨hk_58, rfl⟩ := hp_58
            exact ww_iret hQ dX3_unload_61 rfl (Nat.le_of_ble_eq_true rfl) (Nat.le_of_ble_eq_true rfl) ⟨_, rfl, _, _, hM, Or.inl ⟨by omega, rfl, ⟨hR_37.ext (su_off (by decide)).symm (su_off (by decide)).symm (by simp [hk_58, hk_41, hr_37]) (by simp [hk_58, hk_41, hr_37]), by simp [hk_58, hk_41, hr_37, su_off], by simp [hk_58, hk_41, hr_37, su_off], by simp [hk_58, hk_41, hr_37, su_off]⟩, by simp [hk_58, hk_41, hr_37, su], rfl⟩⟩
          · exact absurd c_31 (by decide)
        · refine ww_if_eq 36 dX3_unload_31 (by decide) (inI.mk (by decide) (by decide)) (fun c_31 => ?_) (fun c_31 => ?_)
          · exact absurd c_31 (by decide)
          · refine ww_iconst dX3_unload_34 ?_
            exact ww_iret hQ dX3_unload_35 rfl (Nat.le_of_ble_eq_true rfl) (Nat.le_of_ble_eq_true rfl) ⟨_, rfl, _, _, hM, by first | (exfalso; omega) | exact Or.inr (Or.inl ⟨by omega, rfl, by refine ⟨?_, ?_, ?_, ?_, ?_⟩ <;> simp [su_off], by simp [su]⟩) | exact Or.inr (Or.inr (⟨by omega, rfl, by refine ⟨?_, ?_, ?_, ?_, ?_⟩ <;> simp [su_off], by simp [su]⟩))⟩
  · refine ww_if_ne 34 dX3_unload_10 (by decide) (inI.mk (by decide) (by decide)) (fun c_10 => ?_) (fun c_10 => ?_)
    · refine ww_iconst dX3_unload_34 ?_
      exact ww_iret hQ dX3_unload_35 rfl (Nat.le_of_ble_eq_true rfl) (Nat.le_of_ble_eq_true rfl) ⟨_, rfl, _, _, hM, by first | (exfalso; omega) | exact Or.inr (Or.inl ⟨by omega, rfl, by refine ⟨?_, ?_, ?_, ?_, ?_⟩ <;> simp [su_off], by simp [su]⟩) | exact Or.inr (Or.inr (⟨by omega, rfl, by refine ⟨?_, ?_, ?_, ?_, ?_⟩ <;> simp [su_off], by simp [su]⟩))⟩
    · exact absurd c_10 (by decide)
