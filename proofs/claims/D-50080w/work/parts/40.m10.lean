set_option maxRecDepth 100000
theorem flw_rg {bd of : Int → Int → Int} : ∀ (f : Nat) (V : Int → Int → Bool) (k n s : Int), (flw f bd of V k n s).1 = -2 ∨ (flw f bd of V k n s).1 = -1 ∨ ∃ a b, (flw f bd of V k n s).1 = of a b := by
  intro f
  induction f with
  | zero => intro V k n s; exact Or.inl rfl
  | succ f ih =>
    intro V k n s
    unfold flw
    split
    · exact Or.inl rfl
    · split
      · exact Or.inr (Or.inl rfl)
      · split
        · exact Or.inr (Or.inr ⟨_, _, rfl⟩)
        · exact ih _ _ _ _
def xCl (D : Int → Int) (fn : EF) (k n : Int) : Int × Int := flw 97 (xBd D fn) (fun a b => D (6 + 24 * a + 12 + b)) (fun _ _ => false) k n 0
def xK1 (D : Int → Int) (fn : EF) (k : Int) : Nat → Int → Int
  | 0, v => v
  | w + 1, v => 31 * xK1 D fn k w v + dTo D fn k w
def xK2 (D : Int → Int) (fn : EF) (k : Int) : Nat → Int → Int
  | 0, v => v
  | n + 1, v => 31 * (31 * (31 * xK2 D fn k n v + D (6 + 24 * k + 12 + n)) + xBd D fn k n) + (xCl D fn k n).1
def xK3 (D : Int → Int) (fn : EF) : Nat → Int → Int
  | 0, v => v
  | k + 1, v => xK2 D fn k (D 2).toNat (xK1 D fn k 6 (xK3 D fn k v))
theorem dTo_in {D : Int → Int} {fn : EF} {k w : Int} (hr : ∀ z, inI (D z)) (h1 : 0 ≤ D 1 ∧ D 1 ≤ 8) (h2 : 0 ≤ D 2 ∧ D 2 ≤ 12) : inI (dTo D fn k w) := by
  have a := dRk_bd (k := k) h1.1 h1.2
  have b := dNo_bd (k := k) h2.1 h2.2
  have c := dWt_bd (D := D) (fn := fn) (k := k)
  unfold dTo
  split
  · exact hr _
  · split
    · exact inI.mk (by omega) (by omega)
    · split
      · exact inI.mk (by omega) (by omega)
      · split
        · exact hr _
        · exact inI.mk (by omega) (by omega)

set_option maxHeartbeats 4000000 in
theorem ct_X3_call {G : GT} {h0 h : AH} {m : Nat} {A : Nat → Nat} {B : Nat → Int → Nat} {D : Int → Int} {σ : MS} (hG : GOK G) (hM : MWF G h0 h m A B D σ) {fn : EF} (hD : DOK D fn) (k n : Int) (hk : inI k) (hn : inI n) : CSi G (MX3_call 7 156 0 0) h m A B D [.ref m, .int (iI k), .int (iI n)] (fun r σ' => kp σ σ' ∧ (((0 ≤ k ∧ k < D 1 ∧ 0 ≤ n ∧ n < D 2) ∧ σ' 0 0 0 = 0 ∧ r = (xCl D fn k n).1) ∨ (¬ (0 ≤ k ∧ k < D 1 ∧ 0 ≤ n ∧ n < D 2) ∧ σ' 0 0 0 = 1))) := by
  refine CT.of rfl hG (Nat.le_of_ble_eq_true rfl) rfl (fun E hQ => ?_)
  have hM := hM.1.f
  have hD0 := hD
  obtain ⟨⟨hl1, hl2⟩, ⟨hn1, hn2⟩, ⟨hs1, hs2⟩, hpf, hpr, htr, hwt, hof⟩ := hD
  refine ww_aload_n 0 dX3_call_0 rfl ?_
  refine ww_iconst dX3_call_1 ?_
  refine mw_put pf_X3_59 rfl dX3_call_2 hM rfl (by first | exact hM.rd _ | exact hM.ri rfl _ _ | exact ⟨by omega, by omega⟩ | assumption | exact bI_in _ | exact inI.mk (by omega) (by omega)) (fun hh hM => ?_)
  refine ww_aload_n 0 dX3_call_5 rfl ?_
  refine ww_iload_n 1 dX3_call_6 rfl ?_
  refine ww_iload_n 2 dX3_call_7 rfl ?_
  refine cr_si hM (cr_V (ct_X3_isMissing hG hM hD0 _ _ (by first | exact hM.rd _ | exact hM.ri rfl _ _ | exact ⟨by omega, by omega⟩ | assumption | exact bI_in _ | exact inI.mk (by omega) (by omega)) (by first | exact hM.rd _ | exact hM.ri rfl _ _ | exact ⟨by omega, by omega⟩ | assumption | exact bI_in _ | exact inI.mk (by omega) (by omega)) (by first | assumption | simp [su])) sv_X3_286 rfl dX3_call_8 hM.obj rfl rfl rfl rfl ⟨by decide, by decide⟩ (Nat.le_of_ble_eq_true rfl) (Nat.le_of_ble_eq_true rfl) (Nat.le_of_ble_eq_true rfl)) (fun r_8 σ_8 hh hM hp_8 => ?_)
  rcases hp_8 with ⟨c0_8, ⟨hk_8, hL_8⟩, rfl⟩ | ⟨c0_8, rfl, rfl⟩
  · refine ww_if_eq 18 dX3_call_11 (by decide) (inI.mk (by decide) (by decide)) (fun c_11 => ?_) (fun c_11 => ?_)
    · obtain ⟨n, rfl⟩ : ∃ q : Nat, n = (q : Int) := ⟨n.toNat, by omega⟩
      refine ww_aload_n 0 dX3_call_18 rfl ?_
      refine ww_iload_n 1 dX3_call_19 rfl ?_
      refine ww_iload_n 2 dX3_call_20 rfl ?_
      refine cr_si hM (cr_V (ct_X3_follow hG hM hD0 (fun a b x y z w => ((hL_8.2 b z w).2 a x y).2) _ _ (by omega) (by omega) (by omega)) sv_X3_289 rfl dX3_call_21 hM.obj rfl rfl rfl rfl ⟨by decide, by decide⟩ (Nat.le_of_ble_eq_true rfl) (Nat.le_of_ble_eq_true rfl) (Nat.le_of_ble_eq_true rfl)) (fun r_21 σ_21 hh hM hp_21 => ?_)
      obtain ⟨hk_21, hr_21, hs_21⟩ := hp_21
      exact ww_iret hQ dX3_call_24 rfl (Nat.le_of_ble_eq_true rfl) (Nat.le_of_ble_eq_true rfl) (by first | exact ⟨_, rfl, _, hM, by refine ⟨?_, ?_, ?_, ?_, ?_⟩ <;> simp [su_off, hk_21, hk_8], Or.inl ⟨(by omega), by simp [su, hk_21, hk_8], hr_21⟩⟩ | exact ⟨_, rfl, _, hM, by refine ⟨?_, ?_, ?_, ?_, ?_⟩ <;> simp [su_off], Or.inr ⟨by omega, by simp [su]⟩⟩)
    · exact absurd c_11 (by decide)
  · refine ww_if_eq 18 dX3_call_11 (by decide) (inI.mk (by decide) (by decide)) (fun c_11 => ?_) (fun c_11 => ?_)
    · exact absurd c_11 (by decide)
    · refine ww_iconst dX3_call_14 ?_
      refine ww_goto 24 dX3_call_15 (by decide) ?_
      exact ww_iret hQ dX3_call_24 rfl (Nat.le_of_ble_eq_true rfl) (Nat.le_of_ble_eq_true rfl) (by first | exact ⟨_, rfl, _, hM, by refine ⟨?_, ?_, ?_, ?_, ?_⟩ <;> simp [su_off, hk_21, hk_8], Or.inl ⟨(by omega), by simp [su, hk_21, hk_8], hr_21⟩⟩ | exact ⟨_, rfl, _, hM, by refine ⟨?_, ?_, ?_, ?_, ?_⟩ <;> simp [su_off], Or.inr ⟨by omega, by simp [su]⟩⟩)

set_option maxHeartbeats 4000000 in
theorem ct_X3_steps {G : GT} {h0 h : AH} {m : Nat} {A : Nat → Nat} {B : Nat → Int → Nat} {D : Int → Int} {σ : MS} (hG : GOK G) (hM : MWF G h0 h m A B D σ) {fn : EF} (hD : DOK D fn) (k n : Int) (hk : inI k) (hn : inI n) : CSi G (MX3_steps 7 156 0 0) h m A B D [.ref m, .int (iI k), .int (iI n)] (fun r σ' => kp σ σ' ∧ (((0 ≤ k ∧ k < D 1 ∧ 0 ≤ n ∧ n < D 2) ∧ σ' 0 0 0 = 0 ∧ r = (xCl D fn k n).2) ∨ (¬ (0 ≤ k ∧ k < D 1 ∧ 0 ≤ n ∧ n < D 2) ∧ σ' 0 0 0 = 1))) := by
  refine CT.of rfl hG (Nat.le_of_ble_eq_true rfl) rfl (fun E hQ => ?_)
  have hM := hM.1.f
  have hD0 := hD
  obtain ⟨⟨hl1, hl2⟩, ⟨hn1, hn2⟩, ⟨hs1, hs2⟩, hpf, hpr, htr, hwt, hof⟩ := hD
  refine ww_aload_n 0 dX3_steps_0 rfl ?_
  refine ww_iconst dX3_steps_1 ?_
  refine mw_put pf_X3_59 rfl dX3_steps_2 hM rfl (by first | exact hM.rd _ | exact hM.ri rfl _ _ | exact ⟨by omega, by omega⟩ | assumption | exact bI_in _ | exact inI.mk (by omega) (by omega)) (fun hh hM => ?_)
  refine ww_aload_n 0 dX3_steps_5 rfl ?_
  refine ww_iload_n 1 dX3_steps_6 rfl ?_
  refine ww_iload_n 2 dX3_steps_7 rfl ?_
  refine cr_si hM (cr_V (ct_X3_isMissing hG hM hD0 _ _ (by first | exact hM.rd _ | exact hM.ri rfl _ _ | exact ⟨by omega, by omega⟩ | assumption | exact bI_in _ | exact inI.mk (by omega) (by omega)) (by first | exact hM.rd _ | exact hM.ri rfl _ _ | exact ⟨by omega, by omega⟩ | assumption | exact bI_in _ | exact inI.mk (by omega) (by omega)) (by first | assumption | simp [su])) sv_X3_286 rfl dX3_steps_8 hM.obj rfl rfl rfl rfl ⟨by decide, by decide⟩ (Nat.le_of_ble_eq_true rfl) (Nat.le_of_ble_eq_true rfl) (Nat.le_of_ble_eq_true rfl)) (fun r_8 σ_8 hh hM hp_8 => ?_)
  rcases hp_8 with ⟨c0_8, ⟨hk_8, hL_8⟩, rfl⟩ | ⟨c0_8, rfl, rfl⟩
  · refine ww_if_eq 16 dX3_steps_11 (by decide) (inI.mk (by decide) (by decide)) (fun c_11 => ?_) (fun c_11 => ?_)
    · obtain ⟨n, rfl⟩ : ∃ q : Nat, n = (q : Int) := ⟨n.toNat, by omega⟩
      refine ww_aload_n 0 dX3_steps_16 rfl ?_
      refine ww_iload_n 1 dX3_steps_17 rfl ?_
      refine ww_iload_n 2 dX3_steps_18 rfl ?_
      refine cr_si hM (cr_V (ct_X3_follow hG hM hD0 (fun a b x y z w => ((hL_8.2 b z w).2 a x y).2) _ _ (by omega) (by omega) (by omega)) sv_X3_289 rfl dX3_steps_19 hM.obj rfl rfl rfl rfl ⟨by decide, by decide⟩ (Nat.le_of_ble_eq_true rfl) (Nat.le_of_ble_eq_true rfl) (Nat.le_of_ble_eq_true rfl)) (fun r_19 σ_19 hh hM hp_19 => ?_)
      obtain ⟨hk_19, hr_19, hs_19⟩ := hp_19
      refine ww_istore_n [(3, _), (0, _), (1, _), (2, _)] dX3_steps_22 (by decide) rfl ?_
      refine ww_aload_n 1 dX3_steps_23 rfl ?_
      refine ww_getf gf_X3_274 rfl dX3_steps_24 hM.obj rfl ?_
      exact ww_iret hQ dX3_steps_27 rfl (Nat.le_of_ble_eq_true rfl) (Nat.le_of_ble_eq_true rfl) ⟨_, rfl, _, hM, by refine ⟨?_, ?_, ?_, ?_, ?_⟩ <;> simp [su_off, hk_19, hk_8], Or.inl ⟨(by omega), by simp [su, hk_19, hk_8], hs_19⟩⟩
    · exact absurd c_11 (by decide)
  · refine ww_if_eq 16 dX3_steps_11 (by decide) (inI.mk (by decide) (by decide)) (fun c_11 => ?_) (fun c_11 => ?_)
    · exact absurd c_11 (by decide)
    · refine ww_iconst dX3_steps_14 ?_
      exact ww_iret hQ dX3_steps_15 rfl (Nat.le_of_ble_eq_true rfl) (Nat.le_of_ble_eq_true rfl) ⟨_, rfl, _, hM, by refine ⟨?_, ?_, ?_, ?_, ?_⟩ <;> simp [su_off], Or.inr ⟨by omega, by simp [su]⟩⟩

set_option maxHeartbeats 4000000 in
theorem ct_X3_checksum {G : GT} {h0 h : AH} {m : Nat} {A : Nat → Nat} {B : Nat → Int → Nat} {D : Int → Int} {σ : MS} (hG : GOK G) (hM : MWF G h0 h m A B D σ) {fn : EF} (hD : DOK D fn) : CSl G (MX3_checksum 6 134 0 0) h m A B D [.ref m] (fun r σ' => kp σ σ' ∧ r = xK3 D fn (D 1).toNat (D 0)) := by
  refine CT.of rfl hG (Nat.le_of_ble_eq_true rfl) rfl (fun E hQ => ?_)
  have hM := hM.1.f
  have hD0 := hD
  obtain ⟨⟨hl1, hl2⟩, ⟨hn1, hn2⟩, ⟨hs1, hs2⟩, hpf, hpr, htr, hwt, hof⟩ := hD
  refine ww_aload_n 0 dX3_checksum_0 rfl ?_
  refine ww_iconst dX3_checksum_1 ?_
  refine mw_put pf_X3_59 rfl dX3_checksum_2 hM rfl (by first | exact hM.rd _ | exact hM.ri rfl _ _ | exact ⟨by omega, by omega⟩ | assumption | exact bI_in _ | exact inI.mk (by omega) (by omega)) (fun hh hM => ?_)
  refine ww_aload_n 0 dX3_checksum_5 rfl ?_
  refine cr_sv hM (cr_V (ct_X3_layAll hG hM hD0) sv_X3_271 rfl dX3_checksum_6 hM.obj rfl rfl rfl rfl ⟨by decide, by decide⟩ (Nat.le_of_ble_eq_true rfl) (Nat.le_of_ble_eq_true rfl) (Nat.le_of_ble_eq_true rfl)) (fun σ_6 hh hM hp_6 => ?_)
  obtain ⟨hk_6, hL_6⟩ := hp_6
  refine ww_aload_n 0 dX3_checksum_9 rfl ?_
  refine ww_getf gf_X3_17 rfl dX3_checksum_10 hM.obj rfl ?_
  refine ww_iconst dX3_checksum_13 ?_
  refine mw_ldD dX3_checksum_14 hM (by omega) (by omega) ?_
  refine ww_i2l dX3_checksum_15 (by first | exact hM.rd _ | exact hM.ri rfl _ _ | exact ⟨by omega, by omega⟩ | assumption | exact bI_in _ | exact inI.mk (by omega) (by omega)) ?_
  refine ww_lstore_n [(1, _), (0, _)] dX3_checksum_16 (by decide) rfl ?_
  refine ww_iconst dX3_checksum_17 ?_
  refine ww_istore_n [(3, _), (1, _), (0, _)] dX3_checksum_18 (by decide) rfl ?_
  have loop_19 : ∀ (f : Nat) (i : Nat) (v : Int) (τ : MS) (hx : AH), ((i : Int) ≤ D 1) → (MWF G h hx m A B D τ) → (∀ j, j < 25 → j ≠ 18 → τ j = σ_6 j) → (v = xK3 D fn i (D 0)) → (D 1 - i < f) → WW G E (MX3_checksum 6 134 0 0) hx 0 0 19 [(3, .int (iI (i : Int))), (1, .long (lI v)), (0, .ref m)] [] := by
    intro f
    induction f with
    | zero => intro i v τ hx hi1 hM ho hv hf; exact absurd hf (by omega)
    | succ f ih =>
      intro i v τ hx hi1 hM ho hv hf
      refine ww_iload_n 0 dX3_checksum_19 rfl ?_
      refine ww_aload_n 2 dX3_checksum_20 rfl ?_
      refine ww_getf gf_X3_17 rfl dX3_checksum_21 hM.obj rfl ?_
      refine ww_iconst dX3_checksum_24 ?_
      refine mw_ldD dX3_checksum_25 hM (by omega) (by omega) ?_
      refine ww_icmp_ge 137 dX3_checksum_26 (by decide) (by first | exact hM.rd _ | exact hM.ri rfl _ _ | exact ⟨by omega, by omega⟩ | assumption | exact bI_in _ | exact inI.mk (by omega) (by omega)) (by first | exact hM.rd _ | exact hM.ri rfl _ _ | exact ⟨by omega, by omega⟩ | assumption | exact bI_in _ | exact inI.mk (by omega) (by omega)) (fun c_26 => ?_) (fun c_26 => ?_)
      · refine ww_lload_n 1 dX3_checksum_137 rfl ?_
        exact ww_lret hQ dX3_checksum_138 rfl (Nat.le_of_ble_eq_true rfl) (Nat.le_of_ble_eq_true rfl) ⟨_, rfl, _, hM, by refine ⟨?_, ?_, ?_, ?_, ?_⟩ <;> rw [ho _ (by decide) (by decide), hk_6 _ (by decide), su_off (by decide)], by rw [hv, show i = (D 1).toNat by omega]⟩
      · refine ww_iconst dX3_checksum_29 ?_
        refine ww_istore [(4, _), (3, _), (1, _), (0, _)] dX3_checksum_30 (by decide) rfl ?_
        have loop_32 : ∀ (g : Nat) (w : Nat) (v1 : Int) (τ1 : MS) (hx1 : AH), (w ≤ 6) → (MWF G h hx1 m A B D τ1) → (∀ j, j < 25 → j ≠ 18 → τ1 j = σ_6 j) → (v1 = xK1 D fn i w v) → (7 - w ≤ g) → WW G E (MX3_checksum 6 134 0 0) hx1 0 0 32 [(4, .int (iI (w : Int))), (3, .int (iI (i : Int))), (1, .long (lI v1)), (0, .ref m)] [] := by
          intro g
          induction g with
          | zero => intro w v1 τ1 hx1 hw1 hM ho1 hv1 hg; exact absurd hg (by omega)
          | succ g ig =>
            intro w v1 τ1 hx1 hw1 hM ho1 hv1 hg
            refine ww_iload 0 dX3_checksum_32 rfl ?_
            refine ww_bipush dX3_checksum_34 (by decide) ?_
            refine ww_icmp_ge 60 dX3_checksum_36 (by decide) (by first | exact hM.rd _ | exact hM.ri rfl _ _ | exact ⟨by omega, by omega⟩ | assumption | exact bI_in _ | exact inI.mk (by omega) (by omega)) (by first | exact hM.rd _ | exact hM.ri rfl _ _ | exact ⟨by omega, by omega⟩ | assumption | exact bI_in _ | exact inI.mk (by omega) (by omega)) (fun c_36 => ?_) (fun c_36 => ?_)
            · refine ww_iconst dX3_checksum_60 ?_
              refine ww_istore [(4, _), (3, _), (1, _), (0, _)] dX3_checksum_61 (by decide) rfl ?_
              have loop_63 : ∀ (e : Nat) (n : Nat) (v2 : Int) (τ2 : MS) (hx2 : AH), ((n : Int) ≤ D 2) → (MWF G h hx2 m A B D τ2) → (∀ j, j < 25 → j ≠ 18 → τ2 j = σ_6 j) → (v2 = xK2 D fn i n v1) → (D 2 - n < e) → WW G E (MX3_checksum 6 134 0 0) hx2 0 0 63 [(4, .int (iI (n : Int))), (3, .int (iI (i : Int))), (1, .long (lI v2)), (0, .ref m)] [] := by
                intro e
                induction e with
                | zero => intro n v2 τ2 hx2 hn3 hM ho2 hv2 he; exact absurd he (by omega)
                | succ e ie =>
                  intro n v2 τ2 hx2 hn3 hM ho2 hv2 he
                  refine ww_iload 0 dX3_checksum_63 rfl ?_
                  refine ww_aload_n 3 dX3_checksum_65 rfl ?_
                  refine ww_getf gf_X3_17 rfl dX3_checksum_66 hM.obj rfl ?_
                  refine ww_iconst dX3_checksum_69 ?_
                  refine mw_ldD dX3_checksum_70 hM (by omega) (by omega) ?_
                  refine ww_icmp_ge 131 dX3_checksum_71 (by decide) (by first | exact hM.rd _ | exact hM.ri rfl _ _ | exact ⟨by omega, by omega⟩ | assumption | exact bI_in _ | exact inI.mk (by omega) (by omega)) (by first | exact hM.rd _ | exact hM.ri rfl _ _ | exact ⟨by omega, by omega⟩ | assumption | exact bI_in _ | exact inI.mk (by omega) (by omega)) (fun c_71 => ?_) (fun c_71 => ?_)
                  · refine ww_iinc (j := 1) [(3, _), (4, _), (1, _), (0, _)] dX3_checksum_131 rfl (by decide) rfl ?_
                    refine ww_goto 19 dX3_checksum_134 (by decide) ?_
                    refine ww_sub [0, 2, 3] rfl ?_
                    rw [show (i : Int) + 1 = ((i + 1 : Nat) : Int) by omega]
                    exact ih (i + 1) v2 τ2 hx2 (by omega) hM ho2 (by rw [hv2, show n = (D 2).toNat by omega, hv1, show w = 6 by omega, hv]; rfl) (by omega)
                  · refine ww_ldc2 q2446 dX3_checksum_74 (z := 31) rfl ?_
                    refine ww_ldc2 q2446 dX3_checksum_77 (z := 31) rfl ?_
                    refine ww_ldc2 q2446 dX3_checksum_80 (z := 31) rfl ?_
                    refine ww_lload_n 2 dX3_checksum_83 rfl ?_
                    refine ww_lmul dX3_checksum_84 ?_
                    refine ww_aload_n 3 dX3_checksum_85 rfl ?_
                    refine ww_getf gf_X3_17 rfl dX3_checksum_86 hM.obj rfl ?_
                    refine ww_iload_n 1 dX3_checksum_89 rfl ?_
                    refine cr_pi (cr_S (ct_X3_at hG _) ss_X3_174 rfl dX3_checksum_90 rfl rfl ⟨by decide, by decide⟩ (Nat.le_of_ble_eq_true rfl) (Nat.le_of_ble_eq_true rfl) (Nat.le_of_ble_eq_true rfl)) ?_
                    refine ww_bipush dX3_checksum_93 (by decide) ?_
                    refine ww_iadd dX3_checksum_95 ?_
                    refine ww_iload 0 dX3_checksum_96 rfl ?_
                    refine ww_iadd dX3_checksum_98 ?_
                    refine mw_ldD dX3_checksum_99 hM (by omega) (by omega) ?_
                    refine ww_i2l dX3_checksum_100 (by first | exact hM.rd _ | exact hM.ri rfl _ _ | exact ⟨by omega, by omega⟩ | assumption | exact bI_in _ | exact inI.mk (by omega) (by omega)) ?_
                    refine ww_ladd dX3_checksum_101 ?_
                    refine ww_lmul dX3_checksum_102 ?_
                    refine ww_aload_n 3 dX3_checksum_103 rfl ?_
                    refine ww_getf gf_X3_50 rfl dX3_checksum_104 hM.obj rfl ?_
                    refine ww_iload_n 1 dX3_checksum_107 rfl ?_
                    refine mw_gld dX3_checksum_108 hM rfl (by omega) (by omega) ?_
                    refine ww_iload 0 dX3_checksum_109 rfl ?_
                    refine mw_rld dX3_checksum_111 hM rfl (by omega) (by omega) (by omega) (by omega) ?_
                    rw [ho2 23 (by decide) (by decide), ((hL_6.2 n (by omega) (by omega)).2 i (by omega) (by omega)).2]
                    have hbb := xBd_bd (n := (n : Int)) hD0 (show (0 : Int) ≤ i by omega) (by omega)
                    refine ww_i2l dX3_checksum_112 (inI.mk (by omega) (by omega)) ?_
                    refine ww_ladd dX3_checksum_113 ?_
                    refine ww_lmul dX3_checksum_114 ?_
                    refine ww_aload_n 3 dX3_checksum_115 rfl ?_
                    refine ww_iload_n 1 dX3_checksum_116 rfl ?_
                    refine ww_iload 0 dX3_checksum_117 rfl ?_
                    refine cr_si hM (cr_V (ct_X3_follow hG hM hD0 (fun a b x y z w => by rw [ho2 23 (by decide) (by decide)]; exact ((hL_6.2 b z w).2 a x y).2) _ _ (by omega) (by omega) (by omega)) sv_X3_289 rfl dX3_checksum_119 hM.obj rfl rfl rfl rfl ⟨by decide, by decide⟩ (Nat.le_of_ble_eq_true rfl) (Nat.le_of_ble_eq_true rfl) (Nat.le_of_ble_eq_true rfl)) (fun r_119 σ_119 hh hM hp_119 => ?_)
                    obtain ⟨hk_119, hr_119, hs_119⟩ := hp_119
                    rw [hr_119]
                    refine ww_i2l dX3_checksum_122 (by rcases flw_rg (bd := xBd D fn) (of := (fun a b => D (6 + 24 * a + 12 + b))) 97 (fun _ _ => false) i n 0 with q | q | ⟨a, b, q⟩ <;> rw [q] <;> first | exact hM.rd _ | exact inI.mk (by decide) (by decide)) ?_
                    refine ww_ladd dX3_checksum_123 ?_
                    refine ww_lstore_n [(1, _), (4, _), (3, _), (0, _)] dX3_checksum_124 (by decide) rfl ?_
                    refine ww_iinc (j := 1) [(4, _), (1, _), (3, _), (0, _)] dX3_checksum_125 rfl (by decide) rfl ?_
                    refine ww_goto 63 dX3_checksum_128 (by decide) ?_
                    refine ww_sub [0, 2, 1, 3] rfl ?_
                    rw [show (n : Int) + 1 = ((n + 1 : Nat) : Int) by omega]
                    exact ie (n + 1) _ _ _ (by omega) hM (fun j a b => by rw [hk_119 j a]; exact ho2 j a b) (by rw [hv2]; rfl) (by omega)
              refine ww_sub [0, 1, 2, 3] rfl ?_
              exact loop_63 13 0 v1 τ1 hx1 (by omega) hM ho1 rfl (by omega)
            · refine ww_ldc2 q2446 dX3_checksum_39 (z := 31) rfl ?_
              refine ww_lload_n 2 dX3_checksum_42 rfl ?_
              refine ww_lmul dX3_checksum_43 ?_
              refine ww_aload_n 3 dX3_checksum_44 rfl ?_
              refine ww_iload_n 1 dX3_checksum_45 rfl ?_
              refine ww_iload 0 dX3_checksum_46 rfl ?_
              refine cr_si hM (cr_V (ct_X3_told hG hM hD0 _ _ (by omega) (by omega) (by omega) (by omega)) sv_X3_283 rfl dX3_checksum_48 hM.obj rfl rfl rfl rfl ⟨by decide, by decide⟩ (Nat.le_of_ble_eq_true rfl) (Nat.le_of_ble_eq_true rfl) (Nat.le_of_ble_eq_true rfl)) (fun r_48 σ_48 hh hM hp_48 => ?_)
              obtain ⟨hk_48, rfl⟩ := hp_48
              refine ww_i2l dX3_checksum_51 (dTo_in hM.rd ⟨hl1, hl2⟩ ⟨hn1, hn2⟩) ?_
              refine ww_ladd dX3_checksum_52 ?_
              refine ww_lstore_n [(1, _), (4, _), (3, _), (0, _)] dX3_checksum_53 (by decide) rfl ?_
              refine ww_iinc (j := 1) [(4, _), (1, _), (3, _), (0, _)] dX3_checksum_54 rfl (by decide) rfl ?_
              refine ww_goto 32 dX3_checksum_57 (by decide) ?_
              refine ww_sub [0, 2, 1, 3] rfl ?_
              rw [show (w : Int) + 1 = ((w + 1 : Nat) : Int) by omega]
              exact ig (w + 1) _ _ _ (by omega) hM (fun j a b => by rw [← hk_48 j b]; exact ho1 j a b) (by rw [hv1]; rfl) (by omega)
        refine ww_sub [0, 1, 2, 3] rfl ?_
        exact loop_32 7 0 v τ hx (by omega) hM ho rfl (by omega)
  refine ww_sub [0, 1, 2] rfl ?_
  exact loop_19 9 0 (D 0) _ _ (by omega) hM (fun _ _ _ => rfl) rfl (by omega)

def wby (w : Int) (q : Nat) : Int := w / 2 ^ (24 - 8 * q) % 256
def wsl (w0 w1 w2 w3 w4 : Int) (q : Nat) : Int := if q < 4 then w0 else if q < 8 then w1 else if q < 12 then w2 else if q < 16 then w3 else w4

set_option maxHeartbeats 4000000 in
theorem ct_X3_append {G : GT} {h0 h : AH} {m : Nat} {A : Nat → Nat} {B : Nat → Int → Nat} {D : Int → Int} {σ : MS} (hG : GOK G) (hM : MWF G h0 h m A B D σ) (hb1 : 0 ≤ σ 2 0 0) (hb2 : σ 2 0 0 ≤ 800) (w0 w1 w2 w3 w4 : Int) (i0 : inI w0) (i1 : inI w1) (i2 : inI w2) (i3 : inI w3) (i4 : inI w4) : CSi G (MX3_append 0 0 0 0) h m A B D [.ref m, .int (iI w0), .int (iI w1), .int (iI w2), .int (iI w3), .int (iI w4)] (fun r σ' => (∀ j, j ≠ 0 → j ≠ 1 → j ≠ 2 → σ' j = σ j) ∧ ((σ 2 0 0 + 20 > 800 ∧ σ' 1 = σ 1 ∧ σ' 2 = σ 2 ∧ r = -1) ∨ (σ 2 0 0 + 20 ≤ 800 ∧ σ' 2 0 0 = σ 2 0 0 + 20 ∧ (∀ z : Int, z < σ 2 0 0 → σ' 1 0 z = σ 1 0 z) ∧ (∀ q : Nat, q < 20 → σ' 1 0 (σ 2 0 0 + q) = wby (wsl w0 w1 w2 w3 w4 q) (q % 4)) ∧ r = σ 2 0 0 + 20))) := by
  refine CT.of rfl hG (Nat.le_of_ble_eq_true rfl) rfl (fun E hQ => ?_)
  have hM := hM.1.f
  refine ww_aload_n 0 dX3_append_0 rfl ?_
  refine ww_iconst dX3_append_1 ?_
  refine mw_put pf_X3_59 rfl dX3_append_2 hM rfl (by first | exact hM.rd _ | exact hM.ri rfl _ _ | exact ⟨by omega, by omega⟩ | assumption | exact bI_in _ | exact inI.mk (by omega) (by omega)) (fun hh hM => ?_)
  refine ww_aload_n 0 dX3_append_5 rfl ?_
  refine ww_getf gf_X3_62 rfl dX3_append_6 hM.obj rfl ?_
  rw [su_off (by decide)]
  refine ww_bipush dX3_append_9 (by decide) ?_
  refine ww_iadd dX3_append_11 ?_
  refine ww_sipush dX3_append_12 (by decide) ?_
  refine ww_icmp_le 20 dX3_append_15 (by decide) (inI.mk (by omega) (by omega)) (inI.mk (by omega) (by omega)) (fun c_15 => ?_) (fun c_15 => ?_)
  · refine ww_iconst dX3_append_20 ?_
    refine ww_istore [(6, _), (0, _), (1, _), (2, _), (3, _), (4, _), (5, _)] dX3_append_21 (by decide) rfl ?_
    have loop_23 : ∀ (f : Nat) (i : Nat) (τ : MS) (hx : AH), (i ≤ 20) → (MWF G h hx m A B D τ) → (∀ j, j ≠ 0 → j ≠ 1 → j ≠ 2 → τ j = σ j) → (τ 2 0 0 = σ 2 0 0 + i) → (∀ z : Int, z < σ 2 0 0 → τ 1 0 z = σ 1 0 z) → (∀ q : Nat, q < i → τ 1 0 (σ 2 0 0 + q) = wby (wsl w0 w1 w2 w3 w4 q) (q % 4)) → (21 - i ≤ f) → WW G E (MX3_append 0 0 0 0) hx 0 0 23 [(6, .int (iI (i : Int))), (0, .ref m), (1, .int (iI w0)), (2, .int (iI w1)), (3, .int (iI w2)), (4, .int (iI w3)), (5, .int (iI w4))] [] := by
      intro f
      induction f with
      | zero => intro i τ hx hi1 hM ho hb hlo hhi hf; exact absurd hf (by omega)
      | succ f ih =>
        intro i τ hx hi1 hM ho hb hlo hhi hf
        refine ww_iload 0 dX3_append_23 rfl ?_
        refine ww_bipush dX3_append_25 (by decide) ?_
        refine ww_icmp_ge 120 dX3_append_27 (by decide) (by first | exact hM.rd _ | exact hM.ri rfl _ _ | exact ⟨by omega, by omega⟩ | assumption | exact bI_in _ | exact inI.mk (by omega) (by omega)) (by first | exact hM.rd _ | exact hM.ri rfl _ _ | exact ⟨by omega, by omega⟩ | assumption | exact bI_in _ | exact inI.mk (by omega) (by omega)) (fun c_27 => ?_) (fun c_27 => ?_)
        · refine ww_aload_n 1 dX3_append_120 rfl ?_
          refine ww_getf gf_X3_62 rfl dX3_append_121 hM.obj rfl ?_
          exact ww_iret hQ dX3_append_124 rfl (Nat.le_of_ble_eq_true rfl) (Nat.le_of_ble_eq_true rfl) ⟨_, rfl, _, hM, ho, Or.inr ⟨by omega, by rw [hb, show i = 20 by omega]; rfl, hlo, fun q hq => hhi q (by omega), by rw [hb, show i = 20 by omega]; rfl⟩⟩
        · refine ww_iload 0 dX3_append_30 rfl ?_
          refine ww_iconst dX3_append_32 ?_
          refine ww_icmp_ge 40 dX3_append_33 (by decide) (by first | exact hM.rd _ | exact hM.ri rfl _ _ | exact ⟨by omega, by omega⟩ | assumption | exact bI_in _ | exact inI.mk (by omega) (by omega)) (by first | exact hM.rd _ | exact hM.ri rfl _ _ | exact ⟨by omega, by omega⟩ | assumption | exact bI_in _ | exact inI.mk (by omega) (by omega)) (fun c_33 => ?_) (fun c_33 => ?_)
          · refine ww_iload 0 dX3_append_40 rfl ?_
            refine ww_bipush dX3_append_42 (by decide) ?_
            refine ww_icmp_ge 51 dX3_append_44 (by decide) (by first | exact hM.rd _ | exact hM.ri rfl _ _ | exact ⟨by omega, by omega⟩ | assumption | exact bI_in _ | exact inI.mk (by omega) (by omega)) (by first | exact hM.rd _ | exact hM.ri rfl _ _ | exact ⟨by omega, by omega⟩ | assumption | exact bI_in _ | exact inI.mk (by omega) (by omega)) (fun c_44 => ?_) (fun c_44 => ?_)
            · refine ww_iload 0 dX3_append_51 rfl ?_
              refine ww_bipush dX3_append_53 (by decide) ?_
              refine ww_icmp_ge 62 dX3_append_55 (by decide) (by first | exact hM.rd _ | exact hM.ri rfl _ _ | exact ⟨by omega, by omega⟩ | assumption | exact bI_in _ | exact inI.mk (by omega) (by omega)) (by first | exact hM.rd _ | exact hM.ri rfl _ _ | exact ⟨by omega, by omega⟩ | assumption | exact bI_in _ | exact inI.mk (by omega) (by omega)) (fun c_55 => ?_) (fun c_55 => ?_)
              · refine ww_iload 0 dX3_append_62 rfl ?_
                refine ww_bipush dX3_append_64 (by decide) ?_
                refine ww_icmp_ge 74 dX3_append_66 (by decide) (by first | exact hM.rd _ | exact hM.ri rfl _ _ | exact ⟨by omega, by omega⟩ | assumption | exact bI_in _ | exact inI.mk (by omega) (by omega)) (by first | exact hM.rd _ | exact hM.ri rfl _ _ | exact ⟨by omega, by omega⟩ | assumption | exact bI_in _ | exact inI.mk (by omega) (by omega)) (fun c_66 => ?_) (fun c_66 => ?_)
                · refine ww_iload 6 dX3_append_74 rfl ?_
                  refine ww_istore [(7, _), (6, _), (0, _), (1, _), (2, _), (3, _), (4, _), (5, _)] dX3_append_76 (by decide) rfl ?_
                  refine ww_aload_n 2 dX3_append_78 rfl ?_
                  refine ww_getf gf_X3_9 rfl dX3_append_79 hM.obj rfl ?_
                  refine ww_aload_n 2 dX3_append_82 rfl ?_
                  refine ww_getf gf_X3_62 rfl dX3_append_83 hM.obj rfl ?_
                  refine ww_iload 0 dX3_append_86 rfl ?_
                  refine ww_bipush dX3_append_88 (by decide) ?_
                  refine ww_bipush dX3_append_90 (by decide) ?_
                  refine ww_iload 1 dX3_append_92 rfl ?_
                  refine ww_iconst dX3_append_94 ?_
                  refine ww_irem dX3_append_95 (inI.mk (by omega) (by omega)) (by omega) (inI.mk (by decide) (by decide)) (by decide) ?_
                  refine ww_imul dX3_append_96 ?_
                  refine ww_isub dX3_append_97 ?_
                  refine ww_ishrI (b := 24 - 8 * (i % 4)) (by omega) dX3_append_98 (by assumption) (by omega) ?_
                  refine ww_sipush dX3_append_99 (by decide) ?_
                  refine ww_iandI dX3_append_102 rfl ?_
                  refine mw_st dX3_append_103 hM rfl (by omega) (by omega) (inI.mk (by omega) (by omega)) (fun hh hM => ?_)
                  refine ww_aload_n 2 dX3_append_104 rfl ?_
                  refine ww_dup dX3_append_105 rfl ?_
                  refine ww_getf gf_X3_62 rfl dX3_append_106 hM.obj rfl ?_
                  rw [su_off (by decide)]
                  refine ww_iconst dX3_append_109 ?_
                  refine ww_iadd dX3_append_110 ?_
                  refine mw_put pf_X3_62 rfl dX3_append_111 hM rfl (inI.mk (by omega) (by omega)) (fun hh hM => ?_)
                  refine ww_iinc (j := 1) [(6, _), (7, _), (0, _), (1, _), (2, _), (3, _), (4, _), (5, _)] dX3_append_114 rfl (by decide) rfl ?_
                  refine ww_goto 23 dX3_append_117 (by decide) ?_
                  refine ww_sub [0, 2, 3, 4, 5, 6, 7] rfl ?_
                  rw [show (i : Int) + 1 = ((i + 1 : Nat) : Int) by omega]
                  exact ih (i + 1) _ _ (by omega) hM (fun j a b c => by rw [su_off c, su_off b]; exact ho j a b c) (by rw [su_s]; omega) (fun z hz => by rw [su_off (by decide), su_n (by omega)]; exact hlo z hz) (fun q hq => if e : q = i then by (subst e; rw [su_off (by decide), ← hb, su_s]; unfold wby wsl; first | rw [if_pos (by omega)] | rw [if_neg (by omega), if_pos (by omega)] | rw [if_neg (by omega), if_neg (by omega), if_pos (by omega)] | rw [if_neg (by omega), if_neg (by omega), if_neg (by omega), if_pos (by omega)] | rw [if_neg (by omega), if_neg (by omega), if_neg (by omega), if_neg (by omega)]) else by (rw [su_off (by decide), su_n (by omega)]; exact hhi q (by omega))) (by omega)
                · refine ww_iload 5 dX3_append_69 rfl ?_
                  refine ww_goto 76 dX3_append_71 (by decide) ?_
                  refine ww_istore [(7, _), (6, _), (0, _), (1, _), (2, _), (3, _), (4, _), (5, _)] dX3_append_76 (by decide) rfl ?_
                  refine ww_aload_n 2 dX3_append_78 rfl ?_
                  refine ww_getf gf_X3_9 rfl dX3_append_79 hM.obj rfl ?_
                  refine ww_aload_n 2 dX3_append_82 rfl ?_
                  refine ww_getf gf_X3_62 rfl dX3_append_83 hM.obj rfl ?_
                  refine ww_iload 0 dX3_append_86 rfl ?_
                  refine ww_bipush dX3_append_88 (by decide) ?_
                  refine ww_bipush dX3_append_90 (by decide) ?_
                  refine ww_iload 1 dX3_append_92 rfl ?_
                  refine ww_iconst dX3_append_94 ?_
                  refine ww_irem dX3_append_95 (inI.mk (by omega) (by omega)) (by omega) (inI.mk (by decide) (by decide)) (by decide) ?_
                  refine ww_imul dX3_append_96 ?_
                  refine ww_isub dX3_append_97 ?_
                  refine ww_ishrI (b := 24 - 8 * (i % 4)) (by omega) dX3_append_98 (by assumption) (by omega) ?_
                  refine ww_sipush dX3_append_99 (by decide) ?_
                  refine ww_iandI dX3_append_102 rfl ?_
                  refine mw_st dX3_append_103 hM rfl (by omega) (by omega) (inI.mk (by omega) (by omega)) (fun hh hM => ?_)
                  refine ww_aload_n 2 dX3_append_104 rfl ?_
                  refine ww_dup dX3_append_105 rfl ?_
                  refine ww_getf gf_X3_62 rfl dX3_append_106 hM.obj rfl ?_
                  rw [su_off (by decide)]
                  refine ww_iconst dX3_append_109 ?_
                  refine ww_iadd dX3_append_110 ?_
                  refine mw_put pf_X3_62 rfl dX3_append_111 hM rfl (inI.mk (by omega) (by omega)) (fun hh hM => ?_)
                  refine ww_iinc (j := 1) [(6, _), (7, _), (0, _), (1, _), (2, _), (3, _), (4, _), (5, _)] dX3_append_114 rfl (by decide) rfl ?_
                  refine ww_goto 23 dX3_append_117 (by decide) ?_
                  refine ww_sub [0, 2, 3, 4, 5, 6, 7] rfl ?_
                  rw [show (i : Int) + 1 = ((i + 1 : Nat) : Int) by omega]
                  exact ih (i + 1) _ _ (by omega) hM (fun j a b c => by rw [su_off c, su_off b]; exact ho j a b c) (by rw [su_s]; omega) (fun z hz => by rw [su_off (by decide), su_n (by omega)]; exact hlo z hz) (fun q hq => if e : q = i then by (subst e; rw [su_off (by decide), ← hb, su_s]; unfold wby wsl; first | rw [if_pos (by omega)] | rw [if_neg (by omega), if_pos (by omega)] | rw [if_neg (by omega), if_neg (by omega), if_pos (by omega)] | rw [if_neg (by omega), if_neg (by omega), if_neg (by omega), if_pos (by omega)] | rw [if_neg (by omega), if_neg (by omega), if_neg (by omega), if_neg (by omega)]) else by (rw [su_off (by decide), su_n (by omega)]; exact hhi q (by omega))) (by omega)
              · refine ww_iload_n 4 dX3_append_58 rfl ?_
                refine ww_goto 76 dX3_append_59 (by decide) ?_
                refine ww_istore [(7, _), (6, _), (0, _), (1, _), (2, _), (3, _), (4, _), (5, _)] dX3_append_76 (by decide) rfl ?_
                refine ww_aload_n 2 dX3_append_78 rfl ?_
                refine ww_getf gf_X3_9 rfl dX3_append_79 hM.obj rfl ?_
                refine ww_aload_n 2 dX3_append_82 rfl ?_
                refine ww_getf gf_X3_62 rfl dX3_append_83 hM.obj rfl ?_
                refine ww_iload 0 dX3_append_86 rfl ?_
                refine ww_bipush dX3_append_88 (by decide) ?_
                refine ww_bipush dX3_append_90 (by decide) ?_
                refine ww_iload 1 dX3_append_92 rfl ?_
                refine ww_iconst dX3_append_94 ?_
                refine ww_irem dX3_append_95 (inI.mk (by omega) (by omega)) (by omega) (inI.mk (by decide) (by decide)) (by decide) ?_
                refine ww_imul dX3_append_96 ?_
                refine ww_isub dX3_append_97 ?_
                refine ww_ishrI (b := 24 - 8 * (i % 4)) (by omega) dX3_append_98 (by assumption) (by omega) ?_
                refine ww_sipush dX3_append_99 (by decide) ?_
                refine ww_iandI dX3_append_102 rfl ?_
                refine mw_st dX3_append_103 hM rfl (by omega) (by omega) (inI.mk (by omega) (by omega)) (fun hh hM => ?_)
                refine ww_aload_n 2 dX3_append_104 rfl ?_
                refine ww_dup dX3_append_105 rfl ?_
                refine ww_getf gf_X3_62 rfl dX3_append_106 hM.obj rfl ?_
                rw [su_off (by decide)]
                refine ww_iconst dX3_append_109 ?_
                refine ww_iadd dX3_append_110 ?_
                refine mw_put pf_X3_62 rfl dX3_append_111 hM rfl (inI.mk (by omega) (by omega)) (fun hh hM => ?_)
                refine ww_iinc (j := 1) [(6, _), (7, _), (0, _), (1, _), (2, _), (3, _), (4, _), (5, _)] dX3_append_114 rfl (by decide) rfl ?_
                refine ww_goto 23 dX3_append_117 (by decide) ?_
                refine ww_sub [0, 2, 3, 4, 5, 6, 7] rfl ?_
                rw [show (i : Int) + 1 = ((i + 1 : Nat) : Int) by omega]
                exact ih (i + 1) _ _ (by omega) hM (fun j a b c => by rw [su_off c, su_off b]; exact ho j a b c) (by rw [su_s]; omega) (fun z hz => by rw [su_off (by decide), su_n (by omega)]; exact hlo z hz) (fun q hq => if e : q = i then by (subst e; rw [su_off (by decide), ← hb, su_s]; unfold wby wsl; first | rw [if_pos (by omega)] | rw [if_neg (by omega), if_pos (by omega)] | rw [if_neg (by omega), if_neg (by omega), if_pos (by omega)] | rw [if_neg (by omega), if_neg (by omega), if_neg (by omega), if_pos (by omega)] | rw [if_neg (by omega), if_neg (by omega), if_neg (by omega), if_neg (by omega)]) else by (rw [su_off (by decide), su_n (by omega)]; exact hhi q (by omega))) (by omega)
            · refine ww_iload_n 3 dX3_append_47 rfl ?_
              refine ww_goto 76 dX3_append_48 (by decide) ?_
              refine ww_istore [(7, _), (6, _), (0, _), (1, _), (2, _), (3, _), (4, _), (5, _)] dX3_append_76 (by decide) rfl ?_
              refine ww_aload_n 2 dX3_append_78 rfl ?_
              refine ww_getf gf_X3_9 rfl dX3_append_79 hM.obj rfl ?_
              refine ww_aload_n 2 dX3_append_82 rfl ?_
              refine ww_getf gf_X3_62 rfl dX3_append_83 hM.obj rfl ?_
              refine ww_iload 0 dX3_append_86 rfl ?_
              refine ww_bipush dX3_append_88 (by decide) ?_
              refine ww_bipush dX3_append_90 (by decide) ?_
              refine ww_iload 1 dX3_append_92 rfl ?_
              refine ww_iconst dX3_append_94 ?_
              refine ww_irem dX3_append_95 (inI.mk (by omega) (by omega)) (by omega) (inI.mk (by decide) (by decide)) (by decide) ?_
              refine ww_imul dX3_append_96 ?_
              refine ww_isub dX3_append_97 ?_
              refine ww_ishrI (b := 24 - 8 * (i % 4)) (by omega) dX3_append_98 (by assumption) (by omega) ?_
              refine ww_sipush dX3_append_99 (by decide) ?_
              refine ww_iandI dX3_append_102 rfl ?_
              refine mw_st dX3_append_103 hM rfl (by omega) (by omega) (inI.mk (by omega) (by omega)) (fun hh hM => ?_)
              refine ww_aload_n 2 dX3_append_104 rfl ?_
              refine ww_dup dX3_append_105 rfl ?_
              refine ww_getf gf_X3_62 rfl dX3_append_106 hM.obj rfl ?_
              rw [su_off (by decide)]
              refine ww_iconst dX3_append_109 ?_
              refine ww_iadd dX3_append_110 ?_
              refine mw_put pf_X3_62 rfl dX3_append_111 hM rfl (inI.mk (by omega) (by omega)) (fun hh hM => ?_)
              refine ww_iinc (j := 1) [(6, _), (7, _), (0, _), (1, _), (2, _), (3, _), (4, _), (5, _)] dX3_append_114 rfl (by decide) rfl ?_
              refine ww_goto 23 dX3_append_117 (by decide) ?_
              refine ww_sub [0, 2, 3, 4, 5, 6, 7] rfl ?_
              rw [show (i : Int) + 1 = ((i + 1 : Nat) : Int) by omega]
              exact ih (i + 1) _ _ (by omega) hM (fun j a b c => by rw [su_off c, su_off b]; exact ho j a b c) (by rw [su_s]; omega) (fun z hz => by rw [su_off (by decide), su_n (by omega)]; exact hlo z hz) (fun q hq => if e : q = i then by (subst e; rw [su_off (by decide), ← hb, su_s]; unfold wby wsl; first | rw [if_pos (by omega)] | rw [if_neg (by omega), if_pos (by omega)] | rw [if_neg (by omega), if_neg (by omega), if_pos (by omega)] | rw [if_neg (by omega), if_neg (by omega), if_neg (by omega), if_pos (by omega)] | rw [if_neg (by omega), if_neg (by omega), if_neg (by omega), if_neg (by omega)]) else by (rw [su_off (by decide), su_n (by omega)]; exact hhi q (by omega))) (by omega)
          · refine ww_iload_n 2 dX3_append_36 rfl ?_
            refine ww_goto 76 dX3_append_37 (by decide) ?_
            refine ww_istore [(7, _), (6, _), (0, _), (1, _), (2, _), (3, _), (4, _), (5, _)] dX3_append_76 (by decide) rfl ?_
            refine ww_aload_n 2 dX3_append_78 rfl ?_
            refine ww_getf gf_X3_9 rfl dX3_append_79 hM.obj rfl ?_
            refine ww_aload_n 2 dX3_append_82 rfl ?_
            refine ww_getf gf_X3_62 rfl dX3_append_83 hM.obj rfl ?_
            refine ww_iload 0 dX3_append_86 rfl ?_
            refine ww_bipush dX3_append_88 (by decide) ?_
            refine ww_bipush dX3_append_90 (by decide) ?_
            refine ww_iload 1 dX3_append_92 rfl ?_
            refine ww_iconst dX3_append_94 ?_
            refine ww_irem dX3_append_95 (inI.mk (by omega) (by omega)) (by omega) (inI.mk (by decide) (by decide)) (by decide) ?_
            refine ww_imul dX3_append_96 ?_
            refine ww_isub dX3_append_97 ?_
            refine ww_ishrI (b := 24 - 8 * (i % 4)) (by omega) dX3_append_98 (by assumption) (by omega) ?_
            refine ww_sipush dX3_append_99 (by decide) ?_
            refine ww_iandI dX3_append_102 rfl ?_
            refine mw_st dX3_append_103 hM rfl (by omega) (by omega) (inI.mk (by omega) (by omega)) (fun hh hM => ?_)
            refine ww_aload_n 2 dX3_append_104 rfl ?_
            refine ww_dup dX3_append_105 rfl ?_
            refine ww_getf gf_X3_62 rfl dX3_append_106 hM.obj rfl ?_
            rw [su_off (by decide)]
            refine ww_iconst dX3_append_109 ?_
            refine ww_iadd dX3_append_110 ?_
            refine mw_put pf_X3_62 rfl dX3_append_111 hM rfl (inI.mk (by omega) (by omega)) (fun hh hM => ?_)
            refine ww_iinc (j := 1) [(6, _), (7, _), (0, _), (1, _), (2, _), (3, _), (4, _), (5, _)] dX3_append_114 rfl (by decide) rfl ?_
            refine ww_goto 23 dX3_append_117 (by decide) ?_
            refine ww_sub [0, 2, 3, 4, 5, 6, 7] rfl ?_
            rw [show (i : Int) + 1 = ((i + 1 : Nat) : Int) by omega]
            exact ih (i + 1) _ _ (by omega) hM (fun j a b c => by rw [su_off c, su_off b]; exact ho j a b c) (by rw [su_s]; omega) (fun z hz => by rw [su_off (by decide), su_n (by omega)]; exact hlo z hz) (fun q hq => if e : q = i then by (subst e; rw [su_off (by decide), ← hb, su_s]; unfold wby wsl; first | rw [if_pos (by omega)] | rw [if_neg (by omega), if_pos (by omega)] | rw [if_neg (by omega), if_neg (by omega), if_pos (by omega)] | rw [if_neg (by omega), if_neg (by omega), if_neg (by omega), if_pos (by omega)] | rw [if_neg (by omega), if_neg (by omega), if_neg (by omega), if_neg (by omega)]) else by (rw [su_off (by decide), su_n (by omega)]; exact hhi q (by omega))) (by omega)
    refine ww_sub [0, 1, 2, 3, 4, 5, 6] rfl ?_
    exact loop_23 21 0 _ _ (by omega) hM (fun j a b c => su_off a) (by rw [su_off (by decide)]; omega) (fun z _ => by rw [su_off (by decide)]) (fun q x => by omega) (by omega)
  · refine ww_iconst dX3_append_18 ?_
    exact ww_iret hQ dX3_append_19 rfl (Nat.le_of_ble_eq_true rfl) (Nat.le_of_ble_eq_true rfl) ⟨_, rfl, _, hM, fun j a b c => su_off a, Or.inl ⟨by omega, su_off (by decide), su_off (by decide), rfl⟩⟩
