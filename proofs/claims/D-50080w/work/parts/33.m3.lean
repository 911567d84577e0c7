set_option maxRecDepth 100000
set_option maxHeartbeats 4000000 in
theorem ct_X3_limited {G : GT} {h : AH} (hG : GOK G) (v : Int) (hv : inL v) : CPl G (MX3_limited 0 0 0 0) h [.long (lI v)] (clm v) := by
  refine CT.of rfl hG (Nat.le_of_ble_eq_true rfl) rfl (fun E hQ => ?_)
  refine ww_lload_n 0 dX3_limited_0 rfl ?_
  refine ww_ldc2 q2319 dX3_limited_1 (z := 1000000) rfl ?_
  refine ww_lif_le 14 dX3_limited_4 dX3_limited_5 (by decide) (by first | exact hM.rl _ _ _ | exact inL.mk (by omega) (by omega) | assumption) (by first | exact hM.rl _ _ _ | exact inL.mk (by omega) (by omega) | assumption) (fun c_4 => ?_) (fun c_4 => ?_)
  · refine ww_lload_n 0 dX3_limited_14 rfl ?_
    refine ww_ldc2 q2320 dX3_limited_15 (z := (-1000000)) rfl ?_
    refine ww_lif_ge 28 dX3_limited_18 dX3_limited_19 (by decide) (by first | exact hM.rl _ _ _ | exact inL.mk (by omega) (by omega) | assumption) (by first | exact hM.rl _ _ _ | exact inL.mk (by omega) (by omega) | assumption) (fun c_18 => ?_) (fun c_18 => ?_)
    · refine ww_lload_n 0 dX3_limited_28 rfl ?_
      exact ww_lret hQ dX3_limited_29 rfl (Nat.le_of_ble_eq_true rfl) (Nat.le_of_ble_eq_true rfl) ⟨_, rfl, by unfold clm; first | rw [if_pos (by omega)] | rw [if_neg (by omega), if_pos (by omega)] | rw [if_neg (by omega), if_neg (by omega)], rfl⟩
    · refine ww_ldc2 q2320 dX3_limited_22 (z := (-1000000)) rfl ?_
      refine ww_goto 29 dX3_limited_25 (by decide) ?_
      exact ww_lret hQ dX3_limited_29 rfl (Nat.le_of_ble_eq_true rfl) (Nat.le_of_ble_eq_true rfl) ⟨_, rfl, by unfold clm; first | rw [if_pos (by omega)] | rw [if_neg (by omega), if_pos (by omega)] | rw [if_neg (by omega), if_neg (by omega)], rfl⟩
  · refine ww_ldc2 q2319 dX3_limited_8 (z := 1000000) rfl ?_
    refine ww_goto 29 dX3_limited_11 (by decide) ?_
    exact ww_lret hQ dX3_limited_29 rfl (Nat.le_of_ble_eq_true rfl) (Nat.le_of_ble_eq_true rfl) ⟨_, rfl, by unfold clm; first | rw [if_pos (by omega)] | rw [if_neg (by omega), if_pos (by omega)] | rw [if_neg (by omega), if_neg (by omega)], rfl⟩

theorem mul_bd {a b : Int} (ha : sml a) (hb : sml b) : inL (a * b) := by
  have h1 : (a * b).natAbs = a.natAbs * b.natAbs := Int.natAbs_mul a b
  have h2 : a.natAbs ≤ 1000000 := by have := ha.1; have := ha.2; omega
  have h3 : b.natAbs ≤ 1000000 := by have := hb.1; have := hb.2; omega
  have h4 : a.natAbs * b.natAbs ≤ 1000000 * 1000000 := Nat.mul_le_mul h2 h3
  generalize a * b = q at h1 ⊢
  generalize a.natAbs * b.natAbs = r at h1 h4
  exact inL.mk (by omega) (by omega)

set_option maxHeartbeats 4000000 in
theorem ct_X3_operate {G : GT} {h : AH} (hG : GOK G) (op a b : Int) (ho : inI op) (ha : sml a) (hb : sml b) : CPl G (MX3_operate 1 21 0 0) h [.int (iI op), .long (lI a), .long (lI b)] (opr op a b) := by
  refine CT.of rfl hG (Nat.le_of_ble_eq_true rfl) rfl (fun E hQ => ?_)
  have ha1 := ha.1
  have ha2 := ha.2
  have hb1 := hb.1
  have hb2 := hb.2
  refine ww_iload_n 0 dX3_operate_0 rfl ?_
  refine ww_iconst dX3_operate_1 ?_
  refine ww_icmp_ne 19 dX3_operate_2 (by decide) (by first | exact hM.rd _ | exact hM.ri rfl _ _ | exact ⟨by omega, by omega⟩ | assumption | exact bI_in _ | exact inI.mk (by omega) (by omega)) (by first | exact hM.rd _ | exact hM.ri rfl _ _ | exact ⟨by omega, by omega⟩ | assumption | exact bI_in _ | exact inI.mk (by omega) (by omega)) (fun c_2 => ?_) (fun c_2 => ?_)
  · refine ww_iload_n 0 dX3_operate_19 rfl ?_
    refine ww_iconst dX3_operate_20 ?_
    refine ww_icmp_ne 30 dX3_operate_21 (by decide) (by first | exact hM.rd _ | exact hM.ri rfl _ _ | exact ⟨by omega, by omega⟩ | assumption | exact bI_in _ | exact inI.mk (by omega) (by omega)) (by first | exact hM.rd _ | exact hM.ri rfl _ _ | exact ⟨by omega, by omega⟩ | assumption | exact bI_in _ | exact inI.mk (by omega) (by omega)) (fun c_21 => ?_) (fun c_21 => ?_)
    · refine ww_iload_n 0 dX3_operate_30 rfl ?_
      refine ww_iconst dX3_operate_31 ?_
      refine ww_icmp_ne 41 dX3_operate_32 (by decide) (by first | exact hM.rd _ | exact hM.ri rfl _ _ | exact ⟨by omega, by omega⟩ | assumption | exact bI_in _ | exact inI.mk (by omega) (by omega)) (by first | exact hM.rd _ | exact hM.ri rfl _ _ | exact ⟨by omega, by omega⟩ | assumption | exact bI_in _ | exact inI.mk (by omega) (by omega)) (fun c_32 => ?_) (fun c_32 => ?_)
      · refine ww_lload_n 1 dX3_operate_41 rfl ?_
        refine ww_lload_n 2 dX3_operate_42 rfl ?_
        refine ww_lmul dX3_operate_43 ?_
        refine cr_pl (cr_S (ct_X3_limited hG _ (by first | exact inL.mk (by omega) (by omega) | exact mul_bd ha hb)) ss_X3_239 rfl dX3_operate_44 rfl rfl ⟨by decide, by decide⟩ (Nat.le_of_ble_eq_true rfl) (Nat.le_of_ble_eq_true rfl) (Nat.le_of_ble_eq_true rfl)) ?_
        exact ww_lret hQ dX3_operate_47 rfl (Nat.le_of_ble_eq_true rfl) (Nat.le_of_ble_eq_true rfl) ⟨_, rfl, by unfold opr; first | rw [if_pos (by omega), if_pos (by omega)] | rw [if_pos (by omega), if_neg (by omega)] | rw [if_neg (by omega), if_pos (by omega)] | rw [if_neg (by omega), if_neg (by omega), if_pos (by omega)] | rw [if_neg (by omega), if_neg (by omega), if_neg (by omega)], rfl⟩
      · refine ww_lload_n 1 dX3_operate_35 rfl ?_
        refine ww_lload_n 2 dX3_operate_36 rfl ?_
        refine ww_lsub dX3_operate_37 ?_
        refine ww_goto 44 dX3_operate_38 (by decide) ?_
        refine cr_pl (cr_S (ct_X3_limited hG _ (by first | exact inL.mk (by omega) (by omega) | exact mul_bd ha hb)) ss_X3_239 rfl dX3_operate_44 rfl rfl ⟨by decide, by decide⟩ (Nat.le_of_ble_eq_true rfl) (Nat.le_of_ble_eq_true rfl) (Nat.le_of_ble_eq_true rfl)) ?_
        exact ww_lret hQ dX3_operate_47 rfl (Nat.le_of_ble_eq_true rfl) (Nat.le_of_ble_eq_true rfl) ⟨_, rfl, by unfold opr; first | rw [if_pos (by omega), if_pos (by omega)] | rw [if_pos (by omega), if_neg (by omega)] | rw [if_neg (by omega), if_pos (by omega)] | rw [if_neg (by omega), if_neg (by omega), if_pos (by omega)] | rw [if_neg (by omega), if_neg (by omega), if_neg (by omega)], rfl⟩
    · refine ww_lload_n 1 dX3_operate_24 rfl ?_
      refine ww_lload_n 2 dX3_operate_25 rfl ?_
      refine ww_ladd dX3_operate_26 ?_
      refine ww_goto 44 dX3_operate_27 (by decide) ?_
      refine cr_pl (cr_S (ct_X3_limited hG _ (by first | exact inL.mk (by omega) (by omega) | exact mul_bd ha hb)) ss_X3_239 rfl dX3_operate_44 rfl rfl ⟨by decide, by decide⟩ (Nat.le_of_ble_eq_true rfl) (Nat.le_of_ble_eq_true rfl) (Nat.le_of_ble_eq_true rfl)) ?_
      exact ww_lret hQ dX3_operate_47 rfl (Nat.le_of_ble_eq_true rfl) (Nat.le_of_ble_eq_true rfl) ⟨_, rfl, by unfold opr; first | rw [if_pos (by omega), if_pos (by omega)] | rw [if_pos (by omega), if_neg (by omega)] | rw [if_neg (by omega), if_pos (by omega)] | rw [if_neg (by omega), if_neg (by omega), if_pos (by omega)] | rw [if_neg (by omega), if_neg (by omega), if_neg (by omega)], rfl⟩
  · refine ww_lload_n 2 dX3_operate_5 rfl ?_
    refine ww_lconst 0 dX3_operate_6 rfl ?_
    refine ww_lif_ne 15 dX3_operate_7 dX3_operate_8 (by decide) (by first | exact hM.rl _ _ _ | exact inL.mk (by omega) (by omega) | assumption) (by first | exact hM.rl _ _ _ | exact inL.mk (by omega) (by omega) | assumption) (fun c_7 => ?_) (fun c_7 => ?_)
    · refine ww_lload_n 1 dX3_operate_15 rfl ?_
      refine ww_lload_n 2 dX3_operate_16 rfl ?_
      refine ww_ldiv dX3_operate_17 (inL.mk (by omega) (by omega)) (inL.mk (by omega) (by omega)) (by omega) ?_
      exact ww_lret hQ dX3_operate_18 rfl (Nat.le_of_ble_eq_true rfl) (Nat.le_of_ble_eq_true rfl) ⟨_, rfl, by unfold opr; first | rw [if_pos (by omega), if_pos (by omega)] | rw [if_pos (by omega), if_neg (by omega)] | rw [if_neg (by omega), if_pos (by omega)] | rw [if_neg (by omega), if_neg (by omega), if_pos (by omega)] | rw [if_neg (by omega), if_neg (by omega), if_neg (by omega)], rfl⟩
    · refine ww_lconst 0 dX3_operate_11 rfl ?_
      refine ww_goto 18 dX3_operate_12 (by decide) ?_
      exact ww_lret hQ dX3_operate_18 rfl (Nat.le_of_ble_eq_true rfl) (Nat.le_of_ble_eq_true rfl) ⟨_, rfl, by unfold opr; first | rw [if_pos (by omega), if_pos (by omega)] | rw [if_pos (by omega), if_neg (by omega)] | rw [if_neg (by omega), if_pos (by omega)] | rw [if_neg (by omega), if_neg (by omega), if_pos (by omega)] | rw [if_neg (by omega), if_neg (by omega), if_neg (by omega)], rfl⟩

theorem dRk_bd {D : Int → Int} {k : Int} (h : 0 ≤ D 1) (h8 : D 1 ≤ 8) : -1 ≤ dRk D k ∧ dRk D k ≤ 8 := by
  unfold dRk
  split
  · have := smI_bd (z := D 1) (c := 1) (f := fun j => bI (D (6 + 24 * j + 2) > 0 ∧ D (6 + 24 * j + 2) < D (6 + 24 * k + 2))) h (fun i _ _ => by unfold bI; split <;> omega)
    omega
  · omega
theorem dNo_bd {D : Int → Int} {k : Int} (h : 0 ≤ D 2) (h8 : D 2 ≤ 12) : 0 ≤ dNo D k ∧ dNo D k ≤ 12 := by
  unfold dNo
  have := smI_bd (z := D 2) (c := 1) (f := fun n => bI (D (6 + 24 * k + 12 + n) ≠ -1)) h (fun i _ _ => by unfold bI; split <;> omega)
  omega
theorem dFr_bd {D : Int → Int} {k : Int} (h : 0 ≤ D 1) (h8 : D 1 ≤ 8) : 0 ≤ dFr D k ∧ dFr D k ≤ 8 := by
  unfold dFr
  have := smI_bd (z := D 1) (c := 1) (f := fun j => bI (D (6 + 24 * j + 2) > 0 ∧ k ∈ dPf D j)) h (fun i _ _ => by unfold bI; split <;> omega)
  omega

set_option maxHeartbeats 4000000 in
theorem wt_run {G : GT} {h0 : AH} {m : Nat} {A : Nat → Nat} {B : Nat → Int → Nat} {D : Int → Int} {σ : MS} (hG : GOK G) (hl1 : 0 ≤ D 1) (hl2 : D 1 ≤ 8) (hn1 : 0 ≤ D 2) (hn2 : D 2 ≤ 12) (hpf : ∀ k : Int, 0 ≤ k → k < 8 → D (6 + 24 * k + 3) ≤ 8) (k : Int) (h1 : 0 ≤ k) (h2 : k < 8) (ht1 : 0 ≤ D (6 + 24 * k)) (ht2 : D (6 + 24 * k) ≤ 1000000) {E : ET} (d : Nat) : ∀ (cs : List Int) (fn : EF), Cd d cs fn → ∀ (i t : Int) (S : Int → Int → Int) (h : AH), MWF G h0 h m A B D (sj σ 18 S) → 0 ≤ t → t ≤ i → i + cs.length ≤ D 5 → D 5 ≤ 1300 → Has (D) i cs →
    (∀ (S' : Int → Int → Int) (h' : AH), MWF G h0 h' m A B D (sj σ 18 S') → S' 0 t = fn (D (6 + 24 * k)) (dRk (D) k) (dNo (D) k) (dFr (D) k) → (∀ j : Int, j < t → S' 0 j = S 0 j) → WW G E (MX3_weightOf 3 67 0 0) h' 0 0 32 [(3, .int (iI (i + cs.length))), (2, .int (iI (t + 1))), (0, .ref m), (1, .int (iI k))] []) →
    WW G E (MX3_weightOf 3 67 0 0) h 0 0 32 [(3, .int (iI (i))), (2, .int (iI (t))), (0, .ref m), (1, .int (iI k))] [] := by
  have br := dRk_bd (k := k) hl1 hl2
  have bn := dNo_bd (k := k) hn1 hn2
  have bf := dFr_bd (k := k) hl1 hl2
  induction d with
  | zero => intro cs fn h; exact h.elim
  | succ d ih =>
    intro cs fn hcd i t S h hM h3 h4 h5 h6 hH K
    rcases hcd with ⟨v, v1, v2, rfl, rfl⟩ | ⟨rfl, rfl⟩ | ⟨rfl, rfl⟩ | ⟨rfl, rfl⟩ | ⟨rfl, rfl⟩ | ⟨op, c1, c2, f1, f2, o1, o2, g1, g2, rfl, rfl⟩
    · have hc0 : D (198 + i) = 0 := by have := hH 0 0 rfl; simpa using this
      have hc1 : D (198 + (i + 1)) = v := by have := hH 1 v rfl; rw [← this]; congr 1; omega
      have hlen : i + (([0, v] : List Int).length : Int) = i + 1 + 1 := by show i + (2 : Int) = _; omega
      rw [hlen] at K h5
      refine ww_iload_n 0 dX3_weightOf_32 rfl ?_
      refine ww_aload_n 2 dX3_weightOf_33 rfl ?_
      refine ww_getf gf_X3_17 rfl dX3_weightOf_34 hM.obj rfl ?_
      refine ww_iconst dX3_weightOf_37 ?_
      refine mw_ldD dX3_weightOf_38 hM (by omega) (by omega) ?_
      refine ww_icmp_ge 190 dX3_weightOf_39 (by decide) (by first | exact hM.rd _ | exact hM.ri rfl _ _ | exact ⟨by omega, by omega⟩ | assumption | exact bI_in _ | exact inI.mk (by omega) (by omega)) (by first | exact hM.rd _ | exact hM.ri rfl _ _ | exact ⟨by omega, by omega⟩ | assumption | exact bI_in _ | exact inI.mk (by omega) (by omega)) (fun c_39 => ?_) (fun c_39 => ?_)
      · exact absurd c_39 (by omega)
      · refine ww_aload_n 2 dX3_weightOf_42 rfl ?_
        refine ww_getf gf_X3_17 rfl dX3_weightOf_43 hM.obj rfl ?_
        refine ww_sipush dX3_weightOf_46 (by decide) ?_
        refine ww_iload_n 0 dX3_weightOf_49 rfl ?_
        refine ww_iadd dX3_weightOf_50 ?_
        refine mw_ldD dX3_weightOf_51 hM (by omega) (by omega) ?_
        refine ww_istore [(4, _), (3, _), (2, _), (0, _), (1, _)] dX3_weightOf_52 (by decide) rfl ?_
        refine ww_iload 0 dX3_weightOf_54 rfl ?_
        refine ww_iconst dX3_weightOf_56 ?_
        refine ww_icmp_gt 154 dX3_weightOf_57 (by decide) (by first | exact hM.rd _ | exact hM.ri rfl _ _ | exact ⟨by omega, by omega⟩ | assumption | exact bI_in _ | exact inI.mk (by omega) (by omega)) (by first | exact hM.rd _ | exact hM.ri rfl _ _ | exact ⟨by omega, by omega⟩ | assumption | exact bI_in _ | exact inI.mk (by omega) (by omega)) (fun c_57 => ?_) (fun c_57 => ?_)
        · exact absurd c_57 (by omega)
        · refine ww_iinc (j := 1) [(3, _), (4, _), (2, _), (0, _), (1, _)] dX3_weightOf_60 rfl (by decide) rfl ?_
          refine ww_aload_n 3 dX3_weightOf_63 rfl ?_
          refine ww_getf gf_X3_17 rfl dX3_weightOf_64 hM.obj rfl ?_
          refine ww_sipush dX3_weightOf_67 (by decide) ?_
          refine ww_iload_n 0 dX3_weightOf_70 rfl ?_
          refine ww_iadd dX3_weightOf_71 ?_
          refine mw_ldD dX3_weightOf_72 hM (by omega) (by omega) ?_
          refine ww_istore [(5, _), (3, _), (4, _), (2, _), (0, _), (1, _)] dX3_weightOf_73 (by decide) rfl ?_
          refine ww_aload_n 4 dX3_weightOf_75 rfl ?_
          refine ww_getf gf_X3_35 rfl dX3_weightOf_76 hM.obj rfl ?_
          refine ww_iload_n 3 dX3_weightOf_79 rfl ?_
          refine ww_iload 2 dX3_weightOf_80 rfl ?_
          refine ww_if_ne 91 dX3_weightOf_82 (by decide) (by first | exact hM.rd _ | exact hM.ri rfl _ _ | exact ⟨by omega, by omega⟩ | assumption | exact bI_in _ | exact inI.mk (by omega) (by omega)) (fun c_82 => ?_) (fun c_82 => ?_)
          · exact absurd c_82 (by omega)
          · refine ww_iload 0 dX3_weightOf_85 rfl ?_
            refine ww_i2l dX3_weightOf_87 (by first | exact hM.rd _ | exact hM.ri rfl _ _ | exact ⟨by omega, by omega⟩ | assumption | exact bI_in _ | exact inI.mk (by omega) (by omega)) ?_
            refine ww_goto 147 dX3_weightOf_88 (by decide) ?_
            refine mw_lst dX3_weightOf_147 hM rfl (by omega) (by omega) (by first | exact (hM.rd _).L | exact inL.mk (by omega) (by omega)) (fun hh hM => ?_)
            rw [su_sj] at hM
            refine ww_iinc (j := 3) [(2, _), (5, _), (3, _), (4, _), (0, _), (1, _)] dX3_weightOf_148 rfl (by decide) rfl ?_
            refine ww_goto 184 dX3_weightOf_151 (by decide) ?_
            refine ww_iinc (j := 2) [(3, _), (2, _), (5, _), (4, _), (0, _), (1, _)] dX3_weightOf_184 rfl (by decide) rfl ?_
            refine ww_goto 32 dX3_weightOf_187 (by decide) ?_
            refine ww_sub [0, 1, 4, 5] rfl ?_
            exact K _ _ hM (by rw [s2_s]; exact hc1) (fun j hj => s2_n (by omega))
    · have hc0 : D (198 + i) = 1 := by have := hH 0 1 rfl; simpa using this
      have hc1 : D (198 + (i + 1)) = 0 := by have := hH 1 0 rfl; rw [← this]; congr 1; omega
      have hlen : i + (([1, 0] : List Int).length : Int) = i + 1 + 1 := by show i + (2 : Int) = _; omega
      rw [hlen] at K h5
      refine ww_iload_n 0 dX3_weightOf_32 rfl ?_
      refine ww_aload_n 2 dX3_weightOf_33 rfl ?_
      refine ww_getf gf_X3_17 rfl dX3_weightOf_34 hM.obj rfl ?_
      refine ww_iconst dX3_weightOf_37 ?_
      refine mw_ldD dX3_weightOf_38 hM (by omega) (by omega) ?_
      refine ww_icmp_ge 190 dX3_weightOf_39 (by decide) (by first | exact hM.rd _ | exact hM.ri rfl _ _ | exact ⟨by omega, by omega⟩ | assumption | exact bI_in _ | exact inI.mk (by omega) (by omega)) (by first | exact hM.rd _ | exact hM.ri rfl _ _ | exact ⟨by omega, by omega⟩ | assumption | exact bI_in _ | exact inI.mk (by omega) (by omega)) (fun c_39 => ?_) (fun c_39 => ?_)
      · exact absurd c_39 (by omega)
      · refine ww_aload_n 2 dX3_weightOf_42 rfl ?_
        refine ww_getf gf_X3_17 rfl dX3_weightOf_43 hM.obj rfl ?_
        refine ww_sipush dX3_weightOf_46 (by decide) ?_
        refine ww_iload_n 0 dX3_weightOf_49 rfl ?_
        refine ww_iadd dX3_weightOf_50 ?_
        refine mw_ldD dX3_weightOf_51 hM (by omega) (by omega) ?_
        refine ww_istore [(4, _), (3, _), (2, _), (0, _), (1, _)] dX3_weightOf_52 (by decide) rfl ?_
        refine ww_iload 0 dX3_weightOf_54 rfl ?_
        refine ww_iconst dX3_weightOf_56 ?_
        refine ww_icmp_gt 154 dX3_weightOf_57 (by decide) (by first | exact hM.rd _ | exact hM.ri rfl _ _ | exact ⟨by omega, by omega⟩ | assumption | exact bI_in _ | exact inI.mk (by omega) (by omega)) (by first | exact hM.rd _ | exact hM.ri rfl _ _ | exact ⟨by omega, by omega⟩ | assumption | exact bI_in _ | exact inI.mk (by omega) (by omega)) (fun c_57 => ?_) (fun c_57 => ?_)
        · exact absurd c_57 (by omega)
        · refine ww_iinc (j := 1) [(3, _), (4, _), (2, _), (0, _), (1, _)] dX3_weightOf_60 rfl (by decide) rfl ?_
          refine ww_aload_n 3 dX3_weightOf_63 rfl ?_
          refine ww_getf gf_X3_17 rfl dX3_weightOf_64 hM.obj rfl ?_
          refine ww_sipush dX3_weightOf_67 (by decide) ?_
          refine ww_iload_n 0 dX3_weightOf_70 rfl ?_
          refine ww_iadd dX3_weightOf_71 ?_
          refine mw_ldD dX3_weightOf_72 hM (by omega) (by omega) ?_
          refine ww_istore [(5, _), (3, _), (4, _), (2, _), (0, _), (1, _)] dX3_weightOf_73 (by decide) rfl ?_
          refine ww_aload_n 4 dX3_weightOf_75 rfl ?_
          refine ww_getf gf_X3_35 rfl dX3_weightOf_76 hM.obj rfl ?_
          refine ww_iload_n 3 dX3_weightOf_79 rfl ?_
          refine ww_iload 2 dX3_weightOf_80 rfl ?_
          refine ww_if_ne 91 dX3_weightOf_82 (by decide) (by first | exact hM.rd _ | exact hM.ri rfl _ _ | exact ⟨by omega, by omega⟩ | assumption | exact bI_in _ | exact inI.mk (by omega) (by omega)) (fun c_82 => ?_) (fun c_82 => ?_)
          · refine ww_iload 0 dX3_weightOf_91 rfl ?_
            refine ww_if_ne 111 dX3_weightOf_93 (by decide) (by first | exact hM.rd _ | exact hM.ri rfl _ _ | exact ⟨by omega, by omega⟩ | assumption | exact bI_in _ | exact inI.mk (by omega) (by omega)) (fun c_93 => ?_) (fun c_93 => ?_)
            · exact absurd c_93 (by omega)
            · refine ww_aload_n 4 dX3_weightOf_96 rfl ?_
              refine ww_getf gf_X3_17 rfl dX3_weightOf_97 hM.obj rfl ?_
              refine ww_iload_n 5 dX3_weightOf_100 rfl ?_
              refine cr_pi (cr_S (ct_X3_at hG _) ss_X3_174 rfl dX3_weightOf_101 rfl rfl ⟨by decide, by decide⟩ (Nat.le_of_ble_eq_true rfl) (Nat.le_of_ble_eq_true rfl) (Nat.le_of_ble_eq_true rfl)) ?_
              refine ww_iconst dX3_weightOf_104 ?_
              refine ww_iadd dX3_weightOf_105 ?_
              refine mw_ldD dX3_weightOf_106 hM (by omega) (by omega) ?_
              refine ww_i2l dX3_weightOf_107 (by first | exact hM.rd _ | exact hM.ri rfl _ _ | exact ⟨by omega, by omega⟩ | assumption | exact bI_in _ | exact inI.mk (by omega) (by omega)) ?_
              refine ww_goto 147 dX3_weightOf_108 (by decide) ?_
              refine mw_lst dX3_weightOf_147 hM rfl (by omega) (by omega) (by first | exact (hM.rd _).L | exact inL.mk (by omega) (by omega)) (fun hh hM => ?_)
              rw [su_sj] at hM
              refine ww_iinc (j := 3) [(2, _), (5, _), (3, _), (4, _), (0, _), (1, _)] dX3_weightOf_148 rfl (by decide) rfl ?_
              refine ww_goto 184 dX3_weightOf_151 (by decide) ?_
              refine ww_iinc (j := 2) [(3, _), (2, _), (5, _), (4, _), (0, _), (1, _)] dX3_weightOf_184 rfl (by decide) rfl ?_
              refine ww_goto 32 dX3_weightOf_187 (by decide) ?_
              refine ww_sub [0, 1, 4, 5] rfl ?_
              exact K _ _ hM (by rw [s2_s, Int.add_zero]) (fun j hj => s2_n (by omega))
          · exact absurd c_82 (by omega)
    · have hc0 : D (198 + i) = 1 := by have := hH 0 1 rfl; simpa using this
      have hc1 : D (198 + (i + 1)) = 1 := by have := hH 1 1 rfl; rw [← this]; congr 1; omega
      have hlen : i + (([1, 1] : List Int).length : Int) = i + 1 + 1 := by show i + (2 : Int) = _; omega
      rw [hlen] at K h5
      refine ww_iload_n 0 dX3_weightOf_32 rfl ?_
      refine ww_aload_n 2 dX3_weightOf_33 rfl ?_
      refine ww_getf gf_X3_17 rfl dX3_weightOf_34 hM.obj rfl ?_
      refine ww_iconst dX3_weightOf_37 ?_
      refine mw_ldD dX3_weightOf_38 hM (by omega) (by omega) ?_
      refine ww_icmp_ge 190 dX3_weightOf_39 (by decide) (by first | exact hM.rd _ | exact hM.ri rfl _ _ | exact ⟨by omega, by omega⟩ | assumption | exact bI_in _ | exact inI.mk (by omega) (by omega)) (by first | exact hM.rd _ | exact hM.ri rfl _ _ | exact ⟨by omega, by omega⟩ | assumption | exact bI_in _ | exact inI.mk (by omega) (by omega)) (fun c_39 => ?_) (fun c_39 => ?_)
      · exact absurd c_39 (by omega)
      · refine ww_aload_n 2 dX3_weightOf_42 rfl ?_
        refine ww_getf gf_X3_17 rfl dX3_weightOf_43 hM.obj rfl ?_
        refine ww_sipush dX3_weightOf_46 (by decide) ?_
        refine ww_iload_n 0 dX3_weightOf_49 rfl ?_
        refine ww_iadd dX3_weightOf_50 ?_
        refine mw_ldD dX3_weightOf_51 hM (by omega) (by omega) ?_
        refine ww_istore [(4, _), (3, _), (2, _), (0, _), (1, _)] dX3_weightOf_52 (by decide) rfl ?_
        refine ww_iload 0 dX3_weightOf_54 rfl ?_
        refine ww_iconst dX3_weightOf_56 ?_
        refine ww_icmp_gt 154 dX3_weightOf_57 (by decide) (by first | exact hM.rd _ | exact hM.ri rfl _ _ | exact ⟨by omega, by omega⟩ | assumption | exact bI_in _ | exact inI.mk (by omega) (by omega)) (by first | exact hM.rd _ | exact hM.ri rfl _ _ | exact ⟨by omega, by omega⟩ | assumption | exact bI_in _ | exact inI.mk (by omega) (by omega)) (fun c_57 => ?_) (fun c_57 => ?_)
        · exact absurd c_57 (by omega)
        · refine ww_iinc (j := 1) [(3, _), (4, _), (2, _), (0, _), (1, _)] dX3_weightOf_60 rfl (by decide) rfl ?_
          refine ww_aload_n 3 dX3_weightOf_63 rfl ?_
          refine ww_getf gf_X3_17 rfl dX3_weightOf_64 hM.obj rfl ?_
          refine ww_sipush dX3_weightOf_67 (by decide) ?_
          refine ww_iload_n 0 dX3_weightOf_70 rfl ?_
          refine ww_iadd dX3_weightOf_71 ?_
          refine mw_ldD dX3_weightOf_72 hM (by omega) (by omega) ?_
          refine ww_istore [(5, _), (3, _), (4, _), (2, _), (0, _), (1, _)] dX3_weightOf_73 (by decide) rfl ?_
          refine ww_aload_n 4 dX3_weightOf_75 rfl ?_
          refine ww_getf gf_X3_35 rfl dX3_weightOf_76 hM.obj rfl ?_
          refine ww_iload_n 3 dX3_weightOf_79 rfl ?_
          refine ww_iload 2 dX3_weightOf_80 rfl ?_
          refine ww_if_ne 91 dX3_weightOf_82 (by decide) (by first | exact hM.rd _ | exact hM.ri rfl _ _ | exact ⟨by omega, by omega⟩ | assumption | exact bI_in _ | exact inI.mk (by omega) (by omega)) (fun c_82 => ?_) (fun c_82 => ?_)
          · refine ww_iload 0 dX3_weightOf_91 rfl ?_
            refine ww_if_ne 111 dX3_weightOf_93 (by decide) (by first | exact hM.rd _ | exact hM.ri rfl _ _ | exact ⟨by omega, by omega⟩ | assumption | exact bI_in _ | exact inI.mk (by omega) (by omega)) (fun c_93 => ?_) (fun c_93 => ?_)
            · refine ww_iload 0 dX3_weightOf_111 rfl ?_
              refine ww_iconst dX3_weightOf_113 ?_
              refine ww_icmp_ne 126 dX3_weightOf_114 (by decide) (by first | exact hM.rd _ | exact hM.ri rfl _ _ | exact ⟨by omega, by omega⟩ | assumption | exact bI_in _ | exact inI.mk (by omega) (by omega)) (by first | exact hM.rd _ | exact hM.ri rfl _ _ | exact ⟨by omega, by omega⟩ | assumption | exact bI_in _ | exact inI.mk (by omega) (by omega)) (fun c_114 => ?_) (fun c_114 => ?_)
              · exact absurd c_114 (by omega)
              · refine ww_aload_n 4 dX3_weightOf_117 rfl ?_
                refine ww_iload_n 5 dX3_weightOf_118 rfl ?_
                refine cr_pi (cr_V (ct_X3_rankOf hG hM (by omega) (by omega) _ (by omega) (by omega)) sv_X3_243 rfl dX3_weightOf_119 hM.obj rfl rfl rfl rfl ⟨by decide, by decide⟩ (Nat.le_of_ble_eq_true rfl) (Nat.le_of_ble_eq_true rfl) (Nat.le_of_ble_eq_true rfl)) ?_
                refine ww_i2l dX3_weightOf_122 (inI.mk (by omega) (by omega)) ?_
                refine ww_goto 147 dX3_weightOf_123 (by decide) ?_
                refine mw_lst dX3_weightOf_147 hM rfl (by omega) (by omega) (by first | exact (hM.rd _).L | exact inL.mk (by omega) (by omega)) (fun hh hM => ?_)
                rw [su_sj] at hM
                refine ww_iinc (j := 3) [(2, _), (5, _), (3, _), (4, _), (0, _), (1, _)] dX3_weightOf_148 rfl (by decide) rfl ?_
                refine ww_goto 184 dX3_weightOf_151 (by decide) ?_
                refine ww_iinc (j := 2) [(3, _), (2, _), (5, _), (4, _), (0, _), (1, _)] dX3_weightOf_184 rfl (by decide) rfl ?_
                refine ww_goto 32 dX3_weightOf_187 (by decide) ?_
                refine ww_sub [0, 1, 4, 5] rfl ?_
                exact K _ _ hM (by rw [s2_s]) (fun j hj => s2_n (by omega))
            · exact absurd c_93 (by omega)
          · exact absurd c_82 (by omega)
    · have hc0 : D (198 + i) = 1 := by have := hH 0 1 rfl; simpa using this
      have hc1 : D (198 + (i + 1)) = 2 := by have := hH 1 2 rfl; rw [← this]; congr 1; omega
      have hlen : i + (([1, 2] : List Int).length : Int) = i + 1 + 1 := by show i + (2 : Int) = _; omega
      rw [hlen] at K h5
      refine ww_iload_n 0 dX3_weightOf_32 rfl ?_
      refine ww_aload_n 2 dX3_weightOf_33 rfl ?_
      refine ww_getf gf_X3_17 rfl dX3_weightOf_34 hM.obj rfl ?_
      refine ww_iconst dX3_weightOf_37 ?_
      refine mw_ldD dX3_weightOf_38 hM (by omega) (by omega) ?_
      refine ww_icmp_ge 190 dX3_weightOf_39 (by decide) (by first | exact hM.rd _ | exact hM.ri rfl _ _ | exact ⟨by omega, by omega⟩ | assumption | exact bI_in _ | exact inI.mk (by omega) (by omega)) (by first | exact hM.rd _ | exact hM.ri rfl _ _ | exact ⟨by omega, by omega⟩ | assumption | exact bI_in _ | exact inI.mk (by omega) (by omega)) (fun c_39 => ?_) (fun c_39 => ?_)
      · exact absurd c_39 (by omega)
      · refine ww_aload_n 2 dX3_weightOf_42 rfl ?_
        refine ww_getf gf_X3_17 rfl dX3_weightOf_43 hM.obj rfl ?_
        refine ww_sipush dX3_weightOf_46 (by decide) ?_
        refine ww_iload_n 0 dX3_weightOf_49 rfl ?_
        refine ww_iadd dX3_weightOf_50 ?_
        refine mw_ldD dX3_weightOf_51 hM (by omega) (by omega) ?_
        refine ww_istore [(4, _), (3, _), (2, _), (0, _), (1, _)] dX3_weightOf_52 (by decide) rfl ?_
        refine ww_iload 0 dX3_weightOf_54 rfl ?_
        refine ww_iconst dX3_weightOf_56 ?_
        refine ww_icmp_gt 154 dX3_weightOf_57 (by decide) (by first | exact hM.rd _ | exact hM.ri rfl _ _ | exact ⟨by omega, by omega⟩ | assumption | exact bI_in _ | exact inI.mk (by omega) (by omega)) (by first | exact hM.rd _ | exact hM.ri rfl _ _ | exact ⟨by omega, by omega⟩ | assumption | exact bI_in _ | exact inI.mk (by omega) (by omega)) (fun c_57 => ?_) (fun c_57 => ?_)
        · exact absurd c_57 (by omega)
        · refine ww_iinc (j := 1) [(3, _), (4, _), (2, _), (0, _), (1, _)] dX3_weightOf_60 rfl (by decide) rfl ?_
          refine ww_aload_n 3 dX3_weightOf_63 rfl ?_
          refine ww_getf gf_X3_17 rfl dX3_weightOf_64 hM.obj rfl ?_
          refine ww_sipush dX3_weightOf_67 (by decide) ?_
          refine ww_iload_n 0 dX3_weightOf_70 rfl ?_
          refine ww_iadd dX3_weightOf_71 ?_
          refine mw_ldD dX3_weightOf_72 hM (by omega) (by omega) ?_
          refine ww_istore [(5, _), (3, _), (4, _), (2, _), (0, _), (1, _)] dX3_weightOf_73 (by decide) rfl ?_
          refine ww_aload_n 4 dX3_weightOf_75 rfl ?_
          refine ww_getf gf_X3_35 rfl dX3_weightOf_76 hM.obj rfl ?_
          refine ww_iload_n 3 dX3_weightOf_79 rfl ?_
          refine ww_iload 2 dX3_weightOf_80 rfl ?_
          refine ww_if_ne 91 dX3_weightOf_82 (by decide) (by first | exact hM.rd _ | exact hM.ri rfl _ _ | exact ⟨by omega, by omega⟩ | assumption | exact bI_in _ | exact inI.mk (by omega) (by omega)) (fun c_82 => ?_) (fun c_82 => ?_)
          · refine ww_iload 0 dX3_weightOf_91 rfl ?_
            refine ww_if_ne 111 dX3_weightOf_93 (by decide) (by first | exact hM.rd _ | exact hM.ri rfl _ _ | exact ⟨by omega, by omega⟩ | assumption | exact bI_in _ | exact inI.mk (by omega) (by omega)) (fun c_93 => ?_) (fun c_93 => ?_)
            · refine ww_iload 0 dX3_weightOf_111 rfl ?_
              refine ww_iconst dX3_weightOf_113 ?_
              refine ww_icmp_ne 126 dX3_weightOf_114 (by decide) (by first | exact hM.rd _ | exact hM.ri rfl _ _ | exact ⟨by omega, by omega⟩ | assumption | exact bI_in _ | exact inI.mk (by omega) (by omega)) (by first | exact hM.rd _ | exact hM.ri rfl _ _ | exact ⟨by omega, by omega⟩ | assumption | exact bI_in _ | exact inI.mk (by omega) (by omega)) (fun c_114 => ?_) (fun c_114 => ?_)
              · refine ww_iload 0 dX3_weightOf_126 rfl ?_
                refine ww_iconst dX3_weightOf_128 ?_
                refine ww_icmp_ne 141 dX3_weightOf_129 (by decide) (by first | exact hM.rd _ | exact hM.ri rfl _ _ | exact ⟨by omega, by omega⟩ | assumption | exact bI_in _ | exact inI.mk (by omega) (by omega)) (by first | exact hM.rd _ | exact hM.ri rfl _ _ | exact ⟨by omega, by omega⟩ | assumption | exact bI_in _ | exact inI.mk (by omega) (by omega)) (fun c_129 => ?_) (fun c_129 => ?_)
                · exact absurd c_129 (by omega)
                · refine ww_aload_n 4 dX3_weightOf_132 rfl ?_
                  refine ww_iload_n 5 dX3_weightOf_133 rfl ?_
                  refine cr_pi (cr_V (ct_X3_offersOf hG hM (by omega) (by omega) _ (by omega) (by omega)) sv_X3_246 rfl dX3_weightOf_134 hM.obj rfl rfl rfl rfl ⟨by decide, by decide⟩ (Nat.le_of_ble_eq_true rfl) (Nat.le_of_ble_eq_true rfl) (Nat.le_of_ble_eq_true rfl)) ?_
                  refine ww_i2l dX3_weightOf_137 (inI.mk (by omega) (by omega)) ?_
                  refine ww_goto 147 dX3_weightOf_138 (by decide) ?_
                  refine mw_lst dX3_weightOf_147 hM rfl (by omega) (by omega) (by first | exact (hM.rd _).L | exact inL.mk (by omega) (by omega)) (fun hh hM => ?_)
                  rw [su_sj] at hM
                  refine ww_iinc (j := 3) [(2, _), (5, _), (3, _), (4, _), (0, _), (1, _)] dX3_weightOf_148 rfl (by decide) rfl ?_
                  refine ww_goto 184 dX3_weightOf_151 (by decide) ?_
                  refine ww_iinc (j := 2) [(3, _), (2, _), (5, _), (4, _), (0, _), (1, _)] dX3_weightOf_184 rfl (by decide) rfl ?_
                  refine ww_goto 32 dX3_weightOf_187 (by decide) ?_
                  refine ww_sub [0, 1, 4, 5] rfl ?_
                  exact K _ _ hM (by rw [s2_s]) (fun j hj => s2_n (by omega))
              · exact absurd c_114 (by omega)
            · exact absurd c_93 (by omega)
          · exact absurd c_82 (by omega)
    · have hc0 : D (198 + i) = 1 := by have := hH 0 1 rfl; simpa using this
      have hc1 : D (198 + (i + 1)) = 3 := by have := hH 1 3 rfl; rw [← this]; congr 1; omega
      have hlen : i + (([1, 3] : List Int).length : Int) = i + 1 + 1 := by show i + (2 : Int) = _; omega
      rw [hlen] at K h5
      refine ww_iload_n 0 dX3_weightOf_32 rfl ?_
      refine ww_aload_n 2 dX3_weightOf_33 rfl ?_
      refine ww_getf gf_X3_17 rfl dX3_weightOf_34 hM.obj rfl ?_
      refine ww_iconst dX3_weightOf_37 ?_
      refine mw_ldD dX3_weightOf_38 hM (by omega) (by omega) ?_
      refine ww_icmp_ge 190 dX3_weightOf_39 (by decide) (by first | exact hM.rd _ | exact hM.ri rfl _ _ | exact ⟨by omega, by omega⟩ | assumption | exact bI_in _ | exact inI.mk (by omega) (by omega)) (by first | exact hM.rd _ | exact hM.ri rfl _ _ | exact ⟨by omega, by omega⟩ | assumption | exact bI_in _ | exact inI.mk (by omega) (by omega)) (fun c_39 => ?_) (fun c_39 => ?_)
      · exact absurd c_39 (by omega)
      · refine ww_aload_n 2 dX3_weightOf_42 rfl ?_
        refine ww_getf gf_X3_17 rfl dX3_weightOf_43 hM.obj rfl ?_
        refine ww_sipush dX3_weightOf_46 (by decide) ?_
        refine ww_iload_n 0 dX3_weightOf_49 rfl ?_
        refine ww_iadd dX3_weightOf_50 ?_
        refine mw_ldD dX3_weightOf_51 hM (by omega) (by omega) ?_
        refine ww_istore [(4, _), (3, _), (2, _), (0, _), (1, _)] dX3_weightOf_52 (by decide) rfl ?_
        refine ww_iload 0 dX3_weightOf_54 rfl ?_
        refine ww_iconst dX3_weightOf_56 ?_
        refine ww_icmp_gt 154 dX3_weightOf_57 (by decide) (by first | exact hM.rd _ | exact hM.ri rfl _ _ | exact ⟨by omega, by omega⟩ | assumption | exact bI_in _ | exact inI.mk (by omega) (by omega)) (by first | exact hM.rd _ | exact hM.ri rfl _ _ | exact ⟨by omega, by omega⟩ | assumption | exact bI_in _ | exact inI.mk (by omega) (by omega)) (fun c_57 => ?_) (fun c_57 => ?_)
        · exact absurd c_57 (by omega)
        · refine ww_iinc (j := 1) [(3, _), (4, _), (2, _), (0, _), (1, _)] dX3_weightOf_60 rfl (by decide) rfl ?_
          refine ww_aload_n 3 dX3_weightOf_63 rfl ?_
          refine ww_getf gf_X3_17 rfl dX3_weightOf_64 hM.obj rfl ?_
          refine ww_sipush dX3_weightOf_67 (by decide) ?_
          refine ww_iload_n 0 dX3_weightOf_70 rfl ?_
          refine ww_iadd dX3_weightOf_71 ?_
          refine mw_ldD dX3_weightOf_72 hM (by omega) (by omega) ?_
          refine ww_istore [(5, _), (3, _), (4, _), (2, _), (0, _), (1, _)] dX3_weightOf_73 (by decide) rfl ?_
          refine ww_aload_n 4 dX3_weightOf_75 rfl ?_
          refine ww_getf gf_X3_35 rfl dX3_weightOf_76 hM.obj rfl ?_
          refine ww_iload_n 3 dX3_weightOf_79 rfl ?_
          refine ww_iload 2 dX3_weightOf_80 rfl ?_
          refine ww_if_ne 91 dX3_weightOf_82 (by decide) (by first | exact hM.rd _ | exact hM.ri rfl _ _ | exact ⟨by omega, by omega⟩ | assumption | exact bI_in _ | exact inI.mk (by omega) (by omega)) (fun c_82 => ?_) (fun c_82 => ?_)
          · refine ww_iload 0 dX3_weightOf_91 rfl ?_
            refine ww_if_ne 111 dX3_weightOf_93 (by decide) (by first | exact hM.rd _ | exact hM.ri rfl _ _ | exact ⟨by omega, by omega⟩ | assumption | exact bI_in _ | exact inI.mk (by omega) (by omega)) (fun c_93 => ?_) (fun c_93 => ?_)
            · refine ww_iload 0 dX3_weightOf_111 rfl ?_
              refine ww_iconst dX3_weightOf_113 ?_
              refine ww_icmp_ne 126 dX3_weightOf_114 (by decide) (by first | exact hM.rd _ | exact hM.ri rfl _ _ | exact ⟨by omega, by omega⟩ | assumption | exact bI_in _ | exact inI.mk (by omega) (by omega)) (by first | exact hM.rd _ | exact hM.ri rfl _ _ | exact ⟨by omega, by omega⟩ | assumption | exact bI_in _ | exact inI.mk (by omega) (by omega)) (fun c_114 => ?_) (fun c_114 => ?_)
              · refine ww_iload 0 dX3_weightOf_126 rfl ?_
                refine ww_iconst dX3_weightOf_128 ?_
                refine ww_icmp_ne 141 dX3_weightOf_129 (by decide) (by first | exact hM.rd _ | exact hM.ri rfl _ _ | exact ⟨by omega, by omega⟩ | assumption | exact bI_in _ | exact inI.mk (by omega) (by omega)) (by first | exact hM.rd _ | exact hM.ri rfl _ _ | exact ⟨by omega, by omega⟩ | assumption | exact bI_in _ | exact inI.mk (by omega) (by omega)) (fun c_129 => ?_) (fun c_129 => ?_)
                · refine ww_aload_n 4 dX3_weightOf_141 rfl ?_
                  refine ww_iload_n 5 dX3_weightOf_142 rfl ?_
                  refine cr_pi (cr_V (ct_X3_friendsOf hG hM (by omega) (by omega) hpf _ (by omega) (by omega)) sv_X3_249 rfl dX3_weightOf_143 hM.obj rfl rfl rfl rfl ⟨by decide, by decide⟩ (Nat.le_of_ble_eq_true rfl) (Nat.le_of_ble_eq_true rfl) (Nat.le_of_ble_eq_true rfl)) ?_
                  refine ww_i2l dX3_weightOf_146 (inI.mk (by omega) (by omega)) ?_
                  refine mw_lst dX3_weightOf_147 hM rfl (by omega) (by omega) (by first | exact (hM.rd _).L | exact inL.mk (by omega) (by omega)) (fun hh hM => ?_)
                  rw [su_sj] at hM
                  refine ww_iinc (j := 3) [(2, _), (5, _), (3, _), (4, _), (0, _), (1, _)] dX3_weightOf_148 rfl (by decide) rfl ?_
                  refine ww_goto 184 dX3_weightOf_151 (by decide) ?_
                  refine ww_iinc (j := 2) [(3, _), (2, _), (5, _), (4, _), (0, _), (1, _)] dX3_weightOf_184 rfl (by decide) rfl ?_
                  refine ww_goto 32 dX3_weightOf_187 (by decide) ?_
                  refine ww_sub [0, 1, 4, 5] rfl ?_
                  exact K _ _ hM (by rw [s2_s]) (fun j hj => s2_n (by omega))
                · exact absurd c_129 (by omega)
              · exact absurd c_114 (by omega)
            · exact absurd c_93 (by omega)
          · exact absurd c_82 (by omega)
    · have hl := Cd_len d c1 f1 g1
      have hl2x := Cd_len d c2 f2 g2
      have hlen : ((c1 ++ (c2 ++ [op])).length : Int) = c1.length + c2.length + 1 := by simp only [List.length_append, List.length_cons, List.length_nil]; omega
      rw [hlen] at h5
      have b1 := Cd_bd d c1 f1 g1 (D (6 + 24 * k)) (dRk (D) k) (dNo (D) k) (dFr (D) k) ⟨by omega, by omega⟩ ⟨by omega, by omega⟩ ⟨by omega, by omega⟩ ⟨by omega, by omega⟩
      have b2 := Cd_bd d c2 f2 g2 (D (6 + 24 * k)) (dRk (D) k) (dNo (D) k) (dFr (D) k) ⟨by omega, by omega⟩ ⟨by omega, by omega⟩ ⟨by omega, by omega⟩ ⟨by omega, by omega⟩
      refine ih c1 f1 g1 i t S h hM h3 h4 (by omega) h6 hH.l (fun S1 h hM e1 k1 => ?_)
      refine ih c2 f2 g2 (i + c1.length) (t + 1) S1 h hM (by omega) (by omega) (by omega) h6 hH.r.l (fun S2 h hM e2 k2 => ?_)
      have hc0 : D (198 + (i + c1.length + c2.length)) = op := by have := hH.r.r 0 op rfl; simpa using this
      have e1t : S2 0 t = _ := (k2 t (by omega)).trans e1
      have ot := opr_bd (op := op) (b := f2 (D (6 + 24 * k)) (dRk (D) k) (dNo (D) k) (dFr (D) k)) b1.1 b1.2
      have ec : D (198 + (i + c1.length + c2.length)) = op := hc0
      have ht3 : t + 1 + 1 + -1 - 1 = t := by omega
      have ht4 : t + 1 + 1 + -1 = t + 1 := by omega
      have hs1 : sml (sj σ 18 S2 18 0 (t + 1 + 1 + -1 - 1)) := by rw [ht3]; show sml (S2 0 t); rw [e1t]; exact b1
      have hs2 : sml (sj σ 18 S2 18 0 (t + 1 + 1 + -1)) := by rw [ht4]; show sml (S2 0 (t + 1)); rw [e2]; exact b2
      have hov : opr (D (198 + (i + c1.length + c2.length))) (sj σ 18 S2 18 0 (t + 1 + 1 + -1 - 1)) (sj σ 18 S2 18 0 (t + 1 + 1 + -1)) = opr op (f1 (D (6 + 24 * k)) (dRk (D) k) (dNo (D) k) (dFr (D) k)) (f2 (D (6 + 24 * k)) (dRk (D) k) (dNo (D) k) (dFr (D) k)) := by
        rw [ht3, ht4]; show opr (D _) (S2 0 t) (S2 0 (t + 1)) = _; rw [hc0, e1t, e2]
      rw [show i + ((c1 ++ (c2 ++ [op])).length : Int) = i + c1.length + c2.length + 1 by omega] at K
      refine ww_iload_n 0 dX3_weightOf_32 rfl ?_
      refine ww_aload_n 2 dX3_weightOf_33 rfl ?_
      refine ww_getf gf_X3_17 rfl dX3_weightOf_34 hM.obj rfl ?_
      refine ww_iconst dX3_weightOf_37 ?_
      refine mw_ldD dX3_weightOf_38 hM (by omega) (by omega) ?_
      refine ww_icmp_ge 190 dX3_weightOf_39 (by decide) (by first | exact hM.rd _ | exact hM.ri rfl _ _ | exact ⟨by omega, by omega⟩ | assumption | exact bI_in _ | exact inI.mk (by omega) (by omega)) (by first | exact hM.rd _ | exact hM.ri rfl _ _ | exact ⟨by omega, by omega⟩ | assumption | exact bI_in _ | exact inI.mk (by omega) (by omega)) (fun c_39 => ?_) (fun c_39 => ?_)
      · exact absurd c_39 (by omega)
      · refine ww_aload_n 2 dX3_weightOf_42 rfl ?_
        refine ww_getf gf_X3_17 rfl dX3_weightOf_43 hM.obj rfl ?_
        refine ww_sipush dX3_weightOf_46 (by decide) ?_
        refine ww_iload_n 0 dX3_weightOf_49 rfl ?_
        refine ww_iadd dX3_weightOf_50 ?_
        refine mw_ldD dX3_weightOf_51 hM (by omega) (by omega) ?_
        refine ww_istore [(4, _), (3, _), (2, _), (0, _), (1, _)] dX3_weightOf_52 (by decide) rfl ?_
        refine ww_iload 0 dX3_weightOf_54 rfl ?_
        refine ww_iconst dX3_weightOf_56 ?_
        refine ww_icmp_gt 154 dX3_weightOf_57 (by decide) (by first | exact hM.rd _ | exact hM.ri rfl _ _ | exact ⟨by omega, by omega⟩ | assumption | exact bI_in _ | exact inI.mk (by omega) (by omega)) (by first | exact hM.rd _ | exact hM.ri rfl _ _ | exact ⟨by omega, by omega⟩ | assumption | exact bI_in _ | exact inI.mk (by omega) (by omega)) (fun c_57 => ?_) (fun c_57 => ?_)
        · refine ww_iinc (j := 2) [(2, _), (4, _), (3, _), (0, _), (1, _)] dX3_weightOf_154 rfl (by decide) rfl ?_
          refine ww_aload_n 3 dX3_weightOf_157 rfl ?_
          refine ww_getf gf_X3_35 rfl dX3_weightOf_158 hM.obj rfl ?_
          refine ww_iload_n 0 dX3_weightOf_161 rfl ?_
          refine ww_iconst dX3_weightOf_162 ?_
          refine ww_isub dX3_weightOf_163 ?_
          refine ww_iload 1 dX3_weightOf_164 rfl ?_
          refine ww_aload_n 3 dX3_weightOf_166 rfl ?_
          refine ww_getf gf_X3_35 rfl dX3_weightOf_167 hM.obj rfl ?_
          refine ww_iload_n 0 dX3_weightOf_170 rfl ?_
          refine ww_iconst dX3_weightOf_171 ?_
          refine ww_isub dX3_weightOf_172 ?_
          refine mw_lld dX3_weightOf_173 hM rfl (by omega) (by omega) ?_
          refine ww_aload_n 3 dX3_weightOf_174 rfl ?_
          refine ww_getf gf_X3_35 rfl dX3_weightOf_175 hM.obj rfl ?_
          refine ww_iload_n 0 dX3_weightOf_178 rfl ?_
          refine mw_lld dX3_weightOf_179 hM rfl (by omega) (by omega) ?_
          refine cr_pl (cr_S (ct_X3_operate hG _ _ _ (hM.rd _) hs1 hs2) ss_X3_252 rfl dX3_weightOf_180 rfl rfl ⟨by decide, by decide⟩ (Nat.le_of_ble_eq_true rfl) (Nat.le_of_ble_eq_true rfl) (Nat.le_of_ble_eq_true rfl)) ?_
          refine mw_lst dX3_weightOf_183 hM rfl (by omega) (by omega) (inL.mk (by omega) (by omega)) (fun hh hM => ?_)
          rw [su_sj] at hM
          refine ww_iinc (j := 2) [(3, _), (2, _), (4, _), (0, _), (1, _)] dX3_weightOf_184 rfl (by decide) rfl ?_
          refine ww_goto 32 dX3_weightOf_187 (by decide) ?_
          refine ww_sub [0, 1, 3, 4] rfl ?_
          rw [ht3] at hM hov; rw [ht4]; exact K _ _ hM (by rw [s2_s]; exact hov) (fun j hj => by rw [s2_n (by omega), k2 j (by omega), k1 j hj])
        · exact absurd c_57 (by omega)

set_option maxHeartbeats 4000000 in
theorem ct_X3_weightOf {G : GT} {h0 h : AH} {m : Nat} {A : Nat → Nat} {B : Nat → Int → Nat} {D : Int → Int} {σ : MS} (hG : GOK G) (hM : MWF G h0 h m A B D σ) (hl1 : 0 ≤ D 1) (hl2 : D 1 ≤ 8) (hn1 : 0 ≤ D 2) (hn2 : D 2 ≤ 12) (hpf : ∀ k : Int, 0 ≤ k → k < 8 → D (6 + 24 * k + 3) ≤ 8) (k : Int) (h1 : 0 ≤ k) (h2 : k < 8) (ht1 : 0 ≤ D (6 + 24 * k)) (ht2 : D (6 + 24 * k) ≤ 1000000) {fn : EF} (hw : WtOK (D) fn) : CSi G (MX3_weightOf 3 67 0 0) h m A B D [.ref m, .int (iI k)] (fun r σ' => (∀ j, j ≠ 18 → σ' j = σ j) ∧ r = dWt (D) fn k) := by
  refine CT.of rfl hG (Nat.le_of_ble_eq_true rfl) rfl (fun E hQ => ?_)
  have hM := hM.1.f
  have br := dRk_bd (k := k) hl1 hl2
  have bn := dNo_bd (k := k) hn1 hn2
  have bf := dFr_bd (k := k) hl1 hl2
  refine ww_aload_n 0 dX3_weightOf_0 rfl ?_
  refine ww_iload_n 1 dX3_weightOf_1 rfl ?_
  refine cr_pi (cr_V (ct_X3_isLoaded hG hM _ (by omega) (by omega)) sv_X3_232 rfl dX3_weightOf_2 hM.obj rfl rfl rfl rfl ⟨by decide, by decide⟩ (Nat.le_of_ble_eq_true rfl) (Nat.le_of_ble_eq_true rfl) (Nat.le_of_ble_eq_true rfl)) ?_
  refine ww_ifb_ne 10 dX3_weightOf_5 (by decide) (fun c_5 => ?_) (fun c_5 => ?_)
  · refine ww_iconst dX3_weightOf_10 ?_
    refine ww_istore_n [(2, _), (0, _), (1, _)] dX3_weightOf_11 (by decide) rfl ?_
    refine ww_aload_n 1 dX3_weightOf_12 rfl ?_
    refine ww_getf gf_X3_35 rfl dX3_weightOf_13 hM.obj rfl ?_
    refine ww_iconst dX3_weightOf_16 ?_
    refine ww_aload_n 1 dX3_weightOf_17 rfl ?_
    refine ww_getf gf_X3_17 rfl dX3_weightOf_18 hM.obj rfl ?_
    refine ww_iload_n 2 dX3_weightOf_21 rfl ?_
    refine cr_pi (cr_S (ct_X3_at hG _) ss_X3_174 rfl dX3_weightOf_22 rfl rfl ⟨by decide, by decide⟩ (Nat.le_of_ble_eq_true rfl) (Nat.le_of_ble_eq_true rfl) (Nat.le_of_ble_eq_true rfl)) ?_
    refine ww_iconst dX3_weightOf_25 ?_
    refine ww_iadd dX3_weightOf_26 ?_
    refine mw_ldD dX3_weightOf_27 hM (by omega) (by omega) ?_
    refine ww_i2l dX3_weightOf_28 (by first | exact hM.rd _ | exact hM.ri rfl _ _ | exact ⟨by omega, by omega⟩ | assumption | exact bI_in _ | exact inI.mk (by omega) (by omega)) ?_
    refine mw_lst dX3_weightOf_29 hM rfl (by omega) (by omega) (by first | exact (hM.rd _).L | exact inL.mk (by omega) (by omega)) (fun hh hM => ?_)
    refine ww_iconst dX3_weightOf_30 ?_
    refine ww_istore_n [(3, _), (2, _), (0, _), (1, _)] dX3_weightOf_31 (by decide) rfl ?_
    rw [su_sj'] at hM
    have key : ∀ (i t : Int) (S : Int → Int → Int) (h' : AH), 0 ≤ i → i ≤ 1300 → i = D 5 → D (6 + 24 * k + 2) > 0 → MWF G h h' m A B D (sj σ 18 S) → sml (S 0 0) → clw (S 0 0) = dWt (D) fn k → WW G E (MX3_weightOf 3 67 0 0) h' 0 0 32 [(3, .int (iI (i))), (2, .int (iI (t))), (0, .ref m), (1, .int (iI k))] [] := by
      intro i t S hx hi0 hi1 hi hld hM hsm hfin0
      have e18 : sj σ 18 S 18 0 0 = S 0 0 := rfl
      have hS0 : S 0 0 = S 0 0 := rfl
      have hs1 := hsm.1
      have hs2 := hsm.2
      have hfin : ∀ z, S 0 0 = S 0 0 → z = clw (S 0 0) → z = dWt (D) fn k := fun z _ e => e.trans hfin0
      refine ww_iload_n 0 dX3_weightOf_32 rfl ?_
      refine ww_aload_n 2 dX3_weightOf_33 rfl ?_
      refine ww_getf gf_X3_17 rfl dX3_weightOf_34 hM.obj rfl ?_
      refine ww_iconst dX3_weightOf_37 ?_
      refine mw_ldD dX3_weightOf_38 hM (by omega) (by omega) ?_
      refine ww_icmp_ge 190 dX3_weightOf_39 (by decide) (by first | exact hM.rd _ | exact hM.ri rfl _ _ | exact ⟨by omega, by omega⟩ | assumption | exact bI_in _ | exact inI.mk (by omega) (by omega)) (by first | exact hM.rd _ | exact hM.ri rfl _ _ | exact ⟨by omega, by omega⟩ | assumption | exact bI_in _ | exact inI.mk (by omega) (by omega)) (fun c_39 => ?_) (fun c_39 => ?_)
      · refine ww_aload_n 2 dX3_weightOf_190 rfl ?_
        refine ww_getf gf_X3_35 rfl dX3_weightOf_191 hM.obj rfl ?_
        refine ww_iconst dX3_weightOf_194 ?_
        refine mw_lld dX3_weightOf_195 hM rfl (by omega) (by omega) ?_
        refine ww_lconst 0 dX3_weightOf_196 rfl ?_
        refine ww_lif_ge 205 dX3_weightOf_197 dX3_weightOf_198 (by decide) (by first | exact hM.rl _ _ _ | exact inL.mk (by omega) (by omega) | assumption) (by first | exact hM.rl _ _ _ | exact inL.mk (by omega) (by omega) | assumption) (fun c_197 => ?_) (fun c_197 => ?_)
        · refine ww_aload_n 2 dX3_weightOf_205 rfl ?_
          refine ww_getf gf_X3_35 rfl dX3_weightOf_206 hM.obj rfl ?_
          refine ww_iconst dX3_weightOf_209 ?_
          refine mw_lld dX3_weightOf_210 hM rfl (by omega) (by omega) ?_
          refine ww_ldc2 q2321 dX3_weightOf_211 (z := 9999) rfl ?_
          refine ww_lif_le 224 dX3_weightOf_214 dX3_weightOf_215 (by decide) (by first | exact hM.rl _ _ _ | exact inL.mk (by omega) (by omega) | assumption) (by first | exact hM.rl _ _ _ | exact inL.mk (by omega) (by omega) | assumption) (fun c_214 => ?_) (fun c_214 => ?_)
          · refine ww_aload_n 2 dX3_weightOf_224 rfl ?_
            refine ww_getf gf_X3_35 rfl dX3_weightOf_225 hM.obj rfl ?_
            refine ww_iconst dX3_weightOf_228 ?_
            refine mw_lld dX3_weightOf_229 hM rfl (by omega) (by omega) ?_
            refine ww_l2i dX3_weightOf_230 ?_
            exact ww_iret hQ dX3_weightOf_231 rfl (Nat.le_of_ble_eq_true rfl) (Nat.le_of_ble_eq_true rfl) ⟨_, rfl, _, hM, fun j hj => by unfold sj; rw [if_neg hj], hfin _ hS0 (by unfold clw; first | rw [if_pos (by omega)] | rw [if_neg (by omega), if_pos (by omega)] | (rw [if_neg (by omega), if_neg (by omega)]; exact e18))⟩
          · refine ww_sipush dX3_weightOf_218 (by decide) ?_
            refine ww_goto 231 dX3_weightOf_221 (by decide) ?_
            exact ww_iret hQ dX3_weightOf_231 rfl (Nat.le_of_ble_eq_true rfl) (Nat.le_of_ble_eq_true rfl) ⟨_, rfl, _, hM, fun j hj => by unfold sj; rw [if_neg hj], hfin _ hS0 (by unfold clw; first | rw [if_pos (by omega)] | rw [if_neg (by omega), if_pos (by omega)] | (rw [if_neg (by omega), if_neg (by omega)]; exact e18))⟩
        · refine ww_iconst dX3_weightOf_201 ?_
          refine ww_goto 231 dX3_weightOf_202 (by decide) ?_
          exact ww_iret hQ dX3_weightOf_231 rfl (Nat.le_of_ble_eq_true rfl) (Nat.le_of_ble_eq_true rfl) ⟨_, rfl, _, hM, fun j hj => by unfold sj; rw [if_neg hj], hfin _ hS0 (by unfold clw; first | rw [if_pos (by omega)] | rw [if_neg (by omega), if_pos (by omega)] | (rw [if_neg (by omega), if_neg (by omega)]; exact e18))⟩
      · exact absurd c_39 (by omega)
    have hld : D (6 + 24 * k + 2) > 0 := by omega
    rcases hw with ⟨h5, rfl⟩ | ⟨d, cs, hcd, h5, h6, hH⟩
    · refine ww_sub [0, 1, 2, 3] rfl ?_
      refine key 0 0 _ _ (by omega) (by omega) h5.symm hld hM (by rw [s2_s]; exact ⟨by show -1000000 ≤ D (6 + 24 * k + 0); rw [Int.add_zero]; omega, by show D (6 + 24 * k + 0) ≤ 1000000; rw [Int.add_zero]; omega⟩) (by rw [s2_s]; unfold dWt; rw [if_pos hld]; show clw (D (6 + 24 * k + 0)) = _; rw [Int.add_zero])
    · refine ww_sub [0, 1, 2, 3] rfl ?_
      have hb := Cd_bd d cs fn hcd (D (6 + 24 * k)) (dRk (D) k) (dNo (D) k) (dFr (D) k) ⟨by omega, by omega⟩ ⟨by omega, by omega⟩ ⟨by omega, by omega⟩ ⟨by omega, by omega⟩
      refine wt_run hG hl1 hl2 hn1 hn2 hpf k h1 h2 ht1 ht2 d cs fn hcd 0 0 _ _ hM (by omega) (by omega) (by omega) h6 hH (fun S1 h' hM' e1 _ => ?_)
      rw [Int.zero_add, Int.zero_add]
      exact key _ _ S1 h' (by omega) (by omega) h5.symm hld hM' (by rw [e1]; exact hb) (by rw [e1]; unfold dWt; rw [if_pos hld])
  · refine ww_iconst dX3_weightOf_8 ?_
    exact ww_iret hQ dX3_weightOf_9 rfl (Nat.le_of_ble_eq_true rfl) (Nat.le_of_ble_eq_true rfl) ⟨_, rfl, _, hM, fun j _ => rfl, by unfold dWt; rw [if_neg (by omega)]⟩
