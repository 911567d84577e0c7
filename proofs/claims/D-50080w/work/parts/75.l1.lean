set_option maxRecDepth 100000
set_option maxHeartbeats 4000000 in
theorem ct_X1_lambda_variable_1 {G : GT} {h : AH} (hG : GOK G) {t r o f : Int} (ht : sml t) (hr : sml r) (ho : sml o) (hf : sml f) : CPl G (MX1_lambda_variable_1 0 0 0 0) h (lxs t r o f) (fvar 1 t r o f) := by
  refine CT.of rfl hG (Nat.le_of_ble_eq_true rfl) rfl (fun E hQ => ?_)
  refine ww_iload_n 0 dX1_lambda_variable_1_0 rfl ?_
  refine ww_i2l dX1_lambda_variable_1_1 (inI.mk (by have := ht.1; omega) (by have := ht.2; omega)) ?_
  exact ww_lret hQ dX1_lambda_variable_1_2 rfl (Nat.le_of_ble_eq_true rfl) (Nat.le_of_ble_eq_true rfl) ⟨_, rfl, rfl, rfl⟩

set_option maxHeartbeats 4000000 in
theorem ct_X1_lambda_variable_2 {G : GT} {h : AH} (hG : GOK G) {t r o f : Int} (ht : sml t) (hr : sml r) (ho : sml o) (hf : sml f) : CPl G (MX1_lambda_variable_2 0 0 0 0) h (lxs t r o f) (fvar 2 t r o f) := by
  refine CT.of rfl hG (Nat.le_of_ble_eq_true rfl) rfl (fun E hQ => ?_)
  refine ww_iload_n 1 dX1_lambda_variable_2_0 rfl ?_
  refine ww_i2l dX1_lambda_variable_2_1 (inI.mk (by have := hr.1; omega) (by have := hr.2; omega)) ?_
  exact ww_lret hQ dX1_lambda_variable_2_2 rfl (Nat.le_of_ble_eq_true rfl) (Nat.le_of_ble_eq_true rfl) ⟨_, rfl, rfl, rfl⟩

set_option maxHeartbeats 4000000 in
theorem ct_X1_lambda_variable_3 {G : GT} {h : AH} (hG : GOK G) {t r o f : Int} (ht : sml t) (hr : sml r) (ho : sml o) (hf : sml f) : CPl G (MX1_lambda_variable_3 0 0 0 0) h (lxs t r o f) (fvar 3 t r o f) := by
  refine CT.of rfl hG (Nat.le_of_ble_eq_true rfl) rfl (fun E hQ => ?_)
  refine ww_iload_n 2 dX1_lambda_variable_3_0 rfl ?_
  refine ww_i2l dX1_lambda_variable_3_1 (inI.mk (by have := ho.1; omega) (by have := ho.2; omega)) ?_
  exact ww_lret hQ dX1_lambda_variable_3_2 rfl (Nat.le_of_ble_eq_true rfl) (Nat.le_of_ble_eq_true rfl) ⟨_, rfl, rfl, rfl⟩

set_option maxHeartbeats 4000000 in
theorem ct_X1_lambda_variable_4 {G : GT} {h : AH} (hG : GOK G) {t r o f : Int} (ht : sml t) (hr : sml r) (ho : sml o) (hf : sml f) : CPl G (MX1_lambda_variable_4 0 0 0 0) h (lxs t r o f) (fvar 4 t r o f) := by
  refine CT.of rfl hG (Nat.le_of_ble_eq_true rfl) rfl (fun E hQ => ?_)
  refine ww_iload_n 3 dX1_lambda_variable_4_0 rfl ?_
  refine ww_i2l dX1_lambda_variable_4_1 (inI.mk (by have := hf.1; omega) (by have := hf.2; omega)) ?_
  exact ww_lret hQ dX1_lambda_variable_4_2 rfl (Nat.le_of_ble_eq_true rfl) (Nat.le_of_ble_eq_true rfl) ⟨_, rfl, rfl, rfl⟩

set_option maxHeartbeats 4000000 in
theorem ct_X4_lambda_factor_0 {G : GT} {h : AH} (hG : GOK G) {v t r o f : Int} : CPl G (MX4_lambda_factor_0 0 0 0 0) h ([.long (lI v)] ++ lxs t r o f) (v) := by
  refine CT.of rfl hG (Nat.le_of_ble_eq_true rfl) rfl (fun E hQ => ?_)
  refine ww_lload_n 0 dX4_lambda_factor_0_0 rfl ?_
  exact ww_lret hQ dX4_lambda_factor_0_1 rfl (Nat.le_of_ble_eq_true rfl) (Nat.le_of_ble_eq_true rfl) ⟨_, rfl, rfl, rfl⟩

set_option maxHeartbeats 4000000 in
theorem ct_X1_lambda_operation_0 {G : GT} {h : AH} (hG : GOK G) {l r9 d : Nat} {f1 f2 : EF} {op t r o f : Int} (h2 : 2 ≤ op) (h5 : op ≤ 5) (c1 : CWt G h d l f1) (c2 : CWt G h d r9 f2) (b1 : ∀ t r o f : Int, sml t → sml r → sml o → sml f → sml (f1 t r o f)) (b2 : ∀ t r o f : Int, sml t → sml r → sml o → sml f → sml (f2 t r o f)) (ht : sml t) (hr : sml r) (ho : sml o) (hf : sml f) : CPl G (MX1_lambda_operation_0 (2 * d + 2) (64 * d + 24) 0 0) h ([.ref l, .ref r9, .int (iI (sgn op))] ++ lxs t r o f) (opr op (f1 t r o f) (f2 t r o f)) := by
  refine CT.of rfl hG (Nat.le_of_ble_eq_true rfl) rfl (fun E hQ => ?_)
  refine ww_aload_n 0 dX1_lambda_operation_0_0 rfl ?_
  refine ww_iload_n 3 dX1_lambda_operation_0_1 rfl ?_
  refine ww_iload 4 dX1_lambda_operation_0_2 rfl ?_
  refine ww_iload 5 dX1_lambda_operation_0_4 rfl ?_
  refine ww_iload 6 dX1_lambda_operation_0_6 rfl ?_
  refine ww_of c1 ht hr ho hf swo_1 rfl dX1_lambda_operation_0_8 rfl (by show 2 * d + 2 ≤ 2 * d + 2; omega) (by show 64 * d + 24 ≤ 64 * d + 24; omega) (Nat.le_of_ble_eq_true rfl) (Nat.le_of_ble_eq_true rfl) (Nat.le_of_ble_eq_true rfl) ?_
  refine ww_lstore [(7, _), (0, _), (1, _), (2, _), (3, _), (4, _), (5, _), (6, _)] dX1_lambda_operation_0_13 (Nat.le_of_ble_eq_true rfl) rfl ?_
  refine ww_aload_n 2 dX1_lambda_operation_0_15 rfl ?_
  refine ww_iload_n 4 dX1_lambda_operation_0_16 rfl ?_
  refine ww_iload 5 dX1_lambda_operation_0_17 rfl ?_
  refine ww_iload 6 dX1_lambda_operation_0_19 rfl ?_
  refine ww_iload 7 dX1_lambda_operation_0_21 rfl ?_
  refine ww_of c2 ht hr ho hf swo_1 rfl dX1_lambda_operation_0_23 rfl (by show 2 * d + 2 ≤ 2 * d + 2; omega) (by show 64 * d + 24 ≤ 64 * d + 24; omega) (Nat.le_of_ble_eq_true rfl) (Nat.le_of_ble_eq_true rfl) (Nat.le_of_ble_eq_true rfl) ?_
  refine ww_lstore [(9, _), (7, _), (0, _), (1, _), (2, _), (3, _), (4, _), (5, _), (6, _)] dX1_lambda_operation_0_28 (Nat.le_of_ble_eq_true rfl) rfl ?_
  have sa := b1 t r o f ht hr ho hf
  have sb := b2 t r o f ht hr ho hf
  generalize f1 t r o f = a at *
  generalize f2 t r o f = b at *
  have ha1 := sa.1
  have ha2 := sa.2
  have hb1 := sb.1
  have hb2 := sb.2
  have hsg := sgn_op h2 h5
  have hsi := sgn_in op
  have join_88 : ∀ (z : Int), (inL z) → (clm z = opr op a b) → WW G E (MX1_lambda_operation_0 (2 * d + 2) (64 * d + 24) 0 0) h 0 0 88 [(2, .int (iI (sgn op)))] [.long (lI z)] := by
    intro z hz hz2
    refine ww_lstore [(11, _), (2, _)] dX1_lambda_operation_0_88 (Nat.le_of_ble_eq_true rfl) rfl ?_
    refine ww_ldc2 q1713 dX1_lambda_operation_0_90 (z := (-1000000)) rfl ?_
    refine ww_ldc2 q1714 dX1_lambda_operation_0_93 (z := 1000000) rfl ?_
    refine ww_lload 0 dX1_lambda_operation_0_96 rfl ?_
    refine ww_mminl q1715 rfl dX1_lambda_operation_0_98 (inL.mk (by omega) (by omega)) hz (by show 1 ≤ 2 * d + 2; omega) (by show 2 + 15 ≤ 64 * d + 24; omega) (Nat.le_of_ble_eq_true rfl) (Nat.le_of_ble_eq_true rfl) ?_
    refine ww_mmaxl q1716 rfl dX1_lambda_operation_0_101 (inL.mk (by omega) (by omega)) (inL.mk (by have := hz.1; omega) (by omega)) (by show 1 ≤ 2 * d + 2; omega) (by show 0 + 15 ≤ 64 * d + 24; omega) (Nat.le_of_ble_eq_true rfl) (Nat.le_of_ble_eq_true rfl) ?_
    exact ww_lret hQ dX1_lambda_operation_0_104 rfl (Nat.le_of_ble_eq_true rfl) (Nat.le_of_ble_eq_true rfl) ⟨_, rfl, by rw [clm_mm]; exact hz2, rfl⟩
  refine ww_iload_n 4 dX1_lambda_operation_0_30 rfl ?_
  refine ww_bipush dX1_lambda_operation_0_31 (by decide) ?_
  refine ww_icmp_ne 44 dX1_lambda_operation_0_33 (by decide) (by first | assumption | exact inI.mk (by decide) (by decide)) (by first | assumption | exact inI.mk (by decide) (by decide)) (fun c_33 => ?_) (fun c_33 => ?_)
  · refine ww_iload_n 4 dX1_lambda_operation_0_44 rfl ?_
    refine ww_bipush dX1_lambda_operation_0_45 (by decide) ?_
    refine ww_icmp_ne 58 dX1_lambda_operation_0_47 (by decide) (by first | assumption | exact inI.mk (by decide) (by decide)) (by first | assumption | exact inI.mk (by decide) (by decide)) (fun c_47 => ?_) (fun c_47 => ?_)
    · refine ww_iload_n 4 dX1_lambda_operation_0_58 rfl ?_
      refine ww_bipush dX1_lambda_operation_0_59 (by decide) ?_
      refine ww_icmp_ne 72 dX1_lambda_operation_0_61 (by decide) (by first | assumption | exact inI.mk (by decide) (by decide)) (by first | assumption | exact inI.mk (by decide) (by decide)) (fun c_61 => ?_) (fun c_61 => ?_)
      · refine ww_lload 0 dX1_lambda_operation_0_72 rfl ?_
        refine ww_lconst 0 dX1_lambda_operation_0_74 rfl ?_
        refine ww_lif_ne 83 dX1_lambda_operation_0_75 dX1_lambda_operation_0_76 (by decide) (inL.mk (by omega) (by omega)) (inL.mk (by omega) (by omega)) (fun c_75 => ?_) (fun c_75 => ?_)
        · refine ww_lload 1 dX1_lambda_operation_0_83 rfl ?_
          refine ww_lload 0 dX1_lambda_operation_0_85 rfl ?_
          refine ww_ldiv dX1_lambda_operation_0_87 (inL.mk (by omega) (by omega)) (inL.mk (by omega) (by omega)) (by omega) ?_
          refine ww_sub [4] rfl ?_
          have hq := tdiv_bd (b := b) (c := 1000000) (by omega) ha1 ha2
          exact join_88 _ (inL.mk (by have := hq.1; omega) (by have := hq.2; omega)) (by unfold opr; rw [if_pos (by omega), if_neg (by omega)]; exact clm_id hq.1 hq.2)
        · refine ww_lconst 0 dX1_lambda_operation_0_79 rfl ?_
          refine ww_goto 88 dX1_lambda_operation_0_80 (by decide) ?_
          refine ww_sub [4] rfl ?_
          exact join_88 _ (inL.mk (by omega) (by omega)) (by unfold opr; rw [if_pos (by omega), if_pos (by omega)]; exact clm_id (by omega) (by omega))
      · refine ww_lload 1 dX1_lambda_operation_0_64 rfl ?_
        refine ww_lload 0 dX1_lambda_operation_0_66 rfl ?_
        refine ww_lmul dX1_lambda_operation_0_68 ?_
        refine ww_goto 88 dX1_lambda_operation_0_69 (by decide) ?_
        refine ww_sub [4] rfl ?_
        exact join_88 _ (mul_bd sa sb) (by unfold opr; rw [if_neg (by omega), if_neg (by omega), if_neg (by omega)])
    · refine ww_lload 1 dX1_lambda_operation_0_50 rfl ?_
      refine ww_lload 0 dX1_lambda_operation_0_52 rfl ?_
      refine ww_lsub dX1_lambda_operation_0_54 ?_
      refine ww_goto 88 dX1_lambda_operation_0_55 (by decide) ?_
      refine ww_sub [4] rfl ?_
      exact join_88 _ (inL.mk (by omega) (by omega)) (by unfold opr; rw [if_neg (by omega), if_neg (by omega), if_pos (by omega)])
  · refine ww_lload 1 dX1_lambda_operation_0_36 rfl ?_
    refine ww_lload 0 dX1_lambda_operation_0_38 rfl ?_
    refine ww_ladd dX1_lambda_operation_0_40 ?_
    refine ww_goto 88 dX1_lambda_operation_0_41 (by decide) ?_
    refine ww_sub [4] rfl ?_
    exact join_88 _ (inL.mk (by omega) (by omega)) (by unfold opr; rw [if_neg (by omega), if_pos (by omega)])

set_option maxHeartbeats 4000000 in
theorem ct_X1_operation {G : GT} {h : AH} (hG : GOK G) {l r9 d : Nat} {f1 f2 : EF} {op : Int} (h2 : 2 ≤ op) (h5 : op ≤ 5) (c1 : WT G h d l f1) (c2 : WT G h d r9 f2) : CT G (MX1_operation 0 3200 1 3) h [.int (iI (sgn op)), .ref l, .ref r9] (pR (fun w h' => WT G h' (d + 1) w (fun t r o f => opr op (f1 t r o f) (f2 t r o f)) ∧ Ex h h' ∧ Nw h w)) := by
  refine CT.of rfl hG (Nat.le_of_ble_eq_true rfl) rfl (fun E hQ => ?_)
  refine ww_aload_n 1 dX1_operation_0 rfl ?_
  refine ww_aload_n 2 dX1_operation_1 rfl ?_
  refine ww_iload_n 0 dX1_operation_2 rfl ?_
  refine ww_indyM (i := 6) (vs := [.ref l, .ref r9, .int (iI (sgn op))]) (by decide) (by decide) hG lfit6 rfl rfl rfl rfl dX1_operation_3 (Nat.le_of_ble_eq_true rfl) (Nat.le_of_ble_eq_true rfl) (Nat.le_of_ble_eq_true rfl) (fun q h9 n9 e9 hq => ?_)
  exact ww_aret hQ dX1_operation_8 rfl rfl (Nat.le_of_ble_eq_true rfl) (Nat.le_of_ble_eq_true rfl) ⟨_, rfl, Or.inr (Or.inr ⟨op, l, r9, f1, f2, h2, h5, hq, c1.ex e9, c2.ex e9, rfl⟩), e9, n9⟩
