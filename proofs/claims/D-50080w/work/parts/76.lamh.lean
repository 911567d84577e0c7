/-! ===== every weight answers ===== -/
set_option maxRecDepth 100000
theorem sim_1 : SIm 1 4 yX1_lambda_variable_1 (mcc (MX1_lambda_variable_1 0 0 0 0)) (mnL (MX1_lambda_variable_1 0 0 0 0)) (mret (MX1_lambda_variable_1 0 0 0 0)) := ⟨by decide +kernel, by decide +kernel, by decide +kernel, by decide +kernel, by decide, by decide, by decide +kernel⟩
theorem sim_2 : SIm 2 4 yX1_lambda_variable_2 (mcc (MX1_lambda_variable_2 0 0 0 0)) (mnL (MX1_lambda_variable_2 0 0 0 0)) (mret (MX1_lambda_variable_2 0 0 0 0)) := ⟨by decide +kernel, by decide +kernel, by decide +kernel, by decide +kernel, by decide, by decide, by decide +kernel⟩
theorem sim_3 : SIm 3 4 yX1_lambda_variable_3 (mcc (MX1_lambda_variable_3 0 0 0 0)) (mnL (MX1_lambda_variable_3 0 0 0 0)) (mret (MX1_lambda_variable_3 0 0 0 0)) := ⟨by decide +kernel, by decide +kernel, by decide +kernel, by decide +kernel, by decide, by decide, by decide +kernel⟩
theorem sim_4 : SIm 4 4 yX1_lambda_variable_4 (mcc (MX1_lambda_variable_4 0 0 0 0)) (mnL (MX1_lambda_variable_4 0 0 0 0)) (mret (MX1_lambda_variable_4 0 0 0 0)) := ⟨by decide +kernel, by decide +kernel, by decide +kernel, by decide +kernel, by decide, by decide, by decide +kernel⟩
theorem sim_5 : SIm 5 5 yX4_lambda_factor_0 (mcc (MX4_lambda_factor_0 0 0 0 0)) (mnL (MX4_lambda_factor_0 0 0 0 0)) (mret (MX4_lambda_factor_0 0 0 0 0)) := ⟨by decide +kernel, by decide +kernel, by decide +kernel, by decide +kernel, by decide, by decide, by decide +kernel⟩
theorem sim_6 : SIm 6 7 yX1_lambda_operation_0 (mcc (MX1_lambda_operation_0 0 0 0 0)) (mnL (MX1_lambda_operation_0 0 0 0 0)) (mret (MX1_lambda_operation_0 0 0 0 0)) := ⟨by decide +kernel, by decide +kernel, by decide +kernel, by decide +kernel, by decide, by decide, by decide +kernel⟩
theorem WT.cw {G : GT} {h : AH} (hG : GOK G) : ∀ {d w : Nat} {fn : EF}, WT G h d w fn → CWt G h d w fn := by
  intro d
  induction d with
  | zero => intro w fn hw; exact hw.elim
  | succ d ih =>
    intro w fn hw t r o f ht hr ho hf
    rcases hw with ⟨k, a, b, c, e, rfl⟩ | ⟨v, a, b, c, rfl⟩ | ⟨op, l, r9, f1, f2, a, b, c, e1, e2, rfl⟩
    · have : k = 1 ∨ k = 2 ∨ k = 3 ∨ k = 4 := by omega
      rcases this with rfl | rfl | rfl | rfl
      · exact ⟨1, [], MX1_lambda_variable_1 0 0 0 0, (0, 13), by decide, by decide, e, ct_X1_lambda_variable_1 hG ht hr ho hf, sim_1, fun hx => lp_1 (k := 1) hx rfl rfl, by show 0 ≤ 2 * (d + 1); omega, by show 4 + 11 + 0 ≤ 64 * (d + 1); omega, rfl, rfl⟩
      · exact ⟨2, [], MX1_lambda_variable_2 0 0 0 0, (0, 13), by decide, by decide, e, ct_X1_lambda_variable_2 hG ht hr ho hf, sim_2, fun hx => lp_1 (k := 2) hx rfl rfl, by show 0 ≤ 2 * (d + 1); omega, by show 4 + 11 + 0 ≤ 64 * (d + 1); omega, rfl, rfl⟩
      · exact ⟨3, [], MX1_lambda_variable_3 0 0 0 0, (0, 13), by decide, by decide, e, ct_X1_lambda_variable_3 hG ht hr ho hf, sim_3, fun hx => lp_1 (k := 3) hx rfl rfl, by show 0 ≤ 2 * (d + 1); omega, by show 4 + 11 + 0 ≤ 64 * (d + 1); omega, rfl, rfl⟩
      · exact ⟨4, [], MX1_lambda_variable_4 0 0 0 0, (0, 13), by decide, by decide, e, ct_X1_lambda_variable_4 hG ht hr ho hf, sim_4, fun hx => lp_1 (k := 4) hx rfl rfl, by show 0 ≤ 2 * (d + 1); omega, by show 4 + 11 + 0 ≤ 64 * (d + 1); omega, rfl, rfl⟩
    · exact ⟨5, [.long (lI v)], MX4_lambda_factor_0 0 0 0 0, (w, 10003), by decide, by decide, c, ct_X4_lambda_factor_0 hG, sim_5, fun hx => lp_5 hx, by show 0 ≤ 2 * (d + 1); omega, by show 6 + 11 + 0 ≤ 64 * (d + 1); omega, rfl, rfl⟩
    · exact ⟨6, [.ref l, .ref r9, .int (iI (sgn op))], MX1_lambda_operation_0 (2 * d + 2) (64 * d + 24) 0 0, (w, 10003), by decide, by decide, c, ct_X1_lambda_operation_0 hG a b (ih e1) (ih e2) e1.bd e2.bd ht hr ho hf, sim_6, fun hx => lp_6 hx, by show 2 * d + 2 ≤ 2 * (d + 1); omega, by show 13 + 11 + (64 * d + 24) ≤ 64 * (d + 1); omega, rfl, rfl⟩
