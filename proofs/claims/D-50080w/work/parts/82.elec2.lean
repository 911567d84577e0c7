/-! ===== questions to an election ===== -/
set_option maxRecDepth 100000
def hMx (cd : Int → Bool) (sp : Int → Int) (b : Int) : Nat → Int
  | 0 => 0
  | z + 1 => if (z : Int) ≠ b ∧ cd z = true then max (hMx cd sp b z) (sp z) else hMx cd sp b z
theorem hMx_bd {cd : Int → Bool} {sp : Int → Int} {b : Int} {z : Nat} {C : Int} (h : ∀ c : Int, 0 ≤ c → c < z → 0 ≤ sp c ∧ sp c ≤ C) (hC : 0 ≤ C) : 0 ≤ hMx cd sp b z ∧ hMx cd sp b z ≤ C := by
  induction z with
  | zero => exact ⟨Int.le_refl _, hC⟩
  | succ z ih =>
    have a := ih (fun c c0 c1 => h c c0 (by omega))
    have b := h z (by omega) (by omega)
    unfold hMx
    split <;> omega
theorem hMx_t {cd : Int → Bool} {sp : Int → Int} {b : Int} {z : Nat} (h : (z : Int) ≠ b ∧ cd z = true) : hMx cd sp b (z + 1) = max (hMx cd sp b z) (sp z) := by
  show (if _ then _ else _) = _
  rw [if_pos h]
theorem hMx_f {cd : Int → Bool} {sp : Int → Int} {b : Int} {z : Nat} (h : ¬ ((z : Int) ≠ b ∧ cd z = true)) : hMx cd sp b (z + 1) = hMx cd sp b z := by
  show (if _ then _ else _) = _
  rw [if_neg h]
theorem smI_b1 {z : Nat} {f : Int → Prop} [∀ i, Decidable (f i)] : 0 ≤ smI (z : Int) (fun i => bI (f i)) ∧ smI (z : Int) (fun i => bI (f i)) ≤ z := by
  have := smI_bd (z := (z : Int)) (f := fun i => bI (f i)) (c := 1) (by omega) (fun i _ _ => by unfold bI; split <;> omega)
  omega
theorem smI_p {z : Nat} {f : Int → Int} (h : f z = 1) : smI (z : Int) f + 1 = smI ((z : Int) + 1) f := by rw [smI_s (by omega), h]
theorem smI_z {z : Nat} {f : Int → Int} (h : f z = 0) : smI (z : Int) f + 0 = smI ((z : Int) + 1) f := by rw [smI_s (by omega), h]
