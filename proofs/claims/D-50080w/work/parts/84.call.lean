/-! ===== a call ===== -/
set_option maxRecDepth 100000
def vF (F : Int → Int → Int) : Int → Int → Bool := fun a b => decide (F a b = 1)
theorem vF_mk {F : Int → Int → Int} {k n : Int} : vF (g2 F k n 1) = fmk (vF F) k n := by
  funext a b
  unfold vF fmk
  rw [g2_at]
  by_cases e : a = k ∧ b = n
  · rw [if_pos e, if_pos e]; rfl
  · rw [if_neg e, if_neg e]
theorem flw_m {f : Nat} {bd of : Int → Int → Int} {V : Int → Int → Bool} {k n s : Int} (h : V k n = true) : flw (f + 1) bd of V k n s = (-2, s) := by
  show (if _ then _ else _) = _
  rw [if_pos h]
theorem flw_l {f : Nat} {bd of : Int → Int → Int} {V : Int → Int → Bool} {k n s : Int} (h : V k n = false) (h2 : bd k n = -1) : flw (f + 1) bd of V k n s = (-1, s) := by
  show (if _ then _ else if _ then _ else _) = _
  rw [if_neg (by rw [h]; decide), if_pos h2]
theorem flw_v {f : Nat} {bd of : Int → Int → Int} {V : Int → Int → Bool} {k n s : Int} (h : V k n = false) (h2 : bd k n ≠ -1) (h3 : 0 ≤ of (bd k n) n) : flw (f + 1) bd of V k n s = (of (bd k n) n, s + 1) := by
  show (if _ then _ else if _ then _ else if _ then _ else _) = _
  rw [if_neg (by rw [h]; decide), if_neg h2, if_pos h3]
theorem flw_n {f : Nat} {bd of : Int → Int → Int} {V : Int → Int → Bool} {k n s : Int} (h : V k n = false) (h2 : bd k n ≠ -1) (h3 : ¬ 0 ≤ of (bd k n) n) : flw (f + 1) bd of V k n s = flw f bd of (fmk V k n) (bd k n) (-2 - of (bd k n) n) (s + 1) := by
  show (if _ then _ else if _ then _ else if _ then _ else _) = _
  rw [if_neg (by rw [h]; decide), if_neg h2, if_neg h3]
theorem flw_e {x y : Int × Int} {a b : Int} (h : x = y) (h2 : x = (a, b)) : y.1 = a ∧ y.2 = b := by rw [← h, h2]; exact ⟨rfl, rfl⟩
