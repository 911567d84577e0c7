/-! ===== a whole text ===== -/
set_option maxRecDepth 100000
def tx (σ : MS) (n : Int) : Int → Int := fun q => if q < n then σ 1 0 q else -1
theorem tx_txt {σ : MS} {n : Int} (h0 : 0 ≤ n) (h8 : n ≤ 800) (hb : ∀ q : Int, 0 ≤ q → q < n → 0 ≤ σ 1 0 q ∧ σ 1 0 q ≤ 255) : Txt (tx σ n) n :=
  ⟨h0, h8, fun q hq => if_neg (by omega), fun q q0 q1 => by unfold tx; rw [if_pos q1]; exact hb q q0 q1⟩
theorem PSok0 : PSok PS0 :=
  ⟨by decide, by decide, fun w hw => (by cases hw), fun x hx => (by cases hx), fun k n => ⟨by show (-2 : Int) - ((0 : Nat) : Int) < -1; decide, by show (-1 : Int) ≤ 9999; decide⟩, fun _ _ _ => rfl, ⟨by decide, by decide⟩, by decide, Or.inl ⟨rfl, rfl, rfl⟩, fun k x hx => (by cases hx)⟩
theorem MRep0 {σ : MS} (h50 : σ 9 0 0 = 50) (hz : ∀ z : Int, 0 < z → z < 1498 → σ 9 0 z = 0) (h13 : σ 13 0 0 = 0) (h14 : σ 14 0 0 = 0) : MRep σ PS0 :=
  ⟨⟨h50, hz 1 (by decide) (by decide), hz 2 (by decide) (by decide), hz 3 (by decide) (by decide), hz 5 (by decide) (by decide)⟩, fun n c hc => (by cases hc), fun k x hx => (by cases hx), fun k h1 h2 => hz _ (by have : (0 : Int) ≤ k := h1; omega) (by omega), fun i w hw => (by cases hw), h14, h13⟩
theorem pAll_no {t : Int → Int} (h : pw t 0 ≠ kwLink) : pAll t = .error (-2, sk t 0) := by unfold pAll; rw [if_neg h]
theorem pAll_e {t : Int → Int} (h : pw t 0 = kwLink) (h2 : t (sk t (we t (sk t 0))) ≠ 59) : pAll t = .error (-2, sk t (we t (sk t 0))) := by unfold pAll; rw [if_pos h]; unfold pexp; rw [if_neg h2]
theorem pAll_go {t : Int → Int} (h : pw t 0 = kwLink) (h2 : t (sk t (we t (sk t 0))) = 59) : pAll t = pLp 900 t (sk t (we t (sk t 0)) + 1) PS0 := by unfold pAll; rw [if_pos h]; unfold pexp; rw [if_pos h2]
theorem pLp_end {t : Int → Int} {f : Nat} {p : Int} {s : PS} (h : t (sk t p) = -1) : pLp (f + 1) t p s = .ok s := by rw [pLp, if_pos h]
theorem pLp_e {t : Int → Int} {f : Nat} {p : Int} {s : PS} {x : Int × Int} (h : t (sk t p) ≠ -1) (h2 : pSt t p s = .error x) : pLp (f + 1) t p s = .error x := by rw [pLp, if_neg h, h2]
theorem pLp_go {t : Int → Int} {f : Nat} {p e : Int} {s s' : PS} (h : t (sk t p) ≠ -1) (h2 : pSt t p s = .ok (e, s')) : pLp (f + 1) t p s = pLp f t e s' := by rw [pLp, if_neg h, h2]
theorem pSt_kk {t : Int → Int} {n p : Int} {s : PS} (h : Txt t n) (hp : p ≤ n) : pSt t (sk t p) s = pSt t p s := by unfold pSt pSt1; rw [pw_kk h hp, h.kk hp]
