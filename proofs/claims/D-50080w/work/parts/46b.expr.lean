/-! ===== expressions ===== -/
set_option maxRecDepth 100000
def FE (σ σ' : MS) : Prop := ∀ j, j ≠ 4 → j ≠ 5 → j ≠ 6 → j ≠ 9 → j ≠ 12 → j ≠ 13 → σ' j = σ j
def ExO (σ τ : MS) (c0 d p n : Int) (y : List Int × EF) (q : Int) : Prop := τ 5 0 0 = 0 ∧ τ 4 0 0 = q ∧ p < q ∧ q ≤ n ∧ τ 13 0 0 = d ∧ τ 9 0 5 = c0 + y.1.length ∧ Has (τ 9 0) c0 y.1 ∧ (∀ z : Int, z ≠ 5 → z < 198 + c0 → τ 9 0 z = σ 9 0 z) ∧ 2 * (y.1.length : Int) ≤ 3 * (q - p) + 1 ∧ (∃ dd, Cd dd y.1 y.2) ∧ τ 6 = σ 6
def PEr (r : PE ((List Int × EF) × Int)) (σ τ : MS) (c0 d p n : Int) : Prop := (∃ c o, r = .error (c, o) ∧ c ≠ 0 ∧ τ 5 0 0 = c ∧ τ 6 0 0 = o) ∨ ∃ y q, r = .ok (y, q) ∧ ExO σ τ c0 d p n y q
theorem Cd_up : ∀ (d : Nat) (cs : List Int) (fn : EF), Cd d cs fn → Cd (d + 1) cs fn := by
  intro d
  induction d with
  | zero => intro cs fn h; exact h.elim
  | succ d ih =>
    intro cs fn h
    rcases h with h | h | h | h | h | ⟨op, c1, c2, f1, f2, h1, h2, g1, g2, e1, e2⟩
    · exact Or.inl h
    · exact Or.inr (Or.inl h)
    · exact Or.inr (Or.inr (Or.inl h))
    · exact Or.inr (Or.inr (Or.inr (Or.inl h)))
    · exact Or.inr (Or.inr (Or.inr (Or.inr (Or.inl h))))
    · exact Or.inr (Or.inr (Or.inr (Or.inr (Or.inr ⟨op, c1, c2, f1, f2, h1, h2, ih _ _ g1, ih _ _ g2, e1, e2⟩))))
theorem Cd_le {d e : Nat} {cs : List Int} {fn : EF} (h : Cd d cs fn) (hl : d ≤ e) : Cd e cs fn := by
  induction hl with
  | refl => exact h
  | step _ ih => exact Cd_up _ _ _ ih
theorem Cd_op {op : Int} {x y : List Int × EF} (h1 : 2 ≤ op) (h2 : op ≤ 5) (hx : ∃ d, Cd d x.1 x.2) (hy : ∃ d, Cd d y.1 y.2) : ∃ d, Cd d (cmb op x y).1 (cmb op x y).2 := by
  obtain ⟨a, ha⟩ := hx
  obtain ⟨b, hb⟩ := hy
  exact ⟨max a b + 1, Or.inr (Or.inr (Or.inr (Or.inr (Or.inr ⟨op, x.1, y.1, x.2, y.2, h1, h2, Cd_le ha (Nat.le_max_left _ _), Cd_le hb (Nat.le_max_right _ _), rfl, rfl⟩))))⟩
theorem Cd_n {v : Int} (h1 : 0 ≤ v) (h2 : v ≤ 9999) : ∃ d, Cd d [0, v] (fun _ _ _ _ => v) := ⟨1, Or.inl ⟨v, h1, h2, rfl, rfl⟩⟩
theorem Cd_0 : ∃ d, Cd d [1, 0] (fun a _ _ _ => a) := ⟨1, Or.inr (Or.inl ⟨rfl, rfl⟩)⟩
theorem Cd_1 : ∃ d, Cd d [1, 1] (fun _ a _ _ => a) := ⟨1, Or.inr (Or.inr (Or.inl ⟨rfl, rfl⟩))⟩
theorem Cd_2 : ∃ d, Cd d [1, 2] (fun _ _ a _ => a) := ⟨1, Or.inr (Or.inr (Or.inr (Or.inl ⟨rfl, rfl⟩)))⟩
theorem Cd_3 : ∃ d, Cd d [1, 3] (fun _ _ _ a => a) := ⟨1, Or.inr (Or.inr (Or.inr (Or.inr (Or.inl ⟨rfl, rfl⟩))))⟩
theorem emit2 {σ σ1 τ1 τ2 : MS} {a b c0 d p q n : Int} {fn : EF} (e1 : su (su σ1 9 0 (198 + σ1 9 0 5) a) 9 0 5 (σ1 9 0 5 + 1) = τ1) (e2 : su (su τ1 9 0 (198 + τ1 9 0 5) b) 9 0 5 (τ1 9 0 5 + 1) = τ2) (h9 : σ1 9 = σ 9) (hc : σ 9 0 5 = c0) (hc0 : 0 ≤ c0) (h5 : σ1 5 0 0 = 0) (h4 : σ1 4 0 0 = q) (h13 : σ1 13 0 0 = d) (h6 : σ1 6 = σ 6) (hpq : p < q) (hqn : q ≤ n) (hC : ∃ dd, Cd dd [a, b] fn) : ExO σ τ2 c0 d p n ([a, b], fn) q ∧ ∀ j, j ≠ 9 → τ2 j = σ1 j := by
  have hc1 : σ1 9 0 5 = c0 := by rw [h9]; exact hc
  have t1 : τ1 9 0 5 = c0 + 1 := by rw [← e1, su_s, hc1]
  have ho : ∀ j, j ≠ 9 → τ2 j = σ1 j := fun j hj => by rw [← e2, su_off hj, su_off hj, ← e1, su_off hj, su_off hj]
  refine ⟨⟨by rw [ho 5 (by decide)]; exact h5, by rw [ho 4 (by decide)]; exact h4, hpq, hqn, by rw [ho 13 (by decide)]; exact h13, by rw [← e2, su_s, t1]; show c0 + 1 + 1 = c0 + 2; omega, fun i c hi => ?_, fun z hz hz2 => ?_, by show 2 * 2 ≤ 3 * (q - p) + 1; omega, hC, by rw [ho 6 (by decide)]; exact h6⟩, ho⟩
  · rw [← e2]
    match i, hi with
    | 0, hi =>
      cases hi
      rw [su_n (by omega), su_n (by omega), ← e1, su_n (by omega), su_e (by omega)]
    | 1, hi =>
      cases hi
      rw [su_n (by omega), su_e (by omega)]
    | i + 2, hi => cases hi
  · rw [← e2, su_n (by omega), su_n (by omega), ← e1, su_n (by omega), su_n (by omega), h9]
theorem emitO {σ τ τb τ' τ2 : MS} {op c0 c1 d p q q1 q2 n : Int} {x y : List Int × EF} (hx : ExO σ τ c0 d p n x q) (hb : τb 9 = τ 9) (hb6 : τb 6 = τ 6) (hc1 : c1 = c0 + x.1.length) (hq : q < q1) (hy : ExO τb τ' c1 d q1 n y q2) (e : su (su τ' 9 0 (198 + τ' 9 0 5) op) 9 0 5 (τ' 9 0 5 + 1) = τ2) (hc0 : 0 ≤ c0) (h1 : 2 ≤ op) (h2 : op ≤ 5) : ExO σ τ2 c0 d p n (cmb op x y) q2 := by
  obtain ⟨x1, x2, x3, x4, x5, x6, x7, x8, x9, x10, x11⟩ := hx
  obtain ⟨y1, y2, y3, y4, y5, y6, y7, y8, y9, y10, y11⟩ := hy
  have ln : ((cmb op x y).1.length : Int) = x.1.length + (y.1.length + 1) := by unfold cmb; simp
  refine ⟨by rw [← e, su_off (by decide), su_off (by decide)]; exact y1, by rw [← e, su_off (by decide), su_off (by decide)]; exact y2, by omega, y4, by rw [← e, su_off (by decide), su_off (by decide)]; exact y5, by rw [← e, su_s, ln]; omega, fun i c hi => ?_, fun z hz hz2 => ?_, by rw [ln]; omega, Cd_op h1 h2 x10 y10, by rw [← e, su_off (by decide), su_off (by decide), y11, hb6, x11]⟩
  · rw [← e, su_n (by omega)]
    have hi : (x.1 ++ (y.1 ++ [op]))[i]? = some c := hi
    by_cases l1 : i < x.1.length
    · rw [List.getElem?_append_left l1] at hi
      rw [su_n (by omega), y8 _ (by omega) (by omega), hb]
      exact x7 i c hi
    · rw [List.getElem?_append_right (by omega)] at hi
      rcases ls_snoc_get hi with hi | ⟨hi, rfl⟩
      · have l2 := (List.getElem?_eq_some_iff.mp hi).1
        rw [su_n (by omega)]
        have := y7 (i - x.1.length) c hi
        rw [← this]
        congr 1
        omega
      · rw [su_e (by omega)]
  · rw [← e, su_n (by omega), su_n (by omega), y8 z hz (by omega), hb, x8 z hz hz2]
theorem ExO.of {σ σ' τ τ' : MS} {c0 d p n q : Int} {y : List Int × EF} (h : ExO σ τ c0 d p n y q) (h9 : σ' 9 = σ 9) (t9 : τ' 9 = τ 9) (h6 : σ' 6 = σ 6) (t6 : τ' 6 = τ 6) (h5 : τ' 5 0 0 = 0) {d' p' q' : Int} (h4 : τ' 4 0 0 = q') (hp : p' ≤ p) (hq : q ≤ q') (hqn : q' ≤ n) (h13 : τ' 13 0 0 = d') : ExO σ' τ' c0 d' p' n y q' := by
  obtain ⟨x1, x2, x3, x4, x5, x6, x7, x8, x9, x10, x11⟩ := h
  exact ⟨h5, h4, by omega, hqn, h13, by rw [t9]; exact x6, by rw [t9]; exact x7, fun z a b => by rw [t9, h9]; exact x8 z a b, by omega, x10, by rw [t6, h6]; exact x11⟩
/-- the parse of an expression, case by case -/
theorem pE0_par {f : Nat} {t : Int → Int} {d p : Int} {x : List Int × EF} (h : t (sk t p) = 40) (hd : d < 4) : pE (f + 1) 0 t d p x = match pE f 3 t (d + 1) (sk t p + 1) x with
        | .error e => .error e
        | .ok (y, p1) => if t (sk t p1) = 41 then .ok (y, sk t p1 + 1) else .error (-2, sk t p1) := by
  rw [pE, if_pos h, if_pos hd]
  cases pE f 3 t (d + 1) (sk t p + 1) x <;> rfl
theorem pE0_deep {f : Nat} {t : Int → Int} {d p : Int} {x : List Int × EF} (h : t (sk t p) = 40) (hd : ¬ d < 4) : pE (f + 1) 0 t d p x = .error (-7, sk t p) := by
  rw [pE, if_pos h, if_neg hd]
theorem pE0_num {f : Nat} {t : Int → Int} {d p : Int} {x : List Int × EF} (h1 : t (sk t p) ≠ 40) (h : 48 ≤ t (sk t p) ∧ t (sk t p) ≤ 57) : pE (f + 1) 0 t d p x = match pnum t p 0 9999 with
        | .error e => .error e
        | .ok (v, p1) => .ok (([0, v], fun _ _ _ _ => v), p1) := by
  rw [pE, if_neg h1, if_pos h]
  cases pnum t p 0 9999 <;> rfl
theorem pE0_kw {f : Nat} {t : Int → Int} {d p : Int} {x : List Int × EF} (h1 : t (sk t p) ≠ 40) (h : ¬ (48 ≤ t (sk t p) ∧ t (sk t p) ≤ 57)) : pE (f + 1) 0 t d p x = if pw t p = kwTrust then .ok (([1, 0], fun a _ _ _ => a), we t (sk t p))
    else if pw t p = kwRank then .ok (([1, 1], fun _ a _ _ => a), we t (sk t p))
    else if pw t p = kwOffers then .ok (([1, 2], fun _ _ a _ => a), we t (sk t p))
    else if pw t p = kwFriends then .ok (([1, 3], fun _ _ _ a => a), we t (sk t p))
    else .error (-2, sk t p) := by
  rw [pE, if_neg h1, if_neg h]
theorem pE1 {f : Nat} {t : Int → Int} {d p : Int} {x : List Int × EF} : pE (f + 1) 1 t d p x = match pE f 0 t d p x with
    | .error e => .error e
    | .ok (y, p1) => pE f 2 t d p1 y := by rw [pE]; cases pE f 0 t d p x <;> rfl
theorem pE2 {f : Nat} {t : Int → Int} {d p : Int} {x : List Int × EF} : pE (f + 1) 2 t d p x = if t (sk t p) = 42 ∨ t (sk t p) = 47 then (match pE f 0 t d (sk t p + 1) x with
      | .error e => .error e
      | .ok (y, p1) => pE f 2 t d p1 (cmb (if t (sk t p) = 42 then 4 else 5) x y)) else .ok (x, sk t p) := by rw [pE]; cases pE f 0 t d (sk t p + 1) x <;> rfl
theorem pE3 {f : Nat} {t : Int → Int} {d p : Int} {x : List Int × EF} : pE (f + 1) 3 t d p x = match pE f 1 t d p x with
    | .error e => .error e
    | .ok (y, p1) => pE f 4 t d p1 y := by rw [pE]; cases pE f 1 t d p x <;> rfl
theorem pE4 {f : Nat} {t : Int → Int} {d p : Int} {x : List Int × EF} : pE (f + 1) 4 t d p x = if t (sk t p) = 43 ∨ t (sk t p) = 45 then (match pE f 1 t d (sk t p + 1) x with
      | .error e => .error e
      | .ok (y, p1) => pE f 4 t d p1 (cmb (if t (sk t p) = 43 then 2 else 3) x y)) else .ok (x, sk t p) := by
  rw [pE]
  all_goals first | (cases pE f 1 t d (sk t p + 1) x <;> rfl) | (intro h; cases h) | (intros; omega)
theorem we_gt {t : Int → Int} {p c : Int} {l : List Int} (h : pw t p = c :: l) : sk t p < we t (sk t p) := by
  have : (pw t p).length = (we t (sk t p) - sk t p).toNat := by unfold pw; rw [wd_len]
  rw [h] at this
  simp only [List.length_cons] at this
  omega
theorem pnum_gt {t : Int → Int} {n p lo hi v e : Int} (hx : Txt t n) (hp0 : 0 ≤ p) (hp : p ≤ n) (h : pnum t p lo hi = .ok (v, e)) : p < e := by
  unfold pnum at h
  by_cases q : 48 ≤ t (sk t p) ∧ t (sk t p) ≤ 57
  · rw [if_pos q] at h
    split at h
    · cases h
      have hk := hx.k1 hp
      have hn : sk t p ≠ n := fun e => by rw [e, hx.2.2.1 n (Int.le_refl _)] at q; omega
      have h8 := hx.2.1
      rw [nu_t q (by omega)]
      have := nu_rg (v := min 1000000 (10 * 0 + t (sk t p) - 48)) hx (show 0 ≤ sk t p + 1 by omega) (by omega) (by omega) (by omega)
      omega
    · cases h
  · rw [if_neg q] at h; cases h
