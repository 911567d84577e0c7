/-! ===== a statement's room ===== -/
set_option maxRecDepth 100000
def stC (n p : Int) (r : PE (Int × PS)) : Nat := match r with | .ok (q, _) => 8 * (q - p).toNat | .error _ => 8 * (n - p).toNat + 40
def stS (n p : Int) (r : PE (Int × PS)) : Nat := match r with | .ok (q, _) => 40 * (q - p).toNat | .error _ => 40 * (n - p).toNat + 200
theorem st_er {n p : Int} {r : PE (Int × PS)} {x : Int × Int} (h : r = .error x) : 8 * (n - p) + 40 ≤ (stC n p r : Int) ∧ 40 * (n - p) + 200 ≤ (stS n p r : Int) := by
  rw [h]
  show _ ≤ ((8 * (n - p).toNat + 40 : Nat) : Int) ∧ _ ≤ ((40 * (n - p).toNat + 200 : Nat) : Int)
  omega
theorem st_ok {n p q : Int} {s : PS} {r : PE (Int × PS)} (h : r = .ok (q, s)) : 8 * (q - p) ≤ (stC n p r : Int) ∧ 40 * (q - p) ≤ (stS n p r : Int) := by
  rw [h]
  show _ ≤ ((8 * (q - p).toNat : Nat) : Int) ∧ _ ≤ ((40 * (q - p).toNat : Nat) : Int)
  omega
theorem we59 {t : Int → Int} {q : Int} (h : t (sk t q) = 59) : we t (sk t q) = sk t q := we_f (by rw [h]; omega)
theorem sk59 {t : Int → Int} {n q : Int} (hx : Txt t n) (h : t (sk t q) = 59) (hq : q ≤ n) : sk t q < n := by
  have hk := hx.k1 hq
  have : sk t q ≠ n := fun e => by rw [e, hx.2.2.1 n (Int.le_refl _)] at h; cases h
  omega
/-- a body by its words -/
theorem st_body {t : Int → Int} {n p : Int} {s : PS} {r1 : PE (Int × PS)} (hx : Txt t n) (h0 : 0 ≤ p) (hp : p ≤ n) (hr : pSt1 t p s = r1) (hL : 4 ≤ we t (sk t p) - sk t p) (hq : ∀ q s', r1 = .ok (q, s') → we t (sk t p) ≤ q ∧ q ≤ n) : 5 + (we t (sk t p) - sk t p) + (bC t n (we t (sk t p)) r1 : Int) ≤ (stC n p (pSt t p s) : Int) ∧ 40 + 5 * (we t (sk t p) - sk t p) + (bS t n (we t (sk t p)) r1 : Int) ≤ (stS n p (pSt t p s) : Int) := by
  have hk := hx.k1 hp
  have hw := hx.w1 hk.2.1
  cases h1 : r1 with
  | error x =>
    have h2 := st_er (n := n) (p := p) (pSt_e (hr.trans h1))
    show 5 + _ + ((8 * (n - we t (sk t p)).toNat + 60 : Nat) : Int) ≤ _ ∧ 40 + _ + ((40 * (n - we t (sk t p)).toNat + 300 : Nat) : Int) ≤ _
    omega
  | ok y =>
    obtain ⟨q, s'⟩ := y
    have hqn := hq q s' h1
    have kq := hx.k1 hqn.2
    have wq := hx.w1 kq.2.1
    show 5 + _ + ((8 * (we t (sk t q) - we t (sk t p)).toNat + 24 : Nat) : Int) ≤ _ ∧ 40 + _ + ((40 * (we t (sk t q) - we t (sk t p)).toNat + 140 : Nat) : Int) ≤ _
    by_cases c : t (sk t q) = 59
    · have h2 := st_ok (n := n) (p := p) (pSt_ok (hr.trans h1) c)
      have h3 := we59 c
      omega
    · have h2 := st_er (n := n) (p := p) (pSt_no (hr.trans h1) c)
      omega
/-- a body of a small fixed cost: share -/
theorem st_small {t : Int → Int} {n p : Int} {s : PS} {r1 : PE (Int × PS)} (hx : Txt t n) (h0 : 0 ≤ p) (hp : p ≤ n) (hr : pSt1 t p s = r1) (hL : 4 ≤ we t (sk t p) - sk t p) (hq : ∀ q s', r1 = .ok (q, s') → we t (sk t p) < q ∧ q ≤ n) : 8 + (we t (sk t p) - sk t p) ≤ (stC n p (pSt t p s) : Int) ∧ 60 + 5 * (we t (sk t p) - sk t p) ≤ (stS n p (pSt t p s) : Int) := by
  have hk := hx.k1 hp
  have hw := hx.w1 hk.2.1
  cases h1 : r1 with
  | error x =>
    have h2 := st_er (n := n) (p := p) (pSt_e (hr.trans h1))
    omega
  | ok y =>
    obtain ⟨q, s'⟩ := y
    have hqn := hq q s' h1
    have kq := hx.k1 hqn.2
    by_cases c : t (sk t q) = 59
    · have h2 := st_ok (n := n) (p := p) (pSt_ok (hr.trans h1) c)
      omega
    · have h2 := st_er (n := n) (p := p) (pSt_no (hr.trans h1) c)
      omega
theorem st_no {t : Int → Int} {n p : Int} {s : PS} {x : Int × Int} (hx : Txt t n) (h0 : 0 ≤ p) (hp : p ≤ n) (hr : pSt1 t p s = .error x) : 5 + (we t (sk t p) - sk t p) ≤ (stC n p (pSt t p s) : Int) ∧ 40 + 5 * (we t (sk t p) - sk t p) ≤ (stS n p (pSt t p s) : Int) := by
  have hk := hx.k1 hp
  have hw := hx.w1 hk.2.1
  have h2 := st_er (n := n) (p := p) (pSt_e hr)
  omega
/-- the word alone -/
theorem st_word {t : Int → Int} {n p : Int} {s : PS} (hx : Txt t n) (h0 : 0 ≤ p) (hp : p ≤ n) (hq : ∀ q s', pSt t p s = .ok (q, s') → we t (sk t p) < q ∧ 4 ≤ we t (sk t p) - sk t p) : 4 + (we t (sk t p) - sk t p) ≤ (stC n p (pSt t p s) : Int) ∧ 32 + 5 * (we t (sk t p) - sk t p) ≤ (stS n p (pSt t p s) : Int) := by
  have hk := hx.k1 hp
  have hw := hx.w1 hk.2.1
  cases h1 : pSt t p s with
  | error x =>
    have h2 := st_er (n := n) (p := p) h1
    rw [h1] at h2
    omega
  | ok y =>
    obtain ⟨q, s'⟩ := y
    have h3 := hq q s' h1
    have h2 := st_ok (n := n) (p := p) h1
    rw [h1] at h2
    omega
theorem wd_l4 {t : Int → Int} {p : Int} {w : List Int} (h : pw t p = w) (h4 : 4 ≤ w.length) : 4 ≤ we t (sk t p) - sk t p ∧ we t (sk t p) - sk t p = w.length := by
  have := pw_len (t := t) (e := p)
  rw [h] at this
  omega
theorem pName_r {t : Int → Int} {n q e : Int} {s : PS} (hx : Txt t n) (he : e ≤ n) : ∀ q2 s', pName t q e s = .ok (q2, s') → e < q2 ∧ q2 ≤ n := by
  intro q2 s' h
  have hk := hx.k1 he
  have hw := hx.w1 hk.2.1
  unfold pName at h
  split at h
  · cases hp : ptw t e with
    | error x => rw [hp] at h; cases h
    | ok r =>
      obtain ⟨w, b1, e1⟩ := r
      rw [hp] at h
      simp only at h
      unfold ptw at hp
      split at hp
      · cases hp
        split at h
        · cases h; omega
        · cases h
      · cases hp
  · cases h
theorem pLib_r {t : Int → Int} {n q e : Int} {s : PS} (hx : Txt t n) (h0 : 0 ≤ e) (he : e ≤ n) : ∀ q2 s', pLib t q e s = .ok (q2, s') → e < q2 ∧ q2 ≤ n := by
  intro q2 s' h
  have hk := hx.k1 he
  have hw := hx.w1 hk.2.1
  unfold pLib at h
  split at h
  · cases hp : ptw t e with
    | error x => rw [hp] at h; cases h
    | ok r =>
      obtain ⟨w, b1, e1⟩ := r
      rw [hp] at h
      simp only at h
      unfold ptw at hp
      split at hp
      · cases hp
        split at h
        · cases hn : pnum t (we t (sk t e)) 0 999 with
          | error x => rw [hn] at h; cases h
          | ok y =>
            obtain ⟨v, e3⟩ := y
            rw [hn] at h
            simp only at h
            have g := pnum_le hx (show 0 ≤ we t (sk t e) by omega) hw.2.1 hn
            have k3 := hx.k1 g.2
            have w3 := hx.w1 k3.2.1
            cases h
            split <;> omega
        · cases h
      · cases hp
  · cases h
theorem pOff_r {t : Int → Int} {n e : Int} {s : PS} (hx : Txt t n) (h0 : 0 ≤ e) (he : e ≤ n) : ∀ q2 s', pOff t e s = .ok (q2, s') → e < q2 ∧ q2 ≤ n := by
  intro q2 s' h
  have ke := hx.k1 he
  cases h1 : pkn t e (s.lb.map (·.1)) with
  | error x => rw [pOff_e1 h1] at h; cases h
  | ok y =>
    obtain ⟨k, b, e2⟩ := y
    have i1 := pkn_inv hx he h1
    cases h2 : pkn t e2 s.nm with
    | error x => rw [pOff_e2 h1 h2] at h; cases h
    | ok y =>
      obtain ⟨k2, b2, e3⟩ := y
      have i2 := pkn_inv hx i1.2.2.2.2.2.2 h2
      have k2' := hx.k1 i1.2.2.2.2.2.2
      have e3n := i2.2.2.2.2.2.2
      by_cases h3 : s.of k k2 = -1
      · by_cases h4 : pw t e3 = kwTo
        · rw [pOff_to h1 h2 h3 h4] at h
          cases h5 : pkn t (we t (sk t e3)) s.nm with
          | error x => rw [h5] at h; cases h
          | ok y =>
            obtain ⟨k4, b4, e5⟩ := y
            rw [h5] at h
            cases h
            have k3 := hx.k1 e3n
            have w3 := hx.w1 k3.2.1
            have i4 := pkn_inv hx w3.2.1 h5
            have k4' := hx.k1 w3.2.1
            omega
        · rw [pOff_nu h1 h2 h3 h4] at h
          cases h5 : pnum t e3 0 9999 with
          | error x => rw [h5] at h; cases h
          | ok y =>
            obtain ⟨v, e4⟩ := y
            rw [h5] at h
            cases h
            have g := pnum_le hx (show 0 ≤ e3 by omega) e3n h5
            omega
      · rw [pOff_e3 h1 h2 h3] at h; cases h
theorem pPre_r {t : Int → Int} {n e : Int} {s : PS} (hx : Txt t n) (h0 : 0 ≤ e) (he : e ≤ n) : ∀ q2 s', pPre t e s = .ok (q2, s') → e < q2 ∧ q2 ≤ n := by
  intro q2 s' h
  have ke := hx.k1 he
  cases h1 : pkn t e (s.lb.map (·.1)) with
  | error x => rw [pPre_e1 h1] at h; cases h
  | ok y =>
    obtain ⟨k, b, e2⟩ := y
    have i1 := pkn_inv hx he h1
    cases h2 : pkn t e2 (s.lb.map (·.1)) with
    | error x => rw [pPre_e2 h1 h2] at h; cases h
    | ok y =>
      obtain ⟨k2, b2, e3⟩ := y
      have i2 := pkn_inv hx i1.2.2.2.2.2.2 h2
      have k2' := hx.k1 i1.2.2.2.2.2.2
      by_cases h3 : k2 ≠ k ∧ k2 ∉ prf s.lb k
      · rw [pPre_ok h1 h2 h3] at h
        cases h
        omega
      · rw [pPre_e3 h1 h2 h3] at h; cases h
theorem pSha_r {t : Int → Int} {n q e : Int} {s : PS} (hx : Txt t n) (h0 : 0 ≤ e) (he : e ≤ n) : ∀ q2 s', pSha t q e s = .ok (q2, s') → e < q2 ∧ q2 ≤ n := by
  intro q2 s' h
  by_cases c : s.hs = true
  · rw [pSha_e1 c] at h; cases h
  · cases hn : pnum t e 0 100 with
    | error x => rw [pSha_e2 c hn] at h; cases h
    | ok y =>
      obtain ⟨v, e3⟩ := y
      rw [pSha_ok c hn] at h
      cases h
      exact pnum_le hx h0 he hn
theorem pWei_r {t : Int → Int} {n q e : Int} {s : PS} (hx : Txt t n) (h0 : 0 ≤ e) (he : e ≤ n) : ∀ q2 s', pWei t q e s = .ok (q2, s') → e ≤ q2 ∧ q2 ≤ n := by
  intro q2 s' h
  by_cases c : s.hw = true
  · rw [pWei_e1 c] at h; cases h
  · cases hn : pE 2500 3 t 0 e ([], fnT) with
    | error x => rw [pWei_e2 c hn] at h; cases h
    | ok y =>
      obtain ⟨v, e3⟩ := y
      rw [pWei_ok c hn] at h
      cases h
      exact pE_mono hx _ _ _ _ _ _ _ h0 he hn
/-- the weight's body -/
theorem st_wei {t : Int → Int} {n p : Int} {s : PS} (hx : Txt t n) (h0 : 0 ≤ p) (hp : p ≤ n) (hw0 : ¬ s.hw = true) (hr : pSt1 t p s = pWei t (sk t p) (we t (sk t p)) s) (hL : 4 ≤ we t (sk t p) - sk t p) : 5 + (we t (sk t p) - sk t p) + (rC n (we t (sk t p)) (en (pE 2500 3 t 0 (we t (sk t p)) ([], fnT))) : Int) ≤ (stC n p (pSt t p s) : Int) ∧ 40 + 5 * (we t (sk t p) - sk t p) + (rS n (we t (sk t p)) (en (pE 2500 3 t 0 (we t (sk t p)) ([], fnT))) : Int) ≤ (stS n p (pSt t p s) : Int) := by
  have hk := hx.k1 hp
  have hw := hx.w1 hk.2.1
  cases h1 : pE 2500 3 t 0 (we t (sk t p)) ([], fnT) with
  | error x =>
    have h2 := st_er (n := n) (p := p) (pSt_e (hr.trans (pWei_e2 hw0 h1)))
    show 5 + _ + ((8 * (n - we t (sk t p)).toNat + 40 : Nat) : Int) ≤ _ ∧ 40 + _ + ((40 * (n - we t (sk t p)).toNat + 200 : Nat) : Int) ≤ _
    omega
  | ok y =>
    obtain ⟨y1, q⟩ := y
    have hm := pE_mono hx _ _ _ _ _ _ _ (by omega) hw.2.1 h1
    have kq := hx.k1 hm.2
    show 5 + _ + ((8 * (q - we t (sk t p)).toNat : Nat) : Int) ≤ _ ∧ 40 + _ + ((40 * (q - we t (sk t p)).toNat : Nat) : Int) ≤ _
    by_cases c : t (sk t q) = 59
    · have h2 := st_ok (n := n) (p := p) (pSt_ok (hr.trans (pWei_ok hw0 h1)) c)
      omega
    · have h2 := st_er (n := n) (p := p) (pSt_no (hr.trans (pWei_ok hw0 h1)) c)
      omega
/-- a statement that is read: how far it goes -/
theorem pSt_r {t : Int → Int} {n p : Int} {s : PS} (hx : Txt t n) (h0 : 0 ≤ p) (hp : p ≤ n) : ∀ q s', pSt t p s = .ok (q, s') → we t (sk t p) < q ∧ q ≤ n ∧ 4 ≤ we t (sk t p) - sk t p := by
  intro q s' h
  have hk := hx.k1 hp
  have hw := hx.w1 hk.2.1
  unfold pSt at h
  cases h1 : pSt1 t p s with
  | error x => rw [h1] at h; cases h
  | ok y =>
    obtain ⟨q1, s1⟩ := y
    rw [h1] at h
    simp only at h
    have key : we t (sk t p) ≤ q1 ∧ q1 ≤ n ∧ 4 ≤ we t (sk t p) - sk t p := by
      unfold pSt1 at h1
      split at h1
      · rename_i c; have := pName_r hx hw.2.1 _ _ h1; have := (wd_l4 c (by decide)).1; omega
      · split at h1
        · rename_i c; have := pLib_r hx (by omega) hw.2.1 _ _ h1; have := (wd_l4 c (by decide)).1; omega
        · split at h1
          · rename_i c; have := pOff_r hx (by omega) hw.2.1 _ _ h1; have := (wd_l4 c (by decide)).1; omega
          · split at h1
            · rename_i c; have := pPre_r hx (by omega) hw.2.1 _ _ h1; have := (wd_l4 c (by decide)).1; omega
            · split at h1
              · rename_i c; have := pSha_r hx (by omega) hw.2.1 _ _ h1; have := (wd_l4 c (by decide)).1; omega
              · split at h1
                · rename_i c; have := pWei_r hx (by omega) hw.2.1 _ _ h1; have := (wd_l4 c (by decide)).1; omega
                · cases h1
    unfold pexp at h
    have kq := hx.k1 key.2.1
    split at h
    · rename_i c
      split at c
      · rename_i c59
        have := sk59 hx c59 key.2.1
        cases h
      · cases h
    · rename_i c
      split at c
      · rename_i c59
        have := sk59 hx c59 key.2.1
        cases c
        cases h
        omega
      · cases c
