/-! ===== what a parse of an expression costs ===== -/
set_option maxRecDepth 100000
theorem pE_mono {t : Int → Int} {n : Int} (hx : Txt t n) : ∀ (f m : Nat) (d p : Int) (x y : List Int × EF) (q : Int), 0 ≤ p → p ≤ n → pE f m t d p x = .ok (y, q) → p ≤ q ∧ q ≤ n := by
  intro f
  induction f with
  | zero => intro m d p x y q h0 h1 h; cases m <;> (rw [pE] at h; cases h)
  | succ f ih =>
    intro m d p x y q h0 h1 h
    have hk := hx.k1 h1
    have hw := hx.w1 hk.2.1
    match m, h with
    | 0, h =>
      by_cases c1 : t (sk t p) = 40
      · by_cases c2 : d < 4
        · rw [pE0_par c1 c2] at h
          have hsn : sk t p ≠ n := fun e => by rw [e, hx.2.2.1 n (Int.le_refl _)] at c1; cases c1
          cases hr : pE f 3 t (d + 1) (sk t p + 1) x with
          | error e => rw [hr] at h; cases h
          | ok yq =>
            obtain ⟨y1, q1⟩ := yq
            rw [hr] at h
            have hm := ih _ _ _ _ _ _ (by omega) (by omega) hr
            have hkq := hx.k1 hm.2
            simp only at h
            split at h
            · rename_i c3
              have hsn1 : sk t q1 ≠ n := fun e => by rw [e, hx.2.2.1 n (Int.le_refl _)] at c3; cases c3
              cases h
              omega
            · cases h
        · rw [pE0_deep c1 c2] at h; cases h
      · by_cases c2 : 48 ≤ t (sk t p) ∧ t (sk t p) ≤ 57
        · rw [pE0_num c1 c2] at h
          cases hr : pnum t p 0 9999 with
          | error e => rw [hr] at h; cases h
          | ok yq =>
            obtain ⟨v, q1⟩ := yq
            rw [hr] at h
            cases h
            have g1 := pnum_gt hx h0 h1 hr
            unfold pnum at hr
            rw [if_pos c2] at hr
            split at hr
            · cases hr
              have := nu_rg (v := 0) hx (show 0 ≤ sk t p by omega) hk.2.1 (by omega) (by omega)
              omega
            · cases hr
        · rw [pE0_kw c1 c2] at h
          (repeat' split at h) <;> first | (cases h; omega) | cases h
    | 1, h =>
      rw [pE1] at h
      cases hr : pE f 0 t d p x with
      | error e => rw [hr] at h; cases h
      | ok yq =>
        obtain ⟨y1, q1⟩ := yq
        rw [hr] at h
        have hm := ih _ _ _ _ _ _ h0 h1 hr
        have hm2 := ih _ _ _ _ _ _ (by omega) hm.2 h
        omega
    | 2, h =>
      rw [pE2] at h
      split at h
      · rename_i c1
        have hsn : sk t p ≠ n := fun e => by rw [e, hx.2.2.1 n (Int.le_refl _)] at c1; omega
        cases hr : pE f 0 t d (sk t p + 1) x with
        | error e => rw [hr] at h; cases h
        | ok yq =>
          obtain ⟨y1, q1⟩ := yq
          rw [hr] at h
          have hm := ih _ _ _ _ _ _ (by omega) (by omega) hr
          have hm2 := ih _ _ _ _ _ _ (by omega) hm.2 h
          omega
      · cases h; omega
    | 3, h =>
      rw [pE3] at h
      cases hr : pE f 1 t d p x with
      | error e => rw [hr] at h; cases h
      | ok yq =>
        obtain ⟨y1, q1⟩ := yq
        rw [hr] at h
        have hm := ih _ _ _ _ _ _ h0 h1 hr
        have hm2 := ih _ _ _ _ _ _ (by omega) hm.2 h
        omega
    | 4, h =>
      rw [pE4] at h
      split at h
      · rename_i c1
        have hsn : sk t p ≠ n := fun e => by rw [e, hx.2.2.1 n (Int.le_refl _)] at c1; omega
        cases hr : pE f 1 t d (sk t p + 1) x with
        | error e => rw [hr] at h; cases h
        | ok yq =>
          obtain ⟨y1, q1⟩ := yq
          rw [hr] at h
          have hm := ih _ _ _ _ _ _ (by omega) (by omega) hr
          have hm2 := ih _ _ _ _ _ _ (by omega) hm.2 h
          omega
      · cases h; omega
    | m + 5, h =>
      rw [pE] at h
      split at h
      · rename_i c1
        have hsn : sk t p ≠ n := fun e => by rw [e, hx.2.2.1 n (Int.le_refl _)] at c1; omega
        cases hr : pE f 1 t d (sk t p + 1) x with
        | error e => rw [hr] at h; cases h
        | ok yq =>
          obtain ⟨y1, q1⟩ := yq
          rw [hr] at h
          have hm := ih _ _ _ _ _ _ (by omega) (by omega) hr
          have hm2 := ih _ _ _ _ _ _ (by omega) hm.2 h
          omega
      · cases h; omega
      all_goals (intros; omega)
theorem rC_le {n p q1 : Int} {e : Option Int} (h : ∀ q, e = some q → q1 ≤ q) (hn : q1 ≤ n) : 8 * (q1 - p).toNat ≤ rC n p e ∧ 40 * (q1 - p).toNat ≤ rS n p e := by
  cases e with
  | none => show _ ≤ 8 * (n - p).toNat + 40 ∧ _ ≤ 40 * (n - p).toNat + 200; omega
  | some q => have := h q rfl; show _ ≤ 8 * (q - p).toNat ∧ _ ≤ 40 * (q - p).toNat; omega
theorem en_ok {α : Type} {r : PE (α × Int)} {y : α} {q : Int} (h : r = .ok (y, q)) : en r = some q := by rw [h]; rfl
theorem en_er {α : Type} {r : PE (α × Int)} {e : Int × Int} (h : r = .error e) : en r = none := by rw [h]; rfl
theorem en_some {α : Type} {r : PE (α × Int)} {q : Int} (h : en r = some q) : ∃ y, r = .ok (y, q) := by
  cases r with
  | error e => cases h
  | ok yq => obtain ⟨y, q1⟩ := yq; cases h; exact ⟨y, rfl⟩
/-- a part that starts at p1 and the rest -/
theorem rC_in {α β : Type} {n p p1 : Int} {c s : Nat} {r1 : PE (α × Int)} {r : PE (β × Int)} (hp : p ≤ p1) (hp1 : p1 ≤ n) (hr1 : ∀ y q, r1 = .ok (y, q) → p1 ≤ q ∧ q ≤ n) (he : ∀ e, r1 = .error e → ∃ e', r = .error e') (ho : ∀ y q1 z q, r1 = .ok (y, q1) → r = .ok (z, q) → q1 ≤ q) (hc : c ≤ 8 * (p1 - p).toNat) (hs : s ≤ 40 * (p1 - p).toNat) : c + rC n p1 (en r1) ≤ rC n p (en r) ∧ s + rS n p1 (en r1) ≤ rS n p (en r) := by
  cases h1 : r1 with
  | error e =>
    obtain ⟨e', h2⟩ := he e h1
    rw [h2]
    show c + (8 * (n - p1).toNat + 40) ≤ 8 * (n - p).toNat + 40 ∧ s + (40 * (n - p1).toNat + 200) ≤ 40 * (n - p).toNat + 200
    omega
  | ok yq =>
    obtain ⟨y, q1⟩ := yq
    have h3 := hr1 y q1 h1
    cases h2 : r with
    | error e' => show c + 8 * (q1 - p1).toNat ≤ 8 * (n - p).toNat + 40 ∧ s + 40 * (q1 - p1).toNat ≤ 40 * (n - p).toNat + 200; omega
    | ok zq =>
      obtain ⟨z, q⟩ := zq
      have h4 := ho y q1 z q h1 h2
      show c + 8 * (q1 - p1).toNat ≤ 8 * (q - p).toNat ∧ s + 40 * (q1 - p1).toNat ≤ 40 * (q - p).toNat
      omega
theorem c_par {t : Int → Int} {n p d : Int} {x : List Int × EF} {f : Nat} (hx : Txt t n) (h0 : 0 ≤ p) (hp : p ≤ n) (h : t (sk t p) = 40) (hd : d < 4) : rC n (sk t p + 1) (en (pE f 3 t (d + 1) (sk t p + 1) x)) + 1 ≤ rC n p (en (pE (f + 1) 0 t d p x)) ∧ rS n (sk t p + 1) (en (pE f 3 t (d + 1) (sk t p + 1) x)) + 8 ≤ rS n p (en (pE (f + 1) 0 t d p x)) := by
  have hk := hx.k1 hp
  have hsn : sk t p ≠ n := fun e => by rw [e, hx.2.2.1 n (Int.le_refl _)] at h; cases h
  have := rC_in (n := n) (p := p) (p1 := sk t p + 1) (c := 1) (s := 8) (r1 := pE f 3 t (d + 1) (sk t p + 1) x) (r := pE (f + 1) 0 t d p x) (by omega) (by omega) (fun y q e => pE_mono hx _ _ _ _ _ _ _ (by omega) (by omega) e) (fun e he => ⟨e, by rw [pE0_par h hd, he]⟩) (fun y q1 z q e1 e2 => by
    have hm := pE_mono hx _ _ _ _ _ _ _ (by omega) (by omega) e1
    have hkq := hx.k1 hm.2
    rw [pE0_par h hd, e1] at e2
    simp only at e2
    split at e2
    · cases e2; omega
    · cases e2) (by omega) (by omega)
  omega
theorem c_num {t : Int → Int} {n p d : Int} {x : List Int × EF} {f : Nat} (hx : Txt t n) (h0 : 0 ≤ p) (hp : p ≤ n) (h : t (sk t p) ≠ 40) (h2 : 48 ≤ t (sk t p) ∧ t (sk t p) ≤ 57) : 2 ≤ rC n p (en (pE (f + 1) 0 t d p x)) ∧ 9 ≤ rS n p (en (pE (f + 1) 0 t d p x)) := by
  rw [pE0_num h h2]
  cases hr : pnum t p 0 9999 with
  | error e => show 2 ≤ 8 * (n - p).toNat + 40 ∧ 9 ≤ 40 * (n - p).toNat + 200; omega
  | ok yq =>
    obtain ⟨v, q⟩ := yq
    have := pnum_gt hx h0 hp hr
    show 2 ≤ 8 * (q - p).toNat ∧ 9 ≤ 40 * (q - p).toNat
    omega
theorem c_word {t : Int → Int} {n p d : Int} {x : List Int × EF} {f : Nat} (hx : Txt t n) (h0 : 0 ≤ p) (hp : p ≤ n) (h : t (sk t p) ≠ 40) (h2 : ¬ (48 ≤ t (sk t p) ∧ t (sk t p) ≤ 57)) : wC (we t (sk t p) - sk t p).toNat + 1 ≤ rC n p (en (pE (f + 1) 0 t d p x)) ∧ wS (we t (sk t p) - sk t p).toNat + 8 ≤ rS n p (en (pE (f + 1) 0 t d p x)) := by
  have hk := hx.k1 hp
  have hw := hx.w1 hk.2.1
  have hl : (pw t p).length = (we t (sk t p) - sk t p).toNat := by unfold pw; rw [wd_len]
  have key : ∀ kw : List Int, 4 ≤ kw.length → pw t p = kw → 4 + (we t (sk t p) - sk t p).toNat + 1 ≤ 8 * (we t (sk t p) - p).toNat ∧ 32 + 5 * (we t (sk t p) - sk t p).toNat + 8 ≤ 40 * (we t (sk t p) - p).toNat := fun kw h4 e => by rw [e] at hl; omega
  rw [pE0_kw h h2]
  show 4 + (we t (sk t p) - sk t p).toNat + 1 ≤ _ ∧ 32 + 5 * (we t (sk t p) - sk t p).toNat + 8 ≤ _
  split
  · rename_i c; exact key kwTrust (by decide) c
  · split
    · rename_i c; exact key kwRank (by decide) c
    · split
      · rename_i c; exact key kwOffers (by decide) c
      · split
        · rename_i c; exact key kwFriends (by decide) c
        · show _ ≤ 8 * (n - p).toNat + 40 ∧ _ ≤ 40 * (n - p).toNat + 200; omega
theorem c_deep {t : Int → Int} {n p d : Int} {x : List Int × EF} {f : Nat} (h : t (sk t p) = 40) (hd : ¬ d < 4) : 1 ≤ rC n p (en (pE (f + 1) 0 t d p x)) ∧ 8 ≤ rS n p (en (pE (f + 1) 0 t d p x)) := by
  rw [pE0_deep h hd]
  show 1 ≤ 8 * (n - p).toNat + 40 ∧ 8 ≤ 40 * (n - p).toNat + 200
  omega
theorem c_t1 {t : Int → Int} {n p d : Int} {x : List Int × EF} {f : Nat} (hx : Txt t n) (h0 : 0 ≤ p) (hp : p ≤ n) : rC n p (en (pE f 0 t d p x)) ≤ rC n p (en (pE (f + 1) 1 t d p x)) ∧ rS n p (en (pE f 0 t d p x)) ≤ rS n p (en (pE (f + 1) 1 t d p x)) := by
  have := rC_in (n := n) (p := p) (p1 := p) (c := 0) (s := 0) (r1 := pE f 0 t d p x) (r := pE (f + 1) 1 t d p x) (by omega) hp (fun y q e => pE_mono hx _ _ _ _ _ _ _ h0 hp e) (fun e he => ⟨e, by rw [pE1, he]⟩) (fun y q1 z q e1 e2 => by
    have hm := pE_mono hx _ _ _ _ _ _ _ h0 hp e1
    rw [pE1, e1] at e2
    exact (pE_mono hx _ _ _ _ _ _ _ (by omega) hm.2 e2).1) (by omega) (by omega)
  omega
theorem c_s1 {t : Int → Int} {n p d : Int} {x : List Int × EF} {f : Nat} (hx : Txt t n) (h0 : 0 ≤ p) (hp : p ≤ n) : rC n p (en (pE f 1 t d p x)) ≤ rC n p (en (pE (f + 1) 3 t d p x)) ∧ rS n p (en (pE f 1 t d p x)) ≤ rS n p (en (pE (f + 1) 3 t d p x)) := by
  have := rC_in (n := n) (p := p) (p1 := p) (c := 0) (s := 0) (r1 := pE f 1 t d p x) (r := pE (f + 1) 3 t d p x) (by omega) hp (fun y q e => pE_mono hx _ _ _ _ _ _ _ h0 hp e) (fun e he => ⟨e, by rw [pE3, he]⟩) (fun y q1 z q e1 e2 => by
    have hm := pE_mono hx _ _ _ _ _ _ _ h0 hp e1
    rw [pE3, e1] at e2
    exact (pE_mono hx _ _ _ _ _ _ _ (by omega) hm.2 e2).1) (by omega) (by omega)
  omega
theorem c_t2 {t : Int → Int} {n p q d : Int} {x : List Int × EF} {f : Nat} (hx : Txt t n) (hpq : p ≤ q) (h0 : 0 ≤ q) (hq : q ≤ n) (h : t (sk t q) = 42 ∨ t (sk t q) = 47) : 8 * (q - p).toNat + rC n (sk t q + 1) (en (pE f 0 t d (sk t q + 1) x)) + 1 ≤ rC n p (en (pE (f + 1) 2 t d q x)) ∧ 40 * (q - p).toNat + rS n (sk t q + 1) (en (pE f 0 t d (sk t q + 1) x)) + 3 ≤ rS n p (en (pE (f + 1) 2 t d q x)) := by
  have hk := hx.k1 hq
  have hsn : sk t q ≠ n := fun e => by rw [e, hx.2.2.1 n (Int.le_refl _)] at h; omega
  have := rC_in (n := n) (p := p) (p1 := sk t q + 1) (c := 8 * (q - p).toNat + 1) (s := 40 * (q - p).toNat + 3) (r1 := pE f 0 t d (sk t q + 1) x) (r := pE (f + 1) 2 t d q x) (by omega) (by omega) (fun y q e => pE_mono hx _ _ _ _ _ _ _ (by omega) (by omega) e) (fun e he => ⟨e, by rw [pE2, if_pos h, he]⟩) (fun y q1 z q e1 e2 => by
    have hm := pE_mono hx _ _ _ _ _ _ _ (by omega) (by omega) e1
    rw [pE2, if_pos h, e1] at e2
    exact (pE_mono hx _ _ _ _ _ _ _ (by omega) hm.2 e2).1) (by omega) (by omega)
  omega
theorem c_s2 {t : Int → Int} {n p q d : Int} {x : List Int × EF} {f : Nat} (hx : Txt t n) (hpq : p ≤ q) (h0 : 0 ≤ q) (hq : q ≤ n) (h : t (sk t q) = 43 ∨ t (sk t q) = 45) : 8 * (q - p).toNat + rC n (sk t q + 1) (en (pE f 1 t d (sk t q + 1) x)) + 1 ≤ rC n p (en (pE (f + 1) 4 t d q x)) ∧ 40 * (q - p).toNat + rS n (sk t q + 1) (en (pE f 1 t d (sk t q + 1) x)) + 3 ≤ rS n p (en (pE (f + 1) 4 t d q x)) := by
  have hk := hx.k1 hq
  have hsn : sk t q ≠ n := fun e => by rw [e, hx.2.2.1 n (Int.le_refl _)] at h; omega
  have := rC_in (n := n) (p := p) (p1 := sk t q + 1) (c := 8 * (q - p).toNat + 1) (s := 40 * (q - p).toNat + 3) (r1 := pE f 1 t d (sk t q + 1) x) (r := pE (f + 1) 4 t d q x) (by omega) (by omega) (fun y q e => pE_mono hx _ _ _ _ _ _ _ (by omega) (by omega) e) (fun e he => ⟨e, by rw [pE4, if_pos h, he]⟩) (fun y q1 z q e1 e2 => by
    have hm := pE_mono hx _ _ _ _ _ _ _ (by omega) (by omega) e1
    rw [pE4, if_pos h, e1] at e2
    exact (pE_mono hx _ _ _ _ _ _ _ (by omega) hm.2 e2).1) (by omega) (by omega)
  omega
/-- the end of a loop -/
theorem c_end {t : Int → Int} {n p q : Int} {y : List Int × EF} {r : PE ((List Int × EF) × Int)} (hx : Txt t n) (hpq : p ≤ q) (hq : q ≤ n) (h : r = .ok (y, sk t q)) : 8 * (q - p).toNat ≤ rC n p (en r) ∧ 40 * (q - p).toNat ≤ rS n p (en r) := by
  have hk := hx.k1 hq
  rw [h]
  show 8 * (q - p).toNat ≤ 8 * (sk t q - p).toNat ∧ 40 * (q - p).toNat ≤ 40 * (sk t q - p).toNat
  omega
theorem vkw_len (k : Nat) : (4 : Int) ≤ ((vkw k).length : Int) := by unfold vkw; split <;> decide
theorem pE_var {f k : Nat} {t : Int → Int} {d p : Int} {x : List Int × EF} (h1 : t (sk t p) ≠ 40) (h2 : ¬ (48 ≤ t (sk t p) ∧ t (sk t p) ≤ 57)) (hk : pw t p = vkw k) (k1 : 1 ≤ k) (k4 : k ≤ 4) : pE (f + 1) 0 t d p x = .ok (([1, (k : Int) - 1], fvar k), we t (sk t p)) := by
  rw [pE0_kw h1 h2, hk]
  have : k = 1 ∨ k = 2 ∨ k = 3 ∨ k = 4 := by omega
  rcases this with rfl | rfl | rfl | rfl
  · rw [if_pos (show vkw 1 = kwTrust from rfl)]; rfl
  · rw [if_neg (by decide), if_pos (show vkw 2 = kwRank from rfl)]; rfl
  · rw [if_neg (by decide), if_neg (by decide), if_pos (show vkw 3 = kwOffers from rfl)]; rfl
  · rw [if_neg (by decide), if_neg (by decide), if_neg (by decide), if_pos (show vkw 4 = kwFriends from rfl)]; rfl
theorem WT.vv {G : GT} {h : AH} (hL : LitC G h) {k : Nat} (h1 : 1 ≤ k) (h2 : k ≤ 4) : WT G h 1 (lob G k) (fvar k) := Or.inl ⟨k, h1, h2, rfl, hL.2.2 k h1 h2, rfl⟩
