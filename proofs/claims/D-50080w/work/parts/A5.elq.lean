/-! ===== what holds of an election's tables ===== -/
set_option maxRecDepth 100000
theorem hBs_mem {cd : Int → Bool} {sp : Int → Int} : ∀ (l : List Int) (b : Int), hBs cd sp l b = b ∨ (hBs cd sp l b ∈ l ∧ cd (hBs cd sp l b) = true) := by
  intro l
  induction l with
  | nil => intro b; exact Or.inl rfl
  | cons x l ih =>
    intro b
    rw [hBs_c]
    by_cases c : cd x = true ∧ (b = -1 ∨ sp b < sp x)
    · rw [if_pos c]
      rcases ih x with h | ⟨h1, h2⟩
      · rw [h]; exact Or.inr ⟨List.mem_cons_self, c.1⟩
      · exact Or.inr ⟨List.mem_cons_of_mem _ h1, h2⟩
    · rw [if_neg c]
      rcases ih b with h | ⟨h1, h2⟩
      · exact Or.inl h
      · exact Or.inr ⟨List.mem_cons_of_mem _ h1, h2⟩
theorem hVt_cd {W : Int → Int} {O : Int → Int → Int} {lb : List LV} {k n : Int} (h : hVt W O lb k n ≠ -1) : W (hVt W O lb k n) ≠ -1 ∧ O (hVt W O lb k n) n ≠ -1 := by
  unfold hVt at h ⊢
  by_cases c1 : W k = -1
  · rw [if_pos c1] at h; exact absurd rfl h
  · rw [if_neg c1] at h ⊢
    by_cases c2 : O k n ≠ -1
    · rw [if_pos c2]; exact ⟨c1, c2⟩
    · rw [if_neg c2] at h ⊢
      cases hf : (prf lb k).find? (fun o => hCd W O o n) with
      | none => rw [hf] at h; exact absurd rfl h
      | some o =>
        have := List.find?_some hf
        exact hCd_t.mp this
def ERg (L N : Nat) (W Wi : Int → Int) (O V S B : Int → Int → Int) : Prop := (∀ c n : Int, 0 ≤ c → c < L → 0 ≤ n → n < N → 0 ≤ S c n ∧ S c n ≤ 79992) ∧ (∀ n : Int, 0 ≤ n → n < N → -1 ≤ Wi n ∧ Wi n < L) ∧ (∀ k n : Int, 0 ≤ k → k < L → 0 ≤ n → n < N → -1 ≤ V k n ∧ V k n < L) ∧ (∀ k n : Int, 0 ≤ k → k < L → 0 ≤ n → n < N → -1 ≤ B k n ∧ B k n < L) ∧ (∀ k n : Int, 0 ≤ k → k < L → 0 ≤ n → n < N → B k n ≠ -1 → O (B k n) n ≠ -1) ∧ (∀ k n : Int, 0 ≤ k → k < L → 0 ≤ n → n < N → W k = -1 → B k n = -1) ∧ (∀ k n : Int, 0 ≤ k → k < L → 0 ≤ n → n < N → -2 - (N : Int) < O k n ∧ O k n ≤ 9999)
abbrev QE (v : HV) (W Wi T : Int → Int) (O V S B : Int → Int → Int) : Prop := ELq v.lb v.nm.length v.of v.ld v.sh v.fn W Wi T O V S B
theorem QE.rg {v : HV} {W Wi T : Int → Int} {O V S B : Int → Int → Int} (hq : QE v W Wi T O V S B) (hok : HVok v) : ERg v.lb.length v.nm.length W Wi O V S B := by
  obtain ⟨q1, q2, q3, q4, q5⟩ := hq
  have h8 := hok.2.1
  have hS : ∀ c n : Int, 0 ≤ c → c < v.lb.length → 0 ≤ n → n < v.nm.length → 0 ≤ S c n ∧ S c n ≤ 79992 := fun c n c0 c1 n0 n1 => by
    rw [(q5 n n0 n1).2.1 c c0 c1]
    have := hSj_bd (W := W) (O := O) (lb := v.lb) (n := n) (j := (v.lb.length : Int)) (c := c) q2 c0 (by omega)
    omega
  have hW : ∀ n : Int, 0 ≤ n → n < v.nm.length → Wi n = -1 ∨ (0 ≤ Wi n ∧ Wi n < v.lb.length ∧ W (Wi n) ≠ -1 ∧ O (Wi n) n ≠ -1) := fun n n0 n1 => by
    have e := (q5 n n0 n1).2.2.2.1
    rcases hBs_mem (cd := fun k => hCd W O k n) (sp := fun c => S c n) v.ld (-1) with h | ⟨h1, h2⟩
    · exact Or.inl (e.trans h)
    · rw [← e] at h1 h2
      have := hok.2.2.1 _ h1
      have := hCd_t.mp h2
      exact Or.inr ⟨by omega, by omega, this⟩
  have hV : ∀ k n : Int, 0 ≤ k → k < v.lb.length → 0 ≤ n → n < v.nm.length → -1 ≤ V k n ∧ V k n < v.lb.length ∧ (V k n ≠ -1 → O (V k n) n ≠ -1) := fun k n k0 k1 n0 n1 => by
    rw [(q5 n n0 n1).1 k k0 k1]
    have := hVt_bd (W := W) (O := O) (n := n) hok.2.2.2.2.1 k0 k1
    exact ⟨this.1, this.2, fun z => (hVt_cd z).2⟩
  have hB : ∀ k n : Int, 0 ≤ k → k < v.lb.length → 0 ≤ n → n < v.nm.length → (B k n = -1 ∨ (W k ≠ -1 ∧ B k n = V k n ∧ V k n ≠ -1) ∨ (W k ≠ -1 ∧ B k n = Wi n)) := fun k n k0 k1 n0 n1 => by
    have e := (q5 n n0 n1).2.2.2.2 k k0 k1
    unfold hBd at e
    split at e
    · exact Or.inl e
    · rename_i c1
      split at e
      · rename_i c2; exact Or.inr (Or.inl ⟨c1, e, c2.2.1⟩)
      · exact Or.inr (Or.inr ⟨c1, e⟩)
  refine ⟨hS, fun n n0 n1 => ?_, fun k n k0 k1 n0 n1 => ⟨(hV k n k0 k1 n0 n1).1, (hV k n k0 k1 n0 n1).2.1⟩, fun k n k0 k1 n0 n1 => ?_, fun k n k0 k1 n0 n1 hb => ?_, fun k n k0 k1 n0 n1 hw => ?_, fun k n k0 k1 n0 n1 => ?_⟩
  · have := hW n n0 n1; omega
  · have h1 := hB k n k0 k1 n0 n1
    have h2 := hV k n k0 k1 n0 n1
    have h3 := hW n n0 n1
    omega
  · rcases hB k n k0 k1 n0 n1 with h | ⟨-, h, h'⟩ | ⟨-, h⟩
    · exact absurd h hb
    · rw [h]; exact (hV k n k0 k1 n0 n1).2.2 h'
    · rw [h] at hb ⊢
      rcases hW n n0 n1 with h3 | h3
      · exact absurd h3 hb
      · exact h3.2.2.2
  · rcases hB k n k0 k1 n0 n1 with h | ⟨h, -⟩ | ⟨h, -⟩
    · exact h
    · exact absurd hw h
    · exact absurd hw h
  · rw [q3 k n k0 k1 n0 n1]
    exact hok.2.2.2.2.2.2.2.1 k n
def lbv (v : HV) (k w : Int) : Int := if w = 0 then hTr v.lb k else if w = 1 then hKp v.lb k else if w = 2 then fi v.ld k else if w = 3 then smI v.nm.length (fun n => bI (v.of k n ≠ -1)) else if w = 4 then ((prf v.lb k).length : Int) else hWt v.nm.length v.lb v.of v.ld v.fn k
