/-! ===== one statement on the draft ===== -/
set_option maxRecDepth 100000
theorem seen0 (a b : Bool) : ((bN a + 2 * bN b) / 2 ^ 0 % 2 = 1 ↔ a = true) ∧ ((bN a + 2 * bN b) ||| 1 * 2 ^ 0) = bN true + 2 * bN b := by cases a <;> cases b <;> decide
theorem seen1 (a b : Bool) : ((bN a + 2 * bN b) / 2 ^ 1 % 2 = 1 ↔ b = true) ∧ ((bN a + 2 * bN b) ||| 1 * 2 ^ 1) = bN a + 2 * bN true := by cases a <;> cases b <;> decide
theorem bN4 (a b : Bool) : bN a + 2 * bN b < 4 := by cases a <;> cases b <;> decide
theorem MRep.seen {σ : MS} {s : PS} (h : MRep σ s) : σ 14 0 0 = ((bN s.hs + 2 * bN s.hw : Nat) : Int) := h.2.2.2.2.2.1
theorem MRep.nst {σ : MS} {s : PS} (h : MRep σ s) : σ 13 0 0 = 0 := h.2.2.2.2.2.2
theorem MRep.ncs {σ : MS} {s : PS} (h : MRep σ s) : σ 9 0 5 = s.cs.length := h.1.2.2.2.2
theorem PSok.cs0 {s : PS} (h : PSok s) (hw : s.hw ≠ true) : s.cs = [] := by
  rcases h.2.2.2.2.2.2.2.2.1 with q | q
  · exact q.2.1
  · exact absurd q.1 hw
theorem PSok.addS {s : PS} {v : Int} (h : PSok s) (h0 : 0 ≤ v) (h1 : v ≤ 100) : PSok (PS.mk0 s.nm s.lb s.of v true s.hw s.cs s.fn) := by
  obtain ⟨a1, a2, a3, a4, a5, a6, -, a8, a9, a10⟩ := h
  exact ⟨a1, a2, a3, a4, a5, a6, ⟨h0, h1⟩, a8, a9, a10⟩
theorem PSok.addW {s : PS} {y : List Int × EF} (h : PSok s) (h0 : y.1.length ≤ 1250) (h1 : ∃ d, Cd d y.1 y.2) : PSok (PS.mk0 s.nm s.lb s.of s.sh s.hs true y.1 y.2) := by
  obtain ⟨a1, a2, a3, a4, a5, a6, a7, -, -, a10⟩ := h
  exact ⟨a1, a2, a3, a4, a5, a6, a7, h0, Or.inr ⟨rfl, h1⟩, a10⟩
theorem MRep.addS {σ σ' : MS} {s : PS} {v : Int} (h : MRep σ s) (hv : σ' 9 0 0 = v) (h9 : ∀ z : Int, z ≠ 0 → σ' 9 0 z = σ 9 0 z) (h14 : σ' 14 0 0 = ((bN true + 2 * bN s.hw : Nat) : Int)) (h13 : σ' 13 = σ 13) (h15 : σ' 15 = σ 15) (h16 : σ' 16 = σ 16) : MRep σ' (PS.mk0 s.nm s.lb s.of v true s.hw s.cs s.fn) := by
  obtain ⟨⟨a0, a1, a2, a3, a5⟩, hh, hb, h0, hn, hf, hd⟩ := h
  refine ⟨⟨hv, by rw [h9 _ (by decide)]; exact a1, by rw [h9 _ (by decide)]; exact a2, by rw [h9 _ (by decide)]; exact a3, by rw [h9 _ (by decide)]; exact a5⟩, fun n c hc => by rw [h9 _ (by omega)]; exact hh n c hc, fun k x hx => ?_, fun k h1 h2 => by rw [h9 _ (by have : (s.lb.length : Int) ≤ k := h1; omega)]; exact h0 k h1 h2, fun i x hx => by rw [h16]; exact hn i x hx, h14, by rw [h13]; exact hd⟩
  obtain ⟨⟨b0, b1, b2, b3⟩, c, d, e⟩ := hb k x hx
  exact ⟨⟨by rw [h9 _ (by omega)]; exact b0, by rw [h9 _ (by omega)]; exact b1, by rw [h9 _ (by omega)]; exact b2, by rw [h9 _ (by omega)]; exact b3⟩, fun i y hy => by rw [h9 _ (by omega)]; exact c i y hy, fun n n0 n1 => by rw [h9 _ (by omega)]; exact d n n0 n1, by rw [h15]; exact e⟩
theorem MRep.addW {σ σ' : MS} {s : PS} {y : List Int × EF} (h : MRep σ s) (hs : PSok s) (h5 : σ' 9 0 5 = y.1.length) (hy : Has (σ' 9 0) 0 y.1) (h9 : ∀ z : Int, z ≠ 4 → z ≠ 5 → z < 198 → σ' 9 0 z = σ 9 0 z) (h14 : σ' 14 0 0 = ((bN s.hs + 2 * bN true : Nat) : Int)) (h13 : σ' 13 0 0 = σ 13 0 0) (h15 : σ' 15 = σ 15) (h16 : σ' 16 = σ 16) : MRep σ' (PS.mk0 s.nm s.lb s.of s.sh s.hs true y.1 y.2) := by
  obtain ⟨⟨a0, a1, a2, a3, a5⟩, hh, hb, h0, hn, hf, hd⟩ := h
  have l8 := hs.lbl
  refine ⟨⟨by rw [h9 _ (by decide) (by decide) (by decide)]; exact a0, by rw [h9 _ (by decide) (by decide) (by decide)]; exact a1, by rw [h9 _ (by decide) (by decide) (by decide)]; exact a2, by rw [h9 _ (by decide) (by decide) (by decide)]; exact a3, h5⟩, hy, fun k x hx => ?_, fun k h1 h2 => by rw [h9 _ (by have : (s.lb.length : Int) ≤ k := h1; omega) (by have : (s.lb.length : Int) ≤ k := h1; omega) (by omega)]; exact h0 k h1 h2, fun i x hx => by rw [h16]; exact hn i x hx, h14, by rw [h13]; exact hd⟩
  have hk := (List.getElem?_eq_some_iff.mp hx).1
  have hk : k < s.lb.length := hk
  obtain ⟨⟨b0, b1, b2, b3⟩, c, d, e⟩ := hb k x hx
  have hx7 := (hs.2.2.2.1 x (List.mem_of_getElem? hx)).2.2.2.2.1
  refine ⟨⟨by rw [h9 _ (by omega) (by omega) (by omega)]; exact b0, by rw [h9 _ (by omega) (by omega) (by omega)]; exact b1, by rw [h9 _ (by omega) (by omega) (by omega)]; exact b2, by rw [h9 _ (by omega) (by omega) (by omega)]; exact b3⟩, fun i y hy => ?_, fun n n0 n1 => by rw [h9 _ (by omega) (by omega) (by omega)]; exact d n n0 n1, by rw [h15]; exact e⟩
  have := (List.getElem?_eq_some_iff.mp hy).1
  rw [h9 _ (by omega) (by omega) (by omega)]; exact c i y hy
theorem pSt_e {t : Int → Int} {p : Int} {s : PS} {x : Int × Int} (h : pSt1 t p s = .error x) : pSt t p s = .error x := by unfold pSt; rw [h]
theorem pSt_ok {t : Int → Int} {p e : Int} {s s1 : PS} (h : pSt1 t p s = .ok (e, s1)) (h2 : t (sk t e) = 59) : pSt t p s = .ok (sk t e + 1, s1) := by unfold pSt; rw [h]; simp only; unfold pexp; rw [if_pos h2]
theorem pSt_no {t : Int → Int} {p e : Int} {s s1 : PS} (h : pSt1 t p s = .ok (e, s1)) (h2 : t (sk t e) ≠ 59) : pSt t p s = .error (-2, sk t e) := by unfold pSt; rw [h]; simp only; unfold pexp; rw [if_neg h2]
theorem pSha_e1 {t : Int → Int} {q e : Int} {s : PS} (h : s.hs = true) : pSha t q e s = .error (-2, q) := by unfold pSha; rw [if_pos h]
theorem pSha_e2 {t : Int → Int} {q e : Int} {s : PS} {x : Int × Int} (h : ¬ s.hs = true) (h2 : pnum t e 0 100 = .error x) : pSha t q e s = .error x := by unfold pSha; rw [if_neg h, h2]
theorem pSha_ok {t : Int → Int} {q e v e2 : Int} {s : PS} (h : ¬ s.hs = true) (h2 : pnum t e 0 100 = .ok (v, e2)) : pSha t q e s = .ok (e2, PS.mk0 s.nm s.lb s.of v true s.hw s.cs s.fn) := by unfold pSha; rw [if_neg h, h2]
theorem pWei_e1 {t : Int → Int} {q e : Int} {s : PS} (h : s.hw = true) : pWei t q e s = .error (-2, q) := by unfold pWei; rw [if_pos h]
theorem pWei_e2 {t : Int → Int} {q e : Int} {s : PS} {x : Int × Int} (h : ¬ s.hw = true) (h2 : pE 2500 3 t 0 e ([], fnT) = .error x) : pWei t q e s = .error x := by unfold pWei; rw [if_neg h, h2]
theorem pWei_ok {t : Int → Int} {q e e2 : Int} {y : List Int × EF} {s : PS} (h : ¬ s.hw = true) (h2 : pE 2500 3 t 0 e ([], fnT) = .ok (y, e2)) : pWei t q e s = .ok (e2, PS.mk0 s.nm s.lb s.of s.sh s.hs true y.1 y.2) := by unfold pWei; rw [if_neg h, h2]
