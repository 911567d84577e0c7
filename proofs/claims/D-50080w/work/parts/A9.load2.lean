/-! ===== a text is loaded ===== -/
set_option maxRecDepth 100000
def PNeg (s : PS) : Prop := ∀ k n : Int, k < 0 ∨ n < 0 → s.of k n = -1
theorem pOff_of {t : Int → Int} {n e : Int} {s : PS} (hx : Txt t n) (he : e ≤ n) : ∀ q2 s', pOff t e s = .ok (q2, s') → ∃ k m v, 0 ≤ k ∧ 0 ≤ m ∧ s'.of = o2 s.of k m v := by
  intro q2 s' h
  cases h1 : pkn t e (s.lb.map (·.1)) with
  | error x => rw [pOff_e1 h1] at h; cases h
  | ok y =>
    obtain ⟨k, b, e2⟩ := y
    have i1 := pkn_inv hx he h1
    have g1 : 0 ≤ k := by
      have hk := fi_rg (l := s.lb.map (·.1)) (w := pw t e)
      have e1 := i1.2.1
      have e3 := i1.2.2.1
      rcases hk with z | z
      · exact absurd (e1.trans z) e3
      · rw [e1]; exact z.1
    cases h2 : pkn t e2 s.nm with
    | error x => rw [pOff_e2 h1 h2] at h; cases h
    | ok y =>
      obtain ⟨k2, b2, e3⟩ := y
      have i2 := pkn_inv hx i1.2.2.2.2.2.2 h2
      have g2 : 0 ≤ k2 := by
        have hk := fi_rg (l := s.nm) (w := pw t e2)
        have e1 := i2.2.1
        have e3 := i2.2.2.1
        rcases hk with z | z
        · exact absurd (e1.trans z) e3
        · rw [e1]; exact z.1
      by_cases h3 : s.of k k2 = -1
      · by_cases h4 : pw t e3 = kwTo
        · rw [pOff_to h1 h2 h3 h4] at h
          cases h5 : pkn t (we t (sk t e3)) s.nm with
          | error x => rw [h5] at h; cases h
          | ok y => obtain ⟨k4, b4, e5⟩ := y; rw [h5] at h; cases h; exact ⟨k, k2, _, g1, g2, rfl⟩
        · rw [pOff_nu h1 h2 h3 h4] at h
          cases h5 : pnum t e3 0 9999 with
          | error x => rw [h5] at h; cases h
          | ok y => obtain ⟨v, e4⟩ := y; rw [h5] at h; cases h; exact ⟨k, k2, _, g1, g2, rfl⟩
      · rw [pOff_e3 h1 h2 h3] at h; cases h
theorem pSt_neg {t : Int → Int} {n p : Int} {s : PS} (hx : Txt t n) (hp : p ≤ n) (hN : PNeg s) : ∀ q s', pSt t p s = .ok (q, s') → PNeg s' := by
  intro q s' h
  have hk := hx.k1 hp
  have hw := hx.w1 hk.2.1
  have key : ∀ q1 s1, pSt1 t p s = .ok (q1, s1) → PNeg s1 := by
    intro q1 s1 h1
    unfold pSt1 at h1
    split at h1
    · unfold pName at h1
      split at h1
      · cases hp : ptw t (we t (sk t p)) with
        | error x => rw [hp] at h1; cases h1
        | ok r =>
          obtain ⟨w, b1, e1⟩ := r
          rw [hp] at h1
          simp only at h1
          split at h1
          · cases h1; exact hN
          · cases h1
      · cases h1
    · split at h1
      · unfold pLib at h1
        split at h1
        · cases hp : ptw t (we t (sk t p)) with
          | error x => rw [hp] at h1; cases h1
          | ok r =>
            obtain ⟨w, b1, e1⟩ := r
            rw [hp] at h1
            simp only at h1
            split at h1
            · cases hn : pnum t e1 0 999 with
              | error x => rw [hn] at h1; cases h1
              | ok y => obtain ⟨v, e3⟩ := y; rw [hn] at h1; cases h1; exact hN
            · cases h1
        · cases h1
      · split at h1
        · obtain ⟨k, m, v, k0, m0, e⟩ := pOff_of hx hw.2.1 _ _ h1
          intro i j hij
          rw [e]
          unfold o2
          rw [if_neg (by omega)]
          exact hN i j hij
        · split at h1
          · cases g1 : pkn t (we t (sk t p)) (s.lb.map (·.1)) with
            | error x => rw [pPre_e1 g1] at h1; cases h1
            | ok y =>
              obtain ⟨k, b, e2⟩ := y
              cases g2 : pkn t e2 (s.lb.map (·.1)) with
              | error x => rw [pPre_e2 g1 g2] at h1; cases h1
              | ok y =>
                obtain ⟨k2, b2, e3⟩ := y
                by_cases g3 : k2 ≠ k ∧ k2 ∉ prf s.lb k
                · rw [pPre_ok g1 g2 g3] at h1; cases h1; exact hN
                · rw [pPre_e3 g1 g2 g3] at h1; cases h1
          · split at h1
            · by_cases c : s.hs = true
              · rw [pSha_e1 c] at h1; cases h1
              · cases hn : pnum t (we t (sk t p)) 0 100 with
                | error x => rw [pSha_e2 c hn] at h1; cases h1
                | ok y => obtain ⟨v, e3⟩ := y; rw [pSha_ok c hn] at h1; cases h1; exact hN
            · split at h1
              · by_cases c : s.hw = true
                · rw [pWei_e1 c] at h1; cases h1
                · cases hn : pE 2500 3 t 0 (we t (sk t p)) ([], fnT) with
                  | error x => rw [pWei_e2 c hn] at h1; cases h1
                  | ok y => obtain ⟨v, e3⟩ := y; rw [pWei_ok c hn] at h1; cases h1; exact hN
              · cases h1
  unfold pSt at h
  cases h1 : pSt1 t p s with
  | error x => rw [h1] at h; cases h
  | ok y =>
    obtain ⟨q1, s1⟩ := y
    rw [h1] at h
    simp only at h
    cases h2 : pexp t q1 59 with
    | error x => rw [h2] at h; cases h
    | ok p2 => rw [h2] at h; cases h; exact key q1 _ h1
theorem pLp_neg {t : Int → Int} {n : Int} (hx : Txt t n) : ∀ (f : Nat) (p : Int) (s s' : PS), 0 ≤ p → p ≤ n → PNeg s → pLp f t p s = .ok s' → PNeg s' := by
  intro f
  induction f with
  | zero => intro p s s' h0 hp hN h; rw [pLp] at h; cases h
  | succ f ih =>
    intro p s s' h0 hp hN h
    by_cases c : t (sk t p) = -1
    · rw [pLp_end c] at h; cases h; exact hN
    · cases h1 : pSt t p s with
      | error x => rw [pLp_e c h1] at h; cases h
      | ok y =>
        obtain ⟨q, s1⟩ := y
        rw [pLp_go c h1] at h
        have hr := pSt_r hx h0 hp q s1 h1
        have hk := hx.k1 hp
        exact ih q s1 s' (by omega) hr.2.1 (pSt_neg hx hp hN q s1 h1) h
theorem pAll_neg {t : Int → Int} {n : Int} {s : PS} (hx : Txt t n) (h : pAll t = .ok s) : PNeg s := by
  by_cases c : pw t 0 = kwLink
  · by_cases c2 : t (sk t (we t (sk t 0))) = 59
    · rw [pAll_go c c2] at h
      have hk := hx.k1 hx.1
      have hw := hx.w1 hk.2.1
      have h59 := sk59 hx c2 hw.2.1
      have hk2 := hx.k1 hw.2.1
      exact pLp_neg hx _ _ _ _ (by omega) (by omega) (fun _ _ _ => rfl) h
    · rw [pAll_e c c2] at h; cases h
  · rw [pAll_no c] at h; cases h
def vP (s : PS) : HV := (s.nm, s.lb, s.of, ldN s.lb.length, s.sh, s.fn)
theorem ldN_mem {k : Nat} {x : Int} (h : x ∈ ldN k) : 0 ≤ x ∧ x < k := by
  unfold ldN at h
  obtain ⟨i, hi, rfl⟩ := List.mem_map.mp h
  have := List.mem_range.mp hi
  omega
theorem ldN_nd (k : Nat) : (ldN k).Nodup := by
  induction k with
  | zero => exact List.nodup_nil
  | succ k ih =>
    rw [ldN_s]
    refine List.nodup_append.mpr ⟨ih, by simp, fun x hx y hy => ?_⟩
    rw [List.mem_singleton.mp hy]
    have := ldN_mem hx
    omega
theorem vP_ok {s : PS} (h : PSc s) (hN : PNeg s) : HVok (vP s) := by
  obtain ⟨a1, a2, a3, a4, a5, a6, a7, a8, a9, a10⟩ := h
  refine ⟨a1, a2, fun x hx => ldN_mem hx, ldN_nd _, fun y hy x hx => (a4 y hy).2.2.2.2.2 x hx, fun y hy => ⟨(a4 y hy).2.1, (a4 y hy).2.2.1⟩, fun y hy => by have := (a4 y hy).2.2.2.2.1; omega, a5, fun k n hkn => ?_, a7⟩
  have hkn : k < 0 ∨ n < 0 ∨ (s.lb.length : Int) ≤ k ∨ (s.nm.length : Int) ≤ n := hkn
  by_cases c : k < 0 ∨ n < 0
  · exact hN k n c
  · exact a6 k n (by show (s.lb.length : Int) ≤ k ∨ (s.nm.length : Int) ≤ n; omega)
/-- the text in the buffer -/
def txB (B : Int → Int) (n : Int) : Int → Int := fun q => if q < n then B q % 256 else -1
theorem txB_t {B : Int → Int} {n : Int} (h0 : 0 ≤ n) (h8 : n ≤ 800) : Txt (txB B n) n :=
  ⟨h0, h8, fun q hq => if_neg (by omega), fun q q0 q1 => by unfold txB; rw [if_pos q1]; omega⟩
theorem CWd.obj {G : GT} {h h' : AH} {x bf hd a r : Nat} {xs : List Nat} {B : Int → Int} {bl eo bl' eo' : Int} {cur : HV} {hist : List HV} (hC : CWd G h x bf hd a r xs B bl eo cur hist) (f : KT x (x, 10570) h h') (hx : h' x = some ((x, 10570), ob 0 [.ref bf, .ref hd, .ref a, .int (iI bl'), .int (iI eo')])) (hb : 0 ≤ bl' ∧ bl' ≤ 800) (he : inI eo') : CWd G h' x bf hd a r xs B bl' eo' cur hist := by
  obtain ⟨⟨h1, h2⟩, ⟨h3, h4⟩, h5, h6, h7, h8, h9, h10, h11⟩ := hC
  exact ⟨⟨h1, hx⟩, ⟨f.at h3 (by omega), h4⟩, h5.kt f (by omega), h6.fo f.fo h1 (by omega), h7, h8.fx f.fo h1 (by omega), hb, he, h11.kt f h1⟩
theorem Nw.exb {h h' : AH} {q : Nat} (n : Nw h' q) (e : Ex h h') : Nw h q := ⟨n.1, fun a t x hx => n.2 a t x (e _ _ hx)⟩
theorem FP.nw {p a : Nat} {h h1 h2 : AH} (f : FP p a h1 h2) (e : Ex h h1) (n1 : Nw h p) (n2 : Nw h a) : Ex h h2 := fun b x hb => f b x.1 x.2 (e _ _ hb) (n1.no (t := x.1) (x := x.2) hb) (n2.no (t := x.1) (x := x.2) hb)
def hK1 (v : HV) (k : Int) : Nat → Int → Int
  | 0, s => s
  | w + 1, s => 31 * hK1 v k w s + lbv v k w
def hK2 (B O : Int → Int → Int) (k : Int) : Nat → Int → Int
  | 0, s => s
  | n + 1, s => 31 * (31 * (31 * hK2 B O k n s + O k n) + B k n) + (flw 97 B O (fun _ _ => false) k n 0).1
def hK3 (v : HV) (B O : Int → Int → Int) : Nat → Int → Int
  | 0, s => s
  | k + 1, s => hK2 B O k v.nm.length (hK1 v k 6 (hK3 v B O k s))
theorem hK1_6 {v : HV} {k s : Int} : hK1 v k 6 s = 31 * (31 * (31 * (31 * (31 * (31 * s + hTr v.lb k) + hKp v.lb k) + fi v.ld k) + smI v.nm.length (fun n => bI (v.of k n ≠ -1))) + ((prf v.lb k).length : Int)) + hWt v.nm.length v.lb v.of v.ld v.fn k := rfl
