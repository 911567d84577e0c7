/-! ===== statements: what they hold and cost ===== -/
set_option maxRecDepth 100000
def ldN (k : Nat) : List Int := (List.range k).map (fun (i : Nat) => (i : Int))
theorem ldN_s (k : Nat) : ldN (k + 1) = ldN k ++ [(k : Int)] := by unfold ldN; rw [List.range_succ, List.map_append]; rfl
theorem ldN_len (k : Nat) : (ldN k).length = k := by unfold ldN; rw [List.length_map, List.length_range]
/-- the parser's house a, its names at nl -/
def HPn (G : GT) (h : AH) (a p nl : Nat) (s : PS) : Prop := ∃ al am ll w nx lx dx, HSd G h a p nl al am ll w nx lx dx s.nm s.lb s.of (ldN s.lb.length) s.sh s.fn
theorem HPn.hs {G : GT} {h : AH} {a p nl : Nat} {s : PS} (hH : HPn G h a p nl s) : HS G h a p s.nm s.lb s.of (ldN s.lb.length) s.sh s.fn := ⟨nl, hH⟩
theorem HPn.of {G : GT} {h : AH} {a p nl : Nat} {nm : List (List Int)} {lb : List LV} {of : Int → Int → Int} {ld : List Int} {sh : Int} {fn : EF} {t : Tg} {fs : List Value} (hS : HS G h a p nm lb of ld sh fn) (ha : h a = some (t, ob 1 (.ref nl :: fs))) : ∃ al am ll w nx lx dx, HSd G h a p nl al am ll w nx lx dx nm lb of ld sh fn := by
  obtain ⟨nl2, al, am, ll, w, nx, lx, dx, h1, h2, h3, h4⟩ := hS
  have e := h3.symm.trans ha
  simp only [Option.some.injEq, Prod.mk.injEq, Sum.inl.injEq, Sum.inr.injEq, List.cons.injEq, Value.ref.injEq] at e
  obtain ⟨-, -, rfl, -⟩ := e
  exact ⟨al, am, ll, w, nx, lx, dx, h1, h2, h3, h4⟩
theorem HPn.obj {G : GT} {h : AH} {a p nl : Nat} {s : PS} (hH : HPn G h a p nl s) : ∃ al fs, h a = some ((a, 10500), ob 1 (.ref nl :: .ref al :: fs)) := by
  obtain ⟨al, am, ll, w, nx, lx, dx, h1, h2, h3, h4⟩ := hH
  exact ⟨al, _, h3⟩
theorem HSd.ex {G : GT} {h h' : AH} {a r nl al am ll w : Nat} {nx lx dx : List Nat} {nm : List (List Int)} {lb : List LV} {of : Int → Int → Int} {ld : List Int} {sh : Int} {fn : EF} (hS : HSd G h a r nl al am ll w nx lx dx nm lb of ld sh fn) (f : Ex h h') : HSd G h' a r nl al am ll w nx lx dx nm lb of ld sh fn := by
  obtain ⟨h1, h2, h3, h4, h5, h6⟩ := hS
  exact ⟨h1, h2, f _ _ h3, h4.ex f, h5.ex f, h6⟩
theorem HSd.fo {G : GT} {h h' : AH} {a r nl al am ll w o k1 k2 : Nat} {nx lx dx : List Nat} {nm : List (List Int)} {lb : List LV} {of : Int → Int → Int} {ld : List Int} {sh : Int} {fn : EF} (hS : HSd G h a r nl al am ll w nx lx dx nm lb of ld sh fn) (f : FO o k1 k2 h h') (ho : o ≠ 0) (hne : ((a ≠ o ∧ r ≠ o) ∨ 10500 < k1 ∨ k2 < 10010) ∧ (10004 < k1 ∨ k2 < 10000)) : HSd G h' a r nl al am ll w nx lx dx nm lb of ld sh fn := by
  obtain ⟨h1, h2, h3, h4, h5, h6⟩ := hS
  exact ⟨h1, h2, f.at h3 (by omega), h4.fo f ho h6 (by omega), h5.fo f ho (by omega), h6⟩
theorem HPn.ex {G : GT} {h h' : AH} {a p nl : Nat} {s : PS} (hH : HPn G h a p nl s) (f : Ex h h') : HPn G h' a p nl s := by
  obtain ⟨al, am, ll, w, nx, lx, dx, h1⟩ := hH
  exact ⟨al, am, ll, w, nx, lx, dx, h1.ex f⟩
theorem HPn.kt {G : GT} {h h' : AH} {a p nl b : Nat} {s : PS} (hH : HPn G h a p nl s) (f : KT b (p, 10580) h h') (hp : p ≠ 0) : HPn G h' a p nl s := by
  obtain ⟨al, am, ll, w, nx, lx, dx, h1⟩ := hH
  exact ⟨al, am, ll, w, nx, lx, dx, h1.fo f.fo hp (by omega)⟩
/-- the hash of a fresh string is set -/
theorem HPn.nz {G : GT} {h0 h h' : AH} {a p nl o : Nat} {s : PS} (hH : HPn G h a p nl s) (e : ∀ b u x, h0 b = some (u, x) → h' b = some (u, x)) (hH0 : HPn G h0 a p nl s) : HPn G h' a p nl s := hH0.ex (fun b x hb => e b x.1 x.2 hb)
theorem HPn.a0 {G : GT} {h : AH} {a p nl : Nat} {s : PS} (hH : HPn G h a p nl s) : a ≠ 0 := by
  obtain ⟨al, am, ll, w, nx, lx, dx, h1, -⟩ := hH
  exact h1
/-- what the component's parse keeps of a state -/
def PSc (s : PS) : Prop := PSok (PS.mk0 s.nm s.lb s.of s.sh s.hs false [] fnT)
theorem PSc.n {s : PS} (h : PSc s) : s.nm.length ≤ 12 := h.1
theorem PSc.l {s : PS} (h : PSc s) : s.lb.length ≤ 8 := h.2.1
theorem PSc.o {s : PS} (h : PSc s) : ∀ k n : Int, -2 - (s.nm.length : Int) < s.of k n ∧ s.of k n ≤ 9999 := h.2.2.2.2.1
theorem PSc0 : PSc PS0 := PSok0
theorem pkn_inv {t : Int → Int} {n e k b e2 : Int} {ws : List (List Int)} (hx : Txt t n) (he : e ≤ n) (h : pkn t e ws = .ok (k, b, e2)) : ptw t e = .ok (pw t e, b, e2) ∧ k = fi ws (pw t e) ∧ k ≠ -1 ∧ b = sk t e ∧ e2 = we t (sk t e) ∧ sk t e < e2 ∧ e2 ≤ n := by
  have hk := hx.k1 he
  have hw := hx.w1 hk.2.1
  unfold pkn at h
  cases hp : ptw t e with
  | error x => rw [hp] at h; cases h
  | ok r =>
    obtain ⟨w, b1, e1⟩ := r
    rw [hp] at h
    have hp1 := hp
    unfold ptw at hp
    split at hp
    · cases hp
      simp only at h
      split at h
      · cases h
      · rename_i c1 c2
        cases h
        exact ⟨rfl, rfl, c2, rfl, rfl, by omega, hw.2.1⟩
    · cases hp
theorem pkn_e {t : Int → Int} {e : Int} {ws : List (List Int)} {x : Int × Int} (h : ptw t e = .error x) : pkn t e ws = .error x := by unfold pkn; rw [h]
theorem pkn_u {t : Int → Int} {e b e2 : Int} {w : List Int} {ws : List (List Int)} (h : ptw t e = .ok (w, b, e2)) (hf : fi ws w = -1) : pkn t e ws = .error (-4, b) := by unfold pkn; rw [h]; simp only; rw [if_pos hf]
theorem pkn_ok {t : Int → Int} {e b e2 : Int} {w : List Int} {ws : List (List Int)} (h : ptw t e = .ok (w, b, e2)) (hf : fi ws w ≠ -1) : pkn t e ws = .ok (fi ws w, b, e2) := by unfold pkn; rw [h]; simp only; rw [if_neg hf]
theorem pnum_le {t : Int → Int} {n p lo hi v e : Int} (hx : Txt t n) (hp0 : 0 ≤ p) (hp : p ≤ n) (h : pnum t p lo hi = .ok (v, e)) : p < e ∧ e ≤ n := by
  refine ⟨pnum_gt hx hp0 hp h, ?_⟩
  have hk := hx.k1 hp
  unfold pnum at h
  split at h
  · split at h
    · cases h
      have := nu_rg (v := 0) hx (show 0 ≤ sk t p by omega) hk.2.1 (by omega) (by omega)
      omega
    · cases h
  · cases h
/-- the room of a statement's body: to the word behind it -/
def bC (t : Int → Int) (n p : Int) (r : PE (Int × PS)) : Nat := match r with | .ok (q, _) => 8 * (we t (sk t q) - p).toNat + 24 | .error _ => 8 * (n - p).toNat + 60
def bS (t : Int → Int) (n p : Int) (r : PE (Int × PS)) : Nat := match r with | .ok (q, _) => 40 * (we t (sk t q) - p).toNat + 140 | .error _ => 40 * (n - p).toNat + 300
theorem b_ge {t : Int → Int} {n p e : Int} {r : PE (Int × PS)} (he : e ≤ n) (h : ∀ q s, r = .ok (q, s) → e ≤ we t (sk t q)) : 8 * (e - p).toNat + 24 ≤ bC t n p r ∧ 40 * (e - p).toNat + 140 ≤ bS t n p r := by
  cases hr : r with
  | error x => show _ ≤ 8 * (n - p).toNat + 60 ∧ _ ≤ 40 * (n - p).toNat + 300; omega
  | ok y =>
    obtain ⟨q, s⟩ := y
    have := h q s hr
    show _ ≤ 8 * (we t (sk t q) - p).toNat + 24 ∧ _ ≤ 40 * (we t (sk t q) - p).toNat + 140
    omega
theorem b_er {t : Int → Int} {n p : Int} {r : PE (Int × PS)} {x : Int × Int} (h : r = .error x) : bC t n p r = 8 * (n - p).toNat + 60 ∧ bS t n p r = 40 * (n - p).toNat + 300 := by rw [h]; exact ⟨rfl, rfl⟩
/-- the same, over the integers -/
theorem b_geI {t : Int → Int} {n p e : Int} {r : PE (Int × PS)} (he : e ≤ n) (h : ∀ q s, r = .ok (q, s) → e ≤ we t (sk t q)) : 8 * (e - p) + 24 ≤ (bC t n p r : Int) ∧ 40 * (e - p) + 140 ≤ (bS t n p r : Int) := by
  have := b_ge (t := t) (n := n) (p := p) he h
  omega
theorem b_erI {t : Int → Int} {n p : Int} {r : PE (Int × PS)} {x : Int × Int} (h : r = .error x) : 8 * (n - p) + 60 ≤ (bC t n p r : Int) ∧ 40 * (n - p) + 300 ≤ (bS t n p r : Int) := by
  have := b_er (t := t) (n := n) (p := p) h
  omega
theorem wCI {l : Int} (h : 0 ≤ l) : (wC l.toNat : Int) = 4 + l ∧ (wS l.toNat : Int) = 32 + 5 * l := by
  show ((4 + l.toNat : Nat) : Int) = _ ∧ ((32 + 5 * l.toNat : Nat) : Int) = _
  omega
theorem pw_len {t : Int → Int} {e : Int} : ((pw t e).length : Int) = ((we t (sk t e) - sk t e).toNat : Int) := by unfold pw; rw [wd_len]
theorem ptw_w8 {t : Int → Int} {n e b e2 : Int} {w : List Int} (hx : Txt t n) (he : e ≤ n) (h : ptw t e = .ok (w, b, e2)) : Wd8 w := by
  unfold ptw at h
  split at h
  · rename_i c
    cases h
    exact ⟨wd_wd, by rw [wd_len]; omega, by rw [wd_len]; omega⟩
  · cases h
/-- each body's first word lies ahead of its end -/
theorem pName_m {t : Int → Int} {n q e : Int} {s : PS} (hx : Txt t n) (he : e ≤ n) : ∀ q2 s', pName t q e s = .ok (q2, s') → we t (sk t e) ≤ we t (sk t q2) := by
  intro q2 s' h
  have hk := hx.k1 he
  have hw := hx.w1 hk.2.1
  unfold pName at h
  split at h
  · cases hp : ptw t e with
    | error x => rw [hp] at h; cases h
    | ok r =>
      obtain ⟨w, b1, e1⟩ := r
      rw [hp] at h
      simp only at h
      unfold ptw at hp
      split at hp
      · cases hp
        split at h
        · cases h
          have := hx.k1 hw.2.1
          have := hx.w1 this.2.1
          omega
        · cases h
      · cases hp
  · cases h
theorem pLib_m {t : Int → Int} {n q e : Int} {s : PS} (hx : Txt t n) (h0 : 0 ≤ e) (he : e ≤ n) : ∀ q2 s', pLib t q e s = .ok (q2, s') → we t (sk t e) < we t (sk t q2) ∧ ∀ v e3, pnum t (we t (sk t e)) 0 999 = .ok (v, e3) → we t (sk t e3) ≤ we t (sk t q2) := by
  intro q2 s' h
  have hk := hx.k1 he
  have hw := hx.w1 hk.2.1
  unfold pLib at h
  split at h
  · cases hp : ptw t e with
    | error x => rw [hp] at h; cases h
    | ok r =>
      obtain ⟨w, b1, e1⟩ := r
      rw [hp] at h
      simp only at h
      unfold ptw at hp
      split at hp
      · cases hp
        split at h
        · cases hn : pnum t (we t (sk t e)) 0 999 with
          | error x => rw [hn] at h; cases h
          | ok y =>
            obtain ⟨v, e3⟩ := y
            rw [hn] at h
            simp only at h
            have g := pnum_le hx (show 0 ≤ we t (sk t e) by omega) hw.2.1 hn
            have k3 := hx.k1 g.2
            have w3 := hx.w1 k3.2.1
            have key : we t (sk t e3) ≤ we t (sk t q2) := by
              cases h
              split
              · have := hx.k1 w3.2.1
                have := hx.w1 this.2.1
                omega
              · rw [hx.kk g.2]; omega
            refine ⟨by omega, fun v' e3' hv => ?_⟩
            cases hv
            exact key
        · cases h
      · cases hp
  · cases h
theorem pOff_m {t : Int → Int} {n e : Int} {s : PS} (hx : Txt t n) (h0 : 0 ≤ e) (he : e ≤ n) : ∀ q2 s', pOff t e s = .ok (q2, s') → ∃ k b e2 k2 b2 e3, pkn t e (s.lb.map (·.1)) = .ok (k, b, e2) ∧ pkn t e2 s.nm = .ok (k2, b2, e3) ∧ e3 < we t (sk t q2) ∧ (pw t e3 = kwTo → ∃ k4 b4 e5, pkn t (we t (sk t e3)) s.nm = .ok (k4, b4, e5) ∧ e5 ≤ we t (sk t q2)) := by
  intro q2 s' h
  cases h1 : pkn t e (s.lb.map (·.1)) with
  | error x => rw [pOff_e1 h1] at h; cases h
  | ok y =>
    obtain ⟨k, b, e2⟩ := y
    have i1 := pkn_inv hx he h1
    have ke := hx.k1 he
    cases h2 : pkn t e2 s.nm with
    | error x => rw [pOff_e2 h1 h2] at h; cases h
    | ok y =>
      obtain ⟨k2, b2, e3⟩ := y
      have i2 := pkn_inv hx i1.2.2.2.2.2.2 h2
      have k2' := hx.k1 i1.2.2.2.2.2.2
      have e3n := i2.2.2.2.2.2.2
      by_cases h3 : s.of k k2 = -1
      · by_cases h4 : pw t e3 = kwTo
        · rw [pOff_to h1 h2 h3 h4] at h
          cases h5 : pkn t (we t (sk t e3)) s.nm with
          | error x => rw [h5] at h; cases h
          | ok y =>
            obtain ⟨k4, b4, e5⟩ := y
            rw [h5] at h
            cases h
            have k3 := hx.k1 e3n
            have w3 := hx.w1 k3.2.1
            have i4 := pkn_inv hx w3.2.1 h5
            have k4' := hx.k1 w3.2.1
            have k5 := hx.k1 i4.2.2.2.2.2.2
            have w5 := hx.w1 k5.2.1
            exact ⟨k, b, e2, k2, b2, e3, by first | rfl | assumption, by first | rfl | assumption, by omega, fun _ => ⟨k4, b4, q2, by first | rfl | assumption, by omega⟩⟩
        · rw [pOff_nu h1 h2 h3 h4] at h
          cases h5 : pnum t e3 0 9999 with
          | error x => rw [h5] at h; cases h
          | ok y =>
            obtain ⟨v, e4⟩ := y
            rw [h5] at h
            cases h
            have g := pnum_le hx (show 0 ≤ e3 by omega) e3n h5
            have k5 := hx.k1 g.2
            have w5 := hx.w1 k5.2.1
            exact ⟨k, b, e2, k2, b2, e3, by first | rfl | assumption, by first | rfl | assumption, by omega, fun c => absurd c h4⟩
      · rw [pOff_e3 h1 h2 h3] at h; cases h
theorem pPre_m {t : Int → Int} {n e : Int} {s : PS} (hx : Txt t n) (h0 : 0 ≤ e) (he : e ≤ n) : ∀ q2 s', pPre t e s = .ok (q2, s') → ∃ k b e2 k2 b2 e3, pkn t e (s.lb.map (·.1)) = .ok (k, b, e2) ∧ pkn t e2 (s.lb.map (·.1)) = .ok (k2, b2, e3) ∧ e3 ≤ we t (sk t q2) := by
  intro q2 s' h
  cases h1 : pkn t e (s.lb.map (·.1)) with
  | error x => rw [pPre_e1 h1] at h; cases h
  | ok y =>
    obtain ⟨k, b, e2⟩ := y
    have i1 := pkn_inv hx he h1
    have ke := hx.k1 he
    cases h2 : pkn t e2 (s.lb.map (·.1)) with
    | error x => rw [pPre_e2 h1 h2] at h; cases h
    | ok y =>
      obtain ⟨k2, b2, e3⟩ := y
      have i2 := pkn_inv hx i1.2.2.2.2.2.2 h2
      have e3n := i2.2.2.2.2.2.2
      by_cases h3 : k2 ≠ k ∧ k2 ∉ prf s.lb k
      · rw [pPre_ok h1 h2 h3] at h
        cases h
        have k5 := hx.k1 e3n
        have w5 := hx.w1 k5.2.1
        exact ⟨k, b, e2, k2, b2, q2, by first | rfl | assumption, by first | rfl | assumption, by omega⟩
      · rw [pPre_e3 h1 h2 h3] at h; cases h
theorem LBc.fo2 {G : GT} {h h' : AH} {a r j k x : Nat} {v : LV} (hB : LBc G h a r k x v) (f : FO r (10060 + 2 * j) (10060 + 2 * j + 1) h h') (hr : r ≠ 0) (hk : k < 8) (hj : j < 8) (hne : k ≠ j) : LBc G h' a r k x v := by
  obtain ⟨ws, pl, px, h1, h2, h3, h4, h5⟩ := hB
  exact ⟨ws, pl, px, f.at h1 (by omega), h2.fo f (by omega), h3.fo f hr (by omega), h4.mono (fun _ _ q => q.fo f hr (by omega)), h5⟩
/-- one more preference -/
theorem LBs.adp {G : GT} {h h' : AH} {a r : Nat} {lx : List Nat} {lb : List LV} {k o : Int} {ws pl x e : Nat} {px : List Nat} {v : LV} (hB : LBs G h a r lx lb) (hk0 : 0 ≤ k) (h8 : lb.length ≤ 8) (hr : r ≠ 0) (hv : lb[k.toNat]? = some v) (hx : lx[k.toNat]? = some x) (h1 : h x = some ((a, 10050 + k.toNat), ob 5 [.ref ws, .ref pl, .int (iI v.2.1), .int (iI v.2.2.1)])) (h2 : StO G h ws ws v.1) (h4 : Z2 (IV G h) px v.2.2.2) (h5 : v.2.2.1 = 0 ∨ v.2.2.1 = 1) (hI : IV G h e o) (hA : AL G h' r (10060 + 2 * k.toNat) pl (px ++ [e])) (f : FO r (10060 + 2 * k.toNat) (10060 + 2 * k.toNat + 1) h h') : LBs G h' a r lx (adp lb k o) := by
  have hkl := (List.getElem?_eq_some_iff.mp hv).1
  refine ⟨by rw [adp_len]; exact hB.1, fun i y u hy hu => ?_⟩
  have hil := (List.getElem?_eq_some_iff.mp hu).1
  rw [adp_len] at hil
  rcases adp_get hk0 hu with ⟨q1, q2⟩ | ⟨q1, w, q2, q3⟩
  · exact (hB.2 i y u hy q2).fo2 f hr (by omega) (by omega) q1
  · subst q1
    cases hx.symm.trans hy
    cases hv.symm.trans q2
    rw [q3]
    exact ⟨ws, pl, px ++ [e], f.at h1 (by omega), h2.fo f (by omega), hA, (Z2.snoc hI h4).mono (fun _ _ q => q.fo f hr (by omega)), h5⟩
theorem kwTo_nd {t : Int → Int} {e : Int} (h : 48 ≤ t (sk t e) ∧ t (sk t e) ≤ 57) : pw t e ≠ kwTo := fun c => by
  have := pw_hd (t := t) (p := e) (c := 116) (l := [111]) c
  omega
/-- a new cell alone is written: the libraries stay -/
theorem LBs.xk {G : GT} {h h' : AH} {a r b j : Nat} {lx : List Nat} {lb : List LV} {fs : List Value} (hB : LBs G h a r lx lb) (f : KT b (a, j) h h') (hb : h b = some ((a, j), ob 5 fs)) (ha : a ≠ 0) (hj : j = 10050 + lb.length) (h8 : lb.length ≤ 8) : LBs G h' a r lx lb := ⟨hB.1, fun k x v h1 h2 => by
  have hk := (List.getElem?_eq_some_iff.mp h2).1
  obtain ⟨ws, pl, px, q1, q2, q3, q4, q5⟩ := hB.2 k x v h1 h2
  exact ⟨ws, pl, px, f.at q1 (by omega), q2.kt f (by omega), q3.kt f ha (by omega), q4.mono (fun _ _ q => q.kt f ha (by omega)), q5⟩⟩
theorem fi_in {α : Type} [DecidableEq α] {l : List α} {w : α} (h : l.length ≤ 1000) : inI (fi l w) := by
  have := fi_rg (l := l) (w := w)
  exact inI.mk (by omega) (by omega)
