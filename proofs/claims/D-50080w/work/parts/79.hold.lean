/-! ===== holding an election for a name ===== -/
set_option maxRecDepth 100000
def hSj (W : Int → Int) (O : Int → Int → Int) (lb : List LV) (n j c : Int) : Int := smI j (fun i => if hVt W O lb i n = c then W i else 0)
def hTj (W : Int → Int) (O : Int → Int → Int) (lb : List LV) (n j : Int) : Int := smI j (fun i => if hVt W O lb i n = -1 then 0 else W i)
theorem hVt_m {W : Int → Int} {O : Int → Int → Int} {lb : List LV} {i n : Int} (h : W i = -1) : hVt W O lb i n = -1 := by unfold hVt; rw [if_pos h]
theorem hVt_bd {W : Int → Int} {O : Int → Int → Int} {lb : List LV} {k n : Int} (hpf : ∀ v ∈ lb, ∀ x ∈ v.2.2.2, 0 ≤ x ∧ x < lb.length) (k0 : 0 ≤ k) (k1 : k < lb.length) : -1 ≤ hVt W O lb k n ∧ hVt W O lb k n < lb.length := by
  unfold hVt
  split
  · omega
  · split
    · omega
    · cases hf : (prf lb k).find? (fun o => hCd W O o n) with
      | none => simp; omega
      | some o =>
        have hm := List.mem_of_find?_eq_some hf
        have hv8 := List.getElem?_eq_getElem (l := lb) (i := k.toNat) (by omega)
        rw [prf_at hv8] at hm
        have := hpf _ (List.mem_of_getElem? hv8) o hm
        simp only [Option.getD_some]
        omega
theorem hSj_bd {W : Int → Int} {O : Int → Int → Int} {lb : List LV} {n j c : Int} (hW : ∀ i : Int, -1 ≤ W i ∧ W i ≤ 9999) (hc : 0 ≤ c) (hj : 0 ≤ j) : 0 ≤ hSj W O lb n j c ∧ hSj W O lb n j c ≤ 9999 * j := smI_bd hj (fun i _ _ => by
  show 0 ≤ (if hVt W O lb i n = c then W i else 0) ∧ (if hVt W O lb i n = c then W i else 0) ≤ 9999
  have := hW i
  by_cases e : W i = -1
  · rw [hVt_m e, if_neg (by omega)]; omega
  · split <;> omega)
theorem hTj_bd {W : Int → Int} {O : Int → Int → Int} {lb : List LV} {n j : Int} (hW : ∀ i : Int, -1 ≤ W i ∧ W i ≤ 9999) (hj : 0 ≤ j) : 0 ≤ hTj W O lb n j ∧ hTj W O lb n j ≤ 9999 * j := smI_bd hj (fun i _ _ => by
  show 0 ≤ (if hVt W O lb i n = -1 then 0 else W i) ∧ (if hVt W O lb i n = -1 then 0 else W i) ≤ 9999
  have := hW i
  by_cases e : W i = -1
  · rw [hVt_m e, if_pos rfl]; omega
  · split <;> omega)
/-- votes, supports, totals of the name n behind j libraries -/
def HJ (W : Int → Int) (O : Int → Int → Int) (lb : List LV) (n : Int) (V0 S0 : Int → Int → Int) (T0 : Int → Int) (j : Int) (V S : Int → Int → Int) (T : Int → Int) : Prop :=
  (∀ i : Int, 0 ≤ i → i < j → V i n = hVt W O lb i n) ∧ (∀ c : Int, 0 ≤ c → c < lb.length → S c n = hSj W O lb n j c) ∧ T n = hTj W O lb n j ∧ (∀ i m : Int, m ≠ n → V i m = V0 i m) ∧ (∀ i m : Int, m ≠ n → S i m = S0 i m) ∧ ∀ m : Int, m ≠ n → T m = T0 m
theorem HJ.N {W : Int → Int} {O : Int → Int → Int} {lb : List LV} {n : Int} {V0 S0 : Int → Int → Int} {T0 : Int → Int} {j : Int} {V S : Int → Int → Int} {T : Int → Int} (h : HJ W O lb n V0 S0 T0 j V S T) (hj : 0 ≤ j) (hv : hVt W O lb j n = -1) : HJ W O lb n V0 S0 T0 (j + 1) (g2 V j n (hVt W O lb j n)) S T := by
  obtain ⟨a1, a2, a3, a4, a5, a6⟩ := h
  refine ⟨fun i i0 i1 => ?_, fun c c0 c1 => ?_, ?_, fun i m hm => ?_, a5, a6⟩
  · rw [g2_at]
    by_cases e : i = j
    · subst e; rw [if_pos ⟨rfl, rfl⟩]
    · rw [if_neg (fun z => e z.1)]; exact a1 i i0 (by omega)
  · rw [a2 c c0 c1]
    unfold hSj
    rw [smI_s hj, hv, if_neg (by omega)]; omega
  · rw [a3]
    unfold hTj
    rw [smI_s hj, hv, if_pos rfl]; omega
  · rw [g2_at, if_neg (fun z => hm z.2)]; exact a4 i m hm
theorem HJ.S {W : Int → Int} {O : Int → Int → Int} {lb : List LV} {n : Int} {V0 S0 : Int → Int → Int} {T0 : Int → Int} {j : Int} {V S : Int → Int → Int} {T : Int → Int} (h : HJ W O lb n V0 S0 T0 j V S T) (hj : 0 ≤ j) (hv : hVt W O lb j n ≠ -1) : HJ W O lb n V0 S0 T0 (j + 1) (g2 V j n (hVt W O lb j n)) (g2 S (hVt W O lb j n) n (S (hVt W O lb j n) n + W j)) (iup T n (T n + W j)) := by
  obtain ⟨a1, a2, a3, a4, a5, a6⟩ := h
  refine ⟨fun i i0 i1 => ?_, fun c c0 c1 => ?_, ?_, fun i m hm => ?_, fun i m hm => ?_, fun m hm => ?_⟩
  · rw [g2_at]
    by_cases e : i = j
    · subst e; rw [if_pos ⟨rfl, rfl⟩]
    · rw [if_neg (fun z => e z.1)]; exact a1 i i0 (by omega)
  · rw [g2_at]
    by_cases e : c = hVt W O lb j n
    · rw [if_pos ⟨e, rfl⟩, ← e, a2 c c0 c1]
      unfold hSj
      rw [smI_s hj, if_pos e.symm]
    · rw [if_neg (fun z => e z.1), a2 c c0 c1]
      unfold hSj
      rw [smI_s hj, if_neg (fun z => e z.symm)]; omega
  · rw [iup_s, a3]
    unfold hTj
    rw [smI_s hj, if_neg hv]
  · rw [g2_at, if_neg (fun z => hm z.2)]; exact a4 i m hm
  · rw [g2_at, if_neg (fun z => hm z.2)]; exact a5 i m hm
  · rw [iup_n hm]; exact a6 m hm
/-- bindings of the name n behind j libraries -/
def HBj (W : Int → Int) (lb : List LV) (sh n : Int) (V S : Int → Int → Int) (tot best : Int) (B0 : Int → Int → Int) (j : Int) (B : Int → Int → Int) : Prop := (∀ i : Int, 0 ≤ i → i < j → B i n = hBd W lb sh (fun i => V i n) (fun c => S c n) tot best i) ∧ ∀ i m : Int, m ≠ n → B i m = B0 i m
theorem HBj.nx {W : Int → Int} {lb : List LV} {sh n : Int} {V S : Int → Int → Int} {tot best : Int} {B0 : Int → Int → Int} {j : Int} {B : Int → Int → Int} (h : HBj W lb sh n V S tot best B0 j B) : HBj W lb sh n V S tot best B0 (j + 1) (g2 B j n (hBd W lb sh (fun i => V i n) (fun c => S c n) tot best j)) := by
  refine ⟨fun i i0 i1 => ?_, fun i m hm => ?_⟩
  · rw [g2_at]
    by_cases e : i = j
    · subst e; rw [if_pos ⟨rfl, rfl⟩]
    · rw [if_neg (fun z => e z.1)]; exact h.1 i i0 (by omega)
  · rw [g2_at, if_neg (fun z => hm z.2)]; exact h.2 i m hm
theorem hBs_c {cd : Int → Bool} {sp : Int → Int} {x : Int} {l : List Int} {b : Int} : hBs cd sp (x :: l) b = hBs cd sp l (if cd x = true ∧ (b = -1 ∨ sp b < sp x) then x else b) := rfl
theorem hCd_t {w : Int → Int} {of : Int → Int → Int} {k n : Int} : hCd w of k n = true ↔ (w k ≠ -1 ∧ of k n ≠ -1) := by simp [hCd]
/-- a name's column is held -/
def Hld (W : Int → Int) (O : Int → Int → Int) (lb : List LV) (ld : List Int) (sh n : Int) (V S B : Int → Int → Int) (T Wi : Int → Int) : Prop :=
  (∀ i : Int, 0 ≤ i → i < lb.length → V i n = hVt W O lb i n) ∧ (∀ c : Int, 0 ≤ c → c < lb.length → S c n = hSj W O lb n lb.length c) ∧ T n = hTj W O lb n lb.length ∧ Wi n = hBs (fun k => hCd W O k n) (fun c => S c n) ld (-1) ∧ ∀ i : Int, 0 ≤ i → i < lb.length → B i n = hBd W lb sh (fun i => V i n) (fun c => S c n) (T n) (Wi n) i
theorem Hld.mv {W : Int → Int} {O : Int → Int → Int} {lb : List LV} {ld : List Int} {sh n m : Int} {V S B V' S' B' : Int → Int → Int} {T Wi T' Wi' : Int → Int} (h : Hld W O lb ld sh m V S B T Wi) (hm : m ≠ n) (a1 : ∀ i m : Int, m ≠ n → V' i m = V i m) (a2 : ∀ i m : Int, m ≠ n → S' i m = S i m) (a3 : ∀ m : Int, m ≠ n → T' m = T m) (a4 : ∀ m : Int, m ≠ n → Wi' m = Wi m) (a5 : ∀ i m : Int, m ≠ n → B' i m = B i m) : Hld W O lb ld sh m V' S' B' T' Wi' := by
  have e1 : (fun c => S' c m) = fun c => S c m := funext (fun c => a2 c m hm)
  have e2 : (fun i => V' i m) = fun i => V i m := funext (fun c => a1 c m hm)
  obtain ⟨b1, b2, b3, b4, b5⟩ := h
  refine ⟨fun i i0 i1 => by rw [a1 i m hm]; exact b1 i i0 i1, fun c c0 c1 => by rw [a2 c m hm]; exact b2 c c0 c1, by rw [a3 m hm]; exact b3, by rw [a4 m hm, e1]; exact b4, fun i i0 i1 => ?_⟩
  rw [a5 i m hm, e1, e2, a3 m hm, a4 m hm]
  exact b5 i i0 i1
/-- the whole election -/
def ELd (G : GT) (h : AH) (e a y1 y2 y3 y4 y5 y6 y7 L N : Nat) (RO RV RS RB : Int → Nat) (W Wi T : Int → Int) (O V S B : Int → Int → Int) : Prop := EO G h e a y1 y2 y3 y4 y5 y6 y7 L N W Wi T ∧ EAr G 6 0 h e y4 10610 L N RO O ∧ EAr G 6 0 h e y5 10630 L N RV V ∧ EAr G 6 0 h e y6 10650 L N RS S ∧ EAr G 6 0 h e y7 10670 L N RB B
def ELq (lb : List LV) (N : Int) (of : Int → Int → Int) (ld : List Int) (sh : Int) (fn : EF) (W Wi T : Int → Int) (O V S B : Int → Int → Int) : Prop := (∀ k : Int, 0 ≤ k → k < lb.length → W k = hWt N lb of ld fn k) ∧ (∀ i : Int, -1 ≤ W i ∧ W i ≤ 9999) ∧ (∀ k n : Int, 0 ≤ k → k < lb.length → 0 ≤ n → n < N → O k n = of k n) ∧ (∀ i j : Int, inI (O i j)) ∧ ∀ n : Int, 0 ≤ n → n < N → Hld W O lb ld sh n V S B T Wi
def EL (G : GT) (h : AH) (e a : Nat) (N : Nat) (lb : List LV) (of : Int → Int → Int) (ld : List Int) (sh : Int) (fn : EF) : Prop := ∃ y1 y2 y3 y4 y5 y6 y7 RO RV RS RB W Wi T O V S B, ELd G h e a y1 y2 y3 y4 y5 y6 y7 lb.length N RO RV RS RB W Wi T O V S B ∧ ELq lb N of ld sh fn W Wi T O V S B
theorem EO.ex {G : GT} {h h' : AH} {e a y1 y2 y3 y4 y5 y6 y7 L N : Nat} {W Wi T : Int → Int} (hE : EO G h e a y1 y2 y3 y4 y5 y6 y7 L N W Wi T) (f : Ex h h') : EO G h' e a y1 y2 y3 y4 y5 y6 y7 L N W Wi T := by
  obtain ⟨b1, b2, b3, b4, b5, b6, b7⟩ := hE
  exact ⟨b1, b2, b3, f _ _ b4, f _ _ b5, f _ _ b6, f _ _ b7⟩
theorem EO.fo {G : GT} {h h' : AH} {e a y1 y2 y3 y4 y5 y6 y7 L N o k1 k2 : Nat} {W Wi T : Int → Int} (hE : EO G h e a y1 y2 y3 y4 y5 y6 y7 L N W Wi T) (f : FO o k1 k2 h h') (hne : e ≠ o ∨ k2 < 10600 ∨ 10603 < k1) : EO G h' e a y1 y2 y3 y4 y5 y6 y7 L N W Wi T := by
  obtain ⟨b1, b2, b3, b4, b5, b6, b7⟩ := hE
  exact ⟨b1, b2, b3, f.at b4 (by omega), f.at b5 (by omega), f.at b6 (by omega), f.at b7 (by omega)⟩
theorem EL.ex {G : GT} {h h' : AH} {e a N : Nat} {lb : List LV} {of : Int → Int → Int} {ld : List Int} {sh : Int} {fn : EF} (hE : EL G h e a N lb of ld sh fn) (f : Ex h h') : EL G h' e a N lb of ld sh fn := by
  obtain ⟨y1, y2, y3, y4, y5, y6, y7, RO, RV, RS, RB, W, Wi, T, O, V, S, B, ⟨c1, c2, c3, c4, c5⟩, c6⟩ := hE
  exact ⟨y1, y2, y3, y4, y5, y6, y7, RO, RV, RS, RB, W, Wi, T, O, V, S, B, ⟨c1.ex f, c2.ex f, c3.ex f, c4.ex f, c5.ex f⟩, c6⟩
theorem EL.fo {G : GT} {h h' : AH} {e a N o k1 k2 : Nat} {lb : List LV} {of : Int → Int → Int} {ld : List Int} {sh : Int} {fn : EF} (hE : EL G h e a N lb of ld sh fn) (f : FO o k1 k2 h h') (hne : e ≠ o ∨ k2 < 10600 ∨ 10690 < k1) : EL G h' e a N lb of ld sh fn := by
  obtain ⟨y1, y2, y3, y4, y5, y6, y7, RO, RV, RS, RB, W, Wi, T, O, V, S, B, ⟨c1, c2, c3, c4, c5⟩, c6⟩ := hE
  have hL := c1.2.1
  exact ⟨y1, y2, y3, y4, y5, y6, y7, RO, RV, RS, RB, W, Wi, T, O, V, S, B, ⟨c1.fo f (by omega), c2.fo f hL (by omega), c3.fo f hL (by omega), c4.fo f hL (by omega), c5.fo f hL (by omega)⟩, c6⟩
theorem hWt_bd {N : Int} {lb : List LV} {of : Int → Int → Int} {ld : List Int} {fn : EF} {k : Int} : -1 ≤ hWt N lb of ld fn k ∧ hWt N lb of ld fn k ≤ 9999 := by
  unfold hWt
  split
  · omega
  · have := clw_bd (fn (hTr lb k) (fi ld k) (smI N (fun n => bI (of k n ≠ -1))) (fri lb ld k)); omega
