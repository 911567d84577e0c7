/-! ===== changes of a house ===== -/
set_option maxRecDepth 100000
theorem CWd.mut {G : GT} {h h' : AH} {x bf hd a r k1 k2 : Nat} {xs : List Nat} {B : Int → Int} {bl eo : Int} {cur v : HV} {hist : List HV} (hC : CWd G h x bf hd a r xs B bl eo cur hist) (hIn : HISn G h a xs hist) (f : FO a k1 k2 h h') (hS : HSv G h' a r v) (hok : HVok v) (hk : 10004 < k1 ∧ k2 < 10560) : CWd G h' x bf hd a r xs B bl eo v hist := by
  obtain ⟨⟨h1, h2⟩, ⟨h3, h4⟩, h5, h6, h7, h8, h9, h10, h11⟩ := hC
  have ha0 := h6.obj.1
  exact ⟨⟨h1, f.at h2 (by omega)⟩, ⟨f.at h3 (by omega), h4⟩, h5.fo f (by omega), hS, hok, (hIn.fo f ha0 hk.1).his, h9, h10, h11.fo f ha0⟩
theorem FO.nwf {x k1 k2 q j1 j2 : Nat} {h h2 h3 : AH} (F : FO x k1 k2 h h2) (f : FO q j1 j2 h2 h3) (n : Nw h q) : FO x k1 k2 h h3 := fun b u y hb hu => f b u y (F b u y hb hu) (fun z => n.no hb z.1)
theorem CWd.cw {G : GT} {h : AH} {x bf hd a r : Nat} {xs : List Nat} {B : Int → Int} {bl eo : Int} {cur : HV} {hist : List HV} (hC : CWd G h x bf hd a r xs B bl eo cur hist) : CW G h x B bl eo cur hist := ⟨bf, hd, a, r, xs, hC⟩
abbrev vLd (v : HV) (l : List Int) : HV := (v.nm, v.lb, v.of, l, v.sh, v.fn)
abbrev vOf (v : HV) (o : Int → Int → Int) : HV := (v.nm, v.lb, o, v.ld, v.sh, v.fn)
abbrev vSh (v : HV) (s : Int) : HV := (v.nm, v.lb, v.of, v.ld, s, v.fn)
abbrev vLb (v : HV) (l : List LV) : HV := (v.nm, l, v.of, v.ld, v.sh, v.fn)
theorem HVok.unl {v : HV} (h : HVok v) (i : Nat) : HVok (vLd v (v.ld.eraseIdx i)) := by
  obtain ⟨a1, a2, a3, a4, a5, a6, a7, a8, a9, a10⟩ := h
  exact ⟨a1, a2, fun x hx => a3 x (List.mem_of_mem_eraseIdx hx), a4.sublist (List.eraseIdx_sublist ..), a5, a6, a7, a8, a9, a10⟩
theorem fi_neg {l : List Int} {w : Int} (h : fi l w = -1) : w ∉ l := fun hm => by
  induction l with
  | nil => cases hm
  | cons a l ih =>
    unfold fi at h
    by_cases e : a = w
    · rw [if_pos e] at h; cases h
    · rw [if_neg e] at h
      have rg := fi_rg (l := l) (w := w)
      by_cases q : fi l w = -1
      · rcases List.mem_cons.mp hm with z | z
        · exact e z.symm
        · exact ih q z
      · rw [if_neg q] at h; omega
theorem HVok.rel {v : HV} {k : Int} (h : HVok v) (h0 : 0 ≤ k) (h1 : k < v.lb.length) (hf : fi v.ld k = -1) : HVok (vLd v (v.ld ++ [k])) := by
  obtain ⟨a1, a2, a3, a4, a5, a6, a7, a8, a9, a10⟩ := h
  refine ⟨a1, a2, fun x hx => ?_, ?_, a5, a6, a7, a8, a9, a10⟩
  · rcases List.mem_append.mp hx with z | z
    · exact a3 x z
    · rw [List.mem_singleton.mp z]; exact ⟨h0, h1⟩
  · refine List.nodup_append.mpr ⟨a4, by simp, fun x hx y hy => ?_⟩
    rw [List.mem_singleton.mp hy]
    intro e
    rw [e] at hx
    exact fi_neg hf hx
theorem HVok.put {v : HV} {k n z : Int} (h : HVok v) (k0 : 0 ≤ k) (k1 : k < v.lb.length) (n0 : 0 ≤ n) (n1 : n < v.nm.length) (hz : -2 - (v.nm.length : Int) < z ∧ z ≤ 9999) : HVok (vOf v (o2 v.of k n z)) := by
  obtain ⟨a1, a2, a3, a4, a5, a6, a7, a8, a9, a10⟩ := h
  refine ⟨a1, a2, a3, a4, a5, a6, a7, fun i j => ?_, fun i j hij => ?_, a10⟩
  · show -2 - (v.nm.length : Int) < o2 v.of k n z i j ∧ o2 v.of k n z i j ≤ 9999
    unfold o2
    split
    · exact hz
    · exact a8 i j
  · show o2 v.of k n z i j = -1
    unfold o2
    have hij : i < 0 ∨ j < 0 ∨ (v.lb.length : Int) ≤ i ∨ (v.nm.length : Int) ≤ j := hij
    rw [if_neg (by omega)]
    exact a9 i j hij
theorem HVok.shr {v : HV} {s : Int} (h : HVok v) (hs : 0 ≤ s ∧ s ≤ 100) : HVok (vSh v s) := by
  obtain ⟨a1, a2, a3, a4, a5, a6, a7, a8, a9, a10⟩ := h
  exact ⟨a1, a2, a3, a4, a5, a6, a7, a8, a9, hs⟩
theorem HVok.lib {v : HV} {k : Nat} {u w : LV} (h : HVok v) (hu : v.lb[k]? = some u) (hw : w.2.2.2 = u.2.2.2) (ht : 0 ≤ w.2.1 ∧ w.2.1 ≤ 999) : HVok (vLb v (v.lb.set k w)) := by
  obtain ⟨a1, a2, a3, a4, a5, a6, a7, a8, a9, a10⟩ := h
  have hl : (v.lb.set k w).length = v.lb.length := List.length_set
  have hm : ∀ y ∈ v.lb.set k w, y ∈ v.lb ∨ y = w := fun y hy => List.mem_or_eq_of_mem_set hy
  have hum := List.mem_of_getElem? hu
  refine ⟨a1, by show (v.lb.set k w).length ≤ 8; rw [hl]; exact a2, fun x hx => by show 0 ≤ x ∧ x < ((v.lb.set k w).length : Int); rw [hl]; exact a3 x hx, a4, fun y hy x hx => by
    show 0 ≤ x ∧ x < ((v.lb.set k w).length : Int)
    rw [hl]
    rcases hm y hy with z | z
    · exact a5 y z x hx
    · rw [z, hw] at hx; exact a5 u hum x hx, fun y hy => by
    rcases hm y hy with z | z
    · exact a6 y z
    · rw [z]; exact ht, fun y hy => by
    rcases hm y hy with z | z
    · exact a7 y z
    · rw [z, hw]; exact a7 u hum, a8, fun i j hij => a9 i j (by have hij : i < 0 ∨ j < 0 ∨ ((v.lb.set k w).length : Int) ≤ i ∨ (v.nm.length : Int) ≤ j := hij; rw [hl] at hij; exact hij), a10⟩
/-- a library's cell is written -/
theorem LBs.setv {G : GT} {h h' : AH} {a r k x ws pl : Nat} {lx : List Nat} {lb : List LV} {u w : LV} (hB : LBs G h a r lx lb) (h8 : lb.length ≤ 8) (ha : a ≠ 0) (hx : lx[k]? = some x) (hu : lb[k]? = some u) (h1 : h x = some ((a, 10050 + k), ob 5 [.ref ws, .ref pl, .int (iI u.2.1), .int (iI u.2.2.1)])) (h2 : h' x = some ((a, 10050 + k), ob 5 [.ref ws, .ref pl, .int (iI w.2.1), .int (iI w.2.2.1)])) (hw1 : w.1 = u.1) (hw2 : w.2.2.2 = u.2.2.2) (hw3 : w.2.2.1 = 0 ∨ w.2.2.1 = 1) (f : KT x (a, 10050 + k) h h') : LBs G h' a r lx (lb.set k w) := by
  have hkl := (List.getElem?_eq_some_iff.mp hu).1
  refine ⟨by rw [List.length_set]; exact hB.1, fun i y v hy hv => ?_⟩
  by_cases e : i = k
  · subst e
    cases hx.symm.trans hy
    rw [List.getElem?_set_self hkl] at hv
    cases hv
    obtain ⟨ws2, pl2, px, q1, q2, q3, q4, q5⟩ := hB.2 i x u hx hu
    have e := q1.symm.trans h1
    simp only [Option.some.injEq, Prod.mk.injEq, Sum.inl.injEq, Sum.inr.injEq, List.cons.injEq, Value.ref.injEq] at e
    obtain ⟨-, -, rfl, rfl, -⟩ := e
    exact ⟨ws2, pl2, px, h2, by rw [hw1]; exact q2.kt f (by omega), q3.kt f ha (by omega), by rw [hw2]; exact q4.mono (fun _ _ q => q.kt f ha (by omega)), hw3⟩
  · rw [List.getElem?_set_ne (Ne.symm e)] at hv
    have hil := (List.getElem?_eq_some_iff.mp hv).1
    obtain ⟨ws2, pl2, px, q1, q2, q3, q4, q5⟩ := hB.2 i y v hy hv
    exact ⟨ws2, pl2, px, f.at q1 (by omega), q2.kt f (by omega), q3.kt f ha (by omega), q4.mono (fun _ _ q => q.kt f ha (by omega)), q5⟩
/-- how many bindings are other ones, but for b -/
def MOV (v v' : HV) (b z : Int) : Prop := ∃ W Wi T O V S B, QE v W Wi T O V S B ∧ ∃ W' Wi' T' O' V' S' B', QE v' W' Wi' T' O' V' S' B' ∧ z = smI (v.lb.length : Int) (fun k => smI (v.nm.length : Int) (fun n => bI (k ≠ b ∧ W' k ≠ -1 ∧ B' k n ≠ B k n)))
theorem ERg.bi {L N : Nat} {W Wi : Int → Int} {O V S B : Int → Int → Int} (h : ERg L N W Wi O V S B) (hL : L ≤ 8) : ∀ k n : Int, 0 ≤ k → k < L → 0 ≤ n → n < N → inI (B k n) := fun k n k0 k1 n0 n1 => by
  have := h.2.2.2.1 k n k0 k1 n0 n1
  exact inI.mk (by omega) (by omega)
