/-! ===== an election ===== -/
set_option maxRecDepth 100000
def hgridZ (G : GT) (h : AH) (q : Nat) (to : Tg) (ti : Nat → Tg) (N K : Nat) : AH := fun a => if a = q then some (to, aR G 7 N (fun i => some (q + 1 + i.toNat))) else if q + 1 ≤ a ∧ a < q + 1 + N then some (ti (a - (q + 1)), aA G 2 K (fun _ => 0)) else h a
section NEWZ
variable {G : GT} {E : ET} {M : MT} {h : AH} {n k pc : Nat} {L : List (Nat × Value)} {st : List Value}
theorem ww_multiZ {own : String} {z y : Int} {index N K : Nat} (to : Tg) (ti : Nat → Tg) (hz : z = N) (hy : y = K) (hN : N < 10000) (hK : K < 10000) (hcl : Cond.classLink own index ("[" ++ (FieldType.array .boolean).toString) ∈ lw_all) (hov : Cond.arrayOver (.array .boolean) ∈ lw_tbl) (harr : Cond.arrayClass .boolean ∈ lw_all) (ho : own = (my M).cls) (d : decode (mcc M) pc = .ok (.multianewarray index 2, 4)) (hto : to.1 ≠ 0) (hti : ∀ i, (ti i).1 ≠ 0) (hto2 : ∀ q : Nat, (∀ a x, h a = some x → a < q) → to.1 ≤ q ∧ ∀ i, (ti i).1 ≤ q) (hn : n + (1 + N) ≤ mmc M) (hk : k + (N + N * K) ≤ mms M)
    (kk : ∀ q : Nat, (∀ a x, h a = some x → a < q) → q ≠ 0 → WW G E M (hgridZ G h q to ti N K) (n + 1 + N) (k + N + N * K) (pc + 4) L (.ref q :: st)) : WW G E M h n k pc L (.int (iI y) :: .int (iI z) :: st) := by
  intro hE H locs ls hR hS hl
  subst ho
  have h0 : H.size ≠ 0 := by have := hR.2.2; have := hE.g.2.2.2.2; omega
  have hp := iI_pos hz (by omega)
  have hq := iI_pos hy (by omega)
  intro T hT X
  subst hT
  obtain ⟨vm₁, cA, comp, hW, hfA, hfC, hO, hI, X1, step⟩ := X.multianewarray2F hE.x hE.own (hE.ts _ hcl) (ao_moved hE.w.alike (hE.g.1 _ hov)) (hE.ts _ harr) (g := F0 (eM E) pc ls (.int (iI y) :: .int (iI z) :: st)) rfl (by rw [hE.b]; exact d) (n := iI z) (k := iI y) (rest := st) rfl hp.1 hq.1 (by rw [hp.2]; omega) (by rw [hq.2]; show K * 1 ≤ _; omega) (by rw [hq.2]; omega) rfl rfl (by rw [hp.2]; exact hn) (by rw [hp.2, hq.2]; exact hk)
  rw [hp.2, hq.2] at X1 step
  have hc : cA = gC G 7 := Option.some.inj (hfA.symm.trans (hE.K.2 7 _ rfl).2)
  have hc2 : comp = gC G 2 := Option.some.inj (hfC.symm.trans (hE.K.2 2 _ rfl).2)
  subst hc hc2
  obtain ⟨f1, f2, f3, f4⟩ := Jvm.Free.Multi.fill_facts (T.setVm vm₁) (gC G 7) (gC G 2) N K (defaultValue .boolean) N
  have fo := fun (a : Nat) (ha : a < T.heap.size) => Jvm.Free.Multi.fill_old (T.setVm vm₁) (gC G 7) (gC G 2) N K (defaultValue .boolean) (a := a) ha N
  have fi := fun (j : Nat) (hj : j < N) => Jvm.Free.Multi.fill_inner (T.setVm vm₁) (gC G 7) (gC G 2) N K (defaultValue .boolean) N j hj
  obtain ⟨o1, o2, o3⟩ := Jvm.Free.Multi.outerC_facts (gC G 7) N T.heap.size N
  have os := fun (j : Nat) (hj : j < N) => Jvm.Free.Multi.outerC_slot (gC G 7) N T.heap.size N j hj
  have hRn : RP G (hgridZ G h T.heap.size to ti N K) (Jvm.Free.Multi.fill (T.setVm vm₁) (gC G 7) (gC G 2) N K (defaultValue .boolean) N).heap := by
    refine ⟨fun a t x hx => ?_, fun q hq1 => ?_, ?_⟩
    · unfold hgridZ at hx
      by_cases e1 : a = T.heap.size
      · rw [if_pos e1] at hx
        cases hx
        refine ⟨?_, Or.inr ⟨hto, by rw [e1]; exact hR.2.2, by rw [e1]; exact (hto2 _ hR.fresh).1⟩⟩
        refine aat.b ?_
        show (Jvm.Free.Multi.fill (T.setVm vm₁) (gC G 7) (gC G 2) N K (defaultValue .boolean) N).heap[a]? = some (vp_cell _ _)
        rw [e1, vp_cell_q]
        refine f2.trans (congrArg some ((outerC_arrV _ _ _ _).trans (arrV_congr (fun j hj => ?_))))
        rw [if_pos hj]
        rfl
      · rw [if_neg e1] at hx
        by_cases e2 : T.heap.size + 1 ≤ a ∧ a < T.heap.size + 1 + N
        · rw [if_pos e2] at hx
          cases hx
          refine ⟨?_, Or.inr ⟨hti _, by have := hR.2.2; omega, by have := (hto2 _ hR.fresh).2 (a - (T.heap.size + 1)); omega⟩⟩
          refine aat.b ?_
          show (Jvm.Free.Multi.fill (T.setVm vm₁) (gC G 7) (gC G 2) N K (defaultValue .boolean) N).heap[a]? = some (vp_cell _ _)
          have := fi (a - (T.heap.size + 1)) (by omega)
          rw [show (T.setVm vm₁).heap.size + 1 + (a - (T.heap.size + 1)) = a by show T.heap.size + 1 + (a - (T.heap.size + 1)) = a; omega] at this
          rw [this, vp_cell_i]
          exact congrArg some (arrV_new _ _ _)
        · rw [if_neg e2] at hx
          exact ⟨(hR.1 a t x hx).1.kept (fo a (hR.lt hx)), (hR.1 a t x hx).2⟩
    · exact (fo q (Nat.lt_of_lt_of_le hq1 hR.2.2)).trans (hR.2.1 q hq1)
    · rw [f1]; have := hR.2.2; show gz G ≤ T.heap.size + 1 + N; omega
  obtain ⟨t, a1, b1⟩ := kk T.heap.size hR.fresh h0 hE _ locs ls hRn hS hl _ rfl X1
  exact ⟨t, step t a1, b1⟩
end NEWZ
/-- rows of ints (ji = 0, jo = 6) or booleans (2, 7): the outer array at y, its rows R -/
def EAr (G : GT) (jo ji : Nat) (h : AH) (q y kk L N : Nat) (R : Int → Nat) (F : Int → Int → Int) : Prop := h y = some ((q, kk), aR G jo L (fun k => some (R k))) ∧ ∀ k : Int, 0 ≤ k → k < L → h (R k) = some ((q, kk + 10 + k.toNat), aA G ji N (F k))
theorem EAr.ex {G : GT} {jo ji : Nat} {h h' : AH} {q y kk L N : Nat} {R : Int → Nat} {F : Int → Int → Int} (hA : EAr G jo ji h q y kk L N R F) (f : Ex h h') : EAr G jo ji h' q y kk L N R F := ⟨f _ _ hA.1, fun k a b => f _ _ (hA.2 k a b)⟩
theorem EAr.fo {G : GT} {jo ji : Nat} {h h' : AH} {q y kk L N o k1 k2 : Nat} {R : Int → Nat} {F : Int → Int → Int} (hA : EAr G jo ji h q y kk L N R F) (f : FO o k1 k2 h h') (hL : L ≤ 8) (hne : q ≠ o ∨ kk + 17 < k1 ∨ k2 < kk) : EAr G jo ji h' q y kk L N R F := ⟨f.at hA.1 (by omega), fun k a b => f.at (hA.2 k a b) (by omega)⟩
theorem EAr.kt {G : GT} {jo ji : Nat} {h h' : AH} {q y kk L N o k1 b : Nat} {R : Int → Nat} {F : Int → Int → Int} (hA : EAr G jo ji h q y kk L N R F) (f : KT b (o, k1) h h') (hL : L ≤ 8) (hne : q ≠ o ∨ kk + 17 < k1 ∨ k1 < kk) : EAr G jo ji h' q y kk L N R F := hA.fo (KT.fo f) hL hne
/-- one place of the grid -/
def g2 (F : Int → Int → Int) (k n v : Int) : Int → Int → Int := fun i => if i = k then iup (F k) n v else F i
theorem g2_at {F : Int → Int → Int} {k n v : Int} (i m : Int) : g2 F k n v i m = if i = k ∧ m = n then v else F i m := by
  unfold g2 iup
  by_cases h : i = k
  · subst h; simp
  · simp [h]
theorem EAr.put {G : GT} {jo ji : Nat} {h h' : AH} {q y kk L N : Nat} {R : Int → Nat} {F : Int → Int → Int} {k n v : Int} (hA : EAr G jo ji h q y kk L N R F) (k0 : 0 ≤ k) (k1 : k < L) (hr : h' (R k) = some ((q, kk + 10 + k.toNat), aA G ji N (iup (F k) n v))) (f : KT (R k) (q, kk + 10 + k.toNat) h h') : EAr G jo ji h' q y kk L N R (g2 F k n v) := by
  refine ⟨f.at hA.1 (by omega), fun i a b => ?_⟩
  unfold g2
  by_cases e : i = k
  · subst e; rw [if_pos rfl]; exact hr
  · rw [if_neg e]; exact f.at (hA.2 i a b) (by omega)
section RWG
variable {G : GT} {E : ET} {M : MT} {h : AH} {n k pc : Nat} {L : List (Nat × Value)} {st : List Value}
theorem wx_multi {own : String} {z y : Int} {index N K q kk0 : Nat} {t : Tg} {x : AE} (hz : z = N) (hy : y = K) (hN : N ≤ 8) (hK : K ≤ 12) (hcl : Cond.classLink own index ("[" ++ (FieldType.array .int).toString) ∈ lw_all) (hov : Cond.arrayOver (.array .int) ∈ lw_tbl) (harr : Cond.arrayClass .int ∈ lw_all) (ho : own = (my M).cls) (d : decode (mcc M) pc = .ok (.multianewarray index 2, 4)) (hq0 : q ≠ 0) (hq : h q = some (t, x)) (hn : n + (1 + N) ≤ mmc M) (hk : k + (N + N * K) ≤ mms M)
    (kk : ∀ (y : Nat) (R : Int → Nat) (h' : AH), Ex h h' → EAr G 6 0 h' q y kk0 N K R (fun _ _ => 0) → WW G E M h' (n + 1 + N) (k + N + N * K) (pc + 4) L (.ref y :: st)) : WW G E M h n k pc L (.int (iI y) :: .int (iI z) :: st) := by
  refine ww_multi (q, kk0) (fun i => (q, kk0 + 10 + i)) hz hy (by omega) (by omega) hcl hov harr ho d hq0 (fun _ => hq0) (fun p hp => ⟨Nat.le_of_lt (hp _ _ hq), fun _ => Nat.le_of_lt (hp _ _ hq)⟩) hn hk (fun p hp p0 => ?_)
  refine kk p (fun i => p + 1 + i.toNat) _ (fun a u hu => ?_) ⟨?_, fun i i0 i1 => ?_⟩
  · have := hp a u hu
    unfold hgrid
    rw [if_neg (by omega), if_neg (by omega)]
    exact hu
  · unfold hgrid; rw [if_pos rfl]
  · show hgrid G h p _ _ N K (p + 1 + i.toNat) = _
    unfold hgrid
    rw [if_neg (by omega), if_pos (by omega), show p + 1 + i.toNat - (p + 1) = i.toNat by omega]
theorem wx_multiZ {own : String} {z y : Int} {index N K q kk0 : Nat} {t : Tg} {x : AE} (hz : z = N) (hy : y = K) (hN : N ≤ 8) (hK : K ≤ 12) (hcl : Cond.classLink own index ("[" ++ (FieldType.array .boolean).toString) ∈ lw_all) (hov : Cond.arrayOver (.array .boolean) ∈ lw_tbl) (harr : Cond.arrayClass .boolean ∈ lw_all) (ho : own = (my M).cls) (d : decode (mcc M) pc = .ok (.multianewarray index 2, 4)) (hq0 : q ≠ 0) (hq : h q = some (t, x)) (hn : n + (1 + N) ≤ mmc M) (hk : k + (N + N * K) ≤ mms M)
    (kk : ∀ (y : Nat) (R : Int → Nat) (h' : AH), Ex h h' → EAr G 7 2 h' q y kk0 N K R (fun _ _ => 0) → WW G E M h' (n + 1 + N) (k + N + N * K) (pc + 4) L (.ref y :: st)) : WW G E M h n k pc L (.int (iI y) :: .int (iI z) :: st) := by
  refine ww_multiZ (q, kk0) (fun i => (q, kk0 + 10 + i)) hz hy (by omega) (by omega) hcl hov harr ho d hq0 (fun _ => hq0) (fun p hp => ⟨Nat.le_of_lt (hp _ _ hq), fun _ => Nat.le_of_lt (hp _ _ hq)⟩) hn hk (fun p hp p0 => ?_)
  refine kk p (fun i => p + 1 + i.toNat) _ (fun a u hu => ?_) ⟨?_, fun i i0 i1 => ?_⟩
  · have := hp a u hu
    unfold hgridZ
    rw [if_neg (by omega), if_neg (by omega)]
    exact hu
  · unfold hgridZ; rw [if_pos rfl]
  · show hgridZ G h p _ _ N K (p + 1 + i.toNat) = _
    unfold hgridZ
    rw [if_neg (by omega), if_pos (by omega), show p + 1 + i.toNat - (p + 1) = i.toNat by omega]
end RWG
/-! plain words of a house's election -/
def hTr (lb : List LV) (k : Int) : Int := (lb.getD k.toNat ([], 0, 0, [])).2.1
def hKp (lb : List LV) (k : Int) : Int := (lb.getD k.toNat ([], 0, 0, [])).2.2.1
def hWt (N : Int) (lb : List LV) (of : Int → Int → Int) (ld : List Int) (fn : EF) (k : Int) : Int := if fi ld k = -1 then -1 else clw (fn (hTr lb k) (fi ld k) (smI N (fun n => bI (of k n ≠ -1))) (fri lb ld k))
def hCd (w : Int → Int) (of : Int → Int → Int) (k n : Int) : Bool := decide (w k ≠ -1 ∧ of k n ≠ -1)
def hVt (w : Int → Int) (of : Int → Int → Int) (lb : List LV) (k n : Int) : Int := if w k = -1 then -1 else if of k n ≠ -1 then k else ((prf lb k).find? (fun o => hCd w of o n)).getD (-1)
def hBs (cd : Int → Bool) (sp : Int → Int) : List Int → Int → Int
  | [], b => b
  | x :: l, b => hBs cd sp l (if cd x = true ∧ (b = -1 ∨ sp b < sp x) then x else b)
def hBd (w : Int → Int) (lb : List LV) (sh : Int) (vt : Int → Int) (sp : Int → Int) (tot best k : Int) : Int := if w k = -1 then -1 else if hKp lb k = 1 ∧ vt k ≠ -1 ∧ sh * tot ≤ 100 * sp (vt k) then vt k else best
/-- an election at e of the house a: L libraries, N names -/
def EO (G : GT) (h : AH) (e a y1 y2 y3 y4 y5 y6 y7 L N : Nat) (W Wi T : Int → Int) : Prop := e ≠ 0 ∧ L ≤ 8 ∧ N ≤ 12 ∧ h e = some ((e, 10600), ob 7 [.ref a, .ref y1, .ref y2, .ref y3, .ref y4, .ref y5, .ref y6, .ref y7]) ∧ h y1 = some ((e, 10601), aA G 0 L W) ∧ h y2 = some ((e, 10602), aA G 0 N Wi) ∧ h y3 = some ((e, 10603), aA G 0 N T)
theorem clw_mm (v : Int) : max 0 (min 9999 v) = clw v := by unfold clw; split <;> (try split) <;> omega
theorem prf_at {lb : List LV} {k : Int} {v : LV} (h : lb[k.toNat]? = some v) : prf lb k = v.2.2.2 := by unfold prf; rw [List.getD_eq_getElem?_getD, h]; rfl
theorem hTr_at {lb : List LV} {k : Int} {v : LV} (h : lb[k.toNat]? = some v) : hTr lb k = v.2.1 := by unfold hTr; rw [List.getD_eq_getElem?_getD, h]; rfl
theorem hKp_at {lb : List LV} {k : Int} {v : LV} (h : lb[k.toNat]? = some v) : hKp lb k = v.2.2.1 := by unfold hKp; rw [List.getD_eq_getElem?_getD, h]; rfl
theorem dropc {α : Type} {l : List α} {j : Nat} {v : α} (h : l[j]? = some v) : l.drop j = v :: l.drop (j + 1) := by
  obtain ⟨h1, h2⟩ := List.getElem?_eq_some_iff.mp h
  rw [List.drop_eq_getElem_cons h1, h2]
theorem fri_bd {lb : List LV} {ld : List Int} {k : Int} : 0 ≤ fri lb ld k ∧ fri lb ld k ≤ ld.length := by
  have := smI_bd (z := (ld.length : Int)) (f := fun i => bI (k ∈ prf lb (ld.getD i.toNat 0))) (c := 1) (by omega) (fun i _ _ => by unfold bI; split <;> omega)
  unfold fri
  omega
theorem ofd_bd {N : Nat} {of : Int → Int → Int} {k : Int} : 0 ≤ smI (N : Int) (fun n => bI (of k n ≠ -1)) ∧ smI (N : Int) (fun n => bI (of k n ≠ -1)) ≤ N := by
  have := smI_bd (z := (N : Int)) (f := fun n => bI (of k n ≠ -1)) (c := 1) (by omega) (fun i _ _ => by unfold bI; split <;> omega)
  omega
theorem hBd_b {w : Int → Int} {lb : List LV} {sh tot best k : Int} {vt sp : Int → Int} (h1 : w k ≠ -1) (h2 : ¬ (hKp lb k = 1 ∧ vt k ≠ -1 ∧ sh * tot ≤ 100 * sp (vt k))) : hBd w lb sh vt sp tot best k = best := by unfold hBd; rw [if_neg h1, if_neg h2]
theorem hBd_v {w : Int → Int} {lb : List LV} {sh tot best k : Int} {vt sp : Int → Int} (h1 : w k ≠ -1) (h2 : hKp lb k = 1 ∧ vt k ≠ -1 ∧ sh * tot ≤ 100 * sp (vt k)) : hBd w lb sh vt sp tot best k = vt k := by unfold hBd; rw [if_neg h1, if_pos h2]
