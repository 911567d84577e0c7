/-! ===== more rows: references in arrays, copies, class objects, bits, calls of other kinds ===== -/
set_option maxRecDepth 100000
theorem inI.mk0 {z : Int} (h1 : -2147483648 ≤ z) (h2 : z ≤ 2147483647) : inI z := ⟨h1, h2⟩
section RW2
variable {G : GT} {E : ET} {M M' : MT} {h : AH} {n k pc : Nat} {L : List (Nat × Value)} {st rest as : List Value} {post : Option Value → AH → Prop}
theorem ww_own (kk : (∀ a t x, h a = some (t, x) → t.1 ≤ a) → WW G E M h n k pc L st) : WW G E M h n k pc L st :=
  fun hE H locs ls hR hS hl => kk hR.ow hE H locs ls hR hS hl
/-- a reference is stored; its class is the array's, or can be cast to it -/
theorem ww_aast {a e N j ci : Nat} {z : Int} {t u : Tg} {f : Int → Option Nat} {fs : List Value} {q : vw_C} {C : String} (hC : q.1 = C ∨ Cond.castable q.1 C ∈ lw_tbl) (d : decode (mcc M) pc = .ok (.aastore, 1)) (ha : h a = some (t, aR G j N f)) (ht : t.1 ≠ 0) (hty : (gtys G)[j]? = some (gC G j, .object C)) (he : h e = some (u, ob ci fs)) (hci : gcl[ci]? = some q) (hN : N < 2147483648) (h0 : 0 ≤ z) (h1 : z < N)
    (kk : WW G E M (hset h a (t, aR G j N (iup f z (some e)))) n k (pc + 1) L st) : WW G E M h n k pc L (.ref e :: .int (iI z) :: .ref a :: st) := by
  intro hE H locs ls hR hS hl
  have hin := hN_of h0 h1 hN
  have hz := iI_bd h0 h1 hN
  have hlt : (iI z).toNatClampNeg < N := Nat.not_le.mp fun q => hin (Or.inr q)
  have hneg : ¬ iI z < 0 := fun q => hin (Or.inl q)
  obtain ⟨r', cellV, hr', g1, g2, g3, -⟩ := (hR.1 e u _ he).1.2
  have hcls := (hE.K.1 ci q hci).2
  obtain ⟨kA, comp, k1, k2, k3, -⟩ := (hE.K.2 j _ hty).2
  obtain ⟨kE, hkE, -⟩ := Vm.findClass_spec k3
  obtain ⟨kC, hkC, -⟩ := hcls.2
  have hasg : (eS E).vm.assignable ((gD G).1 ci) comp = true := by
    rcases hC with e1 | hC
    · subst e1
      have hcomp : comp = (gD G).1 ci := Option.some.inj (k3.symm.trans hcls.1)
      rw [hcomp]
      exact va_assign hcls
    · obtain ⟨c0, t0, f1, f2, f3⟩ := Cond.castable_spec (va_Nw.use (A := eA E) rfl (va_Nw.warmC hE.w (va_Nw.of rfl (hE.g.1 _ hC))))
      have e1 : c0 = (gD G).1 ci := Option.some.inj (f1.symm.trans hcls.1)
      have e2 : t0 = comp := Option.some.inj (f2.symm.trans k3)
      rw [← e1, ← e2]
      exact f3
  refine W.aast hE.x hE.b (hR.one ha ht 0 _ rfl) (fun q h => by cases h) (fun h => by cases h) k1 k2 rfl hkE ⟨hneg, by show _ < (arrV _ _ _).slots.size; rw [arrV_size]; exact hlt⟩ g1 (fun q h => by have := g3.1; rw [h] at this; cases this) (by rw [g2]; exact hkC) (by rw [g2]; exact hasg) rfl rfl d fun H1 e zs oq => ?_
  refine kk hE H1 _ ls (hR.put ha ht (Nat.le_of_eq zs.symm) ?_ (fun q _ hq => oq q hq)) (locs_add hS (hR.own ha ht)) hl
  show H1[a]? = some (vp_cell _ _)
  rw [e, ← up_vQ h0 hz]
  rw [vp_cell_q, vp_cell_q, arrV_store]
  congr 2
  funext q
  by_cases hq : q = (iI z).toNatClampNeg
  · subst hq
    simp [updV, va_up, va_rf]
  · simp [updV, va_up, hq]
theorem ww_aastN {a N j : Nat} {z : Int} {t : Tg} {f : Int → Option Nat} {C : String} (d : decode (mcc M) pc = .ok (.aastore, 1)) (ha : h a = some (t, aR G j N f)) (ht : t.1 ≠ 0) (hty : (gtys G)[j]? = some (gC G j, .object C)) (hN : N < 2147483648) (h0 : 0 ≤ z) (h1 : z < N)
    (kk : WW G E M (hset h a (t, aR G j N (iup f z none))) n k (pc + 1) L st) : WW G E M h n k pc L (.null :: .int (iI z) :: .ref a :: st) := by
  intro hE H locs ls hR hS hl
  have hin := hN_of h0 h1 hN
  have hz := iI_bd h0 h1 hN
  refine va_WaastN (C := C) hE.x hE.b (hR.one ha ht 0 _ rfl) ((hE.K.2 j _ hty).1 N (fun i => va_rf (vQ f i))) (fun h => by cases h) (by show ¬ (iI z < 0 ∨ (arrV _ _ _).slots.size ≤ _); rw [arrV_size]; exact hin) rfl rfl d fun H1 e zs oq => ?_
  refine kk hE H1 _ ls (hR.put ha ht (Nat.le_of_eq zs.symm) ?_ (fun q _ hq => oq q hq)) (locs_add hS (hR.own ha ht)) hl
  show H1[a]? = some (vp_cell _ _)
  rw [e, ← up_vQ h0 hz]
  rw [vp_cell_q, vp_cell_q, arrV_store]
  congr 2
  funext q
  by_cases hq : q = (iI z).toNatClampNeg
  · subst hq
    simp [updV, va_up, va_rf]
  · simp [updV, va_up, hq]
/-- a reference or null -/
theorem ww_aastq {a N j ci : Nat} {e : Option Nat} {z : Int} {t u : Tg} {f : Int → Option Nat} {fs : Nat → List Value} {q : vw_C} {C : String} (hC : q.1 = C ∨ Cond.castable q.1 C ∈ lw_tbl) (d : decode (mcc M) pc = .ok (.aastore, 1)) (ha : h a = some (t, aR G j N f)) (ht : t.1 ≠ 0) (hty : (gtys G)[j]? = some (gC G j, .object C)) (he : ∀ x, e = some x → ∃ u fs, h x = some (u, ob ci fs)) (hci : gcl[ci]? = some q) (hN : N < 2147483648) (h0 : 0 ≤ z) (h1 : z < N)
    (kk : WW G E M (hset h a (t, aR G j N (iup f z e))) n k (pc + 1) L st) : WW G E M h n k pc L (va_rf e :: .int (iI z) :: .ref a :: st) := by
  cases e with
  | none => exact ww_aastN d ha ht hty hN h0 h1 kk
  | some x =>
    obtain ⟨u, fs, hx⟩ := he x rfl
    exact ww_aast hC d ha ht hty hx hci hN h0 h1 kk
/-- arraycopy -/
def icp {α : Type} (f g : Int → α) (sp dp m : Int) : Int → α := fun i => if dp ≤ i ∧ i < dp + m then f (sp + (i - dp)) else g i
theorem cpy_i {f g : Int → Int} {sp dp m : Int} (h1 : 0 ≤ sp) (h2 : 0 ≤ dp) (h3 : 0 ≤ m) : va_cpy (vI f) (vI g) sp.toNat dp.toNat m.toNat = vI (icp f g sp dp m) := by
  funext i
  unfold va_cpy vI icp
  by_cases c : dp.toNat ≤ i ∧ i < dp.toNat + m.toNat
  · rw [if_pos c, if_pos (by omega)]
    congr 2
    omega
  · rw [if_neg c, if_neg (by omega)]
theorem cpy_q {f g : Int → Option Nat} {sp dp m : Int} (h1 : 0 ≤ sp) (h2 : 0 ≤ dp) (h3 : 0 ≤ m) : va_cpy (vQ f) (vQ g) sp.toNat dp.toNat m.toNat = vQ (icp f g sp dp m) := by
  funext i
  unfold va_cpy vQ icp
  by_cases c : dp.toNat ≤ i ∧ i < dp.toNat + m.toNat
  · rw [if_pos c, if_pos (by omega)]
    congr 1
    omega
  · rw [if_neg c, if_neg (by omega)]
theorem ww_copyB {own : String} {index a b N0 N1 : Nat} {sp dp m : Int} {t u : Tg} {f g : Int → Int} (hlink : Cond.methodLink own index arraycopyName ∈ lw_all) (hnat : Cond.native arraycopyName ∈ lw_all) (hstat : Cond.static arraycopyName ∈ lw_all) (hini : Cond.initialized "java/lang/System" ∈ lw_all) (ho : own = (my M).cls) (d : decode (mcc M) pc = .ok (.invokestatic index, 3))
    (ha : h a = some (t, aA G 1 N0 f)) (hb : h b = some (u, aA G 1 N1 g)) (hu : u.1 ≠ 0) (s0 : 0 ≤ sp) (d0 : 0 ≤ dp) (m0 : 0 ≤ m) (s1 : sp + m ≤ N0) (d1 : dp + m ≤ N1) (hN0 : N0 < 2147483648) (hN1 : N1 < 2147483648) (hfit : ∀ i : Int, 0 ≤ i → i < N0 → -128 ≤ f i ∧ f i ≤ 127) (hfr : 1 ≤ mfr M) (hlo : (st.map fun v => v.category).sum + (nativeFrameWords "java/lang/System" "arraycopy" 5 + 11) ≤ mlo M)
    (kk : WW G E M (hset h b (u, aA G 1 N1 (icp f g sp dp m))) n k (pc + 3) L st) : WW G E M h n k pc L (.int (iI m) :: .int (iI dp) :: .ref b :: .int (iI sp) :: .ref a :: st) := by
  intro hE H locs ls hR hS hl
  subst ho
  have i1 : inI sp := ⟨by omega, by omega⟩
  have i2 : inI dp := ⟨by omega, by omega⟩
  have i3 : inI m := ⟨by omega, by omega⟩
  have hz : ∀ z : Int, inI z → 0 ≤ z → ¬ iI z < 0 := fun z hi h0 q => by rw [iI_0, iI_lt hi z0] at q; omega
  intro T hT X
  obtain ⟨cz9, hc0, hcl0, hsl0, hv0⟩ := (hR.1 a _ _ ha).1.2
  have hcl0 : cz9.cls = gC G 1 := hcl0
  have hsl0 : cz9.slots = (vp_cell (gC G 1) (N0, .inl (vI f))).slots := hsl0
  have hc1 : H[b]? = some (vp_cell (gC G 1) (N1, .inl (vI g))) := hR.one hb hu 0 _ rfl
  obtain ⟨-, k0, hk0, cm0, hkk0⟩ := (hE.K.2 1 _ rfl).1 N0 (fun j => .int (vI f j))
  obtain ⟨-, k1, hk1, cm1, hkk1⟩ := (hE.K.2 1 _ rfl).1 N1 (fun j => .int (vI g j))
  obtain ⟨vm', X', step⟩ := X.arraycopy hE.x hE.own (hE.ts _ hlink) (hE.ts _ hnat) (hE.ts _ hstat) (hE.ts _ hini) (src := a) (dst := b) (cs := cz9) (cd := vp_cell (gC G 1) (N1, .inl (vI g))) (srcPos := iI sp) (destPos := iI dp) (n := iI m) (by rw [hT]; exact hc0) (by rw [hT]; exact hc1)
    (fun _ h => by have := hv0.1; rw [h] at this; cases this) (fun _ h => by cases h) hv0.2 (fun h => by cases h) (by rw [hcl0]; exact hk0) hk1 hkk0 hkk1 (by simp [refKind]) (hz _ i1 s0) (hz _ i2 d0) (hz _ i3 m0)
    (by rw [iI_toInt i1, iI_toInt i3, hsl0]; show ¬ _ > ((arrV (gC G 1) N0 (fun j => .int (vI f j))).slots.size : Int); rw [arrV_size]; omega)
    (by rw [iI_toInt i2, iI_toInt i3]; show ¬ _ > ((arrV (gC G 1) N1 (fun j => .int (vI g j))).slots.size : Int); rw [arrV_size]; omega)
    (fun vm₁ _ i hi => by
      rw [iI_clamp i3] at hi
      have e : cz9.slots.getD ((iI sp).toNatClampNeg + i) .null = .int (vI f ((iI sp).toNatClampNeg + i)) := by
        rw [hsl0]
        show (arrV (gC G 1) N0 (fun j => .int (vI f j))).slots.getD _ _ = _
        rw [iI_clamp i1, Array.getD_eq_getD_getElem?, arrV_read _ _ (by omega)]
        rfl
      refine ⟨?_, ?_⟩
      · rw [e]
        rw [iI_clamp i1]
        have hb := hfit ((sp.toNat + i : Nat) : Int) (by omega) (by omega)
        unfold vI
        generalize f ((sp.toNat + i : Nat) : Int) = w at hb
        have hw : inI w := ⟨by omega, by omega⟩
        show fits .byte (.int (iI w)) = true
        simp only [fits, Bool.and_eq_true, decide_eq_true_eq]
        exact ⟨(iI_le (a := -128) (inI.mk0 (by decide) (by decide)) hw).mpr hb.1, (iI_le (b := 127) hw (inI.mk0 (by decide) (by decide))).mpr hb.2⟩
      · rw [e]
        exact trivial)
    (g := F0 (eM E) pc ls (.int (iI m) :: .int (iI dp) :: .ref b :: .int (iI sp) :: .ref a :: st)) rfl (by rw [hE.ml, hl.1]) (rest := st) rfl (by rw [hE.b]; exact d) hfr (by show 2 * 0 + (st.map fun v => v.category).sum + _ ≤ mlo M; omega)
  have e1 : copied (vp_cell (gC G 1) (N0, .inl (vI f))) (vp_cell (gC G 1) (N1, .inl (vI g))) (iI sp) (iI dp) (iI m) = vp_cell (gC G 1) (N1, .inl (vI (icp f g sp dp m))) := by
    rw [← cpy_i s0 d0 m0, ← iI_clamp i1, ← iI_clamp i2, ← iI_clamp i3]
    exact va_copied (fun z => .int z) (gC G 1) (gC G 1) (vI f) (vI g) (by rw [iI_clamp i1, iI_clamp i3]; omega)
  have ec : ∀ (X9 : Cell) (a9 b9 c9 : Int32), copied cz9 X9 a9 b9 c9 = copied (vp_cell (gC G 1) (N0, .inl (vI f))) X9 a9 b9 c9 := fun X9 a9 b9 c9 => by unfold copied Cell.stretch; rw [hsl0]
  rw [ec, e1] at X' step
  have hl' : b < H.size := hR.lt hb
  have hheap : ((T.setVm vm').setCell b (vp_cell (gC G 1) (N1, .inl (vI (icp f g sp dp m))))).heap = H.setIfInBounds b (vp_cell (gC G 1) (N1, .inl (vI (icp f g sp dp m)))) := by rw [← hT]; rfl
  have oq : ∀ q : Nat, q ≠ b → (H.setIfInBounds b (vp_cell (gC G 1) (N1, .inl (vI (icp f g sp dp m)))))[q]? = H[q]? := fun q hq => by simp [Array.getElem?_setIfInBounds, Ne.symm hq]
  obtain ⟨t', a1, b1⟩ := kk hE _ _ ls (hR.put hb hu (by simp) (show (H.setIfInBounds b _)[b]? = some _ by simp [Array.getElem?_setIfInBounds, hl']) (fun q _ hq => oq q hq)) (fun q hq => by
      rcases List.mem_append.mp hq with h | h
      · exact hS q h
      · obtain ⟨z, -, hz⟩ := List.mem_map.mp h
        rw [← hz]
        exact hR.own hb hu) hl _ hheap X'
  exact ⟨t', step t' a1, b1⟩
theorem ww_copyR {own C : String} {index a b N0 N1 : Nat} {sp dp m : Int} {t u : Tg} {f g : Int → Option Nat} {ci : Nat} {q : vw_C} (hlink : Cond.methodLink own index arraycopyName ∈ lw_all) (hnat : Cond.native arraycopyName ∈ lw_all) (hstat : Cond.static arraycopyName ∈ lw_all) (hini : Cond.initialized "java/lang/System" ∈ lw_all) (ho : own = (my M).cls) (d : decode (mcc M) pc = .ok (.invokestatic index, 3))
    (ha : h a = some (t, aR G 4 N0 f)) (hb : h b = some (u, aR G 4 N1 g)) (hu : u.1 ≠ 0) (s0 : 0 ≤ sp) (d0 : 0 ≤ dp) (m0 : 0 ≤ m) (s1 : sp + m ≤ N0) (d1 : dp + m ≤ N1) (hN0 : N0 < 2147483648) (hN1 : N1 < 2147483648) (hci : gcl[ci]? = some q) (hC : Cond.castable q.1 "java/lang/Object" ∈ lw_tbl) (hel : ∀ i : Int, sp ≤ i → i < sp + m → ∀ y : Nat, f i = some y → ∃ v fs, h y = some (v, ob ci fs)) (hfr : 1 ≤ mfr M) (hlo : (st.map fun v => v.category).sum + (nativeFrameWords "java/lang/System" "arraycopy" 5 + 11) ≤ mlo M)
    (kk : WW G E M (hset h b (u, aR G 4 N1 (icp f g sp dp m))) n k (pc + 3) L st) : WW G E M h n k pc L (.int (iI m) :: .int (iI dp) :: .ref b :: .int (iI sp) :: .ref a :: st) := by
  intro hE H locs ls hR hS hl
  subst ho
  have i1 : inI sp := ⟨by omega, by omega⟩
  have i2 : inI dp := ⟨by omega, by omega⟩
  have i3 : inI m := ⟨by omega, by omega⟩
  have hz : ∀ z : Int, inI z → 0 ≤ z → ¬ iI z < 0 := fun z hi h0 q => by rw [iI_0, iI_lt hi z0] at q; omega
  intro T hT X
  obtain ⟨cz9, hc0, hcl0, hsl0, hv0⟩ := (hR.1 a _ _ ha).1.2
  have hcl0 : cz9.cls = gC G 4 := hcl0
  have hsl0 : cz9.slots = (vp_cell (gC G 4) (N0, .inr (.inr (.inr (.inr (vQ f)))))).slots := hsl0
  have hc1 : H[b]? = some (vp_cell (gC G 4) (N1, .inr (.inr (.inr (.inr (vQ g)))))) := hR.one hb hu 0 _ rfl
  obtain ⟨-, k0, hk0, cm0, hkk0⟩ := (hE.K.2 4 _ rfl).1 N0 (fun j => va_rf (vQ f j))
  obtain ⟨-, k1, hk1, cm1, hkk1⟩ := (hE.K.2 4 _ rfl).1 N1 (fun j => va_rf (vQ g j))
  have hcls := (hE.K.1 ci q hci).2
  obtain ⟨c0, t0, f1, f2, f3⟩ := Cond.castable_spec (va_Nw.use (A := eA E) rfl (va_Nw.warmC hE.w (va_Nw.of rfl (hE.g.1 _ hC))))
  have ec0 : c0 = (gD G).1 ci := Option.some.inj (f1.symm.trans hcls.1)
  obtain ⟨vm', X', step⟩ := X.arraycopy hE.x hE.own (hE.ts _ hlink) (hE.ts _ hnat) (hE.ts _ hstat) (hE.ts _ hini) (src := a) (dst := b) (cs := cz9) (cd := vp_cell (gC G 4) (N1, .inr (.inr (.inr (.inr (vQ g)))))) (srcPos := iI sp) (destPos := iI dp) (n := iI m) (by rw [hT]; exact hc0) (by rw [hT]; exact hc1)
    (fun _ h => by have := hv0.1; rw [h] at this; cases this) (fun _ h => by cases h) hv0.2 (fun h => by cases h) (by rw [hcl0]; exact hk0) hk1 hkk0 hkk1 rfl (hz _ i1 s0) (hz _ i2 d0) (hz _ i3 m0)
    (by rw [iI_toInt i1, iI_toInt i3, hsl0]; show ¬ _ > ((arrV (gC G 4) N0 (fun j => va_rf (vQ f j))).slots.size : Int); rw [arrV_size]; omega)
    (by rw [iI_toInt i2, iI_toInt i3]; show ¬ _ > ((arrV (gC G 4) N1 (fun j => va_rf (vQ g j))).slots.size : Int); rw [arrV_size]; omega)
    (fun vm₁ hal i hi => by
      rw [iI_clamp i3] at hi
      have e : cz9.slots.getD ((iI sp).toNatClampNeg + i) .null = va_rf (vQ f ((iI sp).toNatClampNeg + i)) := by
        rw [hsl0]
        show (arrV (gC G 4) N0 (fun j => va_rf (vQ f j))).slots.getD _ _ = _
        rw [iI_clamp i1, Array.getD_eq_getD_getElem?, arrV_read _ _ (by omega)]
        rfl
      rw [e, iI_clamp i1]
      cases hy : vQ f (sp.toNat + i) with
      | none => exact ⟨rfl, trivial⟩
      | some y =>
        obtain ⟨v, fs, hv⟩ := hel ((sp.toNat + i : Nat) : Int) (by omega) (by omega) y hy
        obtain ⟨r', cellV, hr', g1, g2, g3, -⟩ := (hR.1 y v _ hv).1.2
        obtain ⟨kA, comp, r1, r2, r3, -⟩ := (hE.K.2 4 _ rfl).2
        cases hk1.symm.trans r1
        cases hkk1.symm.trans r2
        obtain ⟨kC, hkC, -⟩ := Vm.findClass_spec hcls.1
        obtain ⟨kE, hkE, -⟩ := Vm.findClass_spec r3
        obtain ⟨kC', hkC', -⟩ := hal.2.2 _ _ hkC
        obtain ⟨kE', hkE', -⟩ := hal.2.2 _ _ hkE
        refine ⟨rfl, cellV, (show T.heap[y]? = some cellV by rw [hT]; exact g1), (fun q h => by have := g3.1; rw [h] at this; cases this), ⟨kC', by rw [g2]; exact hkC'⟩, ?_, ?_⟩
        · exact ⟨kE', hkE'⟩
        · show vm₁.assignable _ _ = true
          rw [hal.assignable, g2, ← ec0, show cm1 = t0 from Option.some.inj (r3.symm.trans f2)]
          exact f3)
    (g := F0 (eM E) pc ls (.int (iI m) :: .int (iI dp) :: .ref b :: .int (iI sp) :: .ref a :: st)) rfl (by rw [hE.ml, hl.1]) (rest := st) rfl (by rw [hE.b]; exact d) hfr (by show 2 * 0 + (st.map fun v => v.category).sum + _ ≤ mlo M; omega)
  have e1 : copied (vp_cell (gC G 4) (N0, .inr (.inr (.inr (.inr (vQ f)))))) (vp_cell (gC G 4) (N1, .inr (.inr (.inr (.inr (vQ g)))))) (iI sp) (iI dp) (iI m) = vp_cell (gC G 4) (N1, .inr (.inr (.inr (.inr (vQ (icp f g sp dp m)))))) := by
    rw [← cpy_q s0 d0 m0, ← iI_clamp i1, ← iI_clamp i2, ← iI_clamp i3]
    exact va_copied (fun z => va_rf z) (gC G 4) (gC G 4) (vQ f) (vQ g) (by rw [iI_clamp i1, iI_clamp i3]; omega)
  have ec : ∀ (X9 : Cell) (a9 b9 c9 : Int32), copied cz9 X9 a9 b9 c9 = copied (vp_cell (gC G 4) (N0, .inr (.inr (.inr (.inr (vQ f)))))) X9 a9 b9 c9 := fun X9 a9 b9 c9 => by unfold copied Cell.stretch; rw [hsl0]
  rw [ec, e1] at X' step
  have hl' : b < H.size := hR.lt hb
  have hheap : ((T.setVm vm').setCell b (vp_cell (gC G 4) (N1, .inr (.inr (.inr (.inr (vQ (icp f g sp dp m)))))))).heap = H.setIfInBounds b (vp_cell (gC G 4) (N1, .inr (.inr (.inr (.inr (vQ (icp f g sp dp m))))))) := by rw [← hT]; rfl
  have oq : ∀ q : Nat, q ≠ b → (H.setIfInBounds b (vp_cell (gC G 4) (N1, .inr (.inr (.inr (.inr (vQ (icp f g sp dp m))))))))[q]? = H[q]? := fun q hq => by simp [Array.getElem?_setIfInBounds, Ne.symm hq]
  obtain ⟨t', a1, b1⟩ := kk hE _ _ ls (hR.put hb hu (by simp) (show (H.setIfInBounds b _)[b]? = some _ by simp [Array.getElem?_setIfInBounds, hl']) (fun q _ hq => oq q hq)) (fun q hq => by
      rcases List.mem_append.mp hq with h | h
      · exact hS q h
      · obtain ⟨z, -, hz⟩ := List.mem_map.mp h
        rw [← hz]
        exact hR.own hb hu) hl _ hheap X'
  exact ⟨t', step t' a1, b1⟩
/-- class objects: of Object[] -/
theorem GOK.mi {G : GT} (hG : GOK G) : ∃ mi : Nat, va_Mi "[Ljava/lang/Object;" mi (g0 G) := va_Mi.of (hG.flat _ (show Cond.isRef (.mirror "[Ljava/lang/Object;") ∈ flatC (Jvm.Cond.and given_1 narrow_1) by decide +kernel))
theorem ww_getC {own : String} {index a N mi : Nat} {t : Tg} {f : Int → Option Nat} (hM : va_Mi "[Ljava/lang/Object;" mi (g0 G)) (hlink : Cond.methodLink own index ⟨"java/lang/Object", "getClass", "()Ljava/lang/Class;"⟩ ∈ lw_all) (hdecl : Cond.declares ⟨"java/lang/Object", "getClass", "()Ljava/lang/Class;"⟩ ∈ lw_tbl) (hsel : Cond.selects "[Ljava/lang/Object;" ⟨"java/lang/Object", "getClass", "()Ljava/lang/Class;"⟩ ⟨"java/lang/Object", "getClass", "()Ljava/lang/Class;"⟩ ∈ lw_all) (hinst : Cond.instanceMethod ⟨"java/lang/Object", "getClass", "()Ljava/lang/Class;"⟩ ∈ lw_all) (hnat : Cond.native ⟨"java/lang/Object", "getClass", "()Ljava/lang/Class;"⟩ ∈ lw_all) (ho : own = (my M).cls) (d : decode (mcc M) pc = .ok (.invokevirtual index, 3))
    (ha : h a = some (t, aR G 4 N f)) (hfr : 1 ≤ mfr M) (hlo : (st.map fun v => v.category).sum + 14 ≤ mlo M) (kk : WW G E M h n k (pc + 3) L (.ref mi :: st)) : WW G E M h n k pc L (.ref a :: st) := by
  intro hE H locs ls hR hS hl
  subst ho
  exact va_getC hE.x hE.b (by rw [hE.ml, hl.1]) hE.own (hE.ts _ hlink) (va_Dc.use (va_Dc.moved hE.w.alike (va_Dc.of (hE.g.1 _ hdecl)))) (hE.ts _ hsel) (hE.ts _ hinst) (hE.ts _ hnat) (va_Mi.moved hE.w.alike hM) (by obtain ⟨c0, q1, q2, q3, q4⟩ := (hR.1 a t _ ha).1.2; exact ⟨c0, q1, q4.1, by rw [q2]; exact va_nmO (hE.K.2 4 _ rfl).2 rfl⟩) hfr hlo d (kk hE H locs ls hR hS hl)
theorem ww_ldcM {own : String} {index mi : Nat} (hM : va_Mi "[Ljava/lang/Object;" mi (g0 G)) (hlink : Cond.classLink own index "[Ljava/lang/Object;" ∈ lw_all) (ho : own = (my M).cls) (d : decode (mcc M) pc = .ok (.ldc index, 2)) (kk : WW G E M h n k (pc + 2) L (.ref mi :: st)) : WW G E M h n k pc L st := by
  intro hE H locs ls hR hS hl
  subst ho
  exact va_ldcM hE.x hE.b hE.own (hE.ts _ hlink) (va_Mi.moved hE.w.alike hM) d (kk hE H locs ls hR hS hl)
/-- an instanceof that fails -/
theorem ww_instNo {own nm : String} {index ci a : Nat} {t : Tg} {fs : List Value} {q : vw_C} (d : decode (mcc M) pc = .ok (.instanceof index, 3)) (ha : h a = some (t, ob ci fs)) (hci : gcl[ci]? = some q) (hl : Cond.classLink own index nm ∈ lw_all) (hno : Cond.not (.castable q.1 nm) ∈ flatC (Jvm.Cond.and given_1 narrow_1)) (ho : own = (my M).cls) (kk : WW G E M h n k (pc + 3) L (.int (iI 0) :: st)) : WW G E M h n k pc L (.ref a :: st) := by
  intro hE H locs ls hR hS hl'
  subst ho
  exact va_instNo hE.x hE.b hE.own (hE.ts _ hl) (va_Nc.moved hE.w.alike (va_Nc.of (hE.g.flat _ hno))) (hR.recv hE ha hci) d (kk hE H locs ls hR hS hl')
theorem ww_castA {own : String} {index a N j : Nat} {t : Tg} {f : Int → Int} {nm : String} (d : decode (mcc M) pc = .ok (.checkcast index, 3)) (ha : h a = some (t, aA G j N f)) (hl : Cond.classLink own index nm ∈ lw_all) (hnm : ∀ U, va_K (gD G) gcl (gtys G) U → U.vm.findClass nm = some (gC G j)) (ho : own = (my M).cls) (kk : WW G E M h n k (pc + 3) L (.ref a :: st)) : WW G E M h n k pc L (.ref a :: st) := by
  intro hE H locs ls hR hS hl'
  subst ho
  obtain ⟨c0, q1, q2, q3, q4⟩ := (hR.1 a t _ ha).1.2
  intro T hT X
  obtain ⟨vm', X', step⟩ := X.checkcastYes hE.x hE.own (hE.ts _ hl) (by rw [hT]; exact q1) q4.1 (hnm _ hE.K) (by rw [q2]; exact va_asg _ _) (g := F0 (eM E) pc ls (.ref a :: st)) rfl rfl (by rw [hE.b]; exact d)
  obtain ⟨t2, a1, b1⟩ := kk hE H locs ls hR hS hl' (T.setVm vm') hT X'
  exact ⟨t2, step t2 a1, b1⟩
theorem ww_ldcf {own : String} {index : Nat} {v : UInt32} (hc : Cond.constantFloat own index v ∈ lw_all) (ho : own = (my M).cls) (d : decode (mcc M) pc = .ok (.ldc index, 2)) (kk : WW G E M h n k (pc + 2) L (.float v :: st)) : WW G E M h n k pc L st := by
  intro hE H locs ls hR hS hl
  subst ho
  exact lv_ldcf hE.x hE.b hE.own (hE.ts _ hc) d (kk hE H locs ls hR hS hl)
theorem ww_lookup {dflt : Int} {ps : Array (Int × Int)} {len : Nat} {z off : Int} (tgt : Nat) (d : decode (mcc M) pc = .ok (.lookupswitch dflt ps, len)) (hz : inI z) (hp : (ps.toList.zip (ps.toList.drop 1)).all (fun (a, next) => a.1 < next.1) = true) (ho : Op.lookupswitch.offset ps.toList dflt z = off) (ht : (pc : Int) + off = (tgt : Int)) (kk : WW G E M h n k tgt L st) : WW G E M h n k pc L (.int (iI z) :: st) :=
  fun hE H locs ls hR hS hl => lv_lookup hE.x hE.b d hp (by rw [iI_toInt hz]; exact ho) ht (kk hE H locs ls hR hS hl)
theorem ww_tableIn {dflt lo hi : Int} {offs : Array Int} {len : Nat} {z off : Int} (tgt : Nat) (d : decode (mcc M) pc = .ok (.tableswitch dflt lo hi offs, len)) (hz : inI z) (h1 : ¬ z < lo) (h2 : ¬ hi < z) (ho : offs[(z - lo).toNat]? = some off) (ht : (pc : Int) + off = (tgt : Int)) (kk : WW G E M h n k tgt L st) : WW G E M h n k pc L (.int (iI z) :: st) :=
  fun hE H locs ls hR hS hl => lv_tableIn hE.x hE.b d (by rw [iI_toInt hz]; exact h1) (by rw [iI_toInt hz]; exact h2) (by rw [iI_toInt hz]; exact ho) ht (kk hE H locs ls hR hS hl)
theorem ww_tableOut {dflt lo hi : Int} {offs : Array Int} {len : Nat} {z : Int} (tgt : Nat) (d : decode (mcc M) pc = .ok (.tableswitch dflt lo hi offs, len)) (hz : inI z) (h1 : z < lo ∨ hi < z) (ht : (pc : Int) + dflt = (tgt : Int)) (kk : WW G E M h n k tgt L st) : WW G E M h n k pc L (.int (iI z) :: st) :=
  fun hE H locs ls hR hS hl => lv_tableOut hE.x hE.b d (by rw [iI_toInt hz]; exact h1) ht (kk hE H locs ls hR hS hl)
/-- the hash's high half of a small number -/
theorem ww_iushr16 {a : Nat} (d : decode (mcc M) pc = .ok (.iushr, 1)) (ha : a < 65536) (kk : WW G E M h n k (pc + 1) L (.int (iI 0) :: st)) : WW G E M h n k pc L (.int (iI 16) :: .int (iI (a : Int)) :: st) := by
  intro hE H locs ls hR hS hl
  refine lv_iushr hE.x hE.b d ?_ (kk hE H locs ls hR hS hl)
  have e : ∀ a : Nat, a < 65536 → ((nI a).toUInt32 >>> ((iI 16).toUInt32 &&& Int32.toUInt32 31)).toInt32 = iI 0 := by
    intro a ha
    have e1 : ((iI 16).toUInt32 &&& Int32.toUInt32 31) = 16 := by decide
    rw [e1]
    have e2 : (nI a).toUInt32 >>> 16 = 0 := by
      apply UInt32.toNat_inj.mp
      rw [UInt32.toNat_shiftRight]
      have e3 : (nI a).toUInt32.toNat = a := by
        show (nI a).toBitVec.toNat = a
        rw [← bt_nat, bt_toNat]
        omega
      rw [e3]
      show a >>> (16 % 32) = 0
      rw [Nat.shiftRight_eq_div_pow]
      exact Nat.div_eq_of_lt (by omega)
    rw [e2]
    rfl
  rw [bt_nat]
  exact e a ha
theorem ww_ixor0 {a : Int} (d : decode (mcc M) pc = .ok (.ixor, 1)) (kk : WW G E M h n k (pc + 1) L (.int (iI a) :: st)) : WW G E M h n k pc L (.int (iI 0) :: .int (iI a) :: st) := by
  intro hE H locs ls hR hS hl
  refine lv_ixor hE.x hE.b d ?_
  have e : iI a ^^^ iI 0 = iI a := by
    show iI a ^^^ 0 = iI a
    exact Int32.xor_zero
  rw [e]
  exact kk hE H locs ls hR hS hl
/-- and with 2^q - 1 -/
theorem ww_iandQ {a : Nat} {c : Int} (q : Nat) (d : decode (mcc M) pc = .ok (.iand, 1)) (hc : c = ((2 ^ q - 1 : Nat) : Int)) (hq : q < 31) (ha : a < 2 ^ 31) (kk : WW G E M h n k (pc + 1) L (.int (iI ((a % 2 ^ q : Nat) : Int)) :: st)) : WW G E M h n k pc L (.int (iI (a : Int)) :: .int (iI c) :: st) := by
  intro hE H locs ls hR hS hl
  refine lv_iand hE.x hE.b d ?_
  have hp : 2 ^ q < 2 ^ 31 := Nat.pow_lt_pow_right (by decide) hq
  have e : iI c &&& iI (a : Int) = iI ((a % 2 ^ q : Nat) : Int) := by
    rw [Int32.and_comm, bt_nat, pk_andN (m := iI c) (by omega) q (by rw [bt_toNat, hc]; omega), ← bt_nat]
  rw [e]
  exact kk hE H locs ls hR hS hl
/-- a call that names a method which is declared (native, abstract) in owner, and lands on y -/
def SA (own : String) (index : Nat) (C owner : String) (x y : MethodName) (b : ByteArray) (L : Nat) (r : Option FieldType) (na : Nat) : Prop :=
  (Cond.methodLink own index x ∈ lw_all ∧ Cond.sameMethod x.cls owner x.name x.desc ∈ lw_all ∧ Cond.selects C x y ∈ lw_all ∧ Cond.instanceMethod y ∈ lw_all ∧ Cond.initialized y.cls ∈ lw_all ∧ Cond.code y b L r ∈ lw_all) ∧ Cond.declares ⟨owner, x.name, x.desc⟩ ∈ lw_tbl ∧ owner ≠ "java/lang/invoke/MethodHandle" ∧ owner ≠ "java/lang/invoke/VarHandle" ∧ (parseMethodDescriptor x.desc).map (fun d => d.parameters.length) = some na
theorem cr_A {own C owner : String} {x : MethodName} {index na b ci : Nat} {t : Tg} {fs : List Value} {q : vw_C} (hC : CT G M' h (.ref b :: as) post) (hs : SA own index C owner x (my M') (mcc M') (mnL M') (mret M') na) (ho : own = (my M).cls) (d : decode (mcc M) pc = .ok (.invokevirtual index, 3)) (hb : h b = some (t, ob ci fs)) (hci : gcl[ci]? = some q) (hq : q.1 = C) (hst : st = as.reverse ++ .ref b :: rest) (hna : as.length = na) (hroom : RF M M') (hw : (rest.map fun v => v.category).sum ≤ 8) (hn : n + mmc M' ≤ mmc M) (hk : k + mms M' ≤ mms M) : CR G E M h n k pc L st rest (mmc M') (mms M') post := by
  intro hE H locs ls hR hS hl
  subst ho; subst hst; subst hq
  obtain ⟨⟨w1, w2, w3, w4, w5, w6⟩, w7, hd⟩ := hs
  exact ⟨_, va_runU ⟨hE.x, hE.b, hE.ml, hE.own, hE.ts⟩ hC (va_cwA na hE.ts (lw_app (fun w hw => by
    simp only [List.mem_cons, List.not_mem_nil, or_false] at hw
    rcases hw with e | e | e | e | e <;> rw [e] <;> assumption) (lw_meth w6)) rfl rfl rfl (va_Nw.warmD hE.w (va_Nw.of rfl (hE.g.1 _ w7))) hd hroom) (pre_v hE hR hb hci) rfl hna hl.1 rfl (lv_room hw) d ⟨hn, hk⟩⟩
/-- super's method -/
def SP (own : String) (index : Nat) (y : MethodName) (b : ByteArray) (L : Nat) (r : Option FieldType) (na : Nat) : Prop :=
  (Cond.methodLink own index y ∈ lw_all ∧ Cond.sameMethod y.cls y.cls y.name y.desc ∈ lw_all ∧ Cond.superclass own y.cls ∈ lw_all ∧ Cond.instanceMethod y ∈ lw_all ∧ Cond.initialized y.cls ∈ lw_all ∧ Cond.code y b L r ∈ lw_all) ∧ y.name ≠ "<init>" ∧ (parseMethodDescriptor y.desc).map (fun d => d.parameters.length) = some na
theorem cr_P {own : String} {index na b ci : Nat} {t : Tg} {fs : List Value} {q : vw_C} (hC : CT G M' h (.ref b :: as) post) (hs : SP own index (my M') (mcc M') (mnL M') (mret M') na) (ho : own = (my M).cls) (d : decode (mcc M) pc = .ok (.invokespecial index, 3)) (hb : h b = some (t, ob ci fs)) (hci : gcl[ci]? = some q) (hst : st = as.reverse ++ .ref b :: rest) (hna : as.length = na) (hroom : RF M M') (hw : (rest.map fun v => v.category).sum ≤ 8) (hn : n + mmc M' ≤ mmc M) (hk : k + mms M' ≤ mms M) : CR G E M h n k pc L st rest (mmc M') (mms M') post := by
  intro hE H locs ls hR hS hl
  subst ho; subst hst
  obtain ⟨⟨w1, w2, w3, w4, w5, w6⟩, hd⟩ := hs
  exact ⟨_, va_runSU (hE.K.1 ci q hci).2 ⟨hE.x, hE.b, hE.ml, hE.own, hE.ts⟩ hC (va_cwSU na hE.ts (lw_app (fun w hw => by
    simp only [List.mem_cons, List.not_mem_nil, or_false] at hw
    rcases hw with e | e | e | e | e <;> rw [e] <;> assumption) (lw_meth w6)) rfl rfl rfl hd hroom) (pre_v hE hR hb hci) rfl hna hl.1 rfl (lv_room hw) d ⟨hn, hk⟩⟩
end RW2
