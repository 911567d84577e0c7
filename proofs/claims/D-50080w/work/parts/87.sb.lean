/-! ===== StringBuilder ===== -/
set_option maxRecDepth 100000
theorem aA_fn {G : GT} {j N : Nat} {f g : Int → Int} (h : ∀ i : Nat, f i = g i) : aA G j N f = aA G j N g := by
  unfold aA
  have : vI f = vI g := funext (fun i => by unfold vI; rw [h i])
  rw [this]
theorem lf_end {l : List Int} {i : Nat} (h : l.length ≤ i) : lf l i = 0 := by
  unfold lf
  rw [Int.toNat_natCast, List.getD_eq_getElem?_getD, List.getElem?_eq_none h]
  rfl
theorem lf_snoc {l : List Int} {c : Int} (i : Nat) : iup (lf l) (l.length : Int) c i = lf (l ++ [c]) i := by
  by_cases e : i = l.length
  · subst e
    rw [iup_s]
    unfold lf
    rw [Int.toNat_natCast, List.getD_eq_getElem?_getD]
    simp
  · rw [iup_n (by omega)]
    unfold lf
    rw [Int.toNat_natCast, List.getD_eq_getElem?_getD, List.getD_eq_getElem?_getD]
    by_cases h : i < l.length
    · rw [List.getElem?_append_left h]
    · rw [List.getElem?_eq_none (by omega), List.getElem?_eq_none (by simp; omega)]
theorem lf_icp {l : List Int} {m : Int} (hm : (l.length : Int) ≤ m) (i : Nat) : icp (lf l) (fun _ => 0) 0 0 m i = lf l i := by
  unfold icp
  by_cases h : (0 : Int) ≤ (i : Int) ∧ (i : Int) < 0 + m
  · rw [if_pos h]; congr 1; omega
  · rw [if_neg h, lf_end (by omega)]
theorem lf_by {l : List Int} (hw : Wd l) : ∀ i : Int, 0 ≤ i → -128 ≤ lf l i ∧ lf l i ≤ 127 := fun i h0 => by
  by_cases h : i < l.length
  · have := lf_wd hw h0 h; omega
  · have : lf l i = 0 := by
      have := lf_end (l := l) (i := i.toNat) (by omega)
      rwa [Int.toNat_of_nonneg h0] at this
    omega
theorem byte_fits {w : Int} (h1 : -128 ≤ w) (h2 : w ≤ 127) : fits .byte (.int (iI w)) = true := by
  have hw : inI w := ⟨by omega, by omega⟩
  simp only [fits, Bool.and_eq_true, decide_eq_true_eq]
  exact ⟨(iI_le (a := -128) (inI.mk0 (by decide) (by decide)) hw).mpr h1, (iI_le (b := 127) hw (inI.mk0 (by decide) (by decide))).mpr h2⟩
section RWY
variable {G : GT} {E : ET} {M : MT} {h : AH} {n k pc : Nat} {L : List (Nat × Value)} {st : List Value}
theorem wx_cloneB {own : String} {index a N : Nat} {t : Tg} {f : Int → Int} (tg : Nat → Tg) (hlink : Cond.methodLink own index ⟨"[B", "clone", "()Ljava/lang/Object;"⟩ ∈ lw_all) (ho : own = (my M).cls) (d : decode (mcc M) pc = .ok (.invokevirtual index, 3)) (ha : h a = some (t, aA G 1 N f)) (hf : ∀ i : Int, 0 ≤ i → i < N → -128 ≤ f i ∧ f i ≤ 127) (htg : ∀ q : Nat, Nw h q → (tg q).1 ≠ 0 ∧ (tg q).1 ≤ q) (hfr : 1 ≤ mfr M) (hlo : (st.map fun v => v.category).sum + 14 ≤ mlo M) (hn : n + 1 ≤ mmc M) (hk : k + N ≤ mms M)
    (kk : ∀ (q : Nat) (h' : AH), Nw h q → Ex h h' → h' q = some (tg q, aA G 1 N f) → WW G E M h' (n + 1) (k + N) (pc + 3) L (.ref q :: st)) : WW G E M h n k pc L (.ref a :: st) := by
  refine ww_own (fun how => ?_)
  have nw : ∀ q : Nat, (∀ a x, h a = some x → a < q) → q ≠ 0 → Nw h q := fun q hq q0 => ⟨q0, fun a t x hx => ⟨hq a _ hx, Nat.lt_of_le_of_lt (how a t x hx) (hq a _ hx)⟩⟩
  intro hE H locs ls hR hS hl
  subst ho
  have h0 : H.size ≠ 0 := by have := hR.2.2; have := hE.g.2.2.2.2; omega
  obtain ⟨⟨cls9, slots9, mon9, hash9, vm9⟩, w9, w91, w92, w93⟩ := (hR.1 a t _ ha).1.2
  have w91 : cls9 = gC G 1 := w91
  have w92 : slots9 = (arrV (gC G 1) N (fun j => .int (vI f j))).slots := w92
  subst w91 w92
  have w93 : vok vm9 := w93
  have hcell : H[a]? = some { cls := gC G 1, slots := (arrV (gC G 1) N (fun j => .int (vI f j))).slots, monitor := mon9, hash := hash9, vm := vm9 } := w9
  have hnm : (eS E).vm.findClass "[B" = some (gC G 1) := (hE.K.2 1 _ rfl).2
  obtain ⟨c0, t0', f1, f2, f3⟩ := Cond.castable_spec (va_Nw.use (A := eA E) rfl (va_Nw.warmC hE.w (va_Nw.of rfl (hE.g.1 _ q393))))
  cases hnm.symm.trans f1
  intro T hT X
  subst hT
  obtain ⟨-, kA, hkA, comp, hkind⟩ := State.isArrayOf_alike X.warmed.alike ((hE.K.2 1 _ rfl).1 0 (fun _ => .null))
  obtain ⟨-, kS, hkS, compS, hkindS⟩ := (hE.K.2 1 _ rfl).1 0 (fun _ => .null)
  obtain ⟨vm', X', st1⟩ := X.cloneArray hE.x hE.own (hE.ts _ hlink) (hE.ts _ q389) (hE.ts _ q390) (hE.ts _ q391) (hE.ts _ q392) (a := a) hcell (fun k h => by have h : vm9 = .statics k := h; have q := w93.1; rw [h] at q; cases q) w93.2 hnm f2 f3
    (fun i v hv => by
      have hi : i < N := by
        by_cases hi : i < N
        · exact hi
        · rw [Array.getElem?_eq_none (by rw [arrV_size]; omega)] at hv; cases hv
      rw [arrV_read _ _ hi] at hv
      cases hv
      have hk' : T.vm.classes[gC G 1]? = some kA := hkA
      show T.fitsSlot (gC G 1) .none i _ = true
      have hb := hf (i : Int) (by omega) (by omega)
      have hfit : fits .byte (.int (vI f i)) = true := byte_fits hb.1 hb.2
      simpa [State.fitsSlot, State.slotType?, hk', hkind] using hfit)
    (g := F0 (eM E) pc ls (.ref a :: st)) rfl (by rw [hE.ml]; exact hl.1) rfl (by rw [hE.b]; exact d) hfr (by show 2 * 0 + (st.map fun v => v.category).sum + 14 ≤ mlo M; omega) hn (by rw [arrV_size]; exact hk) (hloader := Vm.clonesLoader_of_array hkS hkindS)
  rw [arrV_size] at X'
  have hR1 : RP G (hset h T.heap.size (tg T.heap.size, aA G 1 N f)) ((T.setVm vm').pushCell (arrV (gC G 1) N (fun j => .int (vI f j)))).heap := hR.make rfl (htg _ (nw _ hR.fresh h0)) (by rw [size_pushCell]; show T.heap.size ≤ T.heap.size + 1; omega) (State.heap_pushCell_size (T.setVm vm') _) (fun q hq => State.heap_pushCell_of_lt (T.setVm vm') _ hq)
  obtain ⟨t2, d1, d2⟩ := kk T.heap.size _ (nw _ hR.fresh h0) (nw _ hR.fresh h0).ex hset_s hE _ locs ls hR1 hS hl _ rfl X'
  exact ⟨t2, st1 t2 d1, d2⟩
end RWY
/-- the builder at b holds l; its array has room for C -/
def SB (G : GT) (h : AH) (b : Nat) (l : List Int) (C : Nat) : Prop := ∃ v : Nat, b ≠ 0 ∧ h b = some ((b, 10005), ob 14 [.ref v, .int (iI 0), .int (iI 0), .int (iI (l.length : Int))]) ∧ h v = some ((b, 10006), aA G 1 C (lf l)) ∧ l.length ≤ C ∧ C < 10000 ∧ Wd l
theorem SB.ex {G : GT} {h h' : AH} {b C : Nat} {l : List Int} (hS : SB G h b l C) (f : Ex h h') : SB G h' b l C := by
  obtain ⟨v, h0, h1, h2, h3⟩ := hS
  exact ⟨v, h0, f _ _ h1, f _ _ h2, h3⟩
theorem SB.fo {G : GT} {h h' : AH} {b C o k1 k2 : Nat} {l : List Int} (hS : SB G h b l C) (f : FO o k1 k2 h h') (hne : b ≠ o ∨ k2 < 10005 ∨ 10006 < k1) : SB G h' b l C := by
  obtain ⟨v, h0, h1, h2, h3⟩ := hS
  exact ⟨v, h0, f.at h1 (by omega), f.at h2 (by omega), h3⟩
theorem SB.obj {G : GT} {h : AH} {b C : Nat} {l : List Int} (hS : SB G h b l C) : ∃ fs, h b = some ((b, 10005), ob 14 fs) := by
  obtain ⟨v, h0, h1, h2, h3⟩ := hS
  exact ⟨_, h1⟩
theorem sq_J14_100 : SQ "java/lang/AbstractStringBuilder" 100 yJ14_ensureCapacityInternal (mcc (MJ14_ensureCapacityInternal 0 0 0 0)) (mnL (MJ14_ensureCapacityInternal 0 0 0 0)) (mret (MJ14_ensureCapacityInternal 0 0 0 0)) 1 := ⟨q366, q368, q367, by decide +kernel, by decide +kernel, ⟨"isLatin1", "()Z", q403, q402⟩, by decide, by decide, by decide +kernel⟩
theorem sq_J14_104 : SQ "java/lang/AbstractStringBuilder" 104 yJ14_newCapacity (mcc (MJ14_newCapacity 0 0 0 0)) (mnL (MJ14_newCapacity 0 0 0 0)) (mret (MJ14_newCapacity 0 0 0 0)) 1 := ⟨q370, q372, q371, by decide +kernel, by decide +kernel, ⟨"isLatin1", "()Z", q403, q402⟩, by decide, by decide, by decide +kernel⟩
section RWS
variable {G : GT} {E : ET} {M : MT} {h : AH} {n k pc : Nat} {L : List (Nat × Value)} {st : List Value}
theorem ww_ishl0 {a : Nat} (d : decode (mcc M) pc = .ok (.ishl, 1)) (ha : a < 2147483648) (kk : WW G E M h n k (pc + 1) L (.int (iI (a : Int)) :: st)) : WW G E M h n k pc L (.int (iI 0) :: .int (iI (a : Int)) :: st) := by
  refine ww_ishl (a := a) (b := 0) d (by decide) (by omega) ?_
  rw [show a * 2 ^ 0 = a by omega]
  exact kk
end RWS
theorem i2b_s {z : Int} (h0 : -128 ≤ z) (h1 : z ≤ 127) : (iI z).toInt8.toInt32 = iI z := by
  have hz : inI z := ⟨by omega, by omega⟩
  rw [← Int32.toInt_inj, Int8.toInt_toInt32, Int32.toInt_toInt8, iI_toInt hz]
  rw [show (2 ^ 8 : Nat) = 256 from rfl, Int.bmod_def]
  split <;> omega
theorem nar_byte {z : Int} (h0 : -128 ≤ z) (h1 : z ≤ 127) : narrow .byte (.int (iI z)) = .int (iI z) := by
  show Value.int ((iI z).toInt8.toInt32) = _
  rw [i2b_s h0 h1]
