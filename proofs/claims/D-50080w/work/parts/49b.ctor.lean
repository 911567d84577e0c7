/-! ===== the model is made ===== -/
set_option maxRecDepth 100000
def mf0 (A : Nat → Option Nat) (e : Int) : List Value := [.int (iI 0), va_rf (A 1), .int (iI 0), .int (iI 0), .int (iI 0), .int (iI 0), .int (iI 0), .int (iI e), va_rf (A 8), va_rf (A 9), va_rf (A 10), .int (iI 0), .int (iI 0), .int (iI 0), .int (iI 0), va_rf (A 15), va_rf (A 16), .int (iI 0), va_rf (A 18), va_rf (A 19), va_rf (A 20), va_rf (A 21), va_rf (A 22), va_rf (A 23), va_rf (A 24), va_rf (A 25), .int (iI 0)]
def mA8 (j : Nat) : Option Nat := if j = 8 then some 1498 else mArr j
def mRf (j : Nat) : Bool := (mA8 j).isSome || (mLng j).isSome || (mGrd j).isSome
def upA (A : Nat → Option Nat) (j q : Nat) : Nat → Option Nat := fun i => if i = j then some q else A i
theorem upA_s {A : Nat → Option Nat} {j q : Nat} : upA A j q j = some q := if_pos rfl
theorem upA_n {A : Nat → Option Nat} {j q i : Nat} (h : i ≠ j) : upA A j q i = A i := if_neg h
theorem mf0_set {A : Nat → Option Nat} {e : Int} {j q : Nat} (hj : mRf j = true) (h26 : j < 26) : (mf0 A e).set j (.ref q) = mf0 (upA A j q) e := by
  have : j = 1 ∨ j = 8 ∨ j = 9 ∨ j = 10 ∨ j = 15 ∨ j = 16 ∨ j = 18 ∨ j = 19 ∨ j = 20 ∨ j = 21 ∨ j = 22 ∨ j = 23 ∨ j = 24 ∨ j = 25 := by
    revert hj; revert h26; revert j; decide
  rcases this with rfl | rfl | rfl | rfl | rfl | rfl | rfl | rfl | rfl | rfl | rfl | rfl | rfl | rfl <;> rfl
theorem mRf_or {j : Nat} (hj : mRf j = true) (h26 : j < 26) : j = 1 ∨ j = 8 ∨ j = 9 ∨ j = 10 ∨ j = 15 ∨ j = 16 ∨ j = 18 ∨ j = 19 ∨ j = 20 ∨ j = 21 ∨ j = 22 ∨ j = 23 ∨ j = 24 ∨ j = 25 := by
  revert hj; revert h26; revert j; decide
def MB (G : GT) (h0 h : AH) (m : Nat) (A : Nat → Option Nat) (e : Int) : Prop := m ≠ 0 ∧ h m = some ((m, 0), ob 2 (mf0 A e)) ∧ (∀ j N q, mA8 j = some N → A j = some q → h q = some ((m, j), aA G 0 N (fun _ => 0))) ∧ (∀ j N q, mLng j = some N → A j = some q → h q = some ((m, j), aJ G N (fun _ => 0))) ∧
  (∀ j N q, mGrd j = some N → A j = some q → h q = some ((m, j), aR G 6 N.1 (fun i => some (q + 1 + i.toNat))) ∧ ∀ i : Nat, i < N.1 → h (q + 1 + i) = some ((m, 100 * j + i), aA G 0 N.2 (fun _ => 0))) ∧ Fr m h0 h
theorem mA8_0 {j N : Nat} (h : mA8 j = some N) : j ≠ 0 ∧ j < 26 ∧ mRf j = true := by
  unfold mA8 at h
  split at h
  · rename_i e; subst e; decide
  · unfold mArr at h
    split at h <;> first | (cases h; decide) | cases h
theorem mLng_0 {j N : Nat} (h : mLng j = some N) : j ≠ 0 ∧ j < 26 ∧ mRf j = true := by
  unfold mLng at h
  split at h <;> first | (cases h; decide) | cases h
theorem mGrd_0 {j : Nat} {N : Nat × Nat} (h : mGrd j = some N) : j ≠ 0 ∧ j < 26 ∧ mRf j = true := by
  unfold mGrd at h
  split at h <;> first | (cases h; decide) | cases h
theorem MB.step {G : GT} {h0 h h1 : AH} {m j q : Nat} {A : Nat → Option Nat} {e : Int} (hM : MB G h0 h m A e) (hx : ∀ a x, h a = some x → h1 a = some x) (hj : mRf j = true) (h26 : j < 26)
    (n8 : ∀ N, mA8 j = some N → h1 q = some ((m, j), aA G 0 N (fun _ => 0))) (nL : ∀ N, mLng j = some N → h1 q = some ((m, j), aJ G N (fun _ => 0))) (nG : ∀ N, mGrd j = some N → h1 q = some ((m, j), aR G 6 N.1 (fun i => some (q + 1 + i.toNat))) ∧ ∀ i : Nat, i < N.1 → h1 (q + 1 + i) = some ((m, 100 * j + i), aA G 0 N.2 (fun _ => 0))) :
    MB G h0 (hset h1 m ((m, 0), ob 2 ((mf0 A e).set j (.ref q)))) m (upA A j q) e := by
  obtain ⟨m0, mo, b8, bL, bG, bF⟩ := hM
  have mo1 := hx _ _ mo
  refine ⟨m0, by rw [hset_s, mf0_set hj h26], fun i N p hi hp => ?_, fun i N p hi hp => ?_, fun i N p hi hp => ?_, (Fr.tr bF (fun a t x ha _ => hx a _ ha)).set mo1 ⟨rfl, (by decide : 0 < 10000)⟩⟩
  · rw [hset_t mo1 (y := ((m, i), aA G 0 N (fun _ => 0))) _ (tg_ne (mA8_0 hi).1)]
    by_cases e1 : i = j
    · subst e1; rw [upA_s] at hp; cases hp; exact n8 N hi
    · rw [upA_n e1] at hp; exact hx _ _ (b8 i N p hi hp)
  · rw [hset_t mo1 (y := ((m, i), aJ G N (fun _ => 0))) _ (tg_ne (mLng_0 hi).1)]
    by_cases e1 : i = j
    · subst e1; rw [upA_s] at hp; cases hp; exact nL N hi
    · rw [upA_n e1] at hp; exact hx _ _ (bL i N p hi hp)
  · have key : h1 p = some ((m, i), aR G 6 N.1 (fun i => some (p + 1 + i.toNat))) ∧ ∀ k : Nat, k < N.1 → h1 (p + 1 + k) = some ((m, 100 * i + k), aA G 0 N.2 (fun _ => 0)) := by
      by_cases e1 : i = j
      · subst e1; rw [upA_s] at hp; cases hp; exact nG N hi
      · rw [upA_n e1] at hp
        exact ⟨hx _ _ (bG i N p hi hp).1, fun k hk => hx _ _ ((bG i N p hi hp).2 k hk)⟩
    have i0 := (mGrd_0 hi).1
    exact ⟨hset_t mo1 key.1 (tg_ne i0), fun k hk => hset_t mo1 (key.2 k hk) (tg_ne (by omega))⟩
section MBR
variable {G : GT} {E : ET} {M : MT} {h h0 : AH} {n k pc : Nat} {L : List (Nat × Value)} {st : List Value} {m : Nat} {A : Nat → Option Nat} {e : Int}
theorem mb_newA {own : String} {idx j N : Nat} {z : Int} (hM : MB G h0 h m A e) (g : GF own idx 2 j (.array .int) true) (ho : own = (my M).cls) (hmn : (my M).name = "<init>") (d1 : decode (mcc M) pc = .ok (.newarray .int, 2)) (d2 : decode (mcc M) (pc + 2) = .ok (.putfield idx, 3)) (h8 : mA8 j = some N) (harr : Cond.arrayClass .int ∈ lw_all) (hz : z = N) (hN : N < 100000) (hn : n + 1 ≤ mmc M) (hk : k + N ≤ mms M)
    (kk : ∀ h' q, MB G h0 h' m (upA A j q) e → WW G E M h' (n + 1) (k + N) (pc + 2 + 3) L st) : WW G E M h n k pc L (.int (iI z) :: .ref m :: st) := by
  refine ww_newA (j := 0) (atype := .int) (fun _ => (m, j)) hz (by omega) harr rfl (fun _ x => x) rfl (by decide) d1 (fun q hq _ => ⟨hM.1, Nat.le_of_lt (hq _ _ hM.2.1)⟩) hn hk (fun q hq q0 => ?_)
  have hx : ∀ a x, h a = some x → hset h q ((m, j), aA G 0 N (fun _ => 0)) a = some x := fun a x ha => by rw [hset_n (Nat.ne_of_lt (hq a x ha))]; exact ha
  have h3 := mA8_0 h8
  refine ww_putF g ho hmn d2 (hx _ _ hM.2.1) hM.1 (by show j < 27; omega) rfl rfl ?_
  exact kk _ q (hM.step hx h3.2.2 h3.2.1 (fun N' e => by rw [hset_s]; cases h8.symm.trans e; rfl) (fun N' e => by
    exfalso
    unfold mLng at e
    split at e <;> first | (cases e; done) | (cases h8)) (fun N' e => by
    exfalso
    unfold mGrd at e
    split at e <;> first | (cases e; done) | (cases h8)))
theorem mb_newL {own : String} {idx j N : Nat} {z : Int} (hM : MB G h0 h m A e) (g : GF own idx 2 j (.array .long) true) (ho : own = (my M).cls) (hmn : (my M).name = "<init>") (d1 : decode (mcc M) pc = .ok (.newarray .long, 2)) (d2 : decode (mcc M) (pc + 2) = .ok (.putfield idx, 3)) (h8 : mLng j = some N) (harr : Cond.arrayClass .long ∈ lw_all) (hz : z = N) (hN : N < 100000) (hn : n + 1 ≤ mmc M) (hk : k + N ≤ mms M)
    (kk : ∀ h' q, MB G h0 h' m (upA A j q) e → WW G E M h' (n + 1) (k + N) (pc + 2 + 3) L st) : WW G E M h n k pc L (.int (iI z) :: .ref m :: st) := by
  refine ww_newJ (fun _ => (m, j)) hz (by omega) harr d1 (fun q hq _ => ⟨hM.1, Nat.le_of_lt (hq _ _ hM.2.1)⟩) hn hk (fun q hq q0 => ?_)
  have hx : ∀ a x, h a = some x → hset h q ((m, j), aJ G N (fun _ => 0)) a = some x := fun a x ha => by rw [hset_n (Nat.ne_of_lt (hq a x ha))]; exact ha
  have h3 := mLng_0 h8
  refine ww_putF g ho hmn d2 (hx _ _ hM.2.1) hM.1 (by show j < 27; omega) rfl rfl ?_
  exact kk _ q (hM.step hx h3.2.2 h3.2.1 (fun N' e => by
    exfalso
    unfold mLng at h8
    split at h8 <;> first | (cases h8; done) | (cases e)) (fun N' e => by rw [hset_s]; cases h8.symm.trans e; rfl) (fun N' e => by
    exfalso
    unfold mGrd at e
    split at e <;> first | (cases e; done) | (cases h8)))
theorem mb_grid {own : String} {idx ix j N K : Nat} {z y : Int} (hM : MB G h0 h m A e) (g : GF own idx 2 j (.array (.array .int)) true) (ho : own = (my M).cls) (hmn : (my M).name = "<init>") (d1 : decode (mcc M) pc = .ok (.multianewarray ix 2, 4)) (d2 : decode (mcc M) (pc + 4) = .ok (.putfield idx, 3)) (h8 : mGrd j = some (N, K)) (hcl : Cond.classLink own ix ("[" ++ (FieldType.array .int).toString) ∈ lw_all) (hov : Cond.arrayOver (.array .int) ∈ lw_tbl) (harr : Cond.arrayClass .int ∈ lw_all) (hz : z = N) (hy : y = K) (hN : N < 10000) (hK : K < 10000) (hn : n + (1 + N) ≤ mmc M) (hk : k + (N + N * K) ≤ mms M)
    (kk : ∀ h' q, MB G h0 h' m (upA A j q) e → WW G E M h' (n + 1 + N) (k + N + N * K) (pc + 4 + 3) L st) : WW G E M h n k pc L (.int (iI y) :: .int (iI z) :: .ref m :: st) := by
  refine ww_multi (m, j) (fun i => (m, 100 * j + i)) hz hy hN hK hcl hov harr ho d1 hM.1 (fun _ => hM.1) (fun q hq => ⟨Nat.le_of_lt (hq _ _ hM.2.1), fun _ => Nat.le_of_lt (hq _ _ hM.2.1)⟩) hn hk (fun q hq q0 => ?_)
  have hx : ∀ a x, h a = some x → hgrid G h q (m, j) (fun i => (m, 100 * j + i)) N K a = some x := fun a x ha => by
    have := hq a x ha
    unfold hgrid
    rw [if_neg (by omega), if_neg (by omega)]; exact ha
  have h3 := mGrd_0 h8
  refine ww_putF g ho hmn d2 (hx _ _ hM.2.1) hM.1 (by show j < 27; omega) rfl rfl ?_
  exact kk _ q (hM.step hx h3.2.2 h3.2.1 (fun N' e => by
    exfalso
    unfold mGrd at h8
    split at h8 <;> first | (cases h8; done) | (cases e)) (fun N' e => by
    exfalso
    unfold mGrd at h8
    split at h8 <;> first | (cases h8; done) | (cases e)) (fun N' e => by
    cases h8.symm.trans e
    refine ⟨if_pos rfl, fun i hi => ?_⟩
    unfold hgrid
    rw [if_neg (by omega), if_pos (by simp only at hi; omega), show q + 1 + i - (q + 1) = i by omega]))
theorem mb_putI {own : String} {idx : Nat} {z : Int} (hM : MB G h0 h m A e) (g : GF own idx 2 7 .int false) (ho : own = (my M).cls) (d : decode (mcc M) pc = .ok (.putfield idx, 3)) (kk : ∀ h', MB G h0 h' m A z → WW G E M h' n k (pc + 3) L st) : WW G E M h n k pc L (.int (iI z) :: .ref m :: st) := by
  obtain ⟨m0, mo, b8, bL, bG, bF⟩ := hM
  refine ww_putf g ho d mo m0 (by show 7 < 27; decide) rfl rfl (kk _ ⟨m0, by rw [hset_s]; rfl, fun i N p hi hp => hset_t mo (b8 i N p hi hp) (tg_ne (mA8_0 hi).1), fun i N p hi hp => hset_t mo (bL i N p hi hp) (tg_ne (mLng_0 hi).1), fun i N p hi hp => ?_, bF.set mo ⟨rfl, (by decide : 0 < 10000)⟩⟩)
  have i0 := (mGrd_0 hi).1
  exact ⟨hset_t mo (bG i N p hi hp).1 (tg_ne i0), fun k hk => hset_t mo ((bG i N p hi hp).2 k hk) (tg_ne (by omega))⟩
end MBR
def σN : MS := fun j i k => if j = 7 ∧ i = 0 ∧ k = 0 then -1 else 0
theorem MB.done {G : GT} {h0 h : AH} {m : Nat} {A : Nat → Option Nat} (hM : MB G h0 h m A (-1)) (hA : ∀ j, mRf j = true → j < 26 → ∃ q, A j = some q) : MWF G h0 h m (fun j => (A j).getD 0) (fun j i => (A j).getD 0 + 1 + i.toNat) (fun _ => 0) σN := by
  obtain ⟨m0, mo, b8, bL, bG, bF⟩ := hM
  have ev : ∀ j, mRf j = true → j < 26 → A j = some ((A j).getD 0) := fun j a b => by obtain ⟨q, e⟩ := hA j a b; rw [e]; rfl
  have z9 : ∀ j, j ≠ 7 → σN j 0 = fun _ => 0 := fun j hj => by funext k; unfold σN; rw [if_neg (fun x => hj x.1)]
  refine ⟨⟨m0, ?_, fun j N hj => ?_, fun j N hj => ?_, fun j N hj => ⟨?_, fun i i0 i1 => ?_⟩, fun j i k _ => ?_, fun j i k => ?_, ?_, fun _ => (show inI 0 from inI.mk (by decide) (by decide))⟩, bF⟩
  · rw [mo]
    unfold mf0 mfs
    rw [ev 1 (by decide) (by decide), ev 8 (by decide) (by decide), ev 9 (by decide) (by decide), ev 10 (by decide) (by decide), ev 15 (by decide) (by decide), ev 16 (by decide) (by decide), ev 18 (by decide) (by decide), ev 19 (by decide) (by decide), ev 20 (by decide) (by decide), ev 21 (by decide) (by decide), ev 22 (by decide) (by decide), ev 23 (by decide) (by decide), ev 24 (by decide) (by decide), ev 25 (by decide) (by decide)]
    rfl
  · have j8 : mA8 j = some N := by unfold mA8; rw [if_neg (fun e => by rw [e] at hj; cases hj)]; exact hj
    have h3 := mA8_0 j8
    rw [z9 j (fun e => by rw [e] at hj; cases hj)]
    exact b8 j N _ j8 (ev j h3.2.2 h3.2.1)
  · have h3 := mLng_0 hj
    rw [z9 j (fun e => by rw [e] at hj; cases hj)]
    exact bL j N _ hj (ev j h3.2.2 h3.2.1)
  · have h3 := mGrd_0 hj
    exact (bG j N _ hj (ev j h3.2.2 h3.2.1)).1
  · have h3 := mGrd_0 hj
    have := (bG j N _ hj (ev j h3.2.2 h3.2.1)).2 i.toNat (by omega)
    rw [this]
    have : σN j i = fun _ => 0 := by funext k; unfold σN; rw [if_neg (fun x => by rw [x.1] at hj; cases hj)]
    rw [this]
  · unfold σN; split <;> exact inI.mk (by decide) (by decide)
  · unfold σN; split <;> exact inL.mk (by decide) (by decide)
  · exact b8 8 1498 _ rfl (ev 8 (by decide) (by decide))
