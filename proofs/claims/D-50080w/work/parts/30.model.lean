/-! ===== the model object's world: one function σ (field, row, place) ===== -/
set_option maxRecDepth 100000
abbrev MS : Type := Nat → Int → Int → Int
def su (σ : MS) (j : Nat) (i k v : Int) : MS := fun j' i' k' => if j' = j ∧ i' = i ∧ k' = k then v else σ j' i' k'
theorem su_off {σ : MS} {j j' : Nat} {i k v : Int} (n : j' ≠ j) : su σ j i k v j' = σ j' := by funext a b; simp [su, n]
theorem su_s {σ : MS} {j : Nat} {i k v : Int} : su σ j i k v j i k = v := by simp [su]
theorem su_n {σ : MS} {j : Nat} {i k v i' k' : Int} (n : ¬ (i' = i ∧ k' = k)) : su σ j i k v j i' k' = σ j i' k' := by simp [su, n]
def mInt : Nat → Bool
  | 0 => true | 2 => true | 3 => true | 4 => true | 5 => true | 6 => true | 7 => true | 11 => true | 12 => true | 13 => true | 14 => true | 17 => true | 26 => true | _ => false
def mArr : Nat → Option Nat
  | 1 => some 800 | 9 => some 1498 | 19 => some 8 | 20 => some 8 | 21 => some 12 | 25 => some 8 | _ => none
def mLng : Nat → Option Nat
  | 15 => some 8 | 16 => some 12 | 18 => some 1300 | _ => none
def mGrd : Nat → Option (Nat × Nat)
  | 10 => some (8, 1498) | 22 => some (8, 12) | 23 => some (8, 12) | 24 => some (8, 12) | _ => none
theorem mIA {j N : Nat} (h : mArr j = some N) : mInt j = false ∧ mLng j = none ∧ mGrd j = none ∧ N < 2147483648 ∧ j ≠ 0 ∧ j < 100 := by
  unfold mArr at h
  split at h <;> first | (cases h; decide) | cases h
theorem mIL {j N : Nat} (h : mLng j = some N) : mInt j = false ∧ mArr j = none ∧ mGrd j = none ∧ N < 2147483648 ∧ j ≠ 0 ∧ j < 100 := by
  unfold mLng at h
  split at h <;> first | (cases h; decide) | cases h
theorem mIG {j : Nat} {N : Nat × Nat} (h : mGrd j = some N) : mInt j = false ∧ mArr j = none ∧ mLng j = none ∧ N.1 < 100 ∧ N.2 < 2147483648 ∧ j ≠ 0 ∧ j < 100 := by
  unfold mGrd at h
  split at h <;> first | (cases h; decide) | cases h
def mfs (A : Nat → Nat) (σ : MS) : List Value := [.int (iI (σ 0 0 0)), .ref (A 1), .int (iI (σ 2 0 0)), .int (iI (σ 3 0 0)), .int (iI (σ 4 0 0)), .int (iI (σ 5 0 0)), .int (iI (σ 6 0 0)), .int (iI (σ 7 0 0)), .ref (A 8), .ref (A 9), .ref (A 10), .int (iI (σ 11 0 0)), .int (iI (σ 12 0 0)), .int (iI (σ 13 0 0)), .int (iI (σ 14 0 0)), .ref (A 15), .ref (A 16), .int (iI (σ 17 0 0)), .ref (A 18), .ref (A 19), .ref (A 20), .ref (A 21), .ref (A 22), .ref (A 23), .ref (A 24), .ref (A 25), .int (iI (σ 26 0 0))]
theorem mfs_set {A : Nat → Nat} {σ : MS} {j : Nat} {z : Int} (hj : mInt j = true) : (mfs A σ).set j (.int (iI z)) = mfs A (su σ j 0 0 z) := by
  unfold mInt at hj
  split at hj <;> first | (cases hj; done) | simp [mfs, su]
theorem mfs_off {A : Nat → Nat} {σ : MS} {j : Nat} {i k z : Int} (hj : mInt j = false) : mfs A (su σ j i k z) = mfs A σ := by
  have ne : ∀ j' : Nat, mInt j' = true → j' ≠ j := fun j' h e => by rw [e, hj] at h; cases h
  simp only [mfs, su_off (ne 0 rfl), su_off (ne 2 rfl), su_off (ne 3 rfl), su_off (ne 4 rfl), su_off (ne 5 rfl), su_off (ne 6 rfl), su_off (ne 7 rfl), su_off (ne 11 rfl), su_off (ne 12 rfl), su_off (ne 13 rfl), su_off (ne 14 rfl), su_off (ne 17 rfl), su_off (ne 26 rfl)]
def MW (G : GT) (h : AH) (m : Nat) (A : Nat → Nat) (B : Nat → Int → Nat) (D : Int → Int) (σ : MS) : Prop :=
  m ≠ 0 ∧ h m = some ((m, 0), ob 2 (mfs A σ)) ∧ (∀ j N, mArr j = some N → h (A j) = some ((m, j), aA G 0 N (σ j 0))) ∧ (∀ j N, mLng j = some N → h (A j) = some ((m, j), aJ G N (σ j 0))) ∧
  (∀ j N, mGrd j = some N → h (A j) = some ((m, j), aR G 6 N.1 (fun i => some (B j i))) ∧ ∀ i : Int, 0 ≤ i → i < N.1 → h (B j i) = some ((m, 100 * j + i.toNat), aA G 0 N.2 (σ j i))) ∧
  (∀ j i k, mLng j = none → inI (σ j i k)) ∧ (∀ j i k, inL (σ j i k)) ∧ h (A 8) = some ((m, 8), aA G 0 1498 D) ∧ ∀ z, inI (D z)
def Fr (m : Nat) (h h' : AH) : Prop := ∀ a t x, h a = some (t, x) → ¬ (t.1 = m ∧ t.2 < 10000) → h' a = some (t, x)
theorem Fr.rf {m : Nat} {h : AH} : Fr m h h := fun _ _ _ hx _ => hx
theorem Fr.tr {m : Nat} {h h1 h2 : AH} (a : Fr m h h1) (b : Fr m h1 h2) : Fr m h h2 := fun q t x hx ht => b q t x (a q t x hx ht) ht
theorem Fr.set {m : Nat} {h h1 : AH} {a : Nat} {t : Tg} {x y : AE} (f : Fr m h h1) (ha : h1 a = some (t, x)) (ht : t.1 = m ∧ t.2 < 10000) : Fr m h (hset h1 a (t, y)) := fun q u z hz hu => by
  have h2 := f q u z hz hu
  rw [hset_n (fun e => hu (by rw [e, ha] at h2; cases h2; exact ht))]
  exact h2
def MWF (G : GT) (h0 h : AH) (m : Nat) (A : Nat → Nat) (B : Nat → Int → Nat) (D : Int → Int) (σ : MS) : Prop := MW G h m A B D σ ∧ Fr m h0 h
section MWS
variable {G : GT} {h h0 : AH} {m : Nat} {A : Nat → Nat} {B : Nat → Int → Nat} {D : Int → Int} {σ : MS}
theorem MW.f (hM : MW G h m A B D σ) : MWF G h h m A B D σ := ⟨hM, Fr.rf⟩
theorem MWF.obj (hM : MWF G h0 h m A B D σ) : h m = some ((m, 0), ob 2 (mfs A σ)) := hM.1.2.1
theorem MWF.arr (hM : MWF G h0 h m A B D σ) {j N : Nat} (hj : mArr j = some N) : h (A j) = some ((m, j), aA G 0 N (σ j 0)) := hM.1.2.2.1 j N hj
theorem MWF.lng (hM : MWF G h0 h m A B D σ) {j N : Nat} (hj : mLng j = some N) : h (A j) = some ((m, j), aJ G N (σ j 0)) := hM.1.2.2.2.1 j N hj
theorem MWF.grd (hM : MWF G h0 h m A B D σ) {j : Nat} {N : Nat × Nat} (hj : mGrd j = some N) : h (A j) = some ((m, j), aR G 6 N.1 (fun i => some (B j i))) := (hM.1.2.2.2.2.1 j N hj).1
theorem MWF.row (hM : MWF G h0 h m A B D σ) {j : Nat} {N : Nat × Nat} (hj : mGrd j = some N) {i : Int} (h0 : 0 ≤ i) (h1 : i < N.1) : h (B j i) = some ((m, 100 * j + i.toNat), aA G 0 N.2 (σ j i)) := (hM.1.2.2.2.2.1 j N hj).2 i h0 h1
theorem MWF.ri (hM : MWF G h0 h m A B D σ) {j : Nat} (hj : mLng j = none) (i k : Int) : inI (σ j i k) := hM.1.2.2.2.2.2.1 j i k hj
theorem MWF.rl (hM : MWF G h0 h m A B D σ) (j : Nat) (i k : Int) : inL (σ j i k) := hM.1.2.2.2.2.2.2.1 j i k
theorem MWF.dat (hM : MWF G h0 h m A B D σ) : h (A 8) = some ((m, 8), aA G 0 1498 D) := hM.1.2.2.2.2.2.2.2.1
theorem MWF.rd (hM : MWF G h0 h m A B D σ) (z : Int) : inI (D z) := hM.1.2.2.2.2.2.2.2.2 z
theorem inI.L {z : Int} (h : inI z) : inL z := ⟨by have := h.1; omega, by have := h.2; omega⟩
theorem inI.mk {z : Int} (h1 : -2147483648 ≤ z) (h2 : z ≤ 2147483647) : inI z := ⟨h1, h2⟩
theorem inL.mk {z : Int} (h1 : -9223372036854775808 ≤ z) (h2 : z ≤ 9223372036854775807) : inL z := ⟨h1, h2⟩
theorem su_all {P : Nat → Int → Prop} {σ : MS} {j : Nat} {i k v : Int} (hs : ∀ j' i' k', P j' (σ j' i' k')) (hv : P j v) : ∀ j' i' k', P j' (su σ j i k v j' i' k') := by
  intro j' i' k'
  unfold su
  split
  · rename_i e; rw [e.1]; exact hv
  · exact hs j' i' k'
theorem su_ri {σ : MS} {j : Nat} {i k v : Int} (hs : ∀ j' i' k', mLng j' = none → inI (σ j' i' k')) (hv : mLng j = none → inI v) : ∀ j' i' k', mLng j' = none → inI (su σ j i k v j' i' k') :=
  su_all (P := fun j x => mLng j = none → inI x) hs hv
theorem su_rl {σ : MS} {j : Nat} {i k v : Int} (hs : ∀ j' i' k', inL (σ j' i' k')) (hv : inL v) : ∀ j' i' k', inL (su σ j i k v j' i' k') :=
  su_all (P := fun _ x => inL x) hs hv
theorem tg_ne {m a b : Nat} (n : a ≠ b) : ((m, a) : Tg) ≠ (m, b) := fun e => n (congrArg (·.2) e)
theorem MWF.putI {j : Nat} {z : Int} (hM : MWF G h0 h m A B D σ) (hj : mInt j = true) (hz : inI z) : MWF G h0 (hset h m ((m, 0), ob 2 ((mfs A σ).set j (.int (iI z))))) m A B D (su σ j 0 0 z) := by
  refine ⟨⟨hM.1.1, by rw [hset_s, mfs_set hj], fun j' N h' => ?_, fun j' N h' => ?_, fun j' N h' => ⟨?_, fun i h1 h2 => ?_⟩, su_ri hM.1.2.2.2.2.2.1 (fun _ => hz), su_rl hM.1.2.2.2.2.2.2.1 hz.L, by rw [hset_t hM.obj hM.dat (tg_ne (by decide))], hM.rd⟩, hM.2.set hM.obj ⟨rfl, (by decide : 0 < 10000)⟩⟩
  · rw [hset_t hM.obj (hM.arr h') (tg_ne (mIA h').2.2.2.2.1), su_off (fun e => by have := (mIA h').1; rw [e, hj] at this; cases this)]
  · rw [hset_t hM.obj (hM.lng h') (tg_ne (mIL h').2.2.2.2.1), su_off (fun e => by have := (mIL h').1; rw [e, hj] at this; cases this)]
  · rw [hset_t hM.obj (hM.grd h') (tg_ne (mIG h').2.2.2.2.2.1)]
  · rw [hset_t hM.obj (hM.row h' h1 h2) (tg_ne (by have := (mIG h').2.2.2.2.2.1; omega)), su_off (fun e => by have := (mIG h').1; rw [e, hj] at this; cases this)]
theorem iup_su {j : Nat} {z v i : Int} : iup (σ j i) z v = su σ j i z v j i := by
  funext k; unfold iup su; by_cases e : k = z <;> simp [e]
theorem su_row {j : Nat} {z v i i' : Int} (n : i' ≠ i) : su σ j i z v j i' = σ j i' := by
  funext k; simp [su, n]
theorem MWF.stA {j N : Nat} {z v : Int} (hM : MWF G h0 h m A B D σ) (hj : mArr j = some N) (hv : inI v) : MWF G h0 (hset h (A j) ((m, j), aA G 0 N (iup (σ j 0) z v))) m A B D (su σ j 0 z v) := by
  have hj0 := mIA hj
  refine ⟨⟨hM.1.1, ?_, fun j' N' h' => ?_, fun j' N' h' => ?_, fun j' N' h' => ⟨?_, fun i h1 h2 => ?_⟩, su_ri hM.1.2.2.2.2.2.1 (fun _ => hv), su_rl hM.1.2.2.2.2.2.2.1 hv.L, by rw [hset_t (hM.arr hj) hM.dat (tg_ne (fun e => by rw [← e] at hj; cases hj))], hM.rd⟩, hM.2.set (hM.arr hj) ⟨rfl, by have := hj0.2.2.2.2.2; show j < 10000; omega⟩⟩
  · rw [hset_t (hM.arr hj) hM.obj (tg_ne hj0.2.2.2.2.1.symm), mfs_off hj0.1]
  · by_cases e : j' = j
    · subst e
      cases hj.symm.trans h'
      rw [hset_s, iup_su]
    · rw [hset_t (hM.arr hj) (hM.arr h') (tg_ne e), su_off e]
  · have e : j' ≠ j := fun e => by have := hj0.2.1; rw [← e, h'] at this; cases this
    rw [hset_t (hM.arr hj) (hM.lng h') (tg_ne e), su_off e]
  · have e : j' ≠ j := fun e => by have := hj0.2.2.1; rw [← e, h'] at this; cases this
    rw [hset_t (hM.arr hj) (hM.grd h') (tg_ne e)]
  · have e : j' ≠ j := fun e => by have := hj0.2.2.1; rw [← e, h'] at this; cases this
    rw [hset_t (hM.arr hj) (hM.row h' h1 h2) (tg_ne (by have := hj0.2.2.2.2.2; have := (mIG h').2.2.2.2.2.1; omega)), su_off e]
theorem MWF.stL {j N : Nat} {z v : Int} (hM : MWF G h0 h m A B D σ) (hj : mLng j = some N) (hv : inL v) : MWF G h0 (hset h (A j) ((m, j), aJ G N (iup (σ j 0) z v))) m A B D (su σ j 0 z v) := by
  have hj0 := mIL hj
  refine ⟨⟨hM.1.1, ?_, fun j' N' h' => ?_, fun j' N' h' => ?_, fun j' N' h' => ⟨?_, fun i h1 h2 => ?_⟩, su_ri hM.1.2.2.2.2.2.1 (fun e => by rw [hj] at e; cases e), su_rl hM.1.2.2.2.2.2.2.1 hv, by rw [hset_t (hM.lng hj) hM.dat (tg_ne (fun e => by rw [← e] at hj; cases hj))], hM.rd⟩, hM.2.set (hM.lng hj) ⟨rfl, by have := hj0.2.2.2.2.2; show j < 10000; omega⟩⟩
  · rw [hset_t (hM.lng hj) hM.obj (tg_ne hj0.2.2.2.2.1.symm), mfs_off hj0.1]
  · have e : j' ≠ j := fun e => by have := hj0.2.1; rw [← e, h'] at this; cases this
    rw [hset_t (hM.lng hj) (hM.arr h') (tg_ne e), su_off e]
  · by_cases e : j' = j
    · subst e
      cases hj.symm.trans h'
      rw [hset_s, iup_su]
    · rw [hset_t (hM.lng hj) (hM.lng h') (tg_ne e), su_off e]
  · have e : j' ≠ j := fun e => by have := hj0.2.2.1; rw [← e, h'] at this; cases this
    rw [hset_t (hM.lng hj) (hM.grd h') (tg_ne e)]
  · have e : j' ≠ j := fun e => by have := hj0.2.2.1; rw [← e, h'] at this; cases this
    rw [hset_t (hM.lng hj) (hM.row h' h1 h2) (tg_ne (by have := hj0.2.2.2.2.2; have := (mIG h').2.2.2.2.2.1; omega)), su_off e]
theorem MWF.stR {j : Nat} {N : Nat × Nat} {i z v : Int} (hM : MWF G h0 h m A B D σ) (hj : mGrd j = some N) (h1 : 0 ≤ i) (h2 : i < N.1) (hv : inI v) : MWF G h0 (hset h (B j i) ((m, 100 * j + i.toNat), aA G 0 N.2 (iup (σ j i) z v))) m A B D (su σ j i z v) := by
  have hj0 := mIG hj
  have hr := hM.row hj h1 h2
  refine ⟨⟨hM.1.1, ?_, fun j' N' h' => ?_, fun j' N' h' => ?_, fun j' N' h' => ⟨?_, fun i' h1' h2' => ?_⟩, su_ri hM.1.2.2.2.2.2.1 (fun _ => hv), su_rl hM.1.2.2.2.2.2.2.1 hv.L, by rw [hset_t hr hM.dat (tg_ne (by have := hj0.2.2.2.2.2.1; omega))], hM.rd⟩, hM.2.set hr ⟨rfl, by have := hj0.2.2.2.1; have := hj0.2.2.2.2.2.2; show 100 * j + i.toNat < 10000; omega⟩⟩
  · rw [hset_t hr hM.obj (tg_ne (by have := hj0.2.2.2.2.2.1; omega)), mfs_off hj0.1]
  · have e : j' ≠ j := fun e => by have := hj0.2.1; rw [← e, h'] at this; cases this
    rw [hset_t hr (hM.arr h') (tg_ne (by have := (mIA h').2.2.2.2.2; have := hj0.2.2.2.2.2.1; omega)), su_off e]
  · have e : j' ≠ j := fun e => by have := hj0.2.2.1; rw [← e, h'] at this; cases this
    rw [hset_t hr (hM.lng h') (tg_ne (by have := (mIL h').2.2.2.2.2; have := hj0.2.2.2.2.2.1; omega)), su_off e]
  · rw [hset_t hr (hM.grd h') (tg_ne (by have := (mIG h').2.2.2.2.2.2; have := hj0.2.2.2.2.2.1; omega))]
  · by_cases e : j' = j
    · subst e
      cases hj.symm.trans h'
      by_cases e2 : i' = i
      · subst e2
        rw [hset_s, iup_su]
      · rw [hset_t hr (hM.row h' h1' h2') (tg_ne (by omega)), su_row e2]
    · have b1 := (mIG h').2.2.2.1
      have b2 := hj0.2.2.2.1
      rw [hset_t hr (hM.row h' h1' h2') (tg_ne (by omega)), su_off e]
def sa (σ : MS) (j : Nat) (i : Int) (g : Int → Int) : MS := fun j' i' => if j' = j ∧ i' = i then g else σ j' i'
theorem sa_off {σ : MS} {j j' : Nat} {i : Int} {g : Int → Int} (n : j' ≠ j) : sa σ j i g j' = σ j' := by funext a; simp [sa, n]
theorem sa_s {σ : MS} {j : Nat} {i : Int} {g : Int → Int} : sa σ j i g j i = g := by simp [sa]
theorem sa_row {σ : MS} {j : Nat} {i i' : Int} {g : Int → Int} (n : i' ≠ i) : sa σ j i g j i' = σ j i' := by simp [sa, n]
theorem sa_ri {σ : MS} {j : Nat} {i : Int} {g : Int → Int} (hs : ∀ j' i' k', mLng j' = none → inI (σ j' i' k')) (hg : mLng j = none → ∀ z, inI (g z)) : ∀ j' i' k', mLng j' = none → inI (sa σ j i g j' i' k') := by
  intro j' i' k' hj
  unfold sa
  split
  · rename_i e; exact hg (by rw [← e.1]; exact hj) k'
  · exact hs j' i' k' hj
theorem sa_rl {σ : MS} {j : Nat} {i : Int} {g : Int → Int} (hs : ∀ j' i' k', inL (σ j' i' k')) (hg : ∀ z, inL (g z)) : ∀ j' i' k', inL (sa σ j i g j' i' k') := by
  intro j' i' k'
  unfold sa
  split
  · exact hg k'
  · exact hs j' i' k'
theorem mfs_offa {A : Nat → Nat} {σ : MS} {j : Nat} {i : Int} {g : Int → Int} (hj : mInt j = false) : mfs A (sa σ j i g) = mfs A σ := by
  have ne : ∀ j' : Nat, mInt j' = true → j' ≠ j := fun j' h e => by rw [e, hj] at h; cases h
  simp only [mfs, sa_off (ne 0 rfl), sa_off (ne 2 rfl), sa_off (ne 3 rfl), sa_off (ne 4 rfl), sa_off (ne 5 rfl), sa_off (ne 6 rfl), sa_off (ne 7 rfl), sa_off (ne 11 rfl), sa_off (ne 12 rfl), sa_off (ne 13 rfl), sa_off (ne 14 rfl), sa_off (ne 17 rfl), sa_off (ne 26 rfl)]
theorem MWF.stAf {j N : Nat} {g : Int → Int} (hM : MWF G h0 h m A B D σ) (hj : mArr j = some N) (hv : ∀ z, inI (g z)) : MWF G h0 (hset h (A j) ((m, j), aA G 0 N g)) m A B D (sa σ j 0 g) := by
  have hj0 := mIA hj
  refine ⟨⟨hM.1.1, ?_, fun j' N' h' => ?_, fun j' N' h' => ?_, fun j' N' h' => ⟨?_, fun i h1 h2 => ?_⟩, sa_ri hM.1.2.2.2.2.2.1 (fun _ => hv), sa_rl hM.1.2.2.2.2.2.2.1 (fun z => (hv z).L), by rw [hset_t (hM.arr hj) hM.dat (tg_ne (fun e => by rw [← e] at hj; cases hj))], hM.rd⟩, hM.2.set (hM.arr hj) ⟨rfl, by have := hj0.2.2.2.2.2; show j < 10000; omega⟩⟩
  · rw [hset_t (hM.arr hj) hM.obj (tg_ne hj0.2.2.2.2.1.symm), mfs_offa hj0.1]
  · by_cases e : j' = j
    · subst e
      cases hj.symm.trans h'
      rw [hset_s, sa_s]
    · rw [hset_t (hM.arr hj) (hM.arr h') (tg_ne e), sa_off e]
  · have e : j' ≠ j := fun e => by have := hj0.2.1; rw [← e, h'] at this; cases this
    rw [hset_t (hM.arr hj) (hM.lng h') (tg_ne e), sa_off e]
  · have e : j' ≠ j := fun e => by have := hj0.2.2.1; rw [← e, h'] at this; cases this
    rw [hset_t (hM.arr hj) (hM.grd h') (tg_ne e)]
  · have e : j' ≠ j := fun e => by have := hj0.2.2.1; rw [← e, h'] at this; cases this
    rw [hset_t (hM.arr hj) (hM.row h' h1 h2) (tg_ne (by have := hj0.2.2.2.2.2; have := (mIG h').2.2.2.2.2.1; omega)), sa_off e]
theorem MWF.stRf {j : Nat} {N : Nat × Nat} {i : Int} {g : Int → Int} (hM : MWF G h0 h m A B D σ) (hj : mGrd j = some N) (h1 : 0 ≤ i) (h2 : i < N.1) (hv : ∀ z, inI (g z)) : MWF G h0 (hset h (B j i) ((m, 100 * j + i.toNat), aA G 0 N.2 g)) m A B D (sa σ j i g) := by
  have hj0 := mIG hj
  have hr := hM.row hj h1 h2
  refine ⟨⟨hM.1.1, ?_, fun j' N' h' => ?_, fun j' N' h' => ?_, fun j' N' h' => ⟨?_, fun i' h1' h2' => ?_⟩, sa_ri hM.1.2.2.2.2.2.1 (fun _ => hv), sa_rl hM.1.2.2.2.2.2.2.1 (fun z => (hv z).L), by rw [hset_t hr hM.dat (tg_ne (by have := hj0.2.2.2.2.2.1; omega))], hM.rd⟩, hM.2.set hr ⟨rfl, by have := hj0.2.2.2.1; have := hj0.2.2.2.2.2.2; show 100 * j + i.toNat < 10000; omega⟩⟩
  · rw [hset_t hr hM.obj (tg_ne (by have := hj0.2.2.2.2.2.1; omega)), mfs_offa hj0.1]
  · have e : j' ≠ j := fun e => by have := hj0.2.1; rw [← e, h'] at this; cases this
    rw [hset_t hr (hM.arr h') (tg_ne (by have := (mIA h').2.2.2.2.2; have := hj0.2.2.2.2.2.1; omega)), sa_off e]
  · have e : j' ≠ j := fun e => by have := hj0.2.2.1; rw [← e, h'] at this; cases this
    rw [hset_t hr (hM.lng h') (tg_ne (by have := (mIL h').2.2.2.2.2; have := hj0.2.2.2.2.2.1; omega)), sa_off e]
  · rw [hset_t hr (hM.grd h') (tg_ne (by have := (mIG h').2.2.2.2.2.2; have := hj0.2.2.2.2.2.1; omega))]
  · by_cases e : j' = j
    · subst e
      cases hj.symm.trans h'
      by_cases e2 : i' = i
      · subst e2
        rw [hset_s, sa_s]
      · rw [hset_t hr (hM.row h' h1' h2') (tg_ne (by omega)), sa_row e2]
    · have b1 := (mIG h').2.2.2.1
      have b2 := hj0.2.2.2.1
      rw [hset_t hr (hM.row h' h1' h2') (tg_ne (by omega)), sa_off e]
theorem su_sj {j : Nat} {S : Int → Int → Int} {i k v : Int} : su (sj σ j S) j i k v = sj σ j (s2 S i k v) := by
  funext a b c
  unfold su sj s2
  by_cases e : a = j <;> simp [e]
theorem sj_id {j : Nat} : sj σ j (σ j) = σ := by
  funext a
  unfold sj
  by_cases e : a = j <;> simp [e]
theorem su_sj' {j : Nat} {i k v : Int} : su σ j i k v = sj σ j (s2 (σ j) i k v) := by rw [← su_sj, sj_id]
theorem s2_s {S : Int → Int → Int} {i k v : Int} : s2 S i k v i k = v := by simp [s2]
theorem s2_n {S : Int → Int → Int} {i k v i' k' : Int} (n : ¬ (i' = i ∧ k' = k)) : s2 S i k v i' k' = S i' k' := by simp [s2, n]
theorem MWF.stD {D' : Int → Int} (hM : MWF G h0 h m A B D σ) (hv : ∀ z, inI (D' z)) : MWF G h0 (hset h (A 8) ((m, 8), aA G 0 1498 D')) m A B D' σ := by
  refine ⟨⟨hM.1.1, ?_, fun j' N' h' => ?_, fun j' N' h' => ?_, fun j' N' h' => ⟨?_, fun i' h1' h2' => ?_⟩, hM.1.2.2.2.2.2.1, hM.1.2.2.2.2.2.2.1, hset_s, hv⟩, hM.2.set hM.dat ⟨rfl, (by decide : 8 < 10000)⟩⟩
  · rw [hset_t hM.dat hM.obj (tg_ne (by decide))]
  · rw [hset_t hM.dat (hM.arr h') (tg_ne (fun e => by rw [e] at h'; cases h'))]
  · rw [hset_t hM.dat (hM.lng h') (tg_ne (fun e => by rw [e] at h'; cases h'))]
  · rw [hset_t hM.dat (hM.grd h') (tg_ne (fun e => by rw [e] at h'; cases h'))]
  · rw [hset_t hM.dat (hM.row h' h1' h2') (tg_ne (by have := (mIG h').2.2.2.2.2.1; omega))]
theorem su_su {j : Nat} {i k v v' : Int} : su (su σ j i k v) j i k v' = su σ j i k v' := by
  funext a b c; unfold su; split <;> rfl
theorem su_id {j : Nat} {i k v : Int} (e : σ j i k = v) : su σ j i k v = σ := by
  funext a b c; unfold su; split
  · rename_i q; rw [q.1, q.2.1, q.2.2, e]
  · rfl
-- rows
variable {E : ET} {M : MT} {n k pc : Nat} {L : List (Nat × Value)} {st : List Value}
theorem mw_put {own : String} {index j : Nat} {z : Int} (g : GF own index 2 j .int false) (ho : own = (my M).cls) (d : decode (mcc M) pc = .ok (.putfield index, 3)) (hM : MWF G h0 h m A B D σ) (hj : mInt j = true) (hz : inI z) (kk : ∀ h', MWF G h0 h' m A B D (su σ j 0 0 z) → WW G E M h' n k (pc + 3) L st) : WW G E M h n k pc L (.int (iI z) :: .ref m :: st) :=
  ww_putf g ho d hM.obj hM.1.1 (by unfold mInt at hj; split at hj <;> first | (cases hj; done) | (show _ < 27; decide)) rfl rfl (kk _ (hM.putI hj hz))
theorem mw_ld {j N : Nat} {z : Int} (d : decode (mcc M) pc = .ok (.iaload, 1)) (hM : MWF G h0 h m A B D σ) (hj : mArr j = some N) (b0 : 0 ≤ z) (b1 : z < N) (kk : WW G E M h n k (pc + 1) L (.int (iI (σ j 0 z)) :: st)) : WW G E M h n k pc L (.int (iI z) :: .ref (A j) :: st) :=
  ww_iald d (hM.arr hj) (mIA hj).2.2.2.1 b0 b1 kk
theorem mw_st {j N : Nat} {z v : Int} (d : decode (mcc M) pc = .ok (.iastore, 1)) (hM : MWF G h0 h m A B D σ) (hj : mArr j = some N) (b0 : 0 ≤ z) (b1 : z < N) (hv : inI v) (kk : ∀ h', MWF G h0 h' m A B D (su σ j 0 z v) → WW G E M h' n k (pc + 1) L st) : WW G E M h n k pc L (.int (iI v) :: .int (iI z) :: .ref (A j) :: st) :=
  ww_iast d (hM.arr hj) hM.1.1 (mIA hj).2.2.2.1 b0 b1 (kk _ (hM.stA hj hv))
theorem mw_ldD {z : Int} (d : decode (mcc M) pc = .ok (.iaload, 1)) (hM : MWF G h0 h m A B D σ) (b0 : 0 ≤ z) (b1 : z < 1498) (kk : WW G E M h n k (pc + 1) L (.int (iI (D z)) :: st)) : WW G E M h n k pc L (.int (iI z) :: .ref (A 8) :: st) :=
  ww_iald d hM.dat (by decide) b0 b1 kk
theorem mw_stD {z v : Int} (d : decode (mcc M) pc = .ok (.iastore, 1)) (hM : MWF G h0 h m A B D σ) (b0 : 0 ≤ z) (b1 : z < 1498) (hv : inI v) (kk : ∀ h', MWF G h0 h' m A B (iup D z v) σ → WW G E M h' n k (pc + 1) L st) : WW G E M h n k pc L (.int (iI v) :: .int (iI z) :: .ref (A 8) :: st) :=
  ww_iast d hM.dat hM.1.1 (by decide) b0 b1 (kk _ (hM.stD (fun y => by unfold iup; split <;> first | exact hv | exact hM.rd y)))
theorem mw_lde {j N : Nat} {z : Int} {T : Int → Int → Int} (d : decode (mcc M) pc = .ok (.iaload, 1)) (hM : MWF G h0 h m A B D σ) (e : σ j = T) (hj : mArr j = some N) (b0 : 0 ≤ z) (b1 : z < N) (kk : WW G E M h n k (pc + 1) L (.int (iI (T 0 z)) :: st)) : WW G E M h n k pc L (.int (iI z) :: .ref (A j) :: st) := by
  subst e
  exact mw_ld d hM hj b0 b1 kk
theorem mw_rlde {j N K : Nat} {i z : Int} {T : Int → Int → Int} (d : decode (mcc M) pc = .ok (.iaload, 1)) (hM : MWF G h0 h m A B D σ) (e : σ j = T) (hj : mGrd j = some (N, K)) (a0 : 0 ≤ i) (a1 : i < N) (b0 : 0 ≤ z) (b1 : z < K) (kk : WW G E M h n k (pc + 1) L (.int (iI (T i z)) :: st)) : WW G E M h n k pc L (.int (iI z) :: .ref (B j i) :: st) := by
  subst e
  exact ww_iald d (hM.row hj a0 a1) (mIG hj).2.2.2.2.1 b0 b1 kk
theorem mw_lld {j N : Nat} {z : Int} (d : decode (mcc M) pc = .ok (.laload, 1)) (hM : MWF G h0 h m A B D σ) (hj : mLng j = some N) (b0 : 0 ≤ z) (b1 : z < N) (kk : WW G E M h n k (pc + 1) L (.long (lI (σ j 0 z)) :: st)) : WW G E M h n k pc L (.int (iI z) :: .ref (A j) :: st) :=
  ww_lald d (hM.lng hj) (mIL hj).2.2.2.1 b0 b1 kk
theorem mw_lst {j N : Nat} {z v : Int} (d : decode (mcc M) pc = .ok (.lastore, 1)) (hM : MWF G h0 h m A B D σ) (hj : mLng j = some N) (b0 : 0 ≤ z) (b1 : z < N) (hv : inL v) (kk : ∀ h', MWF G h0 h' m A B D (su σ j 0 z v) → WW G E M h' n k (pc + 1) L st) : WW G E M h n k pc L (.long (lI v) :: .int (iI z) :: .ref (A j) :: st) :=
  ww_last d (hM.lng hj) hM.1.1 (mIL hj).2.2.2.1 b0 b1 (kk _ (hM.stL hj hv))
theorem mw_gld {j N K : Nat} {z : Int} (d : decode (mcc M) pc = .ok (.aaload, 1)) (hM : MWF G h0 h m A B D σ) (hj : mGrd j = some (N, K)) (b0 : 0 ≤ z) (b1 : z < N) (kk : WW G E M h n k (pc + 1) L (.ref (B j z) :: st)) : WW G E M h n k pc L (.int (iI z) :: .ref (A j) :: st) :=
  ww_aalds d (hM.grd hj) rfl rfl (Nat.lt_trans (mIG hj).2.2.2.1 (by decide)) b0 b1 rfl kk
theorem mw_rld {j N K : Nat} {i z : Int} (d : decode (mcc M) pc = .ok (.iaload, 1)) (hM : MWF G h0 h m A B D σ) (hj : mGrd j = some (N, K)) (a0 : 0 ≤ i) (a1 : i < N) (b0 : 0 ≤ z) (b1 : z < K) (kk : WW G E M h n k (pc + 1) L (.int (iI (σ j i z)) :: st)) : WW G E M h n k pc L (.int (iI z) :: .ref (B j i) :: st) :=
  ww_iald d (hM.row hj a0 a1) (mIG hj).2.2.2.2.1 b0 b1 kk
theorem mw_rst {j N K : Nat} {i z v : Int} (d : decode (mcc M) pc = .ok (.iastore, 1)) (hM : MWF G h0 h m A B D σ) (hj : mGrd j = some (N, K)) (a0 : 0 ≤ i) (a1 : i < N) (b0 : 0 ≤ z) (b1 : z < K) (hv : inI v) (kk : ∀ h', MWF G h0 h' m A B D (su σ j i z v) → WW G E M h' n k (pc + 1) L st) : WW G E M h n k pc L (.int (iI v) :: .int (iI z) :: .ref (B j i) :: st) :=
  ww_iast d (hM.row hj a0 a1) hM.1.1 (mIG hj).2.2.2.2.1 b0 b1 (kk _ (hM.stR hj a0 a1 hv))
/-- pure answers -/
def CPi (G : GT) (M : MT) (h : AH) (as : List Value) (z : Int) : Prop := CT G M h as (pI (fun r h' => r = z ∧ h' = h))
def CPl (G : GT) (M : MT) (h : AH) (as : List Value) (z : Int) : Prop := CT G M h as (pL (fun r h' => r = z ∧ h' = h))
/-- answers and a new world of the model -/
def CMi (G : GT) (M : MT) (h : AH) (m : Nat) (A : Nat → Nat) (B : Nat → Int → Nat) (as : List Value) (p : Int → (Int → Int) → MS → Prop) : Prop := CT G M h as (pI (fun r h' => ∃ D' σ', MWF G h h' m A B D' σ' ∧ p r D' σ'))
def CMl (G : GT) (M : MT) (h : AH) (m : Nat) (A : Nat → Nat) (B : Nat → Int → Nat) (as : List Value) (p : Int → (Int → Int) → MS → Prop) : Prop := CT G M h as (pL (fun r h' => ∃ D' σ', MWF G h h' m A B D' σ' ∧ p r D' σ'))
def CMv (G : GT) (M : MT) (h : AH) (m : Nat) (A : Nat → Nat) (B : Nat → Int → Nat) (as : List Value) (p : (Int → Int) → MS → Prop) : Prop := CT G M h as (pV (fun h' => ∃ D' σ', MWF G h h' m A B D' σ' ∧ p D' σ'))
def CSi (G : GT) (M : MT) (h : AH) (m : Nat) (A : Nat → Nat) (B : Nat → Int → Nat) (D : Int → Int) (as : List Value) (p : Int → MS → Prop) : Prop := CT G M h as (pI (fun r h' => ∃ σ', MWF G h h' m A B D σ' ∧ p r σ'))
def CSl (G : GT) (M : MT) (h : AH) (m : Nat) (A : Nat → Nat) (B : Nat → Int → Nat) (D : Int → Int) (as : List Value) (p : Int → MS → Prop) : Prop := CT G M h as (pL (fun r h' => ∃ σ', MWF G h h' m A B D σ' ∧ p r σ'))
def CSv (G : GT) (M : MT) (h : AH) (m : Nat) (A : Nat → Nat) (B : Nat → Int → Nat) (D : Int → Int) (as : List Value) (p : MS → Prop) : Prop := CT G M h as (pV (fun h' => ∃ σ', MWF G h h' m A B D σ' ∧ p σ'))
theorem cr_pi {rest : List Value} {mc ms : Nat} {z : Int} (hc : CR G E M h n k pc L st rest mc ms (pI (fun r h' => r = z ∧ h' = h))) (kk : WW G E M h (n + mc) (k + ms) (pc + 3) L (.int (iI z) :: rest)) : WW G E M h n k pc L st :=
  cr_i hc (fun r h' hp => by rw [hp.1, hp.2]; exact kk)
theorem cr_pl {rest : List Value} {mc ms : Nat} {z : Int} (hc : CR G E M h n k pc L st rest mc ms (pL (fun r h' => r = z ∧ h' = h))) (kk : WW G E M h (n + mc) (k + ms) (pc + 3) L (.long (lI z) :: rest)) : WW G E M h n k pc L st :=
  cr_l hc (fun r h' hp => by rw [hp.1, hp.2]; exact kk)
theorem MWF.tr {h1 h2 : AH} {σ' : MS} {D' : Int → Int} (a : MWF G h0 h1 m A B D σ) (b : MWF G h1 h2 m A B D' σ') : MWF G h0 h2 m A B D' σ' := ⟨b.1, a.2.tr b.2⟩
theorem cr_mi {rest : List Value} {mc ms : Nat} {p : Int → (Int → Int) → MS → Prop} (hM : MWF G h0 h m A B D σ) (hc : CR G E M h n k pc L st rest mc ms (pI (fun r h' => ∃ D' σ', MWF G h h' m A B D' σ' ∧ p r D' σ'))) (kk : ∀ (r : Int) (D' : Int → Int) (σ' : MS) (h' : AH), MWF G h0 h' m A B D' σ' → p r D' σ' → WW G E M h' (n + mc) (k + ms) (pc + 3) L (.int (iI r) :: rest)) : WW G E M h n k pc L st :=
  cr_i hc (fun r h' hp => by obtain ⟨D', σ', h1, h2⟩ := hp; exact kk r D' σ' h' (hM.tr h1) h2)
theorem cr_ml {rest : List Value} {mc ms : Nat} {p : Int → (Int → Int) → MS → Prop} (hM : MWF G h0 h m A B D σ) (hc : CR G E M h n k pc L st rest mc ms (pL (fun r h' => ∃ D' σ', MWF G h h' m A B D' σ' ∧ p r D' σ'))) (kk : ∀ (r : Int) (D' : Int → Int) (σ' : MS) (h' : AH), MWF G h0 h' m A B D' σ' → p r D' σ' → WW G E M h' (n + mc) (k + ms) (pc + 3) L (.long (lI r) :: rest)) : WW G E M h n k pc L st :=
  cr_l hc (fun r h' hp => by obtain ⟨D', σ', h1, h2⟩ := hp; exact kk r D' σ' h' (hM.tr h1) h2)
theorem cr_mv {rest : List Value} {mc ms : Nat} {p : (Int → Int) → MS → Prop} (hM : MWF G h0 h m A B D σ) (hc : CR G E M h n k pc L st rest mc ms (pV (fun h' => ∃ D' σ', MWF G h h' m A B D' σ' ∧ p D' σ'))) (kk : ∀ (D' : Int → Int) (σ' : MS) (h' : AH), MWF G h0 h' m A B D' σ' → p D' σ' → WW G E M h' (n + mc) (k + ms) (pc + 3) L rest) : WW G E M h n k pc L st :=
  cr_v hc (fun h' hp => by obtain ⟨D', σ', h1, h2⟩ := hp; exact kk D' σ' h' (hM.tr h1) h2)
theorem cr_si {rest : List Value} {mc ms : Nat} {p : Int → MS → Prop} (hM : MWF G h0 h m A B D σ) (hc : CR G E M h n k pc L st rest mc ms (pI (fun r h' => ∃ σ', MWF G h h' m A B D σ' ∧ p r σ'))) (kk : ∀ (r : Int) (σ' : MS) (h' : AH), MWF G h0 h' m A B D σ' → p r σ' → WW G E M h' (n + mc) (k + ms) (pc + 3) L (.int (iI r) :: rest)) : WW G E M h n k pc L st :=
  cr_i hc (fun r h' hp => by obtain ⟨σ', h1, h2⟩ := hp; exact kk r σ' h' (hM.tr h1) h2)
theorem cr_sl {rest : List Value} {mc ms : Nat} {p : Int → MS → Prop} (hM : MWF G h0 h m A B D σ) (hc : CR G E M h n k pc L st rest mc ms (pL (fun r h' => ∃ σ', MWF G h h' m A B D σ' ∧ p r σ'))) (kk : ∀ (r : Int) (σ' : MS) (h' : AH), MWF G h0 h' m A B D σ' → p r σ' → WW G E M h' (n + mc) (k + ms) (pc + 3) L (.long (lI r) :: rest)) : WW G E M h n k pc L st :=
  cr_l hc (fun r h' hp => by obtain ⟨σ', h1, h2⟩ := hp; exact kk r σ' h' (hM.tr h1) h2)
theorem cr_sv {rest : List Value} {mc ms : Nat} {p : MS → Prop} (hM : MWF G h0 h m A B D σ) (hc : CR G E M h n k pc L st rest mc ms (pV (fun h' => ∃ σ', MWF G h h' m A B D σ' ∧ p σ'))) (kk : ∀ (σ' : MS) (h' : AH), MWF G h0 h' m A B D σ' → p σ' → WW G E M h' (n + mc) (k + ms) (pc + 3) L rest) : WW G E M h n k pc L st :=
  cr_v hc (fun h' hp => by obtain ⟨σ', h1, h2⟩ := hp; exact kk σ' h' (hM.tr h1) h2)
end MWS
