/-! ===== more plain words: changes of the data, history ===== -/
set_option maxRecDepth 100000
def xCh (w : Int → Int → Int) (D : Int → Int) (fn : EF) (but : Int) : Int := smI (D 1) (fun k => smI (D 2) (fun n => bI (k ≠ but ∧ D (6 + 24 * k + 2) > 0 ∧ w k n ≠ xBd D fn k n)))
def rEq (f g : Int → Int) : Prop := ∀ j : Int, 0 ≤ j → j < 1498 → f j = g j
/-- the history behind a change: d' rows -/
def Rem (S : Nat → Int → Int → Int) (D : Int → Int) (S' : Nat → Int → Int → Int) : Prop :=
  (S 11 0 0 = 8 ∧ S' 11 0 0 = 8 ∧ (∀ i : Int, 0 ≤ i → i < 7 → rEq (S' 10 i) (S 10 (i + 1))) ∧ rEq (S' 10 7) D) ∨
  (S 11 0 0 < 8 ∧ S' 11 0 0 = S 11 0 0 + 1 ∧ (∀ i : Int, 0 ≤ i → i < S 11 0 0 → rEq (S' 10 i) (S 10 i)) ∧ rEq (S' 10 (S 11 0 0)) D)
theorem hset_hset {h : AH} {a : Nat} {x y : Tg × AE} : hset (hset h a x) a y = hset h a y := by
  funext q; unfold hset; split <;> rfl
theorem hset_same {h : AH} {a : Nat} {x : Tg × AE} (e : h a = some x) : hset h a x = h := by
  funext q; unfold hset; split
  · rename_i c; rw [c, e]
  · rfl
theorem iup_e {f : Int → Int} {a b v : Int} (n : b ≠ a) : iup f a v b = f b := iup_n n
/-- entries that DOK doesn't speak of, or speaks of alone -/
theorem WtOK.up {D D' : Int → Int} {fn : EF} (h : WtOK D fn) (h5 : D' 5 = D 5) (hc : ∀ j : Int, 198 ≤ j → j < 1498 → D' j = D j) : WtOK D' fn := by
  rcases h with ⟨a, b⟩ | ⟨d, cs, a, b, c, e⟩
  · exact Or.inl ⟨by rw [h5]; exact a, b⟩
  · refine Or.inr ⟨d, cs, a, by rw [h5]; exact b, by rw [h5]; exact c, fun n x hx => ?_⟩
    have hn : n < cs.length := (List.getElem?_eq_some_iff.mp hx).1
    rw [hc _ (by omega) (by omega)]
    exact e n x hx
theorem DOK.up {D D' : Int → Int} {fn : EF} (h : DOK D fn) (h0 : 0 ≤ D' 0 ∧ D' 0 ≤ 100) (h1 : D' 1 = D 1) (h2 : D' 2 = D 2) (h5 : D' 5 = D 5) (hp : ∀ k i : Int, 0 ≤ k → k < 8 → 3 ≤ i → i < 12 → D' (6 + 24 * k + i) = D (6 + 24 * k + i))
    (ht : ∀ k : Int, 0 ≤ k → k < D 1 → 0 ≤ D' (6 + 24 * k) ∧ D' (6 + 24 * k) ≤ 999) (hc : ∀ j : Int, 198 ≤ j → j < 1498 → D' j = D j)
    (ho : ∀ k n : Int, 0 ≤ k → k < D 1 → 0 ≤ n → n < D 2 → -2 - D 2 < D' (6 + 24 * k + 12 + n) ∧ D' (6 + 24 * k + 12 + n) ≤ 9999) : DOK D' fn := by
  obtain ⟨a1, a2, a3, a4, a5, a6, a7, a8⟩ := h
  refine ⟨by rw [h1]; exact a1, by rw [h2]; exact a2, h0, fun k x y => ?_, fun k i x y z w => ?_, fun k x y => ht k x (by omega), a7.up h5 hc, fun k n x y z w => by rw [h2]; exact ho k n x (by omega) z (by omega)⟩
  · rw [hp k 3 x y (by omega) (by omega)]; exact a4 k x y
  · rw [hp k 3 x y (by omega) (by omega)] at w
    have h8 := a4 k x y
    have e : 6 + 24 * k + 4 + i = 6 + 24 * k + (4 + i) := by omega
    rw [e, hp k (4 + i) x y (by omega) (by omega), ← e, h1]
    exact a5 k i x y z w
theorem DOK.congr {D D' : Int → Int} {fn : EF} (h : DOK D fn) (e : rEq D' D) : DOK D' fn := by
  obtain ⟨a1, a2, a3, a4, a5, a6, a7, a8⟩ := id h
  refine h.up (by rw [e 0 (by omega) (by omega)]; exact a3) (e 1 (by omega) (by omega)) (e 2 (by omega) (by omega)) (e 5 (by omega) (by omega)) (fun k i x y z w => e _ (by omega) (by omega)) (fun k x y => ?_) (fun j x y => e j (by omega) y) (fun k n x y z w => ?_)
  · rw [e _ (by omega) (by omega)]; exact a6 k x y
  · rw [e _ (by omega) (by omega)]; exact a8 k n x y z w
theorem DOK.ld {D : Int → Int} {fn : EF} (h : DOK D fn) {k v : Int} (h1 : 0 ≤ k) (h2 : k < 8) : DOK (iup D (6 + 24 * k + 2) v) fn := by
  obtain ⟨a1, a2, a3, a4, a5, a6, a7, a8⟩ := id h
  refine h.up (by rw [iup_n (by omega)]; exact a3) (iup_n (by omega)) (iup_n (by omega)) (iup_n (by omega)) (fun k i x y z w => iup_n (by omega)) (fun k x y => ?_) (fun j x y => iup_n (by omega)) (fun k n x y z w => ?_)
  · rw [iup_n (by omega)]; exact a6 k x y
  · rw [iup_n (by omega)]; exact a8 k n x y z w
theorem DOK.kp {D : Int → Int} {fn : EF} (h : DOK D fn) {k v : Int} (h1 : 0 ≤ k) (h2 : k < 8) : DOK (iup D (6 + 24 * k + 1) v) fn := by
  obtain ⟨a1, a2, a3, a4, a5, a6, a7, a8⟩ := id h
  refine h.up (by rw [iup_n (by omega)]; exact a3) (iup_n (by omega)) (iup_n (by omega)) (iup_n (by omega)) (fun k i x y z w => iup_n (by omega)) (fun k x y => ?_) (fun j x y => iup_n (by omega)) (fun k n x y z w => ?_)
  · rw [iup_n (by omega)]; exact a6 k x y
  · rw [iup_n (by omega)]; exact a8 k n x y z w
theorem DOK.ck {D : Int → Int} {fn : EF} (h : DOK D fn) {v : Int} : DOK (iup D 3 v) fn := by
  obtain ⟨a1, a2, a3, a4, a5, a6, a7, a8⟩ := id h
  refine h.up (by rw [iup_n (by omega)]; exact a3) (iup_n (by omega)) (iup_n (by omega)) (iup_n (by omega)) (fun k i x y z w => iup_n (by omega)) (fun k x y => ?_) (fun j x y => iup_n (by omega)) (fun k n x y z w => ?_)
  · rw [iup_n (by omega)]; exact a6 k x y
  · rw [iup_n (by omega)]; exact a8 k n x y z w
theorem DOK.sh {D : Int → Int} {fn : EF} (h : DOK D fn) {v : Int} (h1 : 0 ≤ v) (h2 : v ≤ 100) : DOK (iup D 0 v) fn := by
  obtain ⟨a1, a2, a3, a4, a5, a6, a7, a8⟩ := id h
  refine h.up (by rw [iup_s]; exact ⟨h1, h2⟩) (iup_n (by omega)) (iup_n (by omega)) (iup_n (by omega)) (fun k i x y z w => iup_n (by omega)) (fun k x y => ?_) (fun j x y => iup_n (by omega)) (fun k n x y z w => ?_)
  · rw [iup_n (by omega)]; exact a6 k x y
  · rw [iup_n (by omega)]; exact a8 k n x y z w
theorem DOK.tr {D : Int → Int} {fn : EF} (h : DOK D fn) {k v : Int} (h1 : 0 ≤ k) (h2 : k < 8) (h3 : 0 ≤ v) (h4 : v ≤ 999) : DOK (iup D (6 + 24 * k + 0) v) fn := by
  obtain ⟨a1, a2, a3, a4, a5, a6, a7, a8⟩ := id h
  refine h.up (by rw [iup_n (by omega)]; exact a3) (iup_n (by omega)) (iup_n (by omega)) (iup_n (by omega)) (fun k i x y z w => iup_n (by omega)) (fun q x y => ?_) (fun j x y => iup_n (by omega)) (fun k n x y z w => ?_)
  · by_cases e : q = k
    · subst e; rw [Int.add_zero, iup_s]; exact ⟨h3, h4⟩
    · rw [iup_n (by omega)]; exact a6 q x y
  · rw [iup_n (by omega)]; exact a8 k n x y z w
theorem DOK.of {D : Int → Int} {fn : EF} (h : DOK D fn) {k n v : Int} (h1 : 0 ≤ k) (h2 : k < 8) (h3 : 0 ≤ n) (h4 : n < 12) (h5 : -2 - D 2 < v) (h6 : v ≤ 9999) : DOK (iup D (6 + 24 * k + 12 + n) v) fn := by
  obtain ⟨a1, a2, a3, a4, a5, a6, a7, a8⟩ := id h
  refine h.up (by rw [iup_n (by omega)]; exact a3) (iup_n (by omega)) (iup_n (by omega)) (iup_n (by omega)) (fun k i x y z w => iup_n (by omega)) (fun q x y => ?_) (fun j x y => iup_n (by omega)) (fun q p x y z w => ?_)
  · rw [iup_n (by omega)]; exact a6 q x y
  · by_cases e : 6 + 24 * q + 12 + p = 6 + 24 * k + 12 + n
    · rw [e, iup_s]; exact ⟨h5, h6⟩
    · rw [iup_n e]; exact a8 q p x y z w
/-- behind a change -/
def Chg (S : Nat → Int → Int → Int) (D : Int → Int) (S' : Nat → Int → Int → Int) : Prop := Rem S D S' ∧ S' 1 = S 1 ∧ S' 2 = S 2 ∧ S' 7 = S 7
theorem Rem.ext {S S1 S' S2 : Nat → Int → Int → Int} {D : Int → Int} (h : Rem S D S') (a : S1 10 = S 10) (b : S1 11 = S 11) (c : S2 10 = S' 10) (d : S2 11 = S' 11) : Rem S1 D S2 := by
  unfold Rem at h ⊢
  rw [a, b, c, d]
  exact h
theorem fmu_nn (V : Int → Int → Bool) : 0 ≤ fmu V := (smI_bd (c := 12) (by decide) (fun a _ _ => by
  have := smI_bd (z := 12) (c := 1) (f := fun b => bI (V a b = false)) (by decide) (fun i _ _ => by unfold bI; split <;> omega)
  omega)).1
/-- masks of bits as sets -/
def mkOK (Mk : Int → Nat) (V : Int → Int → Bool) : Prop := (∀ a, Mk a < 4096) ∧ ∀ (a : Int) (b : Nat), b < 12 → (Mk a).testBit b = V a b
theorem mkOK_0 : mkOK (fun _ => 0) (fun _ _ => false) := ⟨fun _ => (by decide : (0 : Nat) < 4096), fun a b _ => Nat.zero_testBit b⟩
theorem mkOK_up {Mk : Int → Nat} {V : Int → Int → Bool} {k : Int} {n : Nat} (h : mkOK Mk V) (hn : n < 12) : mkOK (fun a => if a = k then Mk k ||| 1 * 2 ^ n else Mk a) (fmk V k n) := by
  refine ⟨fun a => ?_, fun a b hb => ?_⟩
  · show (if a = k then Mk k ||| 1 * 2 ^ n else Mk a) < 4096
    split
    · exact Nat.or_lt_two_pow (n := 12) (h.1 k) (by rw [Nat.one_mul]; exact Nat.pow_lt_pow_right (by decide) hn)
    · exact h.1 a
  · show (if a = k then Mk k ||| 1 * 2 ^ n else Mk a).testBit b = _
    unfold fmk
    by_cases e : a = k
    · subst e
      rw [if_pos rfl, Nat.testBit_or, Nat.one_mul, Nat.testBit_two_pow, h.2 a b hb]
      by_cases e2 : n = b
      · subst e2; simp
      · have : ¬ ((b : Int) = (n : Int)) := by omega
        simp [e2, this]
    · rw [if_neg e, h.2 a b hb]
      simp [e]
theorem bit_t {Mk : Int → Nat} {V : Int → Int → Bool} {k : Int} {n : Nat} (h : mkOK Mk V) (hn : n < 12) : ((Mk k / 2 ^ n % 2 ^ 1 : Nat) : Int) = 1 ↔ V k n = true := by
  rw [← h.2 k n hn, Nat.testBit_eq_decide_div_mod_eq, decide_eq_true_eq]
  omega
