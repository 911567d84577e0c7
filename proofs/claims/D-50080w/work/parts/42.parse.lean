/-! ===== the parse, as plain functions of the text t (-1 behind its end) ===== -/
set_option maxRecDepth 100000
def scN : Nat → (Int → Bool) → Int → Int
  | 0, _, p => p
  | f + 1, P, p => if P p = true then scN f P (p + 1) else p
def sc (P : Int → Bool) (p : Int) : Int := scN (801 - p).toNat P p
theorem sc_t {P : Int → Bool} {p : Int} (h : P p = true) (hp : p < 801) : sc P p = sc P (p + 1) := by
  unfold sc
  have e : (801 - p).toNat = (801 - (p + 1)).toNat + 1 := by omega
  rw [e]
  show (if P p = true then _ else _) = _
  rw [if_pos h]
theorem sc_f {P : Int → Bool} {p : Int} (h : P p = false) : sc P p = p := by
  unfold sc
  cases (801 - p).toNat with
  | zero => rfl
  | succ f => show (if P p = true then _ else _) = _; rw [if_neg (by rw [h]; decide)]
theorem scN_ge {P : Int → Bool} : ∀ (f : Nat) (p : Int), p ≤ scN f P p := by
  intro f
  induction f with
  | zero => intro p; exact Int.le_refl _
  | succ f ih =>
    intro p
    unfold scN
    split
    · have := ih (p + 1); omega
    · omega
theorem sc_ge {P : Int → Bool} {p : Int} : p ≤ sc P p := scN_ge _ _
theorem scN_le {P : Int → Bool} {n : Int} (hn : P n = false) : ∀ (f : Nat) (p : Int), p ≤ n → scN f P p ≤ n := by
  intro f
  induction f with
  | zero => intro p h; exact h
  | succ f ih =>
    intro p h
    unfold scN
    split
    · rename_i q
      have : p ≠ n := fun e => by rw [e, hn] at q; cases q
      exact ih (p + 1) (by omega)
    · exact h
theorem sc_le {P : Int → Bool} {n p : Int} (hn : P n = false) (h : p ≤ n) : sc P p ≤ n := scN_le hn _ _ h
theorem scN_end {P : Int → Bool} {n : Int} (hn : P n = false) : ∀ (f : Nat) (p : Int), p ≤ n → n - p < f → P (scN f P p) = false := by
  intro f
  induction f with
  | zero => intro p h1 h2; omega
  | succ f ih =>
    intro p h1 h2
    unfold scN
    split
    · rename_i q
      have : p ≠ n := fun e => by rw [e, hn] at q; cases q
      exact ih (p + 1) (by omega) (by omega)
    · rename_i q; simpa using q
theorem sc_end {P : Int → Bool} {n p : Int} (hn : P n = false) (h0 : n ≤ 800) (h : p ≤ n) : P (sc P p) = false := scN_end hn _ _ h (by omega)
theorem scN_in {P : Int → Bool} : ∀ (f : Nat) (p q : Int), p ≤ q → q < scN f P p → P q = true := by
  intro f
  induction f with
  | zero => intro p q h1 h2; unfold scN at h2; omega
  | succ f ih =>
    intro p q h1 h2
    unfold scN at h2
    split at h2
    · rename_i c
      by_cases e : q = p
      · rw [e]; exact c
      · exact ih (p + 1) q (by omega) h2
    · omega
theorem sc_in {P : Int → Bool} {p q : Int} (h1 : p ≤ q) (h2 : q < sc P p) : P q = true := scN_in _ _ _ h1 h2
def isSp (t : Int → Int) : Int → Bool := fun q => decide (t q = 32)
def isLt (t : Int → Int) : Int → Bool := fun q => decide (97 ≤ t q ∧ t q ≤ 122)
def sk (t : Int → Int) (p : Int) : Int := sc (isSp t) p
def we (t : Int → Int) (p : Int) : Int := sc (isLt t) p
def wd (t : Int → Int) (a b : Int) : List Int := lsI (b - a) (fun i => t (a + i))
def nuN : Nat → (Int → Int) → Int → Int → Int × Int
  | 0, _, p, v => (p, v)
  | f + 1, t, p, v => if 48 ≤ t p ∧ t p ≤ 57 then nuN f t (p + 1) (min 1000000 (10 * v + t p - 48)) else (p, v)
def nu (t : Int → Int) (p v : Int) : Int × Int := nuN (801 - p).toNat t p v
theorem nu_t {t : Int → Int} {p v : Int} (h : 48 ≤ t p ∧ t p ≤ 57) (hp : p < 801) : nu t p v = nu t (p + 1) (min 1000000 (10 * v + t p - 48)) := by
  unfold nu
  have e : (801 - p).toNat = (801 - (p + 1)).toNat + 1 := by omega
  rw [e]
  show (if _ then _ else _) = _
  rw [if_pos h]
theorem nu_f {t : Int → Int} {p v : Int} (h : ¬ (48 ≤ t p ∧ t p ≤ 57)) : nu t p v = (p, v) := by
  unfold nu
  cases (801 - p).toNat with
  | zero => rfl
  | succ f => show (if _ then _ else _) = _; rw [if_neg h]
/-- a text of n bytes -/
def Txt (t : Int → Int) (n : Int) : Prop := 0 ≤ n ∧ n ≤ 800 ∧ (∀ q : Int, n ≤ q → t q = -1) ∧ ∀ q : Int, 0 ≤ q → q < n → 0 ≤ t q ∧ t q ≤ 255
theorem Txt.sp {t : Int → Int} {n : Int} (h : Txt t n) : isSp t n = false := by unfold isSp; rw [h.2.2.1 n (Int.le_refl _)]; decide
theorem Txt.lt {t : Int → Int} {n : Int} (h : Txt t n) : isLt t n = false := by unfold isLt; rw [h.2.2.1 n (Int.le_refl _)]; decide
theorem Txt.k1 {t : Int → Int} {n p : Int} (h : Txt t n) (hp : p ≤ n) : p ≤ sk t p ∧ sk t p ≤ n ∧ t (sk t p) ≠ 32 := by
  refine ⟨sc_ge, sc_le h.sp hp, ?_⟩
  have := sc_end h.sp h.2.1 hp
  unfold isSp at this
  exact of_decide_eq_false this
theorem Txt.w1 {t : Int → Int} {n p : Int} (h : Txt t n) (hp : p ≤ n) : p ≤ we t p ∧ we t p ≤ n ∧ ¬ (97 ≤ t (we t p) ∧ t (we t p) ≤ 122) := by
  refine ⟨sc_ge, sc_le h.lt hp, ?_⟩
  have := sc_end h.lt h.2.1 hp
  unfold isLt at this
  exact of_decide_eq_false this
theorem we_in {t : Int → Int} {p q : Int} (h1 : p ≤ q) (h2 : q < we t p) : 97 ≤ t q ∧ t q ≤ 122 := by
  have := sc_in (P := isLt t) h1 h2
  unfold isLt at this
  exact of_decide_eq_true this
theorem sk_idem {t : Int → Int} {n p : Int} (h : Txt t n) (hp : p ≤ n) : sk t (sk t p) = sk t p := sc_f (sc_end h.sp h.2.1 hp)
theorem wd_len {t : Int → Int} {a b : Int} : (wd t a b).length = (b - a).toNat := by unfold wd lsI; simp
theorem wd_wd {t : Int → Int} {p : Int} : Wd (wd t p (we t p)) := by
  intro c hc
  unfold wd lsI at hc
  obtain ⟨i, hi, rfl⟩ := List.mem_map.mp hc
  have := List.mem_range.mp hi
  have hg : p ≤ we t p := sc_ge
  exact we_in (p := p) (by omega) (by omega)
theorem wd_at {t : Int → Int} {a b i : Int} (h0 : 0 ≤ i) (h1 : i < b - a) : lf (wd t a b) i = t (a + i) := by
  unfold lf wd lsI
  rw [List.getD_eq_getElem?_getD, List.getElem?_map, List.getElem?_range (by omega)]
  simp only [Option.map_some, Option.getD_some]
  rw [Int.toNat_of_nonneg h0]
/-- a word of letters w stands at p, and no letter behind it -/
theorem wd_iff {t : Int → Int} {n p : Int} {w : List Int} (ht : Txt t n) (hp : p ≤ n) (hw : Wd w) (k : Int) (hk0 : 0 ≤ k) (hk1 : k ≤ w.length) (he : ∀ i : Int, 0 ≤ i → i < k → t (p + i) = lf w i) :
    (k = w.length → ¬ (97 ≤ t (p + k) ∧ t (p + k) ≤ 122) → wd t p (we t p) = w ∧ we t p = p + k) ∧ ((k < w.length → t (p + k) ≠ lf w k) → (k = w.length → 97 ≤ t (p + k) ∧ t (p + k) ≤ 122) → wd t p (we t p) ≠ w) := by
  have hg : p ≤ we t p := sc_ge
  have hwe := ht.w1 hp
  have hge : p + k ≤ we t p := by
    apply Classical.byContradiction
    intro hn
    have h1 := he (we t p - p) (by omega) (by omega)
    have h2 := lf_wd hw (i := we t p - p) (by omega) (by omega)
    rw [← h1, show p + (we t p - p) = we t p by omega] at h2
    exact hwe.2.2 h2
  constructor
  · intro e1 e2
    have h3 : we t p = p + k := by
      apply Classical.byContradiction
      intro hn
      exact e2 (we_in (p := p) (by omega) (by omega))
    refine ⟨lf_ext (by rw [wd_len]; omega) (fun i a b => ?_), h3⟩
    rw [wd_len] at b
    rw [wd_at a (by omega)]
    exact he i a (by omega)
  · intro e1 e2 e3
    have hl : (we t p - p).toNat = w.length := by rw [← e3, wd_len]
    have h4 : ∀ i : Int, 0 ≤ i → i < w.length → t (p + i) = lf w i := fun i a b => by rw [← wd_at (t := t) (a := p) (b := we t p) a (by omega), e3]
    by_cases h5 : k < w.length
    · exact e1 h5 (h4 k hk0 h5)
    · have h6 := e2 (by omega)
      rw [show p + k = we t p by omega] at h6
      exact hwe.2.2 h6
/-- the model holds the text -/
def TX (σ : MS) (t : Int → Int) (n : Int) : Prop := Txt t n ∧ σ 3 0 0 = n ∧ ∀ q : Int, 0 ≤ q → q < n → σ 1 0 q = t q
theorem TX.mv {G : GT} {h0 h : AH} {m : Nat} {A : Nat → Nat} {B : Nat → Int → Nat} {D : Int → Int} {σ : MS} {t : Int → Int} {n : Int} {j : Nat} {i k v : Int} (hT : TX σ t n) (hM : MWF G h0 h m A B D (su σ j i k v)) (h1 : j ≠ 1) (h3 : j ≠ 3) : TX (su σ j i k v) t n :=
  ⟨hT.1, by rw [su_off (Ne.symm h3)]; exact hT.2.1, fun q a b => by rw [su_off (Ne.symm h1)]; exact hT.2.2 q a b⟩
theorem TX.of {σ σ' : MS} {t : Int → Int} {n : Int} (hT : TX σ t n) (h1 : σ' 1 = σ 1) (h3 : σ' 3 = σ 3) : TX σ' t n := ⟨hT.1, by rw [h3]; exact hT.2.1, fun q a b => by rw [h1]; exact hT.2.2 q a b⟩
theorem ct_by {G : GT} {h0 h : AH} {m : Nat} {A : Nat → Nat} {B : Nat → Int → Nat} {D : Int → Int} {σ : MS} {t : Int → Int} {n : Int} (hG : GOK G) (hM : MWF G h0 h m A B D σ) (hT : TX σ t n) (k : Int) (h1 : 0 ≤ k) (h2 : k ≤ 1000000) : CPi G (MX3_byteAt 0 0 0 0) h [.ref m, .int (iI k)] (t k) := by
  have e : byteA σ k = t k := by
    unfold byteA
    rw [hT.2.1]
    split
    · exact hT.2.2 k h1 (by assumption)
    · exact (hT.1.2.2.1 k (by omega)).symm
  rw [← e]
  exact ct_X3_byteAt hG hM k h1 (by rw [hT.2.1]; exact hT.1.2.1) (inI.mk (by omega) (by omega))
theorem Txt.rg {t : Int → Int} {n q : Int} (h : Txt t n) (h0 : 0 ≤ q) : -1 ≤ t q ∧ t q ≤ 255 := by
  by_cases e : q < n
  · have := h.2.2.2 q h0 e; omega
  · rw [h.2.2.1 q (by omega)]; omega
