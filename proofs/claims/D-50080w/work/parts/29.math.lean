/-! ===== plain words of the law: sums, first places, votes ===== -/
set_option maxRecDepth 100000
def sm : Nat → (Int → Int) → Int
  | 0, _ => 0
  | n + 1, f => sm n f + f n
/-- the sum of f over 0 .. z - 1 -/
def smI (z : Int) (f : Int → Int) : Int := sm z.toNat f
theorem smI_0 {f : Int → Int} : smI 0 f = 0 := rfl
theorem smI_s {z : Int} {f : Int → Int} (h : 0 ≤ z) : smI (z + 1) f = smI z f + f z := by
  unfold smI
  have e : (z + 1).toNat = z.toNat + 1 := by omega
  rw [e]
  show sm z.toNat f + f (z.toNat : Nat) = _
  rw [Int.toNat_of_nonneg h]
theorem sm_congr {n : Nat} {f g : Int → Int} (h : ∀ i : Int, 0 ≤ i → i < n → f i = g i) : sm n f = sm n g := by
  induction n with
  | zero => rfl
  | succ n ih =>
    show sm n f + f n = sm n g + g n
    rw [ih (fun i a b => h i a (by omega)), h n (by omega) (by omega)]
theorem smI_congr {z : Int} {f g : Int → Int} (h : ∀ i : Int, 0 ≤ i → i < z → f i = g i) : smI z f = smI z g := sm_congr (fun i a b => h i a (by omega))
theorem sm_bd {n : Nat} {f : Int → Int} {c : Int} (h : ∀ i : Int, 0 ≤ i → i < n → 0 ≤ f i ∧ f i ≤ c) : 0 ≤ sm n f ∧ sm n f ≤ c * n := by
  induction n with
  | zero => exact ⟨Int.le_refl _, by show (0 : Int) ≤ c * (0 : Nat); simp⟩
  | succ n ih =>
    have a := ih (fun i a b => h i a (by omega))
    have b := h n (by omega) (by omega)
    constructor
    · show 0 ≤ sm n f + f n; omega
    · show sm n f + f n ≤ c * ((n + 1 : Nat) : Int)
      have : c * ((n + 1 : Nat) : Int) = c * n + c := by rw [Int.natCast_add, Int.mul_add]; simp
      omega
theorem smI_bd {z : Int} {f : Int → Int} {c : Int} (hz : 0 ≤ z) (h : ∀ i : Int, 0 ≤ i → i < z → 0 ≤ f i ∧ f i ≤ c) : 0 ≤ smI z f ∧ smI z f ≤ c * z := by
  have := sm_bd (n := z.toNat) (f := f) (c := c) (fun i a b => h i a (by omega))
  rwa [Int.toNat_of_nonneg hz] at this
/-- the list g 0 .. g (n-1) -/
def lsI (n : Int) (g : Int → Int) : List Int := (List.range n.toNat).map (fun i : Nat => g i)
theorem lsI_at {n : Int} {g : Int → Int} {i : Int} (h0 : 0 ≤ i) (h1 : i < n) : (lsI n g).drop i.toNat = g i :: (lsI n g).drop (i + 1).toNat := by
  have hl : i.toNat < (lsI n g).length := by simp [lsI]; omega
  rw [List.drop_eq_getElem_cons hl]
  have e : (i + 1).toNat = i.toNat + 1 := by omega
  rw [e]
  congr 1
  simp [lsI, Int.max_eq_left h0]
theorem lsI_end {n : Int} {g : Int → Int} {i : Int} (h1 : n ≤ i) : (lsI n g).drop i.toNat = [] := by
  apply List.drop_eq_nil_of_le
  simp [lsI]; omega
theorem smI_step {z acc v : Int} {f : Int → Int} (h0 : 0 ≤ z) (ha : acc = smI z f) (hv : v = f z) : acc + v = smI (z + 1) f := by rw [smI_s h0, ha, hv]
/-- functions of the model's data D -/
def dRk (D : Int → Int) (k : Int) : Int := if D (6 + 24 * k + 2) > 0 then smI (D 1) (fun j => bI (D (6 + 24 * j + 2) > 0 ∧ D (6 + 24 * j + 2) < D (6 + 24 * k + 2))) else -1
def dNo (D : Int → Int) (k : Int) : Int := smI (D 2) (fun n => bI (D (6 + 24 * k + 12 + n) ≠ -1))
def dPf (D : Int → Int) (k : Int) : List Int := lsI (D (6 + 24 * k + 3)) (fun i => D (6 + 24 * k + 4 + i))
def dFr (D : Int → Int) (k : Int) : Int := smI (D 1) (fun j => bI (D (6 + 24 * j + 2) > 0 ∧ k ∈ dPf D j))
def dCd (D : Int → Int) (k n : Int) : Bool := decide (D (6 + 24 * k + 2) > 0 ∧ D (6 + 24 * k + 12 + n) ≠ -1)
def dVt (D : Int → Int) (k n : Int) : Int := if D (6 + 24 * k + 2) > 0 then (if D (6 + 24 * k + 12 + n) ≠ -1 then k else ((dPf D k).find? (fun o => dCd D o n)).getD (-1)) else -1
/-- weights -/
def clm (v : Int) : Int := if v > 1000000 then 1000000 else if v < -1000000 then -1000000 else v
def opr (op a b : Int) : Int := if op = 5 then (if b = 0 then 0 else a.tdiv b) else clm (if op = 2 then a + b else if op = 3 then a - b else a * b)
theorem clm_bd (v : Int) : -1000000 ≤ clm v ∧ clm v ≤ 1000000 := by unfold clm; split <;> (try split) <;> omega
theorem tdiv_bd {a b c : Int} (hc : 0 ≤ c) (h1 : -c ≤ a) (h2 : a ≤ c) : -c ≤ a.tdiv b ∧ a.tdiv b ≤ c := by
  have h3 : (a.tdiv b).natAbs ≤ a.natAbs := by rw [Int.natAbs_tdiv a b]; exact Nat.div_le_self _ _
  generalize a.tdiv b = q at h3
  omega
theorem opr_bd {op a b : Int} (h1 : -1000000 ≤ a) (h2 : a ≤ 1000000) : -1000000 ≤ opr op a b ∧ opr op a b ≤ 1000000 := by
  unfold opr
  split
  · split
    · omega
    · exact tdiv_bd (by omega) h1 h2
  · exact clm_bd _
abbrev EF : Type := Int → Int → Int → Int → Int
def Cd : Nat → List Int → EF → Prop
  | 0, _, _ => False
  | d + 1, cs, fn => (∃ v : Int, 0 ≤ v ∧ v ≤ 9999 ∧ cs = [0, v] ∧ fn = fun _ _ _ _ => v) ∨ (cs = [1, 0] ∧ fn = fun t _ _ _ => t) ∨ (cs = [1, 1] ∧ fn = fun _ r _ _ => r) ∨ (cs = [1, 2] ∧ fn = fun _ _ o _ => o) ∨ (cs = [1, 3] ∧ fn = fun _ _ _ f => f) ∨
    ∃ (op : Int) (c1 c2 : List Int) (f1 f2 : EF), 2 ≤ op ∧ op ≤ 5 ∧ Cd d c1 f1 ∧ Cd d c2 f2 ∧ cs = c1 ++ (c2 ++ [op]) ∧ fn = fun t r o f => opr op (f1 t r o f) (f2 t r o f)
def sml (v : Int) : Prop := -1000000 ≤ v ∧ v ≤ 1000000
theorem Cd_bd : ∀ (d : Nat) (cs : List Int) (fn : EF), Cd d cs fn → ∀ t r o f : Int, sml t → sml r → sml o → sml f → sml (fn t r o f) := by
  intro d
  induction d with
  | zero => intro cs fn h; exact h.elim
  | succ d ih =>
    intro cs fn h t r o f h1 h2 h3 h4
    rcases h with ⟨v, a, b, rfl, rfl⟩ | ⟨rfl, rfl⟩ | ⟨rfl, rfl⟩ | ⟨rfl, rfl⟩ | ⟨rfl, rfl⟩ | ⟨op, c1, c2, f1, f2, -, -, g1, g2, rfl, rfl⟩
    · show -1000000 ≤ v ∧ v ≤ 1000000; omega
    · exact h1
    · exact h2
    · exact h3
    · exact h4
    · have b1 := ih c1 f1 g1 t r o f h1 h2 h3 h4
      exact opr_bd b1.1 b1.2
theorem Cd_len : ∀ (d : Nat) (cs : List Int) (fn : EF), Cd d cs fn → 2 ≤ cs.length := by
  intro d
  cases d with
  | zero => intro cs fn h; exact h.elim
  | succ d =>
    revert d
    intro d
    induction d with
    | zero =>
      intro cs fn h
      rcases h with ⟨v, a, b, rfl, rfl⟩ | ⟨rfl, rfl⟩ | ⟨rfl, rfl⟩ | ⟨rfl, rfl⟩ | ⟨rfl, rfl⟩ | ⟨op, c1, c2, f1, f2, -, -, g1, -⟩ <;> first | simp | exact g1.elim
    | succ d ih =>
      intro cs fn h
      rcases h with ⟨v, a, b, rfl, rfl⟩ | ⟨rfl, rfl⟩ | ⟨rfl, rfl⟩ | ⟨rfl, rfl⟩ | ⟨rfl, rfl⟩ | ⟨op, c1, c2, f1, f2, -, -, g1, g2, rfl, rfl⟩ <;> first | (simp; done) | skip
      have := ih c1 f1 g1
      simp only [List.length_append]
      omega
/-- the codes cs stand in D from 198 + i on -/
def Has (D : Int → Int) (i : Int) (cs : List Int) : Prop := ∀ (n : Nat) (c : Int), cs[n]? = some c → D (198 + i + n) = c
theorem Has.l {D : Int → Int} {i : Int} {a b : List Int} (h : Has D i (a ++ b)) : Has D i a := fun n c hc => h n c (by
  rw [List.getElem?_append_left (List.getElem?_eq_some_iff.mp hc).1]; exact hc)
theorem Has.r {D : Int → Int} {i : Int} {a b : List Int} (h : Has D i (a ++ b)) : Has D (i + a.length) b := fun n c hc => by
  have := h (a.length + n) c (by rw [List.getElem?_append_right (Nat.le_add_right _ _), Nat.add_sub_cancel_left]; exact hc)
  rw [← this]
  congr 1
  omega
def clw (v : Int) : Int := if v < 0 then 0 else if v > 9999 then 9999 else v
/-- D's weight expression is fn -/
def WtOK (D : Int → Int) (fn : EF) : Prop := (D 5 = 0 ∧ fn = fun t _ _ _ => t) ∨ ∃ (d : Nat) (cs : List Int), Cd d cs fn ∧ D 5 = cs.length ∧ D 5 ≤ 1300 ∧ Has D 0 cs
def dWt (D : Int → Int) (fn : EF) (k : Int) : Int := if D (6 + 24 * k + 2) > 0 then clw (fn (D (6 + 24 * k)) (dRk D k) (dNo D k) (dFr D k)) else -1
def sj (σ : Nat → Int → Int → Int) (j : Nat) (S : Int → Int → Int) : Nat → Int → Int → Int := fun j' => if j' = j then S else σ j'
def s2 (S : Int → Int → Int) (i k v : Int) : Int → Int → Int := fun i' k' => if i' = i ∧ k' = k then v else S i' k'
theorem sj_n {σ : Nat → Int → Int → Int} {j j' : Nat} {S : Int → Int → Int} (n : j' ≠ j) : sj σ j S j' = σ j' := if_neg n
theorem sj_s {σ : Nat → Int → Int → Int} {j : Nat} {S : Int → Int → Int} : sj σ j S j = S := if_pos rfl
/-- an election: supports, total, the best one, bindings -/
def eSup (nl : Int) (vt w : Int → Int) (c : Int) : Int := smI nl (fun k => if vt k = c then w k else 0)
def eTot (nl : Int) (vt w : Int → Int) : Int := smI nl (fun k => if vt k = -1 then 0 else w k)
def eBs : Nat → (Int → Bool) → (Int → Int) → (Int → Int) → Int
  | 0, _, _, _ => -1
  | z + 1, cd, sp, r => if cd z = true ∧ (eBs z cd sp r = -1 ∨ sp (eBs z cd sp r) < sp z ∨ (sp z = sp (eBs z cd sp r) ∧ r z < r (eBs z cd sp r))) then z else eBs z cd sp r
def eBsI (z : Int) (cd : Int → Bool) (sp r : Int → Int) : Int := eBs z.toNat cd sp r
theorem eBsI_s {z : Int} {cd : Int → Bool} {sp r : Int → Int} (h : 0 ≤ z) : eBsI (z + 1) cd sp r = if cd z = true ∧ (eBsI z cd sp r = -1 ∨ sp (eBsI z cd sp r) < sp z ∨ (sp z = sp (eBsI z cd sp r) ∧ r z < r (eBsI z cd sp r))) then z else eBsI z cd sp r := by
  unfold eBsI
  have e : (z + 1).toNat = z.toNat + 1 := by omega
  rw [e]
  show (if cd (z.toNat : Nat) = true ∧ _ then ((z.toNat : Nat) : Int) else _) = _
  rw [Int.toNat_of_nonneg h]
theorem smI_bd2 {z : Int} {f : Int → Int} {c : Int} (hz : 0 ≤ z) (h : ∀ i : Int, 0 ≤ i → i < z → -c ≤ f i ∧ f i ≤ c) : -(c * z) ≤ smI z f ∧ smI z f ≤ c * z := by
  have e : smI z (fun i => f i + c) = smI z f + c * z := by
    have key : ∀ n : Nat, sm n (fun i => f i + c) = sm n f + c * n := by
      intro n
      induction n with
      | zero => simp [sm]
      | succ n ih =>
        show sm n _ + (f n + c) = sm n f + f n + c * ((n + 1 : Nat) : Int)
        rw [ih]
        have : c * ((n + 1 : Nat) : Int) = c * n + c := by rw [Int.natCast_add, Int.mul_add]; simp
        omega
    have := key z.toNat
    rw [Int.toNat_of_nonneg hz] at this
    exact this
  have b := smI_bd (z := z) (f := fun i => f i + c) (c := 2 * c) hz (fun i a b => by have := h i a b; omega)
  rw [e] at b
  have : 2 * c * z = 2 * (c * z) := Int.mul_assoc 2 c z
  omega
theorem dVt_bd {D : Int → Int} {k n nl : Int} (h1 : 0 ≤ k) (h2 : k < nl) (hpr : ∀ i : Int, 0 ≤ i → i < D (6 + 24 * k + 3) → 0 ≤ D (6 + 24 * k + 4 + i) ∧ D (6 + 24 * k + 4 + i) < nl) : -1 ≤ dVt D k n ∧ dVt D k n < nl := by
  unfold dVt
  split
  · split
    · omega
    · cases hf : (dPf D k).find? (fun o => dCd D o n) with
      | none => simp; omega
      | some o =>
        have hm := List.mem_of_find?_eq_some hf
        unfold dPf lsI at hm
        obtain ⟨i, hi, rfl⟩ := List.mem_map.mp hm
        have hi2 := List.mem_range.mp hi
        have := hpr (i : Int) (by omega) (by omega)
        simp only [Option.getD_some]
        omega
  · omega
def dBd (D : Int → Int) (vt sp : Int → Int) (tot best k : Int) : Int := if D (6 + 24 * k + 2) > 0 then (if D (6 + 24 * k + 1) = 1 ∧ vt k ≠ -1 ∧ D 0 * tot ≤ 100 * sp (vt k) then vt k else best) else -1
theorem mul_bd2 {a b : Int} {A C : Nat} (h1 : 0 ≤ a) (h2 : a ≤ A) (h3 : -(C : Int) ≤ b) (h4 : b ≤ C) : -((A * C : Nat) : Int) ≤ a * b ∧ a * b ≤ ((A * C : Nat) : Int) := by
  have e : (a * b).natAbs = a.natAbs * b.natAbs := Int.natAbs_mul a b
  have l : a.natAbs * b.natAbs ≤ A * C := Nat.mul_le_mul (by omega) (by omega)
  generalize a * b = q at e ⊢
  generalize A * C = r at l ⊢
  omega
theorem eSup_congr {nl : Int} {vt w w' : Int → Int} {c : Int} (h : ∀ k : Int, 0 ≤ k → k < nl → w k = w' k) : eSup nl vt w c = eSup nl vt w' c := smI_congr (fun i a b => by rw [h i a b])
theorem eTot_congr {nl : Int} {vt w w' : Int → Int} (h : ∀ k : Int, 0 ≤ k → k < nl → w k = w' k) : eTot nl vt w = eTot nl vt w' := smI_congr (fun i a b => by rw [h i a b])
theorem eBs_rg {z : Nat} {cd : Int → Bool} {sp r : Int → Int} : eBs z cd sp r = -1 ∨ (0 ≤ eBs z cd sp r ∧ eBs z cd sp r < z) := by
  induction z with
  | zero => exact Or.inl rfl
  | succ z ih =>
    unfold eBs
    split
    · right; omega
    · omega
theorem eBs_congr {z : Nat} {cd : Int → Bool} {sp sp' r r' : Int → Int} (h1 : ∀ k : Int, 0 ≤ k → k < z → sp k = sp' k) (h2 : ∀ k : Int, 0 ≤ k → k < z → r k = r' k) : eBs z cd sp r = eBs z cd sp' r' := by
  induction z with
  | zero => rfl
  | succ z ih =>
    have e := ih (fun k a b => h1 k a (by omega)) (fun k a b => h2 k a (by omega))
    unfold eBs
    rw [e]
    rcases eBs_rg (z := z) (cd := cd) (sp := sp') (r := r') with h | ⟨h3, h4⟩
    · rw [h, h1 z (by omega) (by omega)]; simp
    · rw [h1 z (by omega) (by omega), h2 z (by omega) (by omega), h1 _ h3 (by omega), h2 _ h3 (by omega)]
theorem eBsI_congr {z : Int} {cd : Int → Bool} {sp sp' r r' : Int → Int} (h1 : ∀ k : Int, 0 ≤ k → k < z → sp k = sp' k) (h2 : ∀ k : Int, 0 ≤ k → k < z → r k = r' k) : eBsI z cd sp r = eBsI z cd sp' r' := eBs_congr (fun k a b => h1 k a (by omega)) (fun k a b => h2 k a (by omega))
theorem eBsI_rg {z : Int} {cd : Int → Bool} {sp r : Int → Int} : eBsI z cd sp r = -1 ∨ (0 ≤ eBsI z cd sp r ∧ eBsI z cd sp r < z) := by
  have := eBs_rg (z := z.toNat) (cd := cd) (sp := sp) (r := r)
  unfold eBsI
  omega
def xSp (D : Int → Int) (fn : EF) (c n : Int) : Int := eSup (D 1) (fun k => dVt D k n) (dWt D fn) c
def xTo (D : Int → Int) (fn : EF) (n : Int) : Int := eTot (D 1) (fun k => dVt D k n) (dWt D fn)
def xBs (D : Int → Int) (fn : EF) (n : Int) : Int := eBsI (D 1) (fun k => dCd D k n) (fun c => xSp D fn c n) (dRk D)
def xBd (D : Int → Int) (fn : EF) (k n : Int) : Int := dBd D (fun k => dVt D k n) (fun c => xSp D fn c n) (xTo D fn n) (xBs D fn n) k
/-- what holds of the model's data -/
def DOK (D : Int → Int) (fn : EF) : Prop := (0 ≤ D 1 ∧ D 1 ≤ 8) ∧ (0 ≤ D 2 ∧ D 2 ≤ 12) ∧ (0 ≤ D 0 ∧ D 0 ≤ 100) ∧ (∀ k : Int, 0 ≤ k → k < 8 → D (6 + 24 * k + 3) ≤ 8) ∧
  (∀ k i : Int, 0 ≤ k → k < 8 → 0 ≤ i → i < D (6 + 24 * k + 3) → 0 ≤ D (6 + 24 * k + 4 + i) ∧ D (6 + 24 * k + 4 + i) < D 1) ∧ (∀ k : Int, 0 ≤ k → k < D 1 → 0 ≤ D (6 + 24 * k) ∧ D (6 + 24 * k) ≤ 999) ∧ WtOK D fn ∧
  (∀ k n : Int, 0 ≤ k → k < D 1 → 0 ≤ n → n < D 2 → -2 - D 2 < D (6 + 24 * k + 12 + n) ∧ D (6 + 24 * k + 12 + n) ≤ 9999)
theorem clw_bd (v : Int) : 0 ≤ clw v ∧ clw v ≤ 9999 := by unfold clw; split <;> (try split) <;> omega
theorem dWt_bd {D : Int → Int} {fn : EF} {k : Int} : -1 ≤ dWt D fn k ∧ dWt D fn k ≤ 9999 := by
  unfold dWt
  split
  · have := clw_bd (fn (D (6 + 24 * k)) (dRk D k) (dNo D k) (dFr D k)); omega
  · omega
/-- weights, ranks, supports, winners, bindings are laid -/
def Laid (D : Int → Int) (fn : EF) (σ : Nat → Int → Int → Int) : Prop := (∀ k : Int, 0 ≤ k → k < D 1 → σ 19 0 k = dWt D fn k ∧ σ 20 0 k = dRk D k) ∧ ∀ n : Int, 0 ≤ n → n < D 2 → σ 21 0 n = xBs D fn n ∧ ∀ k : Int, 0 ≤ k → k < D 1 → σ 22 k n = xSp D fn k n ∧ σ 23 k n = xBd D fn k n
/-- what is kept from call to call: buffer, its length, the error's offset, history, its depth -/
def kp (σ σ' : Nat → Int → Int → Int) : Prop := σ' 1 = σ 1 ∧ σ' 2 = σ 2 ∧ σ' 7 = σ 7 ∧ σ' 10 = σ 10 ∧ σ' 11 = σ 11
def dTo (D : Int → Int) (fn : EF) (k w : Int) : Int := if w < 2 then D (6 + 24 * k + w) else if w = 2 then dRk D k else if w = 3 then dNo D k else if w = 4 then D (6 + 24 * k + 3) else dWt D fn k
/-- a call that is followed -/
def fmk (V : Int → Int → Bool) (k n : Int) : Int → Int → Bool := fun a b => if a = k ∧ b = n then true else V a b
def flw : Nat → (Int → Int → Int) → (Int → Int → Int) → (Int → Int → Bool) → Int → Int → Int → Int × Int
  | 0, _, _, _, _, _, s => (-2, s)
  | f + 1, bd, of, V, k, n, s => if V k n = true then (-2, s) else if bd k n = -1 then (-1, s) else if 0 ≤ of (bd k n) n then (of (bd k n) n, s + 1) else flw f bd of (fmk V k n) (bd k n) (-2 - of (bd k n) n) (s + 1)
def fmu (V : Int → Int → Bool) : Int := smI 8 (fun a => smI 12 (fun b => bI (V a b = false)))
theorem sm_upd {n : Nat} {f g : Int → Int} {i : Int} (h0 : 0 ≤ i) (h1 : i < n) (h : ∀ j : Int, j ≠ i → g j = f j) : sm n g = sm n f + (g i - f i) := by
  induction n with
  | zero => omega
  | succ n ih =>
    show sm n g + g n = sm n f + f n + (g i - f i)
    by_cases e : i = n
    · subst e
      rw [sm_congr (f := g) (g := f) (fun j a b => h j (by omega))]
      omega
    · rw [ih (by omega), h n (fun x => e x.symm)]
      omega
theorem fmu_mk {V : Int → Int → Bool} {k n : Int} (h1 : 0 ≤ k) (h2 : k < 8) (h3 : 0 ≤ n) (h4 : n < 12) (hv : V k n = false) : fmu (fmk V k n) = fmu V - 1 := by
  have e1 : smI 12 (fun b => bI (fmk V k n k b = false)) = smI 12 (fun b => bI (V k b = false)) + -1 := by
    unfold smI
    rw [sm_upd (n := (12 : Int).toNat) (i := n) (f := fun b => bI (V k b = false)) h3 (by omega) (fun j hj => by simp [fmk, hj])]
    have a1 : bI (fmk V k n k n = false) = 0 := bI_f (by simp [fmk])
    have a2 : bI (V k n = false) = 1 := bI_t hv
    omega
  unfold fmu
  show sm (8 : Int).toNat _ = sm (8 : Int).toNat _ - 1
  rw [sm_upd (n := (8 : Int).toNat) (i := k) (f := fun a => smI 12 (fun b => bI (V a b = false))) h1 (by omega) (fun j hj => by simp [fmk, hj])]
  omega
theorem fmu_0 : fmu (fun _ _ => false) = 96 := by decide
theorem dCd_t {D : Int → Int} {k n : Int} (h : dCd D k n = true) : D (6 + 24 * k + 2) > 0 ∧ D (6 + 24 * k + 12 + n) ≠ -1 := by simpa [dCd] using h
theorem dVt_cd {D : Int → Int} {k n c : Int} (h : dVt D k n = c) (hc : c ≠ -1) : dCd D c n = true := by
  unfold dVt at h
  split at h
  · split at h
    · subst h; simp only [dCd, decide_eq_true_eq]; exact ⟨by assumption, by assumption⟩
    · cases hf : (dPf D k).find? (fun o => dCd D o n) with
      | none => rw [hf] at h; exact absurd h.symm hc
      | some o =>
        rw [hf] at h
        simp only [Option.getD_some] at h
        subst h
        exact List.find?_some (p := fun o => dCd D o n) hf
  · exact absurd h.symm hc
theorem eBs_cd {z : Nat} {cd : Int → Bool} {sp r : Int → Int} (h : eBs z cd sp r ≠ -1) : cd (eBs z cd sp r) = true := by
  induction z with
  | zero => exact absurd rfl h
  | succ z ih =>
    unfold eBs at h ⊢
    split
    · rename_i q; exact q.1
    · rename_i q; rw [if_neg q] at h; exact ih h
theorem xBd_cd {D : Int → Int} {fn : EF} {k n : Int} (h : xBd D fn k n ≠ -1) : dCd D (xBd D fn k n) n = true := by
  unfold xBd dBd at h ⊢
  split
  · rename_i q1
    split
    · rename_i q2; exact dVt_cd rfl q2.2.1
    · rename_i q2
      rw [if_pos q1, if_neg q2] at h
      exact eBs_cd h
  · rename_i q1; rw [if_neg q1] at h; exact absurd rfl h
theorem xBd_bd {D : Int → Int} {fn : EF} {k n : Int} (hD : DOK D fn) (h1 : 0 ≤ k) (h2 : k < D 1) : -1 ≤ xBd D fn k n ∧ xBd D fn k n < D 1 := by
  obtain ⟨⟨a1, a2⟩, -, -, -, hpr, -, -, -⟩ := hD
  have hv := dVt_bd (n := n) h1 h2 (fun i a b => hpr k i h1 (by omega) a b)
  have hb := eBsI_rg (z := D 1) (cd := fun k => dCd D k n) (sp := fun c => xSp D fn c n) (r := dRk D)
  unfold xBd dBd
  split
  · split
    · exact hv
    · unfold xBs; omega
  · omega
