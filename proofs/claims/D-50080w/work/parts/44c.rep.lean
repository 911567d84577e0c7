/-! ===== the model's draft holds a parse state ===== -/
set_option maxRecDepth 100000
theorem fi_drop {l : List Int} {w : Int} {i : Nat} (h : ∀ j : Nat, j < i → l[j]? ≠ some w) (hi : i ≤ l.length) : fi l w = if fi (l.drop i) w = -1 then -1 else fi (l.drop i) w + i := by
  induction i generalizing l with
  | zero => simp
  | succ i ih =>
    cases l with
    | nil => simp at hi
    | cons a l =>
      have h0 := h 0 (by omega)
      simp only [List.getElem?_cons_zero, ne_eq, Option.some.injEq] at h0
      have := ih (l := l) (fun j hj => by have := h (j + 1) (by omega); rwa [List.getElem?_cons_succ] at this) (by simpa using hi)
      simp only [List.drop_succ_cons]
      show (if a = w then (0 : Int) else if fi l w = -1 then -1 else fi l w + 1) = _
      rw [if_neg h0, this]
      have rg := fi_rg (l := l.drop i) (w := w)
      by_cases q : fi (l.drop i) w = -1
      · simp [q]
      · rw [if_neg q, if_neg q, if_neg (by omega)]
        omega
theorem lsI_get {n : Int} {g : Int → Int} {j : Nat} (h : (j : Int) < n) : (lsI n g)[j]? = some (g j) := by
  unfold lsI
  rw [List.getElem?_map, List.getElem?_range (by omega)]
  rfl
theorem lsI_len {n : Int} {g : Int → Int} : (lsI n g).length = n.toNat := by unfold lsI; simp
theorem lsI_map {ws : List (List Int)} {f : Int → Int} (h : ∀ (i : Nat) (w : List Int), ws[i]? = some w → f i = wn w) : lsI ws.length f = ws.map wn := by
  refine List.ext_getElem? (fun i => ?_)
  by_cases hi : i < ws.length
  · rw [lsI_get (by omega), List.getElem?_map, List.getElem?_eq_getElem hi, Option.map_some, h i _ (List.getElem?_eq_getElem hi)]
  · rw [List.getElem?_eq_none (by rw [lsI_len]; omega), List.getElem?_eq_none (by rw [List.length_map]; omega)]
def Wd8 (w : List Int) : Prop := Wd w ∧ 1 ≤ w.length ∧ w.length ≤ 8
theorem fi_wn {ws : List (List Int)} {f : Int → Int} {w : List Int} (h : ∀ (i : Nat) (w : List Int), ws[i]? = some w → f i = wn w) (hw : Wd w) (hws : ∀ x ∈ ws, Wd x) : fi (lsI ws.length f) (wn w) = fi ws w := by
  rw [lsI_map h]
  exact fi_map (fun a ha e => wn_inj _ a w rfl (hws a ha) hw e)
def bN (b : Bool) : Nat := if b = true then 1 else 0
/-- preferences: each once, never the library itself -/
def PFok (lb : List (List Int × Int × Int × List Int)) : Prop := ∀ (k : Nat) (x : List Int × Int × Int × List Int), lb[k]? = some x → x.2.2.2.Nodup ∧ (k : Int) ∉ x.2.2.2
/-- what holds of a parse state -/
def PSok (s : PS) : Prop := s.nm.length ≤ 12 ∧ s.lb.length ≤ 8 ∧ (∀ w ∈ s.nm, Wd8 w) ∧ (∀ x ∈ s.lb, Wd8 x.1 ∧ 0 ≤ x.2.1 ∧ x.2.1 ≤ 999 ∧ (x.2.2.1 = 0 ∨ x.2.2.1 = 1) ∧ x.2.2.2.length ≤ 7 ∧ ∀ o ∈ x.2.2.2, 0 ≤ o ∧ o < s.lb.length) ∧
  (∀ k n : Int, -2 - s.nm.length < s.of k n ∧ s.of k n ≤ 9999) ∧ (∀ k n : Int, s.lb.length ≤ k ∨ s.nm.length ≤ n → s.of k n = -1) ∧ (0 ≤ s.sh ∧ s.sh ≤ 100) ∧ s.cs.length ≤ 1250 ∧ ((s.hw = false ∧ s.cs = [] ∧ s.fn = fnT) ∨ (s.hw = true ∧ ∃ d, Cd d s.cs s.fn)) ∧ PFok s.lb
def MRep (σ : MS) (s : PS) : Prop := (σ 9 0 0 = s.sh ∧ σ 9 0 1 = s.lb.length ∧ σ 9 0 2 = s.nm.length ∧ σ 9 0 3 = s.lb.length ∧ σ 9 0 5 = s.cs.length) ∧ Has (σ 9 0) 0 s.cs ∧
  (∀ (k : Nat) (x : List Int × Int × Int × List Int), s.lb[k]? = some x → (σ 9 0 (6 + 24 * k) = x.2.1 ∧ σ 9 0 (6 + 24 * k + 1) = x.2.2.1 ∧ σ 9 0 (6 + 24 * k + 2) = k + 1 ∧ σ 9 0 (6 + 24 * k + 3) = x.2.2.2.length) ∧ (∀ (i : Nat) (c : Int), x.2.2.2[i]? = some c → σ 9 0 (6 + 24 * k + 4 + i) = c) ∧ (∀ n : Int, 0 ≤ n → n < 12 → σ 9 0 (6 + 24 * k + 12 + n) = s.of k n) ∧ σ 15 0 k = wn x.1) ∧
  (∀ k : Int, s.lb.length ≤ k → k < 8 → σ 9 0 (6 + 24 * k + 3) = 0) ∧ (∀ (i : Nat) (w : List Int), s.nm[i]? = some w → σ 16 0 i = wn w) ∧ σ 14 0 0 = ((bN s.hs + 2 * bN s.hw : Nat) : Int) ∧ σ 13 0 0 = 0
theorem MRep.of {σ σ' : MS} {s : PS} (h : MRep σ s) (h9 : σ' 9 = σ 9) (h13 : σ' 13 = σ 13) (h14 : σ' 14 = σ 14) (h15 : σ' 15 = σ 15) (h16 : σ' 16 = σ 16) : MRep σ' s := by
  unfold MRep at h ⊢
  rw [h9, h13, h14, h15, h16]
  exact h
theorem MRep.wl {σ : MS} {s : PS} (h : MRep σ s) : ∀ (i : Nat) (w : List Int), (s.lb.map (·.1))[i]? = some w → σ 15 0 i = wn w := by
  intro i w hw
  rw [List.getElem?_map] at hw
  cases e : s.lb[i]? with
  | none => rw [e] at hw; cases hw
  | some x => rw [e] at hw; cases hw; exact (h.2.2.1 i x e).2.2.2
