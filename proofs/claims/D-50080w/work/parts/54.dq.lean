/-! ===== ArrayDeque ===== -/
set_option maxRecDepth 100000
def DQ (G : GT) (h : AH) (o k a : Nat) (xs : List Nat) : Prop := ∃ (r : Nat) (hd : Int) (f : Int → Option Nat), o ≠ 0 ∧ h a = some ((o, k), ob 9 [.ref r, .int (iI hd), .int (iI ((hd + xs.length) % 17))]) ∧ h r = some ((o, k + 1), aR G 4 17 f) ∧ 0 ≤ hd ∧ hd < 17 ∧ xs.length ≤ 8 ∧ ∀ (i : Nat) (x : Nat), xs[i]? = some x → f ((hd + i) % 17) = some x
theorem DQ.ex {G : GT} {h h' : AH} {o k a : Nat} {xs : List Nat} (hA : DQ G h o k a xs) (f : Ex h h') : DQ G h' o k a xs := by
  obtain ⟨r, hd, g, h0, h1, h2, h3⟩ := hA
  exact ⟨r, hd, g, h0, f _ _ h1, f _ _ h2, h3⟩
theorem DQ.fo {G : GT} {h h' : AH} {o k a o' j1 j2 : Nat} {xs : List Nat} (hA : DQ G h o k a xs) (f : FO o' j1 j2 h h') (hne : o ≠ o' ∨ k + 1 < j1 ∨ j2 < k) : DQ G h' o k a xs := by
  obtain ⟨r, hd, g, h0, h1, h2, h3⟩ := hA
  exact ⟨r, hd, g, h0, f.at h1 (by omega), f.at h2 (by omega), h3⟩
theorem DQ.kt {G : GT} {h h' : AH} {o k a o' j b : Nat} {xs : List Nat} (hA : DQ G h o k a xs) (f : KT b (o', j) h h') (hne : o ≠ o' ∨ (k ≠ j ∧ k + 1 ≠ j)) : DQ G h' o k a xs := by
  obtain ⟨r, hd, g, h0, h1, h2, h3⟩ := hA
  exact ⟨r, hd, g, h0, f.at h1 (by omega), f.at h2 (by omega), h3⟩
theorem dq_snoc {xs : List Nat} {e : Nat} {hd : Int} {f : Int → Option Nat} (h0 : 0 ≤ hd) (h1 : hd < 17) (h8 : xs.length < 8) (h : ∀ (i : Nat) (x : Nat), xs[i]? = some x → f ((hd + i) % 17) = some x) : ∀ (i : Nat) (x : Nat), (xs ++ [e])[i]? = some x → iup f ((hd + xs.length) % 17) (some e) ((hd + i) % 17) = some x := by
  intro i x hx
  by_cases hi : i < xs.length
  · rw [List.getElem?_append_left hi] at hx
    rw [iup_n (by omega)]
    exact h i x hx
  · have hl := (List.getElem?_eq_some_iff.mp hx).1
    rw [List.length_append, List.length_singleton] at hl
    have e1 : i = xs.length := by omega
    subst e1
    rw [List.getElem?_append_right (Nat.le_refl _), Nat.sub_self] at hx
    cases hx
    exact iup_s
theorem dq_tail {x0 : Nat} {xs : List Nat} {hd h2 : Int} {f : Int → Option Nat} (h0 : 0 ≤ hd) (h1 : hd < 17) (h8 : (x0 :: xs).length ≤ 8) (e : h2 = (hd + 1) % 17) (h : ∀ (i : Nat) (x : Nat), (x0 :: xs)[i]? = some x → f ((hd + i) % 17) = some x) : ∀ (i : Nat) (x : Nat), xs[i]? = some x → iup f hd none ((h2 + i) % 17) = some x := by
  intro i x hx
  have hl := (List.getElem?_eq_some_iff.mp hx).1
  rw [List.length_cons] at h8
  rw [iup_n (by omega), e]
  have := h (i + 1) x (by rw [List.getElem?_cons_succ]; exact hx)
  rw [← this]
  congr 1
  omega
theorem dq_init {xs : List Nat} {x0 : Nat} {hd t : Int} {f : Int → Option Nat} (h0 : 0 ≤ hd) (h1 : hd < 17) (h8 : (xs ++ [x0]).length ≤ 8) (ht : t = (hd + xs.length) % 17) (h : ∀ (i : Nat) (x : Nat), (xs ++ [x0])[i]? = some x → f ((hd + i) % 17) = some x) : ∀ (i : Nat) (x : Nat), xs[i]? = some x → iup f t none ((hd + i) % 17) = some x := by
  intro i x hx
  have hl := (List.getElem?_eq_some_iff.mp hx).1
  rw [List.length_append, List.length_singleton] at h8
  rw [iup_n (by omega)]
  exact h i x (by rw [List.getElem?_append_left hl]; exact hx)
