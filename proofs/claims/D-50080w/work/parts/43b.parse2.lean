/-! ===== numbers, words, places ===== -/
set_option maxRecDepth 100000
abbrev PE (α : Type) : Type := Except (Int × Int) α
def pnum (t : Int → Int) (p lo hi : Int) : PE (Int × Int) := if 48 ≤ t (sk t p) ∧ t (sk t p) ≤ 57 then (if lo ≤ (nu t (sk t p) 0).2 ∧ (nu t (sk t p) 0).2 ≤ hi then .ok ((nu t (sk t p) 0).2, (nu t (sk t p) 0).1) else .error (-3, sk t p)) else .error (-2, sk t p)
/-- a told word: the word, where it begins, where it ends -/
def ptw (t : Int → Int) (p : Int) : PE (List Int × Int × Int) := if 1 ≤ we t (sk t p) - sk t p ∧ we t (sk t p) - sk t p ≤ 8 then .ok (wd t (sk t p) (we t (sk t p)), sk t p, we t (sk t p)) else .error (-2, sk t p)
def fi {α : Type} [DecidableEq α] : List α → α → Int
  | [], _ => -1
  | a :: l, w => if a = w then 0 else if fi l w = -1 then -1 else fi l w + 1
theorem fi_rg {α : Type} [DecidableEq α] {l : List α} {w : α} : fi l w = -1 ∨ (0 ≤ fi l w ∧ fi l w < l.length) := by
  induction l with
  | nil => exact Or.inl rfl
  | cons a l ih =>
    unfold fi
    split
    · right; simp only [List.length_cons]; omega
    · split
      · exact Or.inl rfl
      · right; simp only [List.length_cons]; omega
theorem fi_map {α β : Type} [DecidableEq α] [DecidableEq β] {l : List α} {w : α} {g : α → β} (h : ∀ a ∈ l, g a = g w → a = w) : fi (l.map g) (g w) = fi l w := by
  induction l with
  | nil => rfl
  | cons a l ih =>
    simp only [List.map_cons]
    unfold fi
    rw [ih (fun b hb => h b (List.mem_cons_of_mem _ hb))]
    by_cases e : a = w
    · rw [if_pos e, if_pos (by rw [e])]
    · rw [if_neg e, if_neg (fun q => e (h a List.mem_cons_self q))]
/-- a known word: its place, where it begins, where it ends -/
def pkn (t : Int → Int) (p : Int) (ws : List (List Int)) : PE (Int × Int × Int) := match ptw t p with
  | .error e => .error e
  | .ok (w, s, e) => if fi ws w = -1 then .error (-4, s) else .ok (fi ws w, s, e)
theorem ls_snoc : ∀ (l : List Int), l ≠ [] → ∃ l' c, l = l' ++ [c]
  | [], h => absurd rfl h
  | [a], _ => ⟨[], a, rfl⟩
  | a :: b :: l, _ => by
    obtain ⟨l', c, e⟩ := ls_snoc (b :: l) (by simp)
    exact ⟨a :: l', c, by rw [e]; rfl⟩
def wn (l : List Int) : Int := l.foldl (fun a c => 27 * a + c - 97 + 1) 0
theorem wn_snoc (l : List Int) (c : Int) : wn (l ++ [c]) = 27 * wn l + c - 97 + 1 := by unfold wn; rw [List.foldl_append]; rfl
theorem wn_bd {l : List Int} (hw : Wd l) : 0 ≤ wn l ∧ wn l < 27 ^ l.length := by
  have key : ∀ (n : Nat) (l : List Int), l.length = n → Wd l → 0 ≤ wn l ∧ wn l < 27 ^ l.length := by
    intro n
    induction n with
    | zero => intro l hl _; rw [List.length_eq_zero_iff.mp hl]; exact ⟨by decide, by decide⟩
    | succ n ih =>
      intro l hl hw
      have hne : l ≠ [] := fun e => by rw [e] at hl; cases hl
      obtain ⟨l', c, rfl⟩ : ∃ l' c, l = l' ++ [c] := ls_snoc l hne
      have hl' : l'.length = n := by simp at hl; exact hl
      have b := ih l' hl' (fun x hx => hw x (List.mem_append_left _ hx))
      have hc := hw c (List.mem_append_right _ List.mem_cons_self)
      rw [wn_snoc, List.length_append, List.length_singleton, Int.pow_succ]
      omega
  exact key _ l rfl hw
theorem wn_inj : ∀ (n : Nat) (l l' : List Int), l.length = n → Wd l → Wd l' → wn l = wn l' → l = l' := by
  intro n
  induction n with
  | zero =>
    intro l l' hl hw hw' e
    rw [List.length_eq_zero_iff.mp hl] at e ⊢
    by_cases hne2 : l' = []
    · rw [hne2]
    · obtain ⟨l', c, rfl⟩ := ls_snoc l' hne2
      have hc := hw' c (List.mem_append_right _ List.mem_cons_self)
      have b := wn_bd (l := l') (fun x hx => hw' x (List.mem_append_left _ hx))
      rw [wn_snoc] at e
      have : wn [] = 0 := rfl
      omega
  | succ n ih =>
    intro l l' hl hw hw' e
    have hne : l ≠ [] := fun q => by rw [q] at hl; cases hl
    obtain ⟨l1, c, rfl⟩ : ∃ l1 c, l = l1 ++ [c] := ls_snoc l hne
    have hl' : l1.length = n := by simp at hl; exact hl
    have hc := hw c (List.mem_append_right _ List.mem_cons_self)
    have b := wn_bd (l := l1) (fun x hx => hw x (List.mem_append_left _ hx))
    rw [wn_snoc] at e
    by_cases hne2 : l' = []
    · rw [hne2] at e
      have : wn [] = 0 := rfl
      omega
    · obtain ⟨l2, c2, rfl⟩ : ∃ l2 c2, l' = l2 ++ [c2] := ls_snoc l' hne2
      have hc2 := hw' c2 (List.mem_append_right _ List.mem_cons_self)
      have b2 := wn_bd (l := l2) (fun x hx => hw' x (List.mem_append_left _ hx))
      rw [wn_snoc] at e
      have e1 : wn l1 = wn l2 := by omega
      rw [ih l1 l2 hl' (fun x hx => hw x (List.mem_append_left _ hx)) (fun x hx => hw' x (List.mem_append_left _ hx)) e1, show c = c2 by omega]
theorem wd_snoc {t : Int → Int} {a b : Int} (h : a ≤ b) : wd t a (b + 1) = wd t a b ++ [t b] := by
  unfold wd lsI
  have e : (b + 1 - a).toNat = (b - a).toNat + 1 := by omega
  rw [e, List.range_succ, List.map_append]
  congr 1
  simp only [List.map_cons, List.map_nil]
  congr 2
  omega
theorem nuN_rg {t : Int → Int} {n : Int} (hx : Txt t n) : ∀ (f : Nat) (p v : Int), 0 ≤ p → p ≤ n → 0 ≤ v → v ≤ 1000000 → p ≤ (nuN f t p v).1 ∧ (nuN f t p v).1 ≤ n ∧ 0 ≤ (nuN f t p v).2 ∧ (nuN f t p v).2 ≤ 1000000 := by
  intro f
  induction f with
  | zero => intro p v a b c d; exact ⟨Int.le_refl _, b, c, d⟩
  | succ f ih =>
    intro p v a b c d
    unfold nuN
    split
    · rename_i q
      have hpn : p ≠ n := fun e => by rw [e, hx.2.2.1 n (Int.le_refl _)] at q; omega
      have := ih (p + 1) (min 1000000 (10 * v + t p - 48)) (by omega) (by omega) (by omega) (by omega)
      omega
    · exact ⟨Int.le_refl _, b, c, d⟩
theorem nu_rg {t : Int → Int} {n p v : Int} (hx : Txt t n) (h0 : 0 ≤ p) (h1 : p ≤ n) (h2 : 0 ≤ v) (h3 : v ≤ 1000000) : p ≤ (nu t p v).1 ∧ (nu t p v).1 ≤ n ∧ 0 ≤ (nu t p v).2 ∧ (nu t p v).2 ≤ 1000000 := nuN_rg hx _ p v h0 h1 h2 h3
