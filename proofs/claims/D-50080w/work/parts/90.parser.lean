/-! ===== the parser's world ===== -/
set_option maxRecDepth 100000
abbrev sxN : String := "LinkElection$SetupException"
/-- the exception at q: code c, offset o -/
def SX (h : AH) (q : Nat) (c o : Int) : Prop := h q = some ((q, 10590), ob 4 [.null, .null, .null, .null, .null, .int 0, .int (iI c), .int (iI o)])
/-- all is kept but what p and a own -/
def FP (p a : Nat) (h h' : AH) : Prop := ∀ q t x, h q = some (t, x) → t.1 ≠ p → t.1 ≠ a → h' q = some (t, x)
theorem FP.rf {p a : Nat} {h : AH} : FP p a h h := fun _ _ _ x _ _ => x
theorem FP.tr {p a : Nat} {h h1 h2 : AH} (f : FP p a h h1) (g : FP p a h1 h2) : FP p a h h2 := fun q t x hx h1 h2 => g q t x (f q t x hx h1 h2) h1 h2
theorem Ex.fp {p a : Nat} {h h1 : AH} (f : Ex h h1) : FP p a h h1 := fun q _ _ hx _ _ => f q _ hx
theorem FO.fp {p a o k1 k2 : Nat} {h h1 : AH} (f : FO o k1 k2 h h1) (ho : o = p ∨ o = a) : FP p a h h1 := fun q t x hx h1 h2 => f q t x hx (fun z => by rcases ho with e | e; exact h1 (z.1.trans e); exact h2 (z.1.trans e))
theorem FP.ex {p a : Nat} {h h1 h2 : AH} (f : FP p a h h1) (g : Ex h1 h2) : FP p a h h2 := f.tr g.fp
theorem FP.fo {p a o k1 k2 : Nat} {h h1 h2 : AH} (f : FP p a h h1) (g : FO o k1 k2 h1 h2) (ho : o = p ∨ o = a) : FP p a h h2 := f.tr (g.fp ho)
theorem FP.kt {p a o k b : Nat} {h h1 h2 : AH} (f : FP p a h h1) (g : KT b (o, k) h1 h2) (ho : o = p ∨ o = a) : FP p a h h2 := f.tr (g.fo.fp ho)
theorem FP.at {p a : Nat} {h h' : AH} {o k b : Nat} {x : AE} (f : FP p a h h') (hb : h b = some ((o, k), x)) (h1 : o ≠ p) (h2 : o ≠ a) : h' b = some ((o, k), x) := f b _ x hb h1 h2
/-- an error of the parse r has been thrown -/
def XS (p a : Nat) (h : AH) {α : Type} (r : PE α) : String → Nat → AH → Prop := fun X q h' => X = sxN ∧ ∃ c o, r = .error (c, o) ∧ (-7 ≤ c ∧ c ≤ -2 ∧ 0 ≤ o ∧ o ≤ 800) ∧ SX h' q c o ∧ FP p a h h'
theorem XS.go {p a : Nat} {h h1 h' : AH} {α β : Type} {r1 : PE α} {r : PE β} {X : String} {q : Nat} (hx : XS p a h1 r1 X q h') (f : FP p a h h1) (he : ∀ c o, r1 = .error (c, o) → r = .error (c, o)) : XS p a h r X q h' := by
  obtain ⟨e, c, o, h2, h3, h4, h5⟩ := hx
  exact ⟨e, c, o, he c o h2, h3, h4, f.tr h5⟩
/-- x holds the text t of n bytes in its buffer -/
def TB (G : GT) (h : AH) (x : Nat) (t : Int → Int) (n : Int) : Prop := ∃ (bf : Nat) (fs : List Value) (B : Int → Int), x ≠ 0 ∧ h x = some ((x, 10570), ob 0 (.ref bf :: fs)) ∧ h bf = some ((x, 10571), aA G 1 800 B) ∧ Txt t n ∧ ∀ q : Int, 0 ≤ q → q < n → -128 ≤ B q ∧ B q ≤ 127 ∧ t q = B q % 256
def PO (h : AH) (p x a nl : Nat) (n nx sa dp hs hw : Int) : Prop := p ≠ 0 ∧ h p = some ((p, 10580), ob 3 [.int (iI n), .ref nl, .ref a, .int (iI nx), .int (iI sa), .int (iI dp), .int (iI hs), .int (iI hw), .ref x])
/-- the parser p of x, with the house a: next, start, depth, what was told -/
def PB (G : GT) (h : AH) (p x a nl : Nat) (t : Int → Int) (n nx sa dp hs hw : Int) : Prop := PO h p x a nl n nx sa dp hs hw ∧ TB G h x t n ∧ (0 ≤ nx ∧ nx ≤ n) ∧ (0 ≤ sa ∧ sa ≤ 800) ∧ (0 ≤ dp ∧ dp ≤ 4) ∧ (hs = 0 ∨ hs = 1) ∧ (hw = 0 ∨ hw = 1)
theorem TB.mv {G : GT} {h h' : AH} {x : Nat} {t : Int → Int} {n : Int} (hT : TB G h x t n) (f : ∀ q k y, h q = some ((x, k), y) → (k = 10570 ∨ k = 10571) → h' q = some ((x, k), y)) : TB G h' x t n := by
  obtain ⟨bf, fs, B, h0, h1, h2, h3⟩ := hT
  exact ⟨bf, fs, B, h0, f _ _ _ h1 (Or.inl rfl), f _ _ _ h2 (Or.inr rfl), h3⟩
theorem TB.ex {G : GT} {h h' : AH} {x : Nat} {t : Int → Int} {n : Int} (hT : TB G h x t n) (f : Ex h h') : TB G h' x t n := hT.mv (fun q _ _ hq _ => f q _ hq)
theorem TB.fo {G : GT} {h h' : AH} {x o k1 k2 : Nat} {t : Int → Int} {n : Int} (hT : TB G h x t n) (f : FO o k1 k2 h h') (hne : o ≠ x ∨ k2 < 10570 ∨ 10571 < k1) : TB G h' x t n := hT.mv (fun q _ _ hq hk => f.at hq (by omega))
theorem TB.kt {G : GT} {h h' : AH} {x o k b : Nat} {t : Int → Int} {n : Int} (hT : TB G h x t n) (f : KT b (o, k) h h') (hne : o ≠ x ∨ k < 10570 ∨ 10571 < k) : TB G h' x t n := hT.fo f.fo hne
theorem PB.ex {G : GT} {h h' : AH} {p x a nl : Nat} {t : Int → Int} {n nx sa dp hs hw : Int} (hP : PB G h p x a nl t n nx sa dp hs hw) (f : Ex h h') : PB G h' p x a nl t n nx sa dp hs hw := ⟨⟨hP.1.1, f _ _ hP.1.2⟩, hP.2.1.ex f, hP.2.2⟩
theorem PB.fo {G : GT} {h h' : AH} {p x a nl o k1 k2 : Nat} {t : Int → Int} {n nx sa dp hs hw : Int} (hP : PB G h p x a nl t n nx sa dp hs hw) (f : FO o k1 k2 h h') (hne : k2 < 10570 ∨ 10580 < k1) : PB G h' p x a nl t n nx sa dp hs hw := ⟨⟨hP.1.1, f.at hP.1.2 (by omega)⟩, hP.2.1.fo f (by omega), hP.2.2⟩
theorem PB.kt {G : GT} {h h' : AH} {p x a nl o k b : Nat} {t : Int → Int} {n nx sa dp hs hw : Int} (hP : PB G h p x a nl t n nx sa dp hs hw) (f : KT b (o, k) h h') (hne : k < 10570 ∨ 10580 < k) : PB G h' p x a nl t n nx sa dp hs hw := hP.fo f.fo hne
theorem PB.txt {G : GT} {h : AH} {p x a nl : Nat} {t : Int → Int} {n nx sa dp hs hw : Int} (hP : PB G h p x a nl t n nx sa dp hs hw) : Txt t n := by
  obtain ⟨bf, fs, B, h0, h1, h2, h3, h4⟩ := hP.2.1
  exact h3
theorem PB.obj {G : GT} {h : AH} {p x a nl : Nat} {t : Int → Int} {n nx sa dp hs hw : Int} (hP : PB G h p x a nl t n nx sa dp hs hw) : h p = some ((p, 10580), ob 3 [.int (iI n), .ref nl, .ref a, .int (iI nx), .int (iI sa), .int (iI dp), .int (iI hs), .int (iI hw), .ref x]) := hP.1.2
/-- only the parser's own cell was written -/
abbrev PF (p : Nat) (h h' : AH) : Prop := KT p (p, 10580) h h'
theorem KT.rf {a : Nat} {t : Tg} {h : AH} : KT a t h h := fun _ _ _ x _ => x
theorem KT.tr {a : Nat} {t : Tg} {h h1 h2 : AH} (f : KT a t h h1) (g : KT a t h1 h2) : KT a t h h2 := fun b u x hb hu => g b u x (f b u x hb hu) hu
theorem KT.xe {a : Nat} {t : Tg} {h h1 h2 : AH} (f : KT a t h h1) (g : Ex h1 h2) : KT a t h h2 := fun b u x hb hu => g b _ (f b u x hb hu)
theorem KT.nwo {a : Nat} {t : Tg} {h h1 : AH} {q : Nat} {y : AE} (f : KT a t h h1) (ha : h1 a = some (t, y)) (n : Nw h1 q) : Nw h q := ⟨n.1, fun b u x hb => by
  by_cases e : u ≠ t ∨ b ≠ a
  · exact n.2 b u x (f b u x hb e)
  · have e1 : u = t := Classical.byContradiction (fun z => e (Or.inl z))
    have e2 : b = a := Classical.byContradiction (fun z => e (Or.inr z))
    rw [e1, e2]
    exact n.2 a t y ha⟩
theorem KT.nk {a q k : Nat} {t : Tg} {h h1 h2 : AH} (f : KT a t h h1) (g : KT q (q, k) h1 h2) (n : Nw h q) : KT a t h h2 := fun b u x hb hu => g b u x (f b u x hb hu) (Or.inr (n.ne hb))
theorem KT.no {a q k1 k2 : Nat} {t : Tg} {h h1 h2 : AH} (f : KT a t h h1) (g : FO q k1 k2 h1 h2) (n : Nw h q) : KT a t h h2 := fun b u x hb hu => g b u x (f b u x hb hu) (fun z => n.no hb z.1)
theorem KT.fp {p a b k : Nat} {h h1 : AH} (f : KT b (p, k) h h1) : FP p a h h1 := f.fo.fp (Or.inl rfl)
/-- a byte and what it is without its sign -/
theorem byt_iff {b c : Int} (h1 : -128 ≤ b) (h2 : b ≤ 127) (h3 : 0 ≤ c) (h4 : c ≤ 127) : b = c ↔ b % 256 = c := by omega
theorem byt_rg {b c d : Int} (h1 : -128 ≤ b) (h2 : b ≤ 127) (h3 : 0 ≤ c) (h4 : d ≤ 127) : (c ≤ b ∧ b ≤ d) ↔ (c ≤ b % 256 ∧ b % 256 ≤ d) := by omega
theorem sk_t {t : Int → Int} {p : Int} (h : t p = 32) (hp : p < 801) : sk t p = sk t (p + 1) := sc_t (decide_eq_true h) hp
theorem sk_f {t : Int → Int} {p : Int} (h : t p ≠ 32) : sk t p = p := sc_f (decide_eq_false h)
theorem we_t {t : Int → Int} {p : Int} (h : 97 ≤ t p ∧ t p ≤ 122) (hp : p < 801) : we t p = we t (p + 1) := sc_t (decide_eq_true h) hp
theorem we_f {t : Int → Int} {p : Int} (h : ¬ (97 ≤ t p ∧ t p ≤ 122)) : we t p = p := sc_f (decide_eq_false h)
/-- what a word of l letters costs -/
def wC (l : Nat) : Nat := 4 + l
def wS (l : Nat) : Nat := 32 + 5 * l
/-- where a parse ends -/
def en {α : Type} (r : PE (α × Int)) : Option Int := match r with | .ok (_, q) => some q | .error _ => none
def rC (n p : Int) (e : Option Int) : Nat := match e with | some q => 8 * (q - p).toNat | none => 8 * (n - p).toNat + 40
def rS (n p : Int) (e : Option Int) : Nat := match e with | some q => 40 * (q - p).toNat | none => 40 * (n - p).toNat + 200
theorem wd_nil {t : Int → Int} {a : Int} : wd t a a = [] := by
  have h := wd_len (t := t) (a := a) (b := a)
  exact List.length_eq_zero_iff.mp (by omega)
theorem fi_dropW {α : Type} [DecidableEq α] {l : List α} {w : α} {i : Nat} (h : ∀ j : Nat, j < i → l[j]? ≠ some w) (hi : i ≤ l.length) : fi l w = if fi (l.drop i) w = -1 then -1 else fi (l.drop i) w + i := by
  induction i generalizing l with
  | zero => simp
  | succ i ih =>
    cases l with
    | nil => simp at hi
    | cons a l =>
      have h0 := h 0 (by omega)
      simp only [List.getElem?_cons_zero, ne_eq, Option.some.injEq] at h0
      have := ih (l := l) (fun j hj => by have := h (j + 1) (by omega); rwa [List.getElem?_cons_succ] at this) (by simpa using hi)
      simp only [List.drop_succ_cons]
      show (if a = w then (0 : Int) else if fi l w = -1 then -1 else fi l w + 1) = _
      rw [if_neg h0, this]
      have rg := fi_rg (l := l.drop i) (w := w)
      by_cases q : fi (l.drop i) w = -1
      · simp [q]
      · rw [if_neg q, if_neg q, if_neg (by omega)]
        omega
theorem fi_atW {α : Type} [DecidableEq α] {l : List α} {w : α} {i : Nat} (h : ∀ j : Nat, j < i → l[j]? ≠ some w) (hi : l[i]? = some w) : fi l w = i := by
  have hl := (List.getElem?_eq_some_iff.mp hi).1
  rw [fi_dropW h (by omega)]
  have e : l.drop i = w :: l.drop (i + 1) := by
    rw [List.drop_eq_getElem_cons hl]
    congr 1
    rw [List.getElem?_eq_getElem hl] at hi
    exact Option.some.inj hi
  rw [e]
  have : fi (w :: l.drop (i + 1)) w = 0 := by unfold fi; rw [if_pos rfl]
  rw [this]
  simp
theorem fi_noneW {α : Type} [DecidableEq α] {l : List α} {w : α} (h : ∀ j : Nat, j < l.length → l[j]? ≠ some w) : fi l w = -1 := by
  rw [fi_dropW h (Nat.le_refl _), List.drop_length]
  rfl
