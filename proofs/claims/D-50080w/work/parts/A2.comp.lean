/-! ===== the component's world ===== -/
set_option maxRecDepth 100000
/-- a house: names, libraries, offers, loaded ones, share, weight -/
abbrev HV : Type := List (List Int) × List LV × (Int → Int → Int) × List Int × Int × EF
abbrev HV.nm (v : HV) : List (List Int) := v.1
abbrev HV.lb (v : HV) : List LV := v.2.1
abbrev HV.of (v : HV) : Int → Int → Int := v.2.2.1
abbrev HV.ld (v : HV) : List Int := v.2.2.2.1
abbrev HV.sh (v : HV) : Int := v.2.2.2.2.1
abbrev HV.fn (v : HV) : EF := v.2.2.2.2.2
abbrev HSv (G : GT) (h : AH) (a r : Nat) (v : HV) : Prop := HS G h a r v.nm v.lb v.of v.ld v.sh v.fn
def HVok (v : HV) : Prop := v.nm.length ≤ 12 ∧ v.lb.length ≤ 8 ∧ (∀ x ∈ v.ld, 0 ≤ x ∧ x < (v.lb.length : Int)) ∧ v.ld.Nodup ∧ (∀ y ∈ v.lb, ∀ x ∈ y.2.2.2, 0 ≤ x ∧ x < (v.lb.length : Int)) ∧ (∀ y ∈ v.lb, 0 ≤ y.2.1 ∧ y.2.1 ≤ 999) ∧ (∀ y ∈ v.lb, y.2.2.2.length ≤ 8) ∧ (∀ k n : Int, -2 - (v.nm.length : Int) < v.of k n ∧ v.of k n ≤ 9999) ∧ (∀ k n : Int, k < 0 ∨ n < 0 ∨ (v.lb.length : Int) ≤ k ∨ (v.nm.length : Int) ≤ n → v.of k n = -1) ∧ (0 ≤ v.sh ∧ v.sh ≤ 100)
theorem HVok.ld8 {v : HV} (h : HVok v) : v.ld.length ≤ 8 := by
  have := nodup_lt v.lb.length v.ld h.2.2.2.1 h.2.2.1
  have := h.2.1
  omega
theorem HVok.ofi {v : HV} (h : HVok v) : ∀ k n : Int, inI (v.of k n) := fun k n => by
  have h1 := h.2.2.2.2.2.2.2.1 k n
  have := h.1
  exact inI.mk (by omega) (by omega)
theorem HVok.ldi {v : HV} (h : HVok v) : ∀ x ∈ v.ld, inI x := fun x hx => by
  have h1 := h.2.2.1 x hx
  have := h.2.1
  exact inI.mk (by omega) (by omega)
def CO (h : AH) (x bf hd a : Nat) (bl eo : Int) : Prop := x ≠ 0 ∧ h x = some ((x, 10570), ob 0 [.ref bf, .ref hd, .ref a, .int (iI bl), .int (iI eo)])
def BUF (G : GT) (h : AH) (x bf : Nat) (B : Int → Int) : Prop := h bf = some ((x, 10571), aA G 1 800 B) ∧ ∀ q : Int, 0 ≤ q → q < 800 → -128 ≤ B q ∧ B q ≤ 127
def HIS (G : GT) (h : AH) (xs : List Nat) (hist : List HV) : Prop := Z2 (fun y v => (∃ r, HSv G h y r v) ∧ HVok v) xs hist
def CWd (G : GT) (h : AH) (x bf hd a r : Nat) (xs : List Nat) (B : Int → Int) (bl eo : Int) (cur : HV) (hist : List HV) : Prop := CO h x bf hd a bl eo ∧ BUF G h x bf B ∧ DQ G h x 10572 hd xs ∧ HSv G h a r cur ∧ HVok cur ∧ HIS G h xs hist ∧ (0 ≤ bl ∧ bl ≤ 800) ∧ inI eo ∧ LitC G h
def CW (G : GT) (h : AH) (x : Nat) (B : Int → Int) (bl eo : Int) (cur : HV) (hist : List HV) : Prop := ∃ bf hd a r xs, CWd G h x bf hd a r xs B bl eo cur hist
/-- only what x owns was written -/
abbrev FX (x : Nat) (h h' : AH) : Prop := FO x 10570 10575 h h'
theorem HIS.ex {G : GT} {h h' : AH} {xs : List Nat} {hist : List HV} (hI : HIS G h xs hist) (f : Ex h h') : HIS G h' xs hist := hI.mono (fun _ _ q => ⟨by obtain ⟨r, h1⟩ := q.1; exact ⟨r, h1.ex f⟩, q.2⟩)
theorem HIS.fx {G : GT} {h h' : AH} {x k1 k2 : Nat} {xs : List Nat} {hist : List HV} (hI : HIS G h xs hist) (f : FO x k1 k2 h h') (hx : x ≠ 0) (hk : 10500 < k1) : HIS G h' xs hist := hI.mono (fun _ _ q => ⟨by obtain ⟨r, h1⟩ := q.1; exact ⟨r, h1.fo f hx (by omega)⟩, q.2⟩)
theorem HS.own {G : GT} {h : AH} {a r q : Nat} {nm : List (List Int)} {lb : List LV} {of : Int → Int → Int} {ld : List Int} {sh : Int} {fn : EF} (hS : HS G h a r nm lb of ld sh fn) (n : Nw h q) : a ≠ q ∧ r ≠ q := by
  obtain ⟨nl, al, am, ll, w, nx, lx, dx, h1, h2, h3, ⟨⟨h4, -⟩, -⟩, -⟩ := hS
  obtain ⟨fs, h5⟩ := h4.obj
  exact ⟨n.no h3, n.no h5⟩
/-- a new house alone was written -/
theorem HIS.nw {G : GT} {h h1 h2 : AH} {q k1 k2 : Nat} {xs : List Nat} {hist : List HV} (hI : HIS G h1 xs hist) (hI0 : HIS G h xs hist) (e : Ex h h1) (f : FO q k1 k2 h1 h2) (n : Nw h q) : HIS G h2 xs hist := hI0.ex (fun b y hb => f b y.1 y.2 (e _ _ hb) (fun z => n.no (t := y.1) (x := y.2) hb z.1))
theorem CWd.ex {G : GT} {h h' : AH} {x bf hd a r : Nat} {xs : List Nat} {B : Int → Int} {bl eo : Int} {cur : HV} {hist : List HV} (hC : CWd G h x bf hd a r xs B bl eo cur hist) (f : Ex h h') : CWd G h' x bf hd a r xs B bl eo cur hist := by
  obtain ⟨⟨h1, h2⟩, ⟨h3, h4⟩, h5, h6, h7, h8, h9, h10, h11⟩ := hC
  exact ⟨⟨h1, f _ _ h2⟩, ⟨f _ _ h3, h4⟩, h5.ex f, h6.ex f, h7, h8.ex f, h9, h10, h11.ex f⟩
theorem CW.ex {G : GT} {h h' : AH} {x : Nat} {B : Int → Int} {bl eo : Int} {cur : HV} {hist : List HV} (hC : CW G h x B bl eo cur hist) (f : Ex h h') : CW G h' x B bl eo cur hist := by
  obtain ⟨bf, hd, a, r, xs, h1⟩ := hC
  exact ⟨bf, hd, a, r, xs, h1.ex f⟩
def hpush (hist : List HV) (v : HV) : List HV := (if hist.length = 8 then hist.tail else hist) ++ [v]
abbrev ioN : String := "java/lang/IndexOutOfBoundsException"
abbrev iaN : String := "java/lang/IllegalArgumentException"
abbrev isN : String := "java/lang/IllegalStateException"
/-- thrown, with the condition P, nothing old changed -/
def XJ (h : AH) (P : String → Prop) : String → Nat → AH → Prop := fun X _ h' => P X ∧ Ex h h'
theorem XJ.go {h h1 h' : AH} {P Q : String → Prop} {X : String} {q : Nat} (hx : XJ h1 P X q h') (e : Ex h h1) (f : ∀ X, P X → Q X) : XJ h Q X q h' := ⟨f X hx.1, e.tr hx.2⟩
/-- the same history, and nothing of it is q's -/
def HISn (G : GT) (h : AH) (q : Nat) (xs : List Nat) (hist : List HV) : Prop := Z2 (fun y v => (∃ r, HSv G h y r v ∧ y ≠ q ∧ r ≠ q) ∧ HVok v) xs hist
theorem HIS.n {G : GT} {h : AH} {q : Nat} {xs : List Nat} {hist : List HV} (hI : HIS G h xs hist) (n : Nw h q) : HISn G h q xs hist := hI.mono (fun _ _ z => ⟨by obtain ⟨r, h1⟩ := z.1; exact ⟨r, h1, h1.own n⟩, z.2⟩)
theorem HIS.nx {G : GT} {h h' : AH} {q : Nat} {xs : List Nat} {hist : List HV} (hI : HIS G h xs hist) (n : Nw h q) (e : Ex h h') : HISn G h' q xs hist := hI.mono (fun _ _ z => ⟨by obtain ⟨r, h1⟩ := z.1; exact ⟨r, h1.ex e, h1.own n⟩, z.2⟩)
theorem HISn.his {G : GT} {h : AH} {q : Nat} {xs : List Nat} {hist : List HV} (hI : HISn G h q xs hist) : HIS G h xs hist := hI.mono (fun _ _ z => ⟨by obtain ⟨r, h1, -⟩ := z.1; exact ⟨r, h1⟩, z.2⟩)
theorem HISn.ex {G : GT} {h h' : AH} {q : Nat} {xs : List Nat} {hist : List HV} (hI : HISn G h q xs hist) (f : Ex h h') : HISn G h' q xs hist := hI.mono (fun _ _ z => ⟨by obtain ⟨r, h1, h2⟩ := z.1; exact ⟨r, h1.ex f, h2⟩, z.2⟩)
theorem HISn.fx {G : GT} {h h' : AH} {q x k1 k2 : Nat} {xs : List Nat} {hist : List HV} (hI : HISn G h q xs hist) (f : FO x k1 k2 h h') (hx : x ≠ 0) (hk : 10500 < k1) : HISn G h' q xs hist := hI.mono (fun _ _ z => ⟨by obtain ⟨r, h1, h2⟩ := z.1; exact ⟨r, h1.fo f hx (by omega), h2⟩, z.2⟩)
theorem HISn.fo {G : GT} {h h' : AH} {q k1 k2 : Nat} {xs : List Nat} {hist : List HV} (hI : HISn G h q xs hist) (f : FO q k1 k2 h h') (hq : q ≠ 0) (hk : 10004 < k1) : HISn G h' q xs hist := hI.mono (fun _ _ z => ⟨by obtain ⟨r, h1, h2⟩ := z.1; exact ⟨r, h1.fo f hq (by omega), h2⟩, z.2⟩)
theorem HISn.len {G : GT} {h : AH} {q : Nat} {xs : List Nat} {hist : List HV} (hI : HISn G h q xs hist) : xs.length = hist.length := Z2.len hI
theorem HIS.len {G : GT} {h : AH} {xs : List Nat} {hist : List HV} (hI : HIS G h xs hist) : xs.length = hist.length := Z2.len hI
theorem HS.obj {G : GT} {h : AH} {a r : Nat} {nm : List (List Int)} {lb : List LV} {of : Int → Int → Int} {ld : List Int} {sh : Int} {fn : EF} (hS : HS G h a r nm lb of ld sh fn) : a ≠ 0 ∧ ∃ fs, h a = some ((a, 10500), ob 1 fs) := by
  obtain ⟨nl, al, am, ll, w, nx, lx, dx, h1, h2, h3, h4⟩ := hS
  exact ⟨h1, _, h3⟩
def by8 (z : Int) : Int := Int.bmod z 256
theorem by8_rg (z : Int) : -128 ≤ by8 z ∧ by8 z ≤ 127 ∧ by8 z % 256 = z % 256 := by
  unfold by8
  rw [Int.bmod_def]
  split <;> omega
theorem i2b_m (z : Int) : (iI z).toInt8.toInt32 = iI (by8 z) := by
  have h1 := by8_rg z
  have h2 : inI (by8 z) := inI.mk (by omega) (by omega)
  rw [← Int32.toInt_inj, Int8.toInt_toInt32, Int32.toInt_toInt8, iI_toInt h2]
  have e : (iI z).toInt = Int.bmod z 4294967296 := by
    show (Int32.ofInt z).toInt = _
    rw [Int32.toInt_ofInt]
  rw [e]
  unfold by8
  rw [show (2 ^ 8 : Nat) = 256 from rfl]
  rw [Int.bmod_def, Int.bmod_def, Int.bmod_def]
  split <;> split <;> split <;> omega
theorem Z2.last {α β : Type} {P : α → β → Prop} : ∀ {l : List α} {m : List β}, Z2 P l m → m ≠ [] → ∃ ys y0 hs v, l = ys ++ [y0] ∧ m = hs ++ [v] ∧ Z2 P ys hs ∧ P y0 v
  | [], [], _, hn => absurd rfl hn
  | [a], [b], h, _ => ⟨[], a, [], b, rfl, rfl, trivial, h.1⟩
  | a :: a2 :: l, b :: b2 :: m, h, _ => by
    obtain ⟨ys, y0, hs, v, e1, e2, h1, h2⟩ := Z2.last (l := a2 :: l) (m := b2 :: m) h.2 (by simp)
    exact ⟨a :: ys, y0, b :: hs, v, by rw [e1]; rfl, by rw [e2]; rfl, ⟨h.1, h1⟩, h2⟩
  | [], _ :: _, h, _ => h.elim
  | _ :: _, [], h, _ => h.elim
  | [_], _ :: _ :: _, h, _ => h.2.elim
  | _ :: _ :: _, [_], h, _ => h.2.elim
theorem DQ.fo9 {G : GT} {h h' : AH} {o a : Nat} {xs : List Nat} (hA : DQ G h o 10572 a xs) (f : ∀ q k y, h q = some ((o, k), y) → (k = 10572 ∨ k = 10573) → h' q = some ((o, k), y)) : DQ G h' o 10572 a xs := by
  obtain ⟨r, hd, g, h0, h1, h2, h3⟩ := hA
  exact ⟨r, hd, g, h0, f _ _ _ h1 (Or.inl rfl), f _ _ _ h2 (Or.inr rfl), h3⟩
