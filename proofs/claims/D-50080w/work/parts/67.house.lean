/-! ===== a house ===== -/
set_option maxRecDepth 100000
theorem ww_castN {G : GT} {E : ET} {M : MT} {h : AH} {n k pc : Nat} {L : List (Nat × Value)} {st : List Value} {index : Nat} (d : decode (mcc M) pc = .ok (.checkcast index, 3)) (kk : WW G E M h n k (pc + 3) L (.null :: st)) : WW G E M h n k pc L (.null :: st) :=
  fun hE H locs ls hR hS hl => lv_castN hE.x hE.b d (kk hE H locs ls hR hS hl)
/-- two lists, place by place -/
def Z2 {α β : Type} (P : α → β → Prop) : List α → List β → Prop
  | [], [] => True
  | a :: l, b :: m => P a b ∧ Z2 P l m
  | _, _ => False
theorem Z2.len {α β : Type} {P : α → β → Prop} : ∀ {l : List α} {m : List β}, Z2 P l m → l.length = m.length
  | [], [], _ => rfl
  | _ :: _, _ :: _, h => by simp only [List.length_cons]; rw [Z2.len h.2]
  | [], _ :: _, h => h.elim
  | _ :: _, [], h => h.elim
theorem Z2.mono {α β : Type} {P Q : α → β → Prop} (f : ∀ a b, P a b → Q a b) : ∀ {l : List α} {m : List β}, Z2 P l m → Z2 Q l m
  | [], [], _ => trivial
  | _ :: _, _ :: _, h => ⟨f _ _ h.1, Z2.mono f h.2⟩
  | [], _ :: _, h => h.elim
  | _ :: _, [], h => h.elim
theorem Z2.get {α β : Type} {P : α → β → Prop} : ∀ {l : List α} {m : List β} {i : Nat} {a : α}, Z2 P l m → l[i]? = some a → ∃ b, m[i]? = some b ∧ P a b
  | [], [], i, a, _, h => by simp at h
  | x :: l, y :: m, 0, a, hz, h => by cases h; exact ⟨y, rfl, hz.1⟩
  | x :: l, y :: m, i + 1, a, hz, h => by
    rw [List.getElem?_cons_succ] at h ⊢
    exact Z2.get hz.2 h
  | [], _ :: _, _, _, h, _ => h.elim
  | _ :: _, [], _, _, h, _ => h.elim
theorem Z2.snoc {α β : Type} {P : α → β → Prop} {a : α} {b : β} (hp : P a b) : ∀ {l : List α} {m : List β}, Z2 P l m → Z2 P (l ++ [a]) (m ++ [b])
  | [], [], _ => ⟨hp, trivial⟩
  | _ :: _, _ :: _, h => ⟨h.1, Z2.snoc hp h.2⟩
  | [], _ :: _, h => h.elim
  | _ :: _, [], h => h.elim
theorem Z2.erase {α β : Type} {P : α → β → Prop} : ∀ {l : List α} {m : List β} {i : Nat}, Z2 P l m → Z2 P (l.eraseIdx i) (m.eraseIdx i)
  | [], [], _, _ => trivial
  | _ :: _, _ :: _, 0, h => h.2
  | _ :: _, _ :: _, i + 1, h => ⟨h.1, Z2.erase h.2⟩
  | [], _ :: _, _, h => h.elim
  | _ :: _, [], _, h => h.elim
abbrev LV : Type := List Int × Int × Int × List Int
/-- the library k at x: word, trust, keeps, preferences -/
def LBc (G : GT) (h : AH) (a r k x : Nat) (v : LV) : Prop := ∃ ws pl px, h x = some ((a, 10050 + k), ob 5 [.ref ws, .ref pl, .int (iI v.2.1), .int (iI v.2.2.1)]) ∧ StO G h ws ws v.1 ∧ AL G h r (10060 + 2 * k) pl px ∧ Z2 (IV G h) px v.2.2.2 ∧ (v.2.2.1 = 0 ∨ v.2.2.1 = 1)
def LBs (G : GT) (h : AH) (a r : Nat) (lx : List Nat) (lb : List LV) : Prop := lx.length = lb.length ∧ ∀ k x v, lx[k]? = some x → lb[k]? = some v → LBc G h a r k x v
/-- names, libraries, loaded ones, weight of the house a; r: whose the names and preferences are -/
def HR (G : GT) (h : AH) (a r nl al ll w : Nat) (nx lx dx : List Nat) (nm : List (List Int)) (lb : List LV) (ld : List Int) (fn : EF) : Prop := (AL G h r 10010 nl nx ∧ Z2 (fun x w => StO G h x x w) nx nm) ∧ (AL G h a 10020 al lx ∧ LBs G h a r lx lb) ∧ (AL G h a 10030 ll dx ∧ Z2 (IV G h) dx ld) ∧ WT G h 800 w fn
def HSd (G : GT) (h : AH) (a r nl al am ll w : Nat) (nx lx dx : List Nat) (nm : List (List Int)) (lb : List LV) (of : Int → Int → Int) (ld : List Int) (sh : Int) (fn : EF) : Prop := a ≠ 0 ∧ r ≠ 0 ∧ h a = some ((a, 10500), ob 1 [.ref nl, .ref al, .ref am, .ref ll, .ref w, .int (iI sh)]) ∧ HR G h a r nl al ll w nx lx dx nm lb ld fn ∧ HM G h a am of ∧ lb.length ≤ 8
def HS (G : GT) (h : AH) (a r : Nat) (nm : List (List Int)) (lb : List LV) (of : Int → Int → Int) (ld : List Int) (sh : Int) (fn : EF) : Prop := ∃ nl al am ll w nx lx dx, HSd G h a r nl al am ll w nx lx dx nm lb of ld sh fn
theorem LBc.ex {G : GT} {h h' : AH} {a r k x : Nat} {v : LV} (hB : LBc G h a r k x v) (f : Ex h h') : LBc G h' a r k x v := by
  obtain ⟨ws, pl, px, h1, h2, h3, h4, h5⟩ := hB
  exact ⟨ws, pl, px, f _ _ h1, h2.ex f, h3.ex f, h4.mono (fun _ _ q => q.ex f), h5⟩
theorem LBc.fo {G : GT} {h h' : AH} {a r k x o k1 k2 : Nat} {v : LV} (hB : LBc G h a r k x v) (f : FO o k1 k2 h h') (ho : o ≠ 0) (hk : k < 8) (hne : ((a ≠ o ∧ r ≠ o) ∨ 10075 < k1 ∨ k2 < 10050) ∧ (10004 < k1 ∨ k2 < 10000)) : LBc G h' a r k x v := by
  obtain ⟨ws, pl, px, h1, h2, h3, h4, h5⟩ := hB
  exact ⟨ws, pl, px, f.at h1 (by omega), h2.fo f (by omega), h3.fo f ho (by omega), h4.mono (fun _ _ q => q.fo f ho (by omega)), h5⟩
theorem LBs.ex {G : GT} {h h' : AH} {a r : Nat} {lx : List Nat} {lb : List LV} (hB : LBs G h a r lx lb) (f : Ex h h') : LBs G h' a r lx lb := ⟨hB.1, fun k x v h1 h2 => (hB.2 k x v h1 h2).ex f⟩
theorem LBs.fo {G : GT} {h h' : AH} {a r o k1 k2 : Nat} {lx : List Nat} {lb : List LV} (hB : LBs G h a r lx lb) (f : FO o k1 k2 h h') (ho : o ≠ 0) (h8 : lb.length ≤ 8) (hne : ((a ≠ o ∧ r ≠ o) ∨ 10075 < k1 ∨ k2 < 10050) ∧ (10004 < k1 ∨ k2 < 10000)) : LBs G h' a r lx lb :=
  ⟨hB.1, fun k x v h1 h2 => (hB.2 k x v h1 h2).fo f ho (by have := (List.getElem?_eq_some_iff.mp h2).1; omega) hne⟩
theorem HR.ex {G : GT} {h h' : AH} {a r nl al ll w : Nat} {nx lx dx : List Nat} {nm : List (List Int)} {lb : List LV} {ld : List Int} {fn : EF} (hR : HR G h a r nl al ll w nx lx dx nm lb ld fn) (f : Ex h h') : HR G h' a r nl al ll w nx lx dx nm lb ld fn := by
  obtain ⟨⟨a1, a2⟩, ⟨a3, a4⟩, ⟨a5, a6⟩, a7⟩ := hR
  exact ⟨⟨a1.ex f, a2.mono (fun _ _ q => q.ex f)⟩, ⟨a3.ex f, a4.ex f⟩, ⟨a5.ex f, a6.mono (fun _ _ q => q.ex f)⟩, a7.ex f⟩
theorem HR.fo {G : GT} {h h' : AH} {a r nl al ll w o k1 k2 : Nat} {nx lx dx : List Nat} {nm : List (List Int)} {lb : List LV} {ld : List Int} {fn : EF} (hR : HR G h a r nl al ll w nx lx dx nm lb ld fn) (f : FO o k1 k2 h h') (ho : o ≠ 0) (h8 : lb.length ≤ 8) (hne : ((a ≠ o ∧ r ≠ o) ∨ 10075 < k1 ∨ k2 < 10010) ∧ (10004 < k1 ∨ k2 < 10000)) : HR G h' a r nl al ll w nx lx dx nm lb ld fn := by
  obtain ⟨⟨a1, a2⟩, ⟨a3, a4⟩, ⟨a5, a6⟩, a7⟩ := hR
  exact ⟨⟨a1.fo f ho (by omega), a2.mono (fun _ _ q => q.fo f (by omega))⟩, ⟨a3.fo f ho (by omega), a4.fo f ho h8 (by omega)⟩, ⟨a5.fo f ho (by omega), a6.mono (fun _ _ q => q.fo f ho (by omega))⟩, a7.fo f ho (by omega)⟩
theorem HS.ex {G : GT} {h h' : AH} {a r : Nat} {nm : List (List Int)} {lb : List LV} {of : Int → Int → Int} {ld : List Int} {sh : Int} {fn : EF} (hS : HS G h a r nm lb of ld sh fn) (f : Ex h h') : HS G h' a r nm lb of ld sh fn := by
  obtain ⟨nl, al, am, ll, w, nx, lx, dx, h1, h2, h3, h4, h5, h6⟩ := hS
  exact ⟨nl, al, am, ll, w, nx, lx, dx, h1, h2, f _ _ h3, h4.ex f, h5.ex f, h6⟩
theorem HS.fo {G : GT} {h h' : AH} {a r o k1 k2 : Nat} {nm : List (List Int)} {lb : List LV} {of : Int → Int → Int} {ld : List Int} {sh : Int} {fn : EF} (hS : HS G h a r nm lb of ld sh fn) (f : FO o k1 k2 h h') (ho : o ≠ 0) (hne : ((a ≠ o ∧ r ≠ o) ∨ 10500 < k1 ∨ k2 < 10010) ∧ (10004 < k1 ∨ k2 < 10000)) : HS G h' a r nm lb of ld sh fn := by
  obtain ⟨nl, al, am, ll, w, nx, lx, dx, h1, h2, h3, h4, h5, h6⟩ := hS
  exact ⟨nl, al, am, ll, w, nx, lx, dx, h1, h2, f.at h3 (by omega), h4.fo f ho h6 (by omega), h5.fo f ho (by omega), h6⟩
theorem HM.obj {G : GT} {h : AH} {o a : Nat} {of : Int → Int → Int} (hM : HM G h o a of) : ∃ fs, h a = some ((o, 10200), ob 11 fs) := by
  obtain ⟨N, tr, mc, tb, X, A, K, V, bk, h1, h2⟩ := hM
  exact ⟨_, h1.2.1⟩
theorem code_of {k n : Int} (h1 : 0 ≤ k) (h2 : k < 8) (h3 : 0 ≤ n) (h4 : n < 12) : ∃ c : Nat, c < 128 ∧ c % 16 < 12 ∧ ((c / 16 : Nat) : Int) = k ∧ ((c % 16 : Nat) : Int) = n := ⟨(16 * k + n).toNat, by omega, by omega, by omega, by omega⟩
theorem lvo_of {of : Int → Int → Int} {c : Nat} (h1 : c < 128) (h2 : c % 16 < 12) (h : lvo of c = false) : of ((c / 16 : Nat) : Int) ((c % 16 : Nat) : Int) = -1 := Classical.byContradiction (fun n => by
  have : lvo of c = true := decide_eq_true ⟨h1, h2, n⟩
  rw [h] at this; cases this)
theorem fi_at {l : List Int} {w : Int} {i : Nat} (h : ∀ j : Nat, j < i → l[j]? ≠ some w) (hi : l[i]? = some w) : fi l w = i := by
  have hl := (List.getElem?_eq_some_iff.mp hi).1
  rw [fi_drop h (by omega)]
  have e : l.drop i = w :: l.drop (i + 1) := by
    rw [List.drop_eq_getElem_cons hl]
    congr 1
    rw [List.getElem?_eq_getElem hl] at hi
    exact Option.some.inj hi
  rw [e]
  have : fi (w :: l.drop (i + 1)) w = 0 := by unfold fi; rw [if_pos rfl]
  rw [this]
  simp
theorem fi_none {l : List Int} {w : Int} (h : ∀ j : Nat, j < l.length → l[j]? ≠ some w) : fi l w = -1 := by
  rw [fi_drop h (Nat.le_refl _), List.drop_length]
  rfl
theorem IVs.el {G : GT} {h : AH} {o k : Nat} {dx : List Nat} {ld : List Int} (hZ : Z2 (IV G h) dx ld) (hk : 10002 < k) : ELm h o k 15 dx := by
  intro x hx
  obtain ⟨i, hi⟩ := List.getElem?_of_mem hx
  obtain ⟨v, -, o9, k9, h1, h2⟩ := hZ.get hi
  exact ⟨o9, k9, _, h1, by omega⟩
theorem LBs.el {G : GT} {h : AH} {a r : Nat} {lx : List Nat} {lb : List LV} (hB : LBs G h a r lx lb) : ELm h a 10020 5 lx := by
  intro x hx
  obtain ⟨i, hi⟩ := List.getElem?_of_mem hx
  have hl := (List.getElem?_eq_some_iff.mp hi).1
  obtain ⟨ws, pl, px, h1, -⟩ := hB.2 i x _ hi (List.getElem?_eq_getElem (by rw [← hB.1]; exact hl))
  exact ⟨a, 10050 + i, _, h1, by omega⟩
theorem StOs.el {G : GT} {h : AH} {o k : Nat} {nx : List Nat} {nm : List (List Int)} (hZ : Z2 (fun x w => StO G h x x w) nx nm) (hk : 10002 < k) : ELm h o k 13 nx := by
  intro x hx
  obtain ⟨i, hi⟩ := List.getElem?_of_mem hx
  obtain ⟨v, -, h1⟩ := hZ.get hi
  obtain ⟨fs, h2⟩ := h1.obj
  exact ⟨x, 10000, fs, h2, by omega⟩
/-- friends of k: loaded ones that prefer it -/
def fri (lb : List LV) (ld : List Int) (k : Int) : Int := smI (ld.length : Int) (fun i => bI (k ∈ prf lb (ld.getD i.toNat 0)))
/-- offers that are told up to (k, n) -/
def ofp (of : Int → Int → Int) (k n : Int) : Int → Int → Int := fun i j => if i < k ∨ (i = k ∧ j < n) then of i j else -1
theorem ofp_0 {of : Int → Int → Int} (h : ∀ i j : Int, i < 0 ∨ j < 0 → of i j = -1) : ofp of 0 0 = fun _ _ => -1 := by
  funext i j
  unfold ofp
  split
  · rename_i q; exact h i j (by omega)
  · rfl
theorem ofp_put {of : Int → Int → Int} {k n : Int} : o2 (ofp of k n) k n (of k n) = ofp of k (n + 1) := by
  funext i j
  unfold o2 ofp
  by_cases c : i = k ∧ j = n
  · rw [if_pos c, if_pos (by omega), c.1, c.2]
  · rw [if_neg c]
    by_cases d : i < k ∨ (i = k ∧ j < n)
    · rw [if_pos d, if_pos (by omega)]
    · rw [if_neg d, if_neg (by omega)]
theorem ofp_row {of : Int → Int → Int} {k nn : Int} (h : ∀ j : Int, j < 0 ∨ nn ≤ j → of k j = -1) : ofp of k nn = ofp of (k + 1) 0 ∨ True := Or.inr trivial
theorem ofp_nx {of : Int → Int → Int} {k nn : Int} (h : ∀ i j : Int, j < 0 ∨ nn ≤ j → of i j = -1) : ofp of k nn = ofp of (k + 1) 0 := by
  funext i j
  unfold ofp
  by_cases c : i < k + 1 ∨ (i = k + 1 ∧ j < 0)
  · rw [if_pos c]
    by_cases d : i < k ∨ (i = k ∧ j < nn)
    · rw [if_pos d]
    · rw [if_neg d]; exact (h i j (by omega)).symm
  · rw [if_neg c, if_neg (by omega)]
theorem ofp_end {of : Int → Int → Int} {k : Int} (h : ∀ i j : Int, k ≤ i ∨ j < 0 → of i j = -1) : ofp of k 0 = of := by
  funext i j
  unfold ofp
  split
  · rfl
  · rename_i q; exact (h i j (by omega)).symm
theorem VRes.t {G : GT} {r : Option Nat} (h : VRes G kwTrust r) : r = some (lob G 1) := by
  rcases h with ⟨k, h1, h2, h3, h4⟩ | ⟨h1, -⟩
  · have : k = 1 := by
      have : k = 1 ∨ k = 2 ∨ k = 3 ∨ k = 4 := by omega
      rcases this with e | e | e | e
      · exact e
      · subst e; exact absurd h3 (by decide)
      · subst e; exact absurd h3 (by decide)
      · subst e; exact absurd h3 (by decide)
    rw [h4, this]
  · exact absurd rfl h1
theorem WT.v {G : GT} {h : AH} (hL : LitC G h) {k : Nat} (h1 : 1 ≤ k) (h2 : k ≤ 4) : WT G h 800 (lob G k) (fvar k) := Or.inl ⟨k, h1, h2, rfl, hL.2.2 k h1 h2, rfl⟩
theorem LBs.kt {G : GT} {h h' : AH} {a r o j b : Nat} {lx : List Nat} {lb : List LV} (hB : LBs G h a r lx lb) (f : KT b (o, j) h h') (ho : o ≠ 0) (h8 : lb.length ≤ 8) (hne : ((a ≠ o ∧ r ≠ o) ∨ 10075 < j ∨ j < 10050) ∧ (10004 < j ∨ j < 10000)) : LBs G h' a r lx lb := hB.fo f.fo ho h8 hne
theorem LBs.snoc {G : GT} {h : AH} {a r x : Nat} {lx : List Nat} {lb : List LV} {v : LV} (hB : LBs G h a r lx lb) (hx : LBc G h a r lb.length x v) : LBs G h a r (lx ++ [x]) (lb ++ [v]) := by
  refine ⟨by rw [List.length_append, List.length_append, hB.1]; rfl, fun k y u h1 h2 => ?_⟩
  by_cases hk : k < lb.length
  · rw [List.getElem?_append_left (by rw [hB.1]; exact hk)] at h1
    rw [List.getElem?_append_left hk] at h2
    exact hB.2 k y u h1 h2
  · have hl := (List.getElem?_eq_some_iff.mp h2).1
    rw [List.length_append, List.length_singleton] at hl
    have e : k = lb.length := by omega
    subst e
    rw [List.getElem?_append_right (by rw [hB.1]; exact Nat.le_refl _), hB.1, Nat.sub_self] at h1
    rw [List.getElem?_append_right (Nat.le_refl _), Nat.sub_self] at h2
    cases h1; cases h2
    exact hx
