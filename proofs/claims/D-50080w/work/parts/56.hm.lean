/-! ===== HashMap: chains as plain functions of codes 16 * library + name ===== -/
set_option maxRecDepth 100000
def ux {α : Type} (X : Nat → α) (c : Nat) (v : α) : Nat → α := fun d => if d = c then v else X d
theorem ux_s {α : Type} {X : Nat → α} {c : Nat} {v : α} : ux X c v c = v := if_pos rfl
theorem ux_n {α : Type} {X : Nat → α} {c d : Nat} {v : α} (h : d ≠ c) : ux X c v d = X d := if_neg h
def Pth (X : Nat → Option Nat) : Option Nat → List Nat → Prop
  | r, [] => r = none
  | r, c :: l => r = some c ∧ Pth X (X c) l
theorem Pth.cg {X Y : Nat → Option Nat} : ∀ {l : List Nat} {r : Option Nat}, Pth X r l → (∀ c ∈ l, Y c = X c) → Pth Y r l
  | [], _, h, _ => h
  | c :: l, r, h, e => ⟨h.1, by rw [e c List.mem_cons_self]; exact h.2.cg (fun d hd => e d (List.mem_cons_of_mem _ hd))⟩
theorem Pth.up {X : Nat → Option Nat} {l : List Nat} {r v : Option Nat} {c : Nat} (h : Pth X r l) (hc : c ∉ l) : Pth (ux X c v) r l := h.cg (fun d hd => ux_n (fun e => hc (e ▸ hd)))
theorem Pth.head {X : Nat → Option Nat} {l : List Nat} {r : Option Nat} (h : Pth X r l) : r = l.head? := by
  cases l with
  | nil => exact h
  | cons c l => exact h.1
theorem Pth.nil {X : Nat → Option Nat} {l : List Nat} (h : Pth X none l) : l = [] := by
  cases l with
  | nil => rfl
  | cons c l => cases h.1
theorem Pth.cons {X : Nat → Option Nat} {l : List Nat} {d : Nat} (h : Pth X (some d) l) : ∃ l', l = d :: l' ∧ Pth X (X d) l' := by
  cases l with
  | nil => cases h
  | cons c l => cases h.1; exact ⟨l, rfl, h.2⟩
/-- a path at its end: a new code behind it -/
theorem Pth.snoc {X : Nat → Option Nat} {d c : Nat} : ∀ {l : List Nat} {r : Option Nat}, Pth X r (l ++ [d]) → (l ++ [d]).Nodup → c ∉ l ++ [d] → Pth (ux (ux X c none) d (some c)) r ((l ++ [d]) ++ [c])
  | [], r, h, _, hc => by
    have e : c ≠ d := fun e => hc (by rw [e]; exact List.mem_cons_self)
    exact ⟨h.1, by rw [ux_s], by rw [ux_n e, ux_s]; rfl⟩
  | a :: l, r, h, hn, hc => by
    have hn2 := List.nodup_cons.mp hn
    have e : a ≠ d := fun e => hn2.1 (by rw [e]; exact List.mem_append_right _ List.mem_cons_self)
    have e2 : a ≠ c := fun e => hc (by rw [e]; exact List.mem_cons_self)
    exact ⟨h.1, by rw [ux_n e, ux_n e2]; exact Pth.snoc (l := l) h.2 hn2.2 (fun z => hc (List.mem_cons_of_mem _ z))⟩
/-- a code is taken out behind p -/
theorem Pth.del {X : Nat → Option Nat} {p c : Nat} {l2 : List Nat} : ∀ {l : List Nat} {r : Option Nat}, Pth X r (l ++ p :: c :: l2) → (l ++ p :: c :: l2).Nodup → Pth (ux X p (X c)) r (l ++ p :: l2)
  | [], r, h, hn => by
    have hn2 := List.nodup_cons.mp hn
    refine ⟨h.1, ?_⟩
    rw [ux_s]
    exact h.2.2.up (fun z => hn2.1 (List.mem_cons_of_mem _ z))
  | a :: l, r, h, hn => by
    have hn2 := List.nodup_cons.mp hn
    have e : a ≠ p := fun e => hn2.1 (by rw [e]; exact List.mem_append_right _ List.mem_cons_self)
    exact ⟨h.1, by rw [ux_n e]; exact Pth.del (l := l) h.2 hn2.2⟩
/-- links within a list; the last one's is open -/
def Sg (X : Nat → Option Nat) : List Nat → Prop
  | [] => True
  | [_] => True
  | a :: b :: l => X a = some b ∧ Sg X (b :: l)
theorem Sg.cg {X Y : Nat → Option Nat} : ∀ {l : List Nat}, Sg X l → (∀ c ∈ l, Y c = X c) → Sg Y l
  | [], _, _ => trivial
  | [_], _, _ => trivial
  | a :: b :: l, h, e => ⟨by rw [e a List.mem_cons_self]; exact h.1, Sg.cg (l := b :: l) h.2 (fun d hd => e d (List.mem_cons_of_mem _ hd))⟩
theorem Sg.up {X : Nat → Option Nat} {l : List Nat} {v : Option Nat} {c : Nat} (h : Sg X l) (hc : c ∉ l) : Sg (ux X c v) l := h.cg (fun d hd => ux_n (fun e => hc (e ▸ hd)))
theorem Sg.snoc {X : Nat → Option Nat} {d c : Nat} : ∀ {l : List Nat}, Sg X (l ++ [d]) → (l ++ [d]).Nodup → Sg (ux X d (some c)) ((l ++ [d]) ++ [c])
  | [], _, _ => ⟨ux_s, trivial⟩
  | [a], h, hn => by
    have hn2 := List.nodup_cons.mp hn
    have e : a ≠ d := fun e => hn2.1 (by rw [e]; exact List.mem_cons_self)
    exact ⟨by rw [ux_n e]; exact h.1, ux_s, trivial⟩
  | a :: b :: l, h, hn => by
    have hn2 := List.nodup_cons.mp hn
    have e : a ≠ d := fun e => hn2.1 (by rw [e]; exact List.mem_append_right _ List.mem_cons_self)
    exact ⟨by rw [ux_n e]; exact h.1, Sg.snoc (l := b :: l) h.2 hn2.2⟩
theorem Sg.pth {X : Nat → Option Nat} {d : Nat} : ∀ {l : List Nat}, Sg X (l ++ [d]) → (l ++ [d]).Nodup → Pth (ux X d none) (l ++ [d]).head? (l ++ [d])
  | [], _, _ => ⟨rfl, by rw [ux_s]; rfl⟩
  | [a], h, hn => by
    have hn2 := List.nodup_cons.mp hn
    have e : a ≠ d := fun e => hn2.1 (by rw [e]; exact List.mem_cons_self)
    exact ⟨rfl, by rw [ux_n e]; exact h.1, by rw [ux_s]; rfl⟩
  | a :: b :: l, h, hn => by
    have hn2 := List.nodup_cons.mp hn
    have e : a ≠ d := fun e => hn2.1 (by rw [e]; exact List.mem_append_right _ List.mem_cons_self)
    refine ⟨rfl, ?_⟩
    rw [ux_n e, h.1]
    exact Sg.pth (l := b :: l) h.2 hn2.2
theorem Pth.sg {X : Nat → Option Nat} : ∀ {l : List Nat} {r : Option Nat}, Pth X r l → Sg X l
  | [], _, _ => trivial
  | [_], _, _ => trivial
  | a :: b :: l, r, h => ⟨by rw [h.2.1], Pth.sg (l := b :: l) h.2⟩
/-- which codes are there -/
def lvo (of : Int → Int → Int) (c : Nat) : Bool := decide (c < 128 ∧ c % 16 < 12 ∧ of ((c / 16 : Nat) : Int) ((c % 16 : Nat) : Int) ≠ -1)
def cnt (of : Int → Int → Int) : Int := smI 128 (fun i => bI (0 ≤ i ∧ lvo of i.toNat = true))
/-- the table's chains -/
def HI (N : Nat) (tb X : Nat → Option Nat) (of : Int → Int → Int) (bk : Nat → List Nat) : Prop := (∀ j, j < N → Pth X (tb j) (bk j) ∧ (bk j).Nodup ∧ ∀ c ∈ bk j, lvo of c = true ∧ c % N = j) ∧ ∀ c, lvo of c = true → c ∈ bk (c % N)
def HN (h : AH) (o : Nat) (A K V : Nat → Nat) (X : Nat → Option Nat) (c : Nat) : Prop := h (A c) = some ((o, 10202 + c), ob 12 [.int (iI (c : Int)), .ref (K c), .ref (V c), va_rf ((X c).map A)]) ∧ h (K c) = some ((K c, 10004), ob 6 [.int (iI ((c / 16 : Nat) : Int)), .int (iI ((c % 16 : Nat) : Int))])
def hmf (tr : Option Nat) (sz mc th : Int) : List Value := [.null, .null, va_rf tr, .null, .int (iI sz), .int (iI mc), .int (iI th), .float 1061158912]
def tcap (N : Nat) : Prop := N = 16 ∨ N = 32 ∨ N = 64 ∨ N = 128
/-- the map's cells; sz is what its field size holds -/
def HMd (G : GT) (h : AH) (o a N : Nat) (tr : Option Nat) (sz mc : Int) (tb X : Nat → Option Nat) (A K V : Nat → Nat) (bk : Nat → List Nat) (of : Int → Int → Int) : Prop := o ≠ 0 ∧ h a = some ((o, 10200), ob 11 (hmf tr sz mc ((3 * N / 4 : Nat) : Int))) ∧
  ((tr = none ∧ N = 0 ∧ ∀ c, lvo of c = false) ∨ (∃ r F, tr = some r ∧ h r = some ((o, 10330 + N), aR G 5 N F) ∧ (∀ j : Nat, j < N → F (j : Int) = (tb j).map A) ∧ tcap N ∧ HI N tb X of bk)) ∧ ∀ c, lvo of c = true → HN h o A K V X c ∧ IV G h (V c) (of ((c / 16 : Nat) : Int) ((c % 16 : Nat) : Int))
def HM (G : GT) (h : AH) (o a : Nat) (of : Int → Int → Int) : Prop := ∃ (N : Nat) (tr : Option Nat) (mc : Int) (tb X : Nat → Option Nat) (A K V : Nat → Nat) (bk : Nat → List Nat), HMd G h o a N tr (cnt of) mc tb X A K V bk of ∧ cnt of ≤ 3 * N / 4
theorem HN.mv {h h' : AH} {o : Nat} {A K V : Nat → Nat} {X : Nat → Option Nat} {c : Nat} (hN : HN h o A K V X c) (f : ∀ a t x, h a = some (t, x) → (t = (o, 10202 + c) ∨ t.2 = 10004) → h' a = some (t, x)) : HN h' o A K V X c := ⟨f _ _ _ hN.1 (Or.inl rfl), f _ _ _ hN.2 (Or.inr rfl)⟩
theorem lvo_lt {of : Int → Int → Int} {c : Nat} (h : lvo of c = true) : c < 128 ∧ c % 16 < 12 ∧ of ((c / 16 : Nat) : Int) ((c % 16 : Nat) : Int) ≠ -1 := of_decide_eq_true h
theorem HMd.mv {G : GT} {h h' : AH} {o a N : Nat} {tr : Option Nat} {sz mc : Int} {tb X : Nat → Option Nat} {A K V : Nat → Nat} {bk : Nat → List Nat} {of : Int → Int → Int} (hM : HMd G h o a N tr sz mc tb X A K V bk of)
    (f : ∀ a t x, h a = some (t, x) → ((t.1 = o ∧ 10200 ≤ t.2 ∧ t.2 < 10460) ∨ t.2 = 10004 ∨ t.2 = 10002 ∨ t.1 = 0) → h' a = some (t, x)) : HMd G h' o a N tr sz mc tb X A K V bk of := by
  obtain ⟨h0, h1, h2, h3⟩ := hM
  refine ⟨h0, f _ _ _ h1 (Or.inl ⟨rfl, Nat.le_of_ble_eq_true rfl, Nat.le_of_ble_eq_true rfl⟩), ?_, fun c hc => ?_⟩
  · rcases h2 with q | ⟨r, F, e, hr, q⟩
    · exact Or.inl q
    · exact Or.inr ⟨r, F, e, f _ _ _ hr (Or.inl ⟨rfl, by show 10200 ≤ 10330 + N; omega, by show 10330 + N < 10460; rcases q.2.1 with e | e | e | e <;> omega⟩), q⟩
  · have hl := (lvo_lt hc).1
    obtain ⟨q1, o1, k1, q2, q3⟩ := h3 c hc
    exact ⟨q1.mv (fun a t x hx ht => f a t x hx (by
      rcases ht with e | e
      · rw [e]; exact Or.inl ⟨rfl, by show 10200 ≤ 10202 + c; omega, by show 10202 + c < 10460; omega⟩
      · exact Or.inr (Or.inl e))), o1, k1, f _ _ _ q2 (q3.elim (fun e => Or.inr (Or.inr (Or.inr e.1))) (fun e => Or.inr (Or.inr (Or.inl e.2)))), q3⟩
theorem HM.ex {G : GT} {h h' : AH} {o a : Nat} {of : Int → Int → Int} (hM : HM G h o a of) (f : Ex h h') : HM G h' o a of := by
  obtain ⟨N, tr, mc, tb, X, A, K, V, bk, h1, h2⟩ := hM
  exact ⟨N, tr, mc, tb, X, A, K, V, bk, h1.mv (fun a t x hx _ => f a _ hx), h2⟩
theorem HM.fo {G : GT} {h h' : AH} {o a o' j1 j2 : Nat} {of : Int → Int → Int} (hM : HM G h o a of) (f : FO o' j1 j2 h h') (ho : o' ≠ 0) (hne : (o ≠ o' ∨ 10459 < j1 ∨ j2 < 10200) ∧ (10004 < j1 ∨ j2 < 10002)) : HM G h' o a of := by
  obtain ⟨N, tr, mc, tb, X, A, K, V, bk, h1, h2⟩ := hM
  exact ⟨N, tr, mc, tb, X, A, K, V, bk, h1.mv (fun a t x hx ht => f a t x hx (fun z => by obtain ⟨z1, z2, z3⟩ := z; omega)), h2⟩
theorem HM.kt {G : GT} {h h' : AH} {o a o' j b : Nat} {of : Int → Int → Int} (hM : HM G h o a of) (f : KT b (o', j) h h') (ho : o' ≠ 0) (hne : (o ≠ o' ∨ 10459 < j ∨ j < 10200) ∧ (10004 < j ∨ j < 10002)) : HM G h' o a of := hM.fo f.fo ho (by omega)
theorem aR_cg {G : GT} {t N : Nat} {f g : Int → Option Nat} (e : ∀ j : Nat, f (j : Int) = g (j : Int)) : aR G t N f = aR G t N g := by
  unfold aR
  have : vQ f = vQ g := funext (fun j => e j)
  rw [this]
/-- bounds of a chain -/
theorem nd_le : ∀ (n : Nat) (l : List Nat), l.Nodup → (∀ x ∈ l, x < n) → l.length ≤ n := by
  intro n
  induction n with
  | zero => intro l _ h; cases l with
    | nil => exact Nat.le_refl _
    | cons a l => exact absurd (h a List.mem_cons_self) (Nat.not_lt_zero a)
  | succ n ih =>
    intro l hd h
    by_cases c : n ∈ l
    · have h1 := ih (l.erase n) (hd.erase n) (fun x hx => by
        have := (List.Nodup.mem_erase_iff hd).mp hx
        have := h x this.2
        omega)
      rw [List.length_erase_of_mem c] at h1
      omega
    · have := ih l hd (fun x hx => by
        have h1 := h x hx
        have h2 : x ≠ n := fun e => c (e ▸ hx)
        omega)
      omega
theorem bk_le {N : Nat} {of : Int → Int → Int} {l : List Nat} {c : Nat} (hN : tcap N) (hc : c < 128) (hl : ∀ d ∈ l, lvo of d = true ∧ d % N = c % N) (hd : l.Nodup) (hcl : c ∉ l) : l.length ≤ 7 := by
  have hm : ∀ d, d % N = c % N → d % 16 = c % 16 := fun d e => by
    rcases hN with rfl | rfl | rfl | rfl <;> omega
  have h1 : ((c :: l).map (fun d => d / 16)).Nodup := by
    unfold List.Nodup
    rw [List.pairwise_map]
    have h2 : (c :: l).Nodup := List.nodup_cons.mpr ⟨hcl, hd⟩
    refine List.Pairwise.imp_of_mem (fun {x y} hx hy hxy => ?_) h2
    have ex : x % 16 = c % 16 := by
      rcases List.mem_cons.mp hx with e | e
      · rw [e]
      · exact hm x (hl x e).2
    have ey : y % 16 = c % 16 := by
      rcases List.mem_cons.mp hy with e | e
      · rw [e]
      · exact hm y (hl y e).2
    intro e
    exact hxy (by omega)
  have h2 := nd_le 8 _ h1 (fun x hx => by
    obtain ⟨d, hd, rfl⟩ := List.mem_map.mp hx
    rcases List.mem_cons.mp hd with e | e
    · rw [e]; omega
    · have := (lvo_lt (hl d e).1).1; omega)
  rw [List.length_map, List.length_cons] at h2
  omega
theorem lvo_up {of : Int → Int → Int} {c : Nat} {v : Int} (h1 : c < 128) (h2 : c % 16 < 12) (d : Nat) : lvo (o2 of ((c / 16 : Nat) : Int) ((c % 16 : Nat) : Int) v) d = if d = c then decide (v ≠ -1) else lvo of d := by
  unfold lvo o2
  by_cases e : d = c
  · subst e
    rw [if_pos rfl]
    simp [h1, h2]
  · rw [if_neg e]
    have : ¬ (((d / 16 : Nat) : Int) = ((c / 16 : Nat) : Int) ∧ ((d % 16 : Nat) : Int) = ((c % 16 : Nat) : Int)) := by omega
    simp only [if_neg this]
theorem cnt_up {of : Int → Int → Int} {c : Nat} {v : Int} (h1 : c < 128) (h2 : c % 16 < 12) : cnt (o2 of ((c / 16 : Nat) : Int) ((c % 16 : Nat) : Int) v) = cnt of + (bI (v ≠ -1) - bI (lvo of c = true)) := by
  have h0 : (0 : Int) ≤ (c : Int) := by omega
  have key := sm_upd (n := (128 : Int).toNat) (i := (c : Int)) (f := fun i => bI (0 ≤ i ∧ lvo of i.toNat = true)) (g := fun i => bI (0 ≤ i ∧ lvo (o2 of ((c / 16 : Nat) : Int) ((c % 16 : Nat) : Int) v) i.toNat = true)) h0 (by omega) (fun j hj => by
    show bI (0 ≤ j ∧ lvo (o2 of ((c / 16 : Nat) : Int) ((c % 16 : Nat) : Int) v) j.toNat = true) = bI (0 ≤ j ∧ lvo of j.toNat = true)
    by_cases hj0 : 0 ≤ j
    · rw [lvo_up h1 h2, if_neg (by omega)]
    · rw [bI_f (fun z => hj0 z.1), bI_f (fun z => hj0 z.1)])
  unfold cnt smI
  rw [key]
  show sm _ _ + (bI (0 ≤ (c : Int) ∧ lvo (o2 of ((c / 16 : Nat) : Int) ((c % 16 : Nat) : Int) v) ((c : Int).toNat) = true) - bI (0 ≤ (c : Int) ∧ lvo of ((c : Int).toNat) = true)) = _
  rw [Int.toNat_natCast, lvo_up h1 h2, if_pos rfl]
  have e1 : bI (0 ≤ (c : Int) ∧ decide (v ≠ -1) = true) = bI (v ≠ -1) := by
    by_cases hv : v ≠ -1
    · rw [bI_t hv, bI_t ⟨h0, decide_eq_true hv⟩]
    · rw [bI_f hv, bI_f (fun z => hv (of_decide_eq_true z.2))]
  have e2 : bI (0 ≤ (c : Int) ∧ lvo of c = true) = bI (lvo of c = true) := by
    by_cases hv : lvo of c = true
    · rw [bI_t hv, bI_t ⟨h0, hv⟩]
    · rw [bI_f hv, bI_f (fun z => hv z.2)]
  rw [e1, e2]
theorem cnt_bd {of : Int → Int → Int} : 0 ≤ cnt of ∧ cnt of ≤ 96 := by
  have key : ∀ n : Nat, sm n (fun i => bI (0 ≤ i ∧ lvo of i.toNat = true)) ≤ sm n (fun i => bI (i.toNat % 16 < 12)) ∧ 0 ≤ sm n (fun i => bI (0 ≤ i ∧ lvo of i.toNat = true)) := by
    intro n
    induction n with
    | zero => exact ⟨Int.le_refl _, Int.le_refl _⟩
    | succ n ih =>
      show sm n _ + bI (0 ≤ (n : Int) ∧ lvo of ((n : Int).toNat) = true) ≤ sm n _ + bI ((n : Int).toNat % 16 < 12) ∧ 0 ≤ sm n _ + bI (0 ≤ (n : Int) ∧ lvo of ((n : Int).toNat) = true)
      have : bI (0 ≤ (n : Int) ∧ lvo of ((n : Int).toNat) = true) ≤ bI ((n : Int).toNat % 16 < 12) := by
        unfold bI
        by_cases c : 0 ≤ (n : Int) ∧ lvo of ((n : Int).toNat) = true
        · rw [if_pos c, if_pos (lvo_lt c.2).2.1]; exact Int.le_refl _
        · rw [if_neg c]; split <;> omega
      have h2 : 0 ≤ bI (0 ≤ (n : Int) ∧ lvo of ((n : Int).toNat) = true) := by unfold bI; split <;> omega
      omega
  have h1 := key 128
  have h2 : sm 128 (fun i => bI (i.toNat % 16 < 12)) = 96 := by decide +kernel
  unfold cnt smI
  exact ⟨h1.2, by rw [← h2]; exact h1.1⟩
theorem tcap.pow {N : Nat} (h : tcap N) : ∃ q, N = 2 ^ q ∧ q < 8 := by
  rcases h with rfl | rfl | rfl | rfl
  · exact ⟨4, rfl, by decide⟩
  · exact ⟨5, rfl, by decide⟩
  · exact ⟨6, rfl, by decide⟩
  · exact ⟨7, rfl, by decide⟩
theorem tcap.pos {N : Nat} (h : tcap N) : 16 ≤ N ∧ N ≤ 128 := by rcases h with rfl | rfl | rfl | rfl <;> decide
