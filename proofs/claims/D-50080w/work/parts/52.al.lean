/-! ===== constants of the JDK; ArrayList ===== -/
set_option maxRecDepth 100000
theorem FO.at {h h' : AH} {o k1 k2 o' k' a : Nat} {x : AE} (f : FO o k1 k2 h h') (ha : h a = some ((o', k'), x)) (hne : o' ≠ o ∨ k' < k1 ∨ k2 < k') : h' a = some ((o', k'), x) := f a _ x ha (fun z => by have z1 : o' = o := z.1; have z2 : k1 ≤ k' := z.2.1; have z3 : k' ≤ k2 := z.2.2; omega)
theorem KT.at {h h' : AH} {o k o' k' a b : Nat} {x : AE} (f : KT b (o, k) h h') (ha : h a = some ((o', k'), x)) (hne : o' ≠ o ∨ k' ≠ k) : h' a = some ((o', k'), x) := f a _ x ha (Or.inl (fun z => by cases z; omega))
theorem KT.fo {h h' : AH} {o k b : Nat} (f : KT b (o, k) h h') : FO o k k h h' := fun q t x hx hn => f q t x hx (Or.inl (fun e => hn (by rw [e]; exact ⟨rfl, Nat.le_refl _, Nat.le_refl _⟩)))
/-- a new cell alone is written -/
theorem KT.nw {h h1 h2 : AH} {q : Nat} {t : Tg} (f : KT q t h1 h2) (e : Ex h h1) (n : Nw h q) : Ex h h2 := fun b x hb => f b x.1 x.2 (e _ _ hb) (Or.inr (n.ne (t := x.1) (x := x.2) hb))
def gref (v : Option Value) : Nat := match v with | some (.ref a) => a | _ => 0
def gde (G : GT) : Nat := gref ((Term.static "java/util/ArrayList" "DEFAULTCAPACITY_EMPTY_ELEMENTDATA" "[Ljava/lang/Object;").eval #[Value.ref (gb G)] (g0 G) none [] (g0 G))
def gic (G : GT) : Nat := gref ((Term.static "java/lang/Integer$IntegerCache" "cache" "[Ljava/lang/Integer;").eval #[Value.ref (gb G)] (g0 G) none [] (g0 G))
def giv (G : GT) (v : Int) : Nat := gref ((g0 G).heap[gic G]?.bind (fun c => c.slots[(v + 128).toNat]?))
/-- the constants lie in the heap -/
def KC (G : GT) (h : AH) : Prop := va_Z "java/util/ArrayList" "DEFAULTCAPACITY_EMPTY_ELEMENTDATA" "[Ljava/lang/Object;" (.ref (gde G)) (gA G) (g0 G) (g0 G).heap ∧ h (gde G) = some ((0, 10), aR G 4 0 (fun _ => none)) ∧
  va_Z "java/lang/Integer$IntegerCache" "cache" "[Ljava/lang/Integer;" (.ref (gic G)) (gA G) (g0 G) (g0 G).heap ∧ h (gic G) = some ((0, 11), aR G 8 256 (fun i => some (giv G (i - 128)))) ∧ ∀ v : Int, -128 ≤ v → v ≤ 127 → h (giv G v) = some ((0, 12), ob 15 [.int (iI v)])
theorem KC.mv {G : GT} {h h' : AH} (hK : KC G h) (f : ∀ a t x, h a = some (t, x) → t.1 = 0 → h' a = some (t, x)) : KC G h' :=
  ⟨hK.1, f _ _ _ hK.2.1 rfl, hK.2.2.1, f _ _ _ hK.2.2.2.1 rfl, fun v h1 h2 => f _ _ _ (hK.2.2.2.2 v h1 h2) rfl⟩
theorem KC.ex {G : GT} {h h' : AH} (hK : KC G h) (f : Ex h h') : KC G h' := hK.mv (fun a _ _ hx _ => f a _ hx)
theorem KC.kt {G : GT} {h h' : AH} {t : Tg} {b : Nat} (hK : KC G h) (f : KT b t h h') (ht : t.1 ≠ 0) : KC G h' := hK.mv (fun a u x hx hu => f a u x hx (Or.inl (fun e => ht (by rw [← e]; exact hu))))
theorem KC.fo {G : GT} {h h' : AH} {o k1 k2 : Nat} (hK : KC G h) (f : FO o k1 k2 h h') (ho : o ≠ 0) : KC G h' := hK.mv (fun a u x hx hu => f a u x hx (fun e => ho (by rw [← e.1]; exact hu)))
/-- an Integer of the value v -/
def IV (G : GT) (h : AH) (x : Nat) (v : Int) : Prop := ∃ o k, h x = some ((o, k), ob 15 [.int (iI v)]) ∧ ((o = 0 ∧ k = 12) ∨ (o = x ∧ k = 10002))
theorem IV.ex {G : GT} {h h' : AH} {x : Nat} {v : Int} (hI : IV G h x v) (f : Ex h h') : IV G h' x v := by
  obtain ⟨o, k, h1, h2⟩ := hI
  exact ⟨o, k, f _ _ h1, h2⟩
theorem IV.kt {G : GT} {h h' : AH} {x o' k' b : Nat} {v : Int} (hI : IV G h x v) (f : KT b (o', k') h h') (ho : o' ≠ 0) (hk : k' ≠ 10002) : IV G h' x v := by
  obtain ⟨o, k, h1, h2⟩ := hI
  exact ⟨o, k, f.at h1 (by omega), h2⟩
theorem IV.fo {G : GT} {h h' : AH} {x o' k1 k2 : Nat} {v : Int} (hI : IV G h x v) (f : FO o' k1 k2 h h') (ho : o' ≠ 0) (hk : 10002 < k1 ∨ k2 < 10002) : IV G h' x v := by
  obtain ⟨o, k, h1, h2⟩ := hI
  exact ⟨o, k, f.at h1 (by omega), h2⟩
/-- a list at a, its array at r of N places -/
def ALd (G : GT) (h : AH) (o k a : Nat) (xs : List Nat) (r N : Nat) (c : Int) (f : Int → Option Nat) (o1 k1 : Nat) : Prop := o ≠ 0 ∧ h a = some ((o, k), ob 10 [.int (iI c), .ref r, .int (iI xs.length)]) ∧ h r = some ((o1, k1), aR G 4 N f) ∧ ((o1 = 0 ∧ k1 = 10 ∧ N = 0 ∧ r = gde G) ∨ (o1 = o ∧ k1 = k + 1 ∧ (N = 10 ∨ N = 15))) ∧ xs.length ≤ N ∧ N ≤ 100 ∧ ∀ (i : Nat) (x : Nat), xs[i]? = some x → f i = some x
def AL (G : GT) (h : AH) (o k a : Nat) (xs : List Nat) : Prop := ∃ (r N : Nat) (c : Int) (f : Int → Option Nat) (o1 k1 : Nat), ALd G h o k a xs r N c f o1 k1
theorem AL.ex {G : GT} {h h' : AH} {o k a : Nat} {xs : List Nat} (hA : AL G h o k a xs) (f : Ex h h') : AL G h' o k a xs := by
  obtain ⟨r, N, c, g, o1, k1, h0, h1, h2, h3⟩ := hA
  exact ⟨r, N, c, g, o1, k1, h0, f _ _ h1, f _ _ h2, h3⟩
theorem AL.fo {G : GT} {h h' : AH} {o k a o' j1 j2 : Nat} {xs : List Nat} (hA : AL G h o k a xs) (f : FO o' j1 j2 h h') (ho : o' ≠ 0) (hne : o ≠ o' ∨ k + 1 < j1 ∨ j2 < k) : AL G h' o k a xs := by
  obtain ⟨r, N, c, g, o1, k1, h0, h1, h2, h3, h4⟩ := hA
  exact ⟨r, N, c, g, o1, k1, h0, f.at h1 (by omega), f.at h2 (by omega), h3, h4⟩
theorem AL.kt {G : GT} {h h' : AH} {o k a o' j b : Nat} {xs : List Nat} (hA : AL G h o k a xs) (f : KT b (o', j) h h') (ho : o' ≠ 0) (hne : o ≠ o' ∨ (k ≠ j ∧ k + 1 ≠ j)) : AL G h' o k a xs := by
  obtain ⟨r, N, c, g, o1, k1, h0, h1, h2, h3, h4⟩ := hA
  exact ⟨r, N, c, g, o1, k1, h0, f.at h1 (by omega), f.at h2 (by omega), h3, h4⟩
theorem AL.obj {G : GT} {h : AH} {o k a : Nat} {xs : List Nat} (hA : AL G h o k a xs) : ∃ fs, h a = some ((o, k), ob 10 fs) := by
  obtain ⟨r, N, c, g, o1, k1, h0, h1, h2⟩ := hA
  exact ⟨_, h1⟩
theorem AL.len {G : GT} {h : AH} {o k a : Nat} {xs : List Nat} (hA : AL G h o k a xs) : xs.length ≤ 100 := by
  obtain ⟨r, N, c, g, o1, k1, h0, h1, h2, h3, h4, h5, h6⟩ := hA
  omega
theorem gx_get {xs : List Nat} {i : Int} (h0 : 0 ≤ i) (h1 : i < xs.length) : ∃ x, xs[i.toNat]? = some x := ⟨xs[i.toNat]'(by omega), List.getElem?_eq_getElem (by omega)⟩
theorem ld_snoc {xs : List Nat} {e : Nat} {f : Int → Option Nat} (h : ∀ (i : Nat) (x : Nat), xs[i]? = some x → f i = some x) : ∀ (i : Nat) (x : Nat), (xs ++ [e])[i]? = some x → iup f xs.length (some e) i = some x := by
  intro i x hx
  by_cases hi : i < xs.length
  · rw [List.getElem?_append_left hi] at hx
    rw [iup_n (by omega)]
    exact h i x hx
  · have hl := (List.getElem?_eq_some_iff.mp hx).1
    rw [List.length_append, List.length_singleton] at hl
    have e1 : i = xs.length := by omega
    subst e1
    rw [List.getElem?_append_right (Nat.le_refl _), Nat.sub_self] at hx
    cases hx
    exact iup_s
theorem ld_rem {xs : List Nat} {j : Nat} {f g : Int → Option Nat} (hj : j < xs.length) (h : ∀ (i : Nat) (x : Nat), xs[i]? = some x → f i = some x) (hg : ∀ i : Int, 0 ≤ i → i < xs.length - 1 → g i = if i < j then f i else f (i + 1)) : ∀ (i : Nat) (x : Nat), (xs.eraseIdx j)[i]? = some x → g i = some x := by
  intro i x hx
  have hl := (List.getElem?_eq_some_iff.mp hx).1
  rw [List.length_eraseIdx_of_lt hj] at hl
  rw [hg i (by omega) (by omega)]
  rw [List.getElem?_eraseIdx] at hx
  by_cases c : i < j
  · rw [if_pos c] at hx
    rw [if_pos (by omega)]
    exact h i x hx
  · rw [if_neg c] at hx
    rw [if_neg (by omega)]
    exact h (i + 1) x hx
/-- the elements xs of a list (o, k) are objects of the class ci -/
def ELm (h : AH) (o k ci : Nat) (xs : List Nat) : Prop := ∀ x ∈ xs, ∃ v1 v2 fs, h x = some ((v1, v2), ob ci fs) ∧ (v1 ≠ o ∨ v2 < k ∨ k + 1 < v2)
theorem ELm.ex {h h' : AH} {o k ci : Nat} {xs : List Nat} (hE : ELm h o k ci xs) (f : Ex h h') : ELm h' o k ci xs := fun x hx => by
  obtain ⟨v1, v2, fs, h1, h2⟩ := hE x hx
  exact ⟨v1, v2, fs, f _ _ h1, h2⟩
theorem ELm.fo {h h' : AH} {o k ci : Nat} {xs : List Nat} (hE : ELm h o k ci xs) (f : FO o k (k + 1) h h') : ELm h' o k ci xs := fun x hx => by
  obtain ⟨v1, v2, fs, h1, h2⟩ := hE x hx
  exact ⟨v1, v2, fs, f.at h1 (by omega), h2⟩
theorem ELm.kt {h h' : AH} {o k j ci b : Nat} {xs : List Nat} (hE : ELm h o k ci xs) (f : KT b (o, j) h h') (hj : j = k ∨ j = k + 1) : ELm h' o k ci xs := fun x hx => by
  obtain ⟨v1, v2, fs, h1, h2⟩ := hE x hx
  exact ⟨v1, v2, fs, f.at h1 (by omega), h2⟩
section RWM
variable {G : GT} {E : ET} {M : MT} {h : AH} {n k pc : Nat} {L : List (Nat × Value)} {st : List Value}
theorem ww_mmax {own : String} {index : Nat} {a b : Int} (hlink : Cond.methodLink own index Lib.Math.max.name ∈ lw_all) (ho : own = (my M).cls) (d : decode (mcc M) pc = .ok (.invokestatic index, 3)) (ha : inI a) (hb : inI b) (hfr : 1 ≤ mfr M) (hlo : (st.map fun v => v.category).sum + 13 ≤ mlo M) (hn : n ≤ mmc M) (hk : k ≤ mms M) (kk : WW G E M h n k (pc + 3) L (.int (iI (max a b)) :: st)) : WW G E M h n k pc L (.int (iI b) :: .int (iI a) :: st) := by
  intro hE H locs ls hR hS hl
  subst ho
  refine va_mmax hE.x hE.b (by rw [hE.ml, hl.1]) hE.own (hE.ts _ hlink) (hE.ts _ q378) (hE.ts _ q98) (hE.ts _ q379) hfr hlo hn hk d ?_
  have e : (if iI a < iI b then iI b else iI a) = iI (max a b) := by
    by_cases c : a < b
    · rw [if_pos ((iI_lt ha hb).mpr c)]; congr 1; omega
    · rw [if_neg (fun z => c ((iI_lt ha hb).mp z))]; congr 1; omega
  rw [e]
  exact kk hE H locs ls hR hS hl
theorem ww_mmin {own : String} {index : Nat} {a b : Int} (hlink : Cond.methodLink own index Lib.Math.min.name ∈ lw_all) (ho : own = (my M).cls) (d : decode (mcc M) pc = .ok (.invokestatic index, 3)) (ha : inI a) (hb : inI b) (hfr : 1 ≤ mfr M) (hlo : (st.map fun v => v.category).sum + 13 ≤ mlo M) (hn : n ≤ mmc M) (hk : k ≤ mms M) (kk : WW G E M h n k (pc + 3) L (.int (iI (min a b)) :: st)) : WW G E M h n k pc L (.int (iI b) :: .int (iI a) :: st) := by
  intro hE H locs ls hR hS hl
  subst ho
  refine va_mmin hE.x hE.b (by rw [hE.ml, hl.1]) hE.own (hE.ts _ hlink) (hE.ts _ q396) (hE.ts _ q98) (hE.ts _ q397) hfr hlo hn hk d ?_
  have e : (if iI b < iI a then iI b else iI a) = iI (min a b) := by
    by_cases c : b < a
    · rw [if_pos ((iI_lt hb ha).mpr c)]; congr 1; omega
    · rw [if_neg (fun z => c ((iI_lt hb ha).mp z))]; congr 1; omega
  rw [e]
  exact kk hE H locs ls hR hS hl
theorem ww_mmaxl {own : String} {index : Nat} {a b : Int} (hlink : Cond.methodLink own index Lib.MathLoose.max_long.x ∈ lw_all) (ho : own = (my M).cls) (d : decode (mcc M) pc = .ok (.invokestatic index, 3)) (ha : inL a) (hb : inL b) (hfr : 1 ≤ mfr M) (hlo : (st.map fun v => v.category).sum + 15 ≤ mlo M) (hn : n ≤ mmc M) (hk : k ≤ mms M) (kk : WW G E M h n k (pc + 3) L (.long (lI (max a b)) :: st)) : WW G E M h n k pc L (.long (lI b) :: .long (lI a) :: st) := by
  intro hE H locs ls hR hS hl
  subst ho
  refine va_mmax_long hE.x hE.b (by rw [hE.ml, hl.1]) hE.own (hE.ts _ hlink) (hE.ts _ q1127) (hE.ts _ q98) (hE.ts _ q1128) hfr hlo hn hk d ?_
  have e : (if lI b < lI a then lI a else lI b) = lI (max a b) := by
    by_cases c : b < a
    · rw [if_pos ((lI_lt hb ha).mpr c)]; congr 1; omega
    · rw [if_neg (fun z => c ((lI_lt hb ha).mp z))]; congr 1; omega
  rw [e]
  exact kk hE H locs ls hR hS hl
theorem ww_mminl {own : String} {index : Nat} {a b : Int} (hlink : Cond.methodLink own index Lib.MathLoose.min_long.x ∈ lw_all) (ho : own = (my M).cls) (d : decode (mcc M) pc = .ok (.invokestatic index, 3)) (ha : inL a) (hb : inL b) (hfr : 1 ≤ mfr M) (hlo : (st.map fun v => v.category).sum + 15 ≤ mlo M) (hn : n ≤ mmc M) (hk : k ≤ mms M) (kk : WW G E M h n k (pc + 3) L (.long (lI (min a b)) :: st)) : WW G E M h n k pc L (.long (lI b) :: .long (lI a) :: st) := by
  intro hE H locs ls hR hS hl
  subst ho
  refine va_mmin_long hE.x hE.b (by rw [hE.ml, hl.1]) hE.own (hE.ts _ hlink) (hE.ts _ q1124) (hE.ts _ q98) (hE.ts _ q1125) hfr hlo hn hk d ?_
  have e : (if lI b < lI a then lI b else lI a) = lI (min a b) := by
    by_cases c : b < a
    · rw [if_pos ((lI_lt hb ha).mpr c)]; congr 1; omega
    · rw [if_neg (fun z => c ((lI_lt hb ha).mp z))]; congr 1; omega
  rw [e]
  exact kk hE H locs ls hR hS hl
end RWM
