/-! ===== the words of both sides are one ===== -/
set_option maxRecDepth 100000
def lsm (f : Int → Int) : List Int → Int
  | [] => 0
  | a :: l => f a + lsm f l
theorem sm_shift {n : Nat} {f : Int → Int} : sm (n + 1) f = f 0 + sm n (fun i => f (i + 1)) := by
  induction n with
  | zero => show sm 0 f + f ((0 : Nat) : Int) = f 0 + 0; show (0 : Int) + f 0 = f 0 + 0; omega
  | succ n ih =>
    have e : ((n + 1 : Nat) : Int) = (n : Int) + 1 := by omega
    show sm (n + 1) f + f ((n + 1 : Nat) : Int) = f 0 + (sm n (fun i => f (i + 1)) + f ((n : Int) + 1))
    rw [ih, e]
    omega
theorem lsm_getD {f : Int → Int} {l : List Int} : smI (l.length : Int) (fun i => f (l.getD i.toNat 0)) = lsm f l := by
  unfold smI
  rw [Int.toNat_natCast]
  induction l with
  | nil => rfl
  | cons a l ih =>
    rw [List.length_cons, sm_shift]
    show f ((a :: l).getD (0 : Int).toNat 0) + _ = f a + lsm f l
    rw [← ih]
    congr 1
    exact sm_congr (fun i i0 _ => by
      have e : (i + 1).toNat = i.toNat + 1 := by omega
      show f ((a :: l).getD (i + 1).toNat 0) = f (l.getD i.toNat 0)
      rw [e]
      rfl)
theorem sm_z {n : Nat} {f : Int → Int} (h : ∀ i : Int, 0 ≤ i → i < n → f i = 0) : sm n f = 0 := by
  have e := sm_congr (n := n) (f := f) (g := fun _ => 0) h
  rw [e]
  clear e h
  induction n with
  | zero => rfl
  | succ n ih => show sm n (fun _ => 0) + 0 = 0; rw [ih]; rfl
theorem sm_mem {n : Nat} {f : Int → Int} : ∀ (l : List Int), l.Nodup → (∀ x ∈ l, 0 ≤ x ∧ x < (n : Int)) → sm n (fun j => if j ∈ l then f j else 0) = lsm f l := by
  intro l
  induction l with
  | nil => intro _ _; exact sm_z (fun i _ _ => if_neg (by simp))
  | cons a l ih =>
    intro hn hr
    have ha := hr a List.mem_cons_self
    have hn2 := List.nodup_cons.mp hn
    rw [sm_upd (n := n) (f := fun j => if j ∈ l then f j else 0) (g := fun j => if j ∈ a :: l then f j else 0) ha.1 ha.2 (fun j hj => by
      by_cases c : j ∈ l
      · simp [c]
      · have : ¬ j ∈ a :: l := fun z => by rcases List.mem_cons.mp z with z | z; exact hj z; exact c z
        simp only [if_neg c, if_neg this]), ih hn2.2 (fun x hx => hr x (List.mem_cons_of_mem _ hx))]
    show lsm f l + ((if a ∈ a :: l then f a else 0) - (if a ∈ l then f a else 0)) = f a + lsm f l
    rw [if_pos List.mem_cons_self, if_neg hn2.1]
    omega
theorem lsm_congr {f g : Int → Int} {l : List Int} (h : ∀ x ∈ l, f x = g x) : lsm f l = lsm g l := by
  induction l with
  | nil => rfl
  | cons a l ih =>
    show f a + lsm f l = g a + lsm g l
    rw [h a List.mem_cons_self, ih (fun x hx => h x (List.mem_cons_of_mem _ hx))]
theorem lsm_z {f : Int → Int} {l : List Int} (h : ∀ x ∈ l, f x = 0) : lsm f l = 0 := by
  induction l with
  | nil => rfl
  | cons a l ih =>
    show f a + lsm f l = 0
    rw [h a List.mem_cons_self, ih (fun x hx => h x (List.mem_cons_of_mem _ hx))]
    rfl
/-- the sum over all places of what is asked of a list's members -/
theorem smI_mem {L : Nat} {Q P : Int → Prop} [DecidablePred Q] [DecidablePred P] {l : List Int} (hn : l.Nodup) (hr : ∀ x ∈ l, 0 ≤ x ∧ x < (L : Int)) (h : ∀ j : Int, 0 ≤ j → j < L → (P j ↔ (j ∈ l ∧ Q j))) : smI (L : Int) (fun j => bI (P j)) = lsm (fun j => bI (Q j)) l := by
  rw [← sm_mem (n := L) (f := fun j => bI (Q j)) l hn hr]
  unfold smI
  rw [Int.toNat_natCast]
  exact sm_congr (fun i i0 i1 => by
    have e := h i i0 i1
    by_cases c : i ∈ l
    · rw [if_pos c]
      by_cases q : Q i
      · rw [bI_t (e.mpr ⟨c, q⟩), bI_t q]
      · rw [bI_f (fun z => q (e.mp z).2), bI_f q]
    · rw [if_neg c, bI_f (fun z => c (e.mp z).1)])
theorem fi_self {a : Int} {l : List Int} : fi (a :: l) a = 0 := by unfold fi; rw [if_pos rfl]
theorem fi_pos {l : List Int} {k : Int} (h : k ∈ l) : 0 ≤ fi l k := by
  rcases fi_rg (l := l) (w := k) with q | q
  · exact absurd h (fi_neg q)
  · exact q.1
theorem fi_out {l : List Int} {k : Int} (h : k ∉ l) : fi l k = -1 := by
  induction l with
  | nil => rfl
  | cons a l ih =>
    unfold fi
    rw [if_neg (fun e => h (by rw [e]; exact List.mem_cons_self)), if_pos (ih (fun z => h (List.mem_cons_of_mem _ z)))]
theorem fi_tail {a k : Int} {l : List Int} (hne : a ≠ k) (h : k ∈ l) : fi (a :: l) k = fi l k + 1 := by
  have := fi_pos h
  rw [fi, if_neg hne, if_neg (by omega)]
theorem fi_cnt {t : Int → Int} {k : Int} : ∀ (l : List Int), l.Pairwise (fun i j => t i < t j) → k ∈ l → lsm (fun j => bI (t j < t k)) l = fi l k := by
  intro l
  induction l with
  | nil => intro _ h; cases h
  | cons a l ih =>
    intro hp hk
    obtain ⟨h1, h2⟩ := List.pairwise_cons.mp hp
    show bI (t a < t k) + lsm (fun j => bI (t j < t k)) l = _
    by_cases e : a = k
    · subst e
      rw [fi_self, bI_f (by omega), lsm_z (fun x hx => bI_f (by have := h1 x hx; omega))]
      rfl
    · have hk2 : k ∈ l := (List.mem_cons.mp hk).resolve_left (Ne.symm e)
      rw [fi_tail e hk2, bI_t (h1 k hk2), ih h2 hk2]
      omega
theorem fi_pw {l : List Int} (h : l.Nodup) : l.Pairwise (fun i j => fi l i < fi l j) := by
  induction l with
  | nil => exact List.Pairwise.nil
  | cons a l ih =>
    obtain ⟨h1, h2⟩ := List.nodup_cons.mp h
    refine List.pairwise_cons.mpr ⟨fun y hy => ?_, ?_⟩
    · have := fi_pos hy
      rw [fi_self, fi_tail (fun e => h1 (by rw [e]; exact hy)) hy]
      omega
    · refine List.Pairwise.imp_of_mem (fun {x y} hx hy hxy => ?_) (ih h2)
      rw [fi_tail (fun e => h1 (by rw [e]; exact hx)) hx, fi_tail (fun e => h1 (by rw [e]; exact hy)) hy]
      omega
theorem fi_inj {l : List Int} {x y : Int} (hx : x ∈ l) (hy : y ∈ l) (h : fi l x = fi l y) : x = y := by
  induction l with
  | nil => cases hx
  | cons a l ih =>
    by_cases e1 : a = x
    · by_cases e2 : a = y
      · rw [← e1, ← e2]
      · have hy2 : y ∈ l := (List.mem_cons.mp hy).resolve_left (Ne.symm e2)
        have := fi_pos hy2
        rw [← e1, fi_self, fi_tail e2 hy2] at h
        omega
    · have hx2 : x ∈ l := (List.mem_cons.mp hx).resolve_left (Ne.symm e1)
      have := fi_pos hx2
      by_cases e2 : a = y
      · rw [← e2, fi_self, fi_tail e1 hx2] at h
        omega
      · have hy2 : y ∈ l := (List.mem_cons.mp hy).resolve_left (Ne.symm e2)
        rw [fi_tail e1 hx2, fi_tail e2 hy2] at h
        exact ih hx2 hy2 (by omega)
/-- the best of those that S tells -/
def Bst (S : Int → Prop) (cd : Int → Bool) (sp r : Int → Int) (b : Int) : Prop := (b = -1 ∧ ∀ c, S c → cd c = false) ∨ (b ≠ -1 ∧ S b ∧ cd b = true ∧ ∀ c, S c → cd c = true → sp c < sp b ∨ (sp c = sp b ∧ r b ≤ r c))
theorem Bst.hb {cd : Int → Bool} {sp r : Int → Int} : ∀ (l pre : List Int) (b : Int), (pre ++ l).Pairwise (fun i j => r i < r j) → (∀ x ∈ pre ++ l, x ≠ -1) → Bst (· ∈ pre) cd sp r b → Bst (· ∈ pre ++ l) cd sp r (hBs cd sp l b) := by
  intro l
  induction l with
  | nil => intro pre b _ _ h; rw [List.append_nil]; exact h
  | cons x l ih =>
    intro pre b hp hn h
    have e : pre ++ x :: l = (pre ++ [x]) ++ l := by simp
    rw [e] at hp hn ⊢
    rw [hBs_c]
    refine ih (pre ++ [x]) _ hp hn ?_
    have hx1 : x ≠ -1 := hn x (by simp)
    have hpx : ∀ c ∈ pre, r c < r x := fun c hc => (List.pairwise_append.mp (List.pairwise_append.mp hp).1).2.2 c hc x (by simp)
    have hm : ∀ c, c ∈ pre ++ [x] ↔ (c ∈ pre ∨ c = x) := fun c => by simp
    split
    · rename_i q
      refine Or.inr ⟨hx1, (hm x).mpr (Or.inr rfl), q.1, fun c hc hcd => ?_⟩
      rcases (hm c).mp hc with z | z
      · rcases h with ⟨h1, h2⟩ | ⟨h1, h2, h3, h4⟩
        · rw [h2 c z] at hcd; cases hcd
        · have h5 := h4 c z hcd
          have h6 : sp b < sp x := by rcases q.2 with w | w; exact absurd w h1; exact w
          omega
      · rw [z]; omega
    · rename_i q
      rcases h with ⟨h1, h2⟩ | ⟨h1, h2, h3, h4⟩
      · refine Or.inl ⟨h1, fun c hc => ?_⟩
        rcases (hm c).mp hc with z | z
        · exact h2 c z
        · rw [z]
          cases hc : cd x with
          | false => rfl
          | true => exact absurd ⟨hc, Or.inl h1⟩ q
      · refine Or.inr ⟨h1, (hm b).mpr (Or.inl h2), h3, fun c hc hcd => ?_⟩
        rcases (hm c).mp hc with z | z
        · exact h4 c z hcd
        · rw [z] at hcd ⊢
          have h5 : ¬ sp b < sp x := fun w => q ⟨hcd, Or.inr w⟩
          have h6 := hpx b h2
          omega
theorem Bst.eb {cd : Int → Bool} {sp r : Int → Int} : ∀ (z : Nat), Bst (fun x => 0 ≤ x ∧ x < (z : Int)) cd sp r (eBs z cd sp r) := by
  intro z
  induction z with
  | zero => exact Or.inl ⟨rfl, fun c hc => by omega⟩
  | succ z ih =>
    have hm : ∀ c : Int, (0 ≤ c ∧ c < ((z + 1 : Nat) : Int)) ↔ ((0 ≤ c ∧ c < (z : Int)) ∨ c = z) := fun c => by omega
    unfold eBs
    generalize eBs z cd sp r = b at ih
    split
    · rename_i q
      refine Or.inr ⟨by omega, (hm _).mpr (Or.inr rfl), q.1, fun c hc hcd => ?_⟩
      rcases (hm c).mp hc with w | w
      · rcases ih with ⟨h1, h2⟩ | ⟨h1, h2, h3, h4⟩
        · rw [h2 c w] at hcd; cases hcd
        · have h5 := h4 c w hcd
          rcases q.2 with u | u | u
          · exact absurd u h1
          · omega
          · omega
      · rw [w]; omega
    · rename_i q
      rcases ih with ⟨h1, h2⟩ | ⟨h1, h2, h3, h4⟩
      · refine Or.inl ⟨h1, fun c hc => ?_⟩
        rcases (hm c).mp hc with w | w
        · exact h2 c w
        · rw [w]
          cases hc : cd z with
          | false => rfl
          | true => exact absurd ⟨hc, Or.inl h1⟩ q
      · refine Or.inr ⟨h1, (hm b).mpr (Or.inl h2), h3, fun c hc hcd => ?_⟩
        rcases (hm c).mp hc with w | w
        · exact h4 c w hcd
        · rw [w] at hcd ⊢
          have h5 : ¬ sp b < sp z := fun u => q ⟨hcd, Or.inr (Or.inl u)⟩
          have h6 : ¬ (sp z = sp b ∧ r z < r b) := fun u => q ⟨hcd, Or.inr (Or.inr u)⟩
          omega
theorem Bst.uq {S S' : Int → Prop} {cd : Int → Bool} {sp r : Int → Int} {b b' : Int} (h : Bst S cd sp r b) (h' : Bst S' cd sp r b') (hS : ∀ c, cd c = true → (S c ↔ S' c)) (hi : ∀ c d, S c → S d → cd c = true → cd d = true → r c = r d → c = d) : b = b' := by
  rcases h with ⟨h1, h2⟩ | ⟨h1, h2, h3, h4⟩ <;> rcases h' with ⟨g1, g2⟩ | ⟨g1, g2, g3, g4⟩
  · rw [h1, g1]
  · have := h2 b' ((hS b' g3).mpr g2)
    rw [g3] at this; cases this
  · have := g2 b ((hS b h3).mp h2)
    rw [h3] at this; cases this
  · have a := h4 b' ((hS b' g3).mpr g2) g3
    have c := g4 b ((hS b h3).mp h2) h3
    exact hi b b' h2 ((hS b' g3).mpr g2) h3 g3 (by omega)
theorem Bst.sp {S : Int → Prop} {cd : Int → Bool} {sp sp' r : Int → Int} {b : Int} (h : Bst S cd sp r b) (he : ∀ c, S c → cd c = true → sp' c = sp c) : Bst S cd sp' r b := by
  rcases h with h | ⟨h1, h2, h3, h4⟩
  · exact Or.inl h
  · exact Or.inr ⟨h1, h2, h3, fun c hc hcd => by rw [he c hc hcd, he b h2 h3]; exact h4 c hc hcd⟩
theorem Bst.cd {S : Int → Prop} {cd cd' : Int → Bool} {sp r : Int → Int} {b : Int} (h : Bst S cd sp r b) (he : ∀ c, S c → cd' c = cd c) : Bst S cd' sp r b := by
  rcases h with ⟨h1, h2⟩ | ⟨h1, h2, h3, h4⟩
  · exact Or.inl ⟨h1, fun c hc => by rw [he c hc]; exact h2 c hc⟩
  · exact Or.inr ⟨h1, h2, by rw [he b h2]; exact h3, fun c hc hcd => h4 c hc (by rw [← he c hc]; exact hcd)⟩
theorem Bst.rk {S : Int → Prop} {cd : Int → Bool} {sp r r' : Int → Int} {b : Int} (h : Bst S cd sp r b) (he : ∀ c, S c → cd c = true → r' c = r c) : Bst S cd sp r' b := by
  rcases h with h | ⟨h1, h2, h3, h4⟩
  · exact Or.inl h
  · exact Or.inr ⟨h1, h2, h3, fun c hc hcd => by rw [he c hc hcd, he b h2 h3]; exact h4 c hc hcd⟩
/-- the model's data D tells the house v -/
def MR (D : Int → Int) (v : HV) : Prop := (D 0 = v.sh ∧ D 1 = v.lb.length ∧ D 2 = v.nm.length ∧ 0 ≤ D 3) ∧
  (∀ k : Int, 0 ≤ k → k < v.lb.length → D (6 + 24 * k) = hTr v.lb k ∧ D (6 + 24 * k + 1) = hKp v.lb k ∧ D (6 + 24 * k + 3) = (prf v.lb k).length ∧ dPf D k = prf v.lb k ∧ (D (6 + 24 * k + 2) > 0 ↔ k ∈ v.ld) ∧ D (6 + 24 * k + 2) ≤ D 3) ∧
  (∀ k n : Int, 0 ≤ k → k < v.lb.length → 0 ≤ n → n < v.nm.length → D (6 + 24 * k + 12 + n) = v.of k n) ∧ v.ld.Pairwise (fun i j => D (6 + 24 * i + 2) < D (6 + 24 * j + 2))
section MRS
variable {D : Int → Int} {v : HV}
theorem MR.ld (h : MR D v) {k : Int} (k0 : 0 ≤ k) (k1 : k < v.lb.length) : D (6 + 24 * k + 2) > 0 ↔ k ∈ v.ld := (h.2.1 k k0 k1).2.2.2.2.1
theorem MR.pf (h : MR D v) {k : Int} (k0 : 0 ≤ k) (k1 : k < v.lb.length) : dPf D k = prf v.lb k := (h.2.1 k k0 k1).2.2.2.1
theorem MR.rk (h : MR D v) (ho : HVok v) {k : Int} (k0 : 0 ≤ k) (k1 : k < v.lb.length) : dRk D k = fi v.ld k := by
  unfold dRk
  by_cases c : D (6 + 24 * k + 2) > 0
  · rw [if_pos c, h.1.2.1]
    have hk := (h.ld k0 k1).mp c
    rw [← fi_cnt (t := fun j => D (6 + 24 * j + 2)) v.ld h.2.2.2 hk]
    exact smI_mem (P := fun j => D (6 + 24 * j + 2) > 0 ∧ D (6 + 24 * j + 2) < D (6 + 24 * k + 2)) (Q := fun j => D (6 + 24 * j + 2) < D (6 + 24 * k + 2)) ho.2.2.2.1 ho.2.2.1 (fun j j0 j1 => by rw [h.ld j0 j1])
  · rw [if_neg c, fi_out (fun z => c ((h.ld k0 k1).mpr z))]
theorem MR.no (h : MR D v) {k : Int} (k0 : 0 ≤ k) (k1 : k < v.lb.length) : dNo D k = smI v.nm.length (fun n => bI (v.of k n ≠ -1)) := by
  unfold dNo
  rw [h.1.2.2.1]
  exact smI_congr (fun n n0 n1 => by simp only [h.2.2.1 k n k0 k1 n0 n1])
theorem MR.fr (h : MR D v) (ho : HVok v) {k : Int} : dFr D k = fri v.lb v.ld k := by
  unfold dFr fri
  rw [lsm_getD (f := fun j => bI (k ∈ prf v.lb j)), h.1.2.1]
  exact smI_mem (P := fun j => D (6 + 24 * j + 2) > 0 ∧ k ∈ dPf D j) (Q := fun j => k ∈ prf v.lb j) ho.2.2.2.1 ho.2.2.1 (fun j j0 j1 => by rw [h.ld j0 j1, h.pf j0 j1])
theorem MR.wt (h : MR D v) (ho : HVok v) {k : Int} (k0 : 0 ≤ k) (k1 : k < v.lb.length) : dWt D v.fn k = hWt v.nm.length v.lb v.of v.ld v.fn k := by
  unfold dWt hWt
  by_cases c : D (6 + 24 * k + 2) > 0
  · have := fi_pos ((h.ld k0 k1).mp c)
    rw [if_pos c, if_neg (by omega), (h.2.1 k k0 k1).1, h.rk ho k0 k1, h.no k0 k1, h.fr ho]
  · rw [if_neg c, if_pos (fi_out (fun z => c ((h.ld k0 k1).mpr z)))]
theorem hWt_ne {N : Int} {lb : List LV} {of : Int → Int → Int} {ld : List Int} {fn : EF} {k : Int} : hWt N lb of ld fn k ≠ -1 ↔ k ∈ ld := by
  unfold hWt
  by_cases c : k ∈ ld
  · have := fi_pos c
    rw [if_neg (by omega)]
    have := clw_bd (fn (hTr lb k) (fi ld k) (smI N (fun n => bI (of k n ≠ -1))) (fri lb ld k))
    exact ⟨fun _ => c, fun _ => by omega⟩
  · rw [if_pos (fi_out c)]
    exact ⟨fun z => absurd rfl z, fun z => absurd z c⟩
/-- what the election's tables are, told by the data -/
def QD (D : Int → Int) (v : HV) (W Wi T : Int → Int) (O V S B : Int → Int → Int) : Prop := (∀ k : Int, 0 ≤ k → k < v.lb.length → W k = dWt D v.fn k) ∧ (∀ k : Int, 0 ≤ k → k < v.lb.length → (W k ≠ -1 ↔ D (6 + 24 * k + 2) > 0)) ∧ (∀ k n : Int, 0 ≤ k → k < v.lb.length → 0 ≤ n → n < v.nm.length → O k n = D (6 + 24 * k + 12 + n)) ∧ (∀ k n : Int, 0 ≤ k → k < v.lb.length → 0 ≤ n → n < v.nm.length → hCd W O k n = dCd D k n) ∧ (∀ k n : Int, 0 ≤ k → k < v.lb.length → 0 ≤ n → n < v.nm.length → V k n = dVt D k n) ∧ (∀ k n : Int, 0 ≤ k → k < v.lb.length → 0 ≤ n → n < v.nm.length → S k n = xSp D v.fn k n) ∧ (∀ n : Int, 0 ≤ n → n < v.nm.length → T n = xTo D v.fn n) ∧ (∀ n : Int, 0 ≤ n → n < v.nm.length → Wi n = xBs D v.fn n) ∧ (∀ k n : Int, 0 ≤ k → k < v.lb.length → 0 ≤ n → n < v.nm.length → B k n = xBd D v.fn k n)
theorem QD.w {W Wi T : Int → Int} {O V S B : Int → Int → Int} (h : QD D v W Wi T O V S B) : ∀ k : Int, 0 ≤ k → k < v.lb.length → W k = dWt D v.fn k := h.1
theorem QD.wn {W Wi T : Int → Int} {O V S B : Int → Int → Int} (h : QD D v W Wi T O V S B) : ∀ k : Int, 0 ≤ k → k < v.lb.length → (W k ≠ -1 ↔ D (6 + 24 * k + 2) > 0) := h.2.1
theorem QD.o {W Wi T : Int → Int} {O V S B : Int → Int → Int} (h : QD D v W Wi T O V S B) : ∀ k n : Int, 0 ≤ k → k < v.lb.length → 0 ≤ n → n < v.nm.length → O k n = D (6 + 24 * k + 12 + n) := h.2.2.1
theorem QD.cd {W Wi T : Int → Int} {O V S B : Int → Int → Int} (h : QD D v W Wi T O V S B) : ∀ k n : Int, 0 ≤ k → k < v.lb.length → 0 ≤ n → n < v.nm.length → hCd W O k n = dCd D k n := h.2.2.2.1
theorem QD.vt {W Wi T : Int → Int} {O V S B : Int → Int → Int} (h : QD D v W Wi T O V S B) : ∀ k n : Int, 0 ≤ k → k < v.lb.length → 0 ≤ n → n < v.nm.length → V k n = dVt D k n := h.2.2.2.2.1
theorem QD.s {W Wi T : Int → Int} {O V S B : Int → Int → Int} (h : QD D v W Wi T O V S B) : ∀ k n : Int, 0 ≤ k → k < v.lb.length → 0 ≤ n → n < v.nm.length → S k n = xSp D v.fn k n := h.2.2.2.2.2.1
theorem QD.t {W Wi T : Int → Int} {O V S B : Int → Int → Int} (h : QD D v W Wi T O V S B) : ∀ n : Int, 0 ≤ n → n < v.nm.length → T n = xTo D v.fn n := h.2.2.2.2.2.2.1
theorem QD.wi {W Wi T : Int → Int} {O V S B : Int → Int → Int} (h : QD D v W Wi T O V S B) : ∀ n : Int, 0 ≤ n → n < v.nm.length → Wi n = xBs D v.fn n := h.2.2.2.2.2.2.2.1
theorem QD.b {W Wi T : Int → Int} {O V S B : Int → Int → Int} (h : QD D v W Wi T O V S B) : ∀ k n : Int, 0 ≤ k → k < v.lb.length → 0 ≤ n → n < v.nm.length → B k n = xBd D v.fn k n := h.2.2.2.2.2.2.2.2
theorem MR.q (h : MR D v) (ho : HVok v) {W Wi T : Int → Int} {O V S B : Int → Int → Int} (hq : QE v W Wi T O V S B) : QD D v W Wi T O V S B := by
  have hrg := hq.rg ho
  obtain ⟨q1, q2, q3, q4, q5⟩ := hq
  have hw : ∀ k : Int, 0 ≤ k → k < v.lb.length → W k = dWt D v.fn k := fun k k0 k1 => by rw [q1 k k0 k1, h.wt ho k0 k1]
  have hwn : ∀ k : Int, 0 ≤ k → k < v.lb.length → (W k ≠ -1 ↔ D (6 + 24 * k + 2) > 0) := fun k k0 k1 => by rw [q1 k k0 k1, hWt_ne, h.ld k0 k1]
  have hO : ∀ k n : Int, 0 ≤ k → k < v.lb.length → 0 ≤ n → n < v.nm.length → O k n = D (6 + 24 * k + 12 + n) := fun k n k0 k1 n0 n1 => by rw [q3 k n k0 k1 n0 n1, h.2.2.1 k n k0 k1 n0 n1]
  have hcd : ∀ k n : Int, 0 ≤ k → k < v.lb.length → 0 ≤ n → n < v.nm.length → hCd W O k n = dCd D k n := fun k n k0 k1 n0 n1 => by
    unfold hCd dCd
    rw [hO k n k0 k1 n0 n1]
    have := hwn k k0 k1
    simp only [this]
  have hv0 : ∀ k n : Int, 0 ≤ k → k < v.lb.length → 0 ≤ n → n < v.nm.length → hVt W O v.lb k n = dVt D k n := fun k n k0 k1 n0 n1 => by
    unfold hVt dVt
    have a := hwn k k0 k1
    by_cases c : D (6 + 24 * k + 2) > 0
    · rw [if_neg (a.mpr c), if_pos c, hO k n k0 k1 n0 n1, h.pf k0 k1]
      by_cases c2 : D (6 + 24 * k + 12 + n) ≠ -1
      · rw [if_pos c2, if_pos c2]
      · rw [if_neg c2, if_neg c2]
        congr 1
        have hm : ∀ o ∈ prf v.lb k, 0 ≤ o ∧ o < (v.lb.length : Int) := fun o hmo => by
          have hk' : k.toNat < v.lb.length := by omega
          have g := List.getElem?_eq_getElem hk'
          rw [prf_get g] at hmo
          exact ho.2.2.2.2.1 _ (List.mem_of_getElem? g) o hmo
        have key : ∀ l : List Int, (∀ o ∈ l, 0 ≤ o ∧ o < (v.lb.length : Int)) → l.find? (fun o => hCd W O o n) = l.find? (fun o => dCd D o n) := by
          intro l
          induction l with
          | nil => intro _; rfl
          | cons a l ih =>
            intro hl
            have ha := hl a List.mem_cons_self
            rw [List.find?_cons, List.find?_cons, hcd a n ha.1 ha.2 n0 n1, ih (fun o hmo => hl o (List.mem_cons_of_mem _ hmo))]
        exact key _ hm
    · rw [if_pos (Classical.not_not.mp (fun z => c (a.mp z))), if_neg c]
  have hV : ∀ k n : Int, 0 ≤ k → k < v.lb.length → 0 ≤ n → n < v.nm.length → V k n = dVt D k n := fun k n k0 k1 n0 n1 => by rw [(q5 n n0 n1).1 k k0 k1, hv0 k n k0 k1 n0 n1]
  have hS : ∀ k n : Int, 0 ≤ k → k < v.lb.length → 0 ≤ n → n < v.nm.length → S k n = xSp D v.fn k n := fun k n k0 k1 n0 n1 => by
    rw [(q5 n n0 n1).2.1 k k0 k1]
    unfold hSj xSp eSup
    rw [h.1.2.1]
    exact smI_congr (fun i i0 i1 => by rw [hv0 i n i0 i1 n0 n1, hw i i0 i1])
  have hT : ∀ n : Int, 0 ≤ n → n < v.nm.length → T n = xTo D v.fn n := fun n n0 n1 => by
    rw [(q5 n n0 n1).2.2.1]
    unfold hTj xTo eTot
    rw [h.1.2.1]
    exact smI_congr (fun i i0 i1 => by rw [hv0 i n i0 i1 n0 n1, hw i i0 i1])
  have hWi : ∀ n : Int, 0 ≤ n → n < v.nm.length → Wi n = xBs D v.fn n := fun n n0 n1 => by
    rw [(q5 n n0 n1).2.2.2.1]
    have a := Bst.hb (cd := fun k => hCd W O k n) (sp := fun c => S c n) (r := fi v.ld) v.ld [] (-1) (fi_pw ho.2.2.2.1) (fun x hx => by have := ho.2.2.1 x hx; omega) (Or.inl ⟨rfl, fun c hc => by cases hc⟩)
    rw [List.nil_append] at a
    have b := Bst.eb (cd := fun k => dCd D k n) (sp := fun c => xSp D v.fn c n) (r := dRk D) v.lb.length
    have e : xBs D v.fn n = eBs v.lb.length (fun k => dCd D k n) (fun c => xSp D v.fn c n) (dRk D) := by
      unfold xBs eBsI
      rw [h.1.2.1, Int.toNat_natCast]
    rw [e]
    have a2 := ((a.cd (cd' := fun k => dCd D k n) (fun c hc => by have := ho.2.2.1 c hc; exact (hcd c n this.1 this.2 n0 n1).symm)).sp (sp' := fun c => xSp D v.fn c n) (fun c hc _ => by have := ho.2.2.1 c hc; exact (hS c n this.1 this.2 n0 n1).symm)).rk (r' := dRk D) (fun c hc _ => by have := ho.2.2.1 c hc; exact h.rk ho this.1 this.2)
    have hSl : ∀ c : Int, dCd D c n = true → 0 ≤ c ∧ c < (v.lb.length : Int) → c ∈ v.ld := fun c hc hr => (h.ld hr.1 hr.2).mp (dCd_t hc).1
    refine a2.uq b (fun c hc => ⟨fun hm => ho.2.2.1 c hm, fun hr => hSl c hc hr⟩) (fun c d hc hd _ _ hr => ?_)
    have c1 := ho.2.2.1 c hc
    have d1 := ho.2.2.1 d hd
    rw [h.rk ho c1.1 c1.2, h.rk ho d1.1 d1.2] at hr
    exact fi_inj hc hd hr
  refine ⟨hw, hwn, hO, hcd, hV, hS, hT, hWi, fun k n k0 k1 n0 n1 => ?_⟩
  rw [(q5 n n0 n1).2.2.2.2 k k0 k1]
  unfold hBd xBd dBd
  have a := hwn k k0 k1
  by_cases c : D (6 + 24 * k + 2) > 0
  · rw [if_neg (a.mpr c), if_pos c]
    have eK := (h.2.1 k k0 k1).2.1
    show (if hKp v.lb k = 1 ∧ V k n ≠ -1 ∧ v.sh * T n ≤ 100 * S (V k n) n then V k n else Wi n) = if D (6 + 24 * k + 1) = 1 ∧ dVt D k n ≠ -1 ∧ D 0 * xTo D v.fn n ≤ 100 * xSp D v.fn (dVt D k n) n then dVt D k n else xBs D v.fn n
    rw [hV k n k0 k1 n0 n1, hT n n0 n1, hWi n n0 n1, h.1.1, eK]
    by_cases c2 : dVt D k n = -1
    · rw [if_neg (fun z => z.2.1 c2), if_neg (fun z => z.2.1 c2)]
    · have rg := hrg.2.2.1 k n k0 k1 n0 n1
      rw [hV k n k0 k1 n0 n1] at rg
      rw [hS (dVt D k n) n (by omega) (by omega) n0 n1]
  · rw [if_pos (Classical.not_not.mp (fun z => c (a.mp z))), if_neg c]
end MRS
