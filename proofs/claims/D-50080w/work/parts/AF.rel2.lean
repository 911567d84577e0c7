/-! ===== questions and changes, on both sides ===== -/
set_option maxRecDepth 100000
theorem bI_iff {P Q : Prop} [Decidable P] [Decidable Q] (h : P ↔ Q) : bI P = bI Q := by
  by_cases c : P
  · rw [bI_t c, bI_t (h.mp c)]
  · rw [bI_f c, bI_f (fun z => c (h.mpr z))]
section MRQ
variable {D : Int → Int} {v : HV} {W Wi T : Int → Int} {O V S B : Int → Int → Int}
theorem QD.sup (h : QD D v W Wi T O V S B) {k n : Int} (k0 : 0 ≤ k) (k1 : k < v.lb.length) (n0 : 0 ≤ n) (n1 : n < v.nm.length) : (if W k ≠ -1 ∧ O k n ≠ -1 then S k n else -1) = if dCd D k n = true then xSp D v.fn k n else -1 := by
  rw [← h.cd k n k0 k1 n0 n1, h.s k n k0 k1 n0 n1]
  by_cases c : W k ≠ -1 ∧ O k n ≠ -1
  · rw [if_pos c, if_pos (hCd_t.mpr c)]
  · rw [if_neg c, if_neg (fun z => c (hCd_t.mp z))]
theorem QD.can (h : QD D v W Wi T O V S B) (hR : MR D v) {n : Int} (n0 : 0 ≤ n) (n1 : n < v.nm.length) : smI (v.lb.length : Int) (fun k => bI (W k ≠ -1 ∧ O k n ≠ -1)) = smI (D 1) (fun k => bI (D (6 + 24 * k + 2) > 0 ∧ D (6 + 24 * k + 12 + n) ≠ -1)) := by
  rw [hR.1.2.1]
  exact smI_congr (fun k k0 k1 => bI_iff (by rw [h.wn k k0 k1, h.o k n k0 k1 n0 n1]))
theorem QD.mno (h : QD D v W Wi T O V S B) (hR : MR D v) {n : Int} (n0 : 0 ≤ n) (n1 : n < v.nm.length) : smI (v.lb.length : Int) (fun k => bI (W k ≠ -1 ∧ (B k n = Wi n ↔ (0 : Int) = 1))) = smI (D 1) (fun k => bI (D (6 + 24 * k + 2) > 0 ∧ xBd D v.fn k n ≠ xBs D v.fn n)) := by
  rw [hR.1.2.1]
  exact smI_congr (fun k k0 k1 => bI_iff (by rw [h.wn k k0 k1, h.b k n k0 k1 n0 n1, h.wi n n0 n1]; simp))
theorem QD.us (h : QD D v W Wi T O V S B) (hR : MR D v) {k n : Int} (n0 : 0 ≤ n) (n1 : n < v.nm.length) : smI (v.lb.length : Int) (fun k9 => bI (W k9 ≠ -1 ∧ (B k9 n = k ↔ (1 : Int) = 1))) = smI (D 1) (fun q => bI (D (6 + 24 * q + 2) > 0 ∧ xBd D v.fn q n = k)) := by
  rw [hR.1.2.1]
  exact smI_congr (fun q k0 k1 => bI_iff (by rw [h.wn q k0 k1, h.b q n k0 k1 n0 n1]; simp))
theorem QD.mx (h : QD D v W Wi T O V S B) {n b : Int} (n0 : 0 ≤ n) (n1 : n < v.nm.length) : ∀ z : Nat, z ≤ v.lb.length → hMx (fun k => hCd W O k n) (fun c => S c n) b z = xMx D v.fn n b z := by
  intro z
  induction z with
  | zero => intro _; rfl
  | succ z ih =>
    intro hz
    have e := ih (by omega)
    unfold hMx xMx
    rw [e]
    show (if (z : Int) ≠ b ∧ hCd W O z n = true then max (xMx D v.fn n b z) (S z n) else _) = _
    rw [h.cd z n (by omega) (by omega) n0 n1, h.s z n (by omega) (by omega) n0 n1]
theorem QD.mar (h : QD D v W Wi T O V S B) (hR : MR D v) (hg : ERg v.lb.length v.nm.length W Wi O V S B) {n : Int} (n0 : 0 ≤ n) (n1 : n < v.nm.length) : (if Wi n = -1 then -1 else S (Wi n) n - hMx (fun k => hCd W O k n) (fun c => S c n) (Wi n) v.lb.length) = (if xBs D v.fn n = -1 then -1 else xSp D v.fn (xBs D v.fn n) n - xMx D v.fn n (xBs D v.fn n) (D 1).toNat) := by
  have rg := hg.2.1 n n0 n1
  rw [h.mx n0 n1 _ (Nat.le_refl _), hR.1.2.1, Int.toNat_natCast]
  rw [h.wi n n0 n1] at rg ⊢
  by_cases c : xBs D v.fn n = -1
  · rw [if_pos c, if_pos c]
  · rw [if_neg c, if_neg c, h.s _ n (by omega) (by omega) n0 n1]
theorem flw_congr {L N : Nat} {bd bd' of of' : Int → Int → Int} (hb : ∀ k n : Int, 0 ≤ k → k < L → 0 ≤ n → n < N → bd k n = bd' k n) (ho : ∀ k n : Int, 0 ≤ k → k < L → 0 ≤ n → n < N → of k n = of' k n) (hr : ∀ k n : Int, 0 ≤ k → k < L → 0 ≤ n → n < N → -1 ≤ bd k n ∧ bd k n < L) (hne : ∀ k n : Int, 0 ≤ k → k < L → 0 ≤ n → n < N → bd k n ≠ -1 → of (bd k n) n ≠ -1) (hor : ∀ k n : Int, 0 ≤ k → k < L → 0 ≤ n → n < N → -2 - (N : Int) < of k n) :
    ∀ (f : Nat) (V : Int → Int → Bool) (k n s : Int), 0 ≤ k → k < L → 0 ≤ n → n < N → flw f bd of V k n s = flw f bd' of' V k n s := by
  intro f
  induction f with
  | zero => intro V k n s _ _ _ _; rfl
  | succ f ih =>
    intro V k n s k0 k1 n0 n1
    unfold flw
    have e1 := hb k n k0 k1 n0 n1
    rw [← e1]
    by_cases c1 : V k n = true
    · rw [if_pos c1, if_pos c1]
    · rw [if_neg c1, if_neg c1]
      by_cases c2 : bd k n = -1
      · rw [if_pos c2, if_pos c2]
      · rw [if_neg c2, if_neg c2]
        have rg := hr k n k0 k1 n0 n1
        have e2 := ho (bd k n) n (by omega) (by omega) n0 n1
        have ne := hne k n k0 k1 n0 n1 c2
        have r2 := hor (bd k n) n (by omega) (by omega) n0 n1
        rw [← e2]
        by_cases c3 : 0 ≤ of (bd k n) n
        · rw [if_pos c3, if_pos c3]
        · rw [if_neg c3, if_neg c3]
          exact ih _ _ _ _ (by omega) (by omega) (by omega) (by omega)
theorem QD.cl (h : QD D v W Wi T O V S B) (hg : ERg v.lb.length v.nm.length W Wi O V S B) {k n : Int} (k0 : 0 ≤ k) (k1 : k < v.lb.length) (n0 : 0 ≤ n) (n1 : n < v.nm.length) : flw 97 B O (fun _ _ => false) k n 0 = xCl D v.fn k n :=
  flw_congr (L := v.lb.length) (N := v.nm.length) h.b h.o (fun k n a b c d => hg.2.2.2.1 k n a b c d) (fun k n a b c d => hg.2.2.2.2.1 k n a b c d) (fun k n a b c d => (hg.2.2.2.2.2.2 k n a b c d).1) 97 _ k n 0 k0 k1 n0 n1
theorem MR.to (h : MR D v) (ho : HVok v) {k w : Int} (k0 : 0 ≤ k) (k1 : k < v.lb.length) (w0 : 0 ≤ w) (w1 : w ≤ 5) : lbv v k w = dTo D v.fn k w := by
  unfold lbv dTo
  have a := h.2.1 k k0 k1
  have hw : w = 0 ∨ w = 1 ∨ w = 2 ∨ w = 3 ∨ w = 4 ∨ w = 5 := by omega
  rcases hw with rfl | rfl | rfl | rfl | rfl | rfl
  · rw [if_pos rfl, if_pos (by decide), Int.add_zero]; exact a.1.symm
  · rw [if_neg (by decide), if_pos rfl, if_pos (by decide)]; exact a.2.1.symm
  · rw [if_neg (by decide), if_neg (by decide), if_pos rfl, if_neg (by decide), if_pos rfl]; exact (h.rk ho k0 k1).symm
  · rw [if_neg (by decide), if_neg (by decide), if_neg (by decide), if_pos rfl, if_neg (by decide), if_neg (by decide), if_pos rfl]; exact (h.no k0 k1).symm
  · rw [if_neg (by decide), if_neg (by decide), if_neg (by decide), if_neg (by decide), if_pos rfl, if_neg (by decide), if_neg (by decide), if_neg (by decide), if_pos rfl]; exact a.2.2.1.symm
  · rw [if_neg (by decide), if_neg (by decide), if_neg (by decide), if_neg (by decide), if_neg (by decide), if_neg (by decide), if_neg (by decide), if_neg (by decide), if_neg (by decide)]; exact (h.wt ho k0 k1).symm
theorem QD.ck (h : QD D v W Wi T O V S B) (hR : MR D v) (ho : HVok v) (hg : ERg v.lb.length v.nm.length W Wi O V S B) : hK3 v B O v.lb.length v.sh = xK3 D v.fn (D 1).toNat (D 0) := by
  have k1 : ∀ (k : Int) (w : Nat) (s : Int), 0 ≤ k → k < v.lb.length → w ≤ 6 → hK1 v k w s = xK1 D v.fn k w s := by
    intro k w s k0 k1
    induction w with
    | zero => intro _; rfl
    | succ w ih =>
      intro hw
      show 31 * hK1 v k w s + lbv v k w = 31 * xK1 D v.fn k w s + dTo D v.fn k w
      rw [ih (by omega), hR.to ho k0 k1 (by omega) (by omega)]
  have k2 : ∀ (k : Int) (n : Nat) (s : Int), 0 ≤ k → k < v.lb.length → n ≤ v.nm.length → hK2 B O k n s = xK2 D v.fn k n s := by
    intro k n s k0 k1
    induction n with
    | zero => intro _; rfl
    | succ n ih =>
      intro hn
      show 31 * (31 * (31 * hK2 B O k n s + O k n) + B k n) + (flw 97 B O (fun _ _ => false) k n 0).1 = 31 * (31 * (31 * xK2 D v.fn k n s + D (6 + 24 * k + 12 + n)) + xBd D v.fn k n) + (xCl D v.fn k n).1
      rw [ih (by omega), h.o k n k0 k1 (by omega) (by omega), h.b k n k0 k1 (by omega) (by omega), h.cl hg k0 k1 (by omega) (by omega)]
  have k3 : ∀ (k : Nat) (s : Int), k ≤ v.lb.length → hK3 v B O k s = xK3 D v.fn k s := by
    intro k s
    induction k with
    | zero => intro _; rfl
    | succ k ih =>
      intro hk
      show hK2 B O k v.nm.length (hK1 v k 6 (hK3 v B O k s)) = xK2 D v.fn k (D 2).toNat (xK1 D v.fn k 6 (xK3 D v.fn k s))
      rw [ih (by omega), k1 k 6 _ (by omega) (by omega) (Nat.le_refl _), k2 k _ _ (by omega) (by omega) (Nat.le_refl _), hR.1.2.2.1, Int.toNat_natCast]
  rw [k3 _ _ (Nat.le_refl _), hR.1.2.1, Int.toNat_natCast, hR.1.1]
theorem MOV.x {D' : Int → Int} {v' : HV} {b z : Int} (hm : MOV v v' b z) (h : MR D v) (ho : HVok v) (h' : MR D' v') (ho' : HVok v') (hl : v'.lb.length = v.lb.length) (hn : v'.nm.length = v.nm.length) (hf : v'.fn = v.fn) : z = xCh (xBd D v.fn) D' v.fn b := by
  obtain ⟨W, Wi, T, O, V, S, B, hq, W', Wi', T', O', V', S', B', hq', rfl⟩ := hm
  have q := h.q ho hq
  have q' := h'.q ho' hq'
  unfold xCh
  rw [h'.1.2.1, h'.1.2.2.1, hl, hn]
  refine smI_congr (fun k k0 k1 => smI_congr (fun n n0 n1 => bI_iff ?_))
  rw [q'.wn k k0 (by rw [hl]; exact k1), q'.b k n k0 (by rw [hl]; exact k1) n0 (by rw [hn]; exact n1), q.b k n k0 k1 n0 n1, hf]
  exact ⟨fun z => ⟨z.1, z.2.1, Ne.symm z.2.2⟩, fun z => ⟨z.1, z.2.1, Ne.symm z.2.2⟩⟩
theorem xCh_off {w : Int → Int → Int} {fn : EF} {k : Int} (k0 : 0 ≤ k) (h : ¬ D (6 + 24 * k + 2) > 0) : xCh w D fn k = xCh w D fn (-1) := by
  unfold xCh
  refine smI_congr (fun j j0 j1 => smI_congr (fun n n0 n1 => bI_iff ?_))
  constructor
  · intro z; exact ⟨by omega, z.2⟩
  · intro z; exact ⟨fun e => h (by rw [← e]; exact z.2.1), z.2⟩
theorem dPf_congr {D' : Int → Int} {k : Int} (h8 : D (6 + 24 * k + 3) ≤ 8) (hp : ∀ i : Int, 3 ≤ i → i < 12 → D' (6 + 24 * k + i) = D (6 + 24 * k + i)) : dPf D' k = dPf D k := by
  unfold dPf lsI
  rw [hp 3 (by decide) (by decide)]
  refine List.map_congr_left (fun i hi => ?_)
  have := List.mem_range.mp hi
  have e : 6 + 24 * k + 4 + (i : Int) = 6 + 24 * k + (4 + i) := by omega
  show D' (6 + 24 * k + 4 + (i : Int)) = D (6 + 24 * k + 4 + (i : Int))
  rw [e]
  exact hp _ (by omega) (by omega)
theorem HVok.pl (ho : HVok v) {k : Int} (k0 : 0 ≤ k) (k1 : k < v.lb.length) : (prf v.lb k).length ≤ 8 := by
  have hk' : k.toNat < v.lb.length := by omega
  have g := List.getElem?_eq_getElem hk'
  rw [prf_get g]
  exact ho.2.2.2.2.2.2.1 _ (List.mem_of_getElem? g)
theorem MR.up {D' : Int → Int} {v' : HV} (h : MR D v) (ho : HVok v) (hl : v'.lb.length = v.lb.length) (hn : v'.nm.length = v.nm.length) (h0 : D' 0 = v'.sh) (h1 : D' 1 = D 1) (h2 : D' 2 = D 2) (h3 : 0 ≤ D' 3) (hp : ∀ k i : Int, 0 ≤ k → k < v.lb.length → 3 ≤ i → i < 12 → D' (6 + 24 * k + i) = D (6 + 24 * k + i)) (hpf : ∀ k : Int, 0 ≤ k → k < v.lb.length → prf v'.lb k = prf v.lb k)
    (ht : ∀ k : Int, 0 ≤ k → k < v.lb.length → D' (6 + 24 * k) = hTr v'.lb k) (hk : ∀ k : Int, 0 ≤ k → k < v.lb.length → D' (6 + 24 * k + 1) = hKp v'.lb k) (hld : ∀ k : Int, 0 ≤ k → k < v.lb.length → (D' (6 + 24 * k + 2) > 0 ↔ k ∈ v'.ld) ∧ D' (6 + 24 * k + 2) ≤ D' 3) (hof : ∀ k n : Int, 0 ≤ k → k < v.lb.length → 0 ≤ n → n < v.nm.length → D' (6 + 24 * k + 12 + n) = v'.of k n) (hpw : v'.ld.Pairwise (fun i j => D' (6 + 24 * i + 2) < D' (6 + 24 * j + 2))) : MR D' v' := by
  refine ⟨⟨h0, by rw [h1, hl]; exact h.1.2.1, by rw [h2, hn]; exact h.1.2.2.1, h3⟩, fun k k0 k1 => ?_, fun k n k0 k1 n0 n1 => hof k n k0 (by rw [← hl]; exact k1) n0 (by rw [← hn]; exact n1), hpw⟩
  rw [hl] at k1
  have a := h.2.1 k k0 k1
  have h8 := ho.pl k0 k1
  refine ⟨ht k k0 k1, hk k k0 k1, ?_, ?_, (hld k k0 k1).1, (hld k k0 k1).2⟩
  · rw [hp k 3 k0 k1 (by decide) (by decide), hpf k k0 k1]; exact a.2.2.1
  · rw [dPf_congr (by rw [a.2.2.1]; omega) (fun i i0 i1 => hp k i k0 k1 i0 i1), hpf k k0 k1]; exact a.2.2.2.1
theorem MR.congr {D' : Int → Int} (h : MR D v) (ho : HVok v) (e : rEq D' D) : MR D' v := by
  have h8 := ho.2.1
  have h12 := ho.1
  refine h.up (v' := v) ho rfl rfl ((e 0 (by decide) (by decide)).trans h.1.1) (e 1 (by decide) (by decide)) (e 2 (by decide) (by decide)) (by rw [e 3 (by decide) (by decide)]; exact h.1.2.2.2) (fun k i k0 k1 i0 i1 => e _ (by omega) (by omega)) (fun _ _ _ => rfl) (fun k k0 k1 => ?_) (fun k k0 k1 => ?_) (fun k k0 k1 => ?_) (fun k n k0 k1 n0 n1 => ?_) ?_
  · rw [e _ (by omega) (by omega)]; exact (h.2.1 k k0 k1).1
  · rw [e _ (by omega) (by omega)]; exact (h.2.1 k k0 k1).2.1
  · rw [e _ (by omega) (by omega), e 3 (by decide) (by decide)]; exact (h.2.1 k k0 k1).2.2.2.2
  · rw [e _ (by omega) (by omega)]; exact h.2.2.1 k n k0 k1 n0 n1
  · refine List.Pairwise.imp_of_mem (fun {x y} hx hy hxy => ?_) h.2.2.2
    have a := ho.2.2.1 x hx
    have b := ho.2.2.1 y hy
    rw [e _ (by omega) (by omega), e _ (by omega) (by omega)]
    exact hxy
theorem MR.put (h : MR D v) (ho : HVok v) {k n z : Int} (k0 : 0 ≤ k) (k1 : k < v.lb.length) (n0 : 0 ≤ n) (n1 : n < v.nm.length) : MR (iup D (6 + 24 * k + 12 + n) z) (vOf v (o2 v.of k n z)) := by
  have h8 := ho.2.1
  have h12 := ho.1
  refine h.up (v' := vOf v (o2 v.of k n z)) ho rfl rfl (by rw [iup_n (by omega)]; exact h.1.1) (iup_n (by omega)) (iup_n (by omega)) (by rw [iup_n (by omega)]; exact h.1.2.2.2) (fun q i q0 q1 i0 i1 => iup_n (by omega)) (fun _ _ _ => rfl) (fun q q0 q1 => ?_) (fun q q0 q1 => ?_) (fun q q0 q1 => ?_) (fun q p q0 q1 p0 p1 => ?_) ?_
  · rw [iup_n (by omega)]; exact (h.2.1 q q0 q1).1
  · rw [iup_n (by omega)]; exact (h.2.1 q q0 q1).2.1
  · rw [iup_n (by omega), iup_n (by omega)]; exact (h.2.1 q q0 q1).2.2.2.2
  · show _ = o2 v.of k n z q p
    unfold o2
    by_cases c : q = k ∧ p = n
    · rw [if_pos c, c.1, c.2, iup_s]
    · rw [if_neg c, iup_n (by omega)]; exact h.2.2.1 q p q0 q1 p0 p1
  · refine List.Pairwise.imp_of_mem (fun {x y} hx hy hxy => ?_) h.2.2.2
    have a := ho.2.2.1 x hx
    have b := ho.2.2.1 y hy
    rw [iup_n (by omega), iup_n (by omega)]
    exact hxy
theorem MR.shr (h : MR D v) (ho : HVok v) {z : Int} : MR (iup D 0 z) (vSh v z) := by
  refine h.up (v' := vSh v z) ho rfl rfl iup_s (iup_n (by omega)) (iup_n (by omega)) (by rw [iup_n (by omega)]; exact h.1.2.2.2) (fun q i q0 q1 i0 i1 => iup_n (by omega)) (fun _ _ _ => rfl) (fun q q0 q1 => ?_) (fun q q0 q1 => ?_) (fun q q0 q1 => ?_) (fun q p q0 q1 p0 p1 => ?_) ?_
  · rw [iup_n (by omega)]; exact (h.2.1 q q0 q1).1
  · rw [iup_n (by omega)]; exact (h.2.1 q q0 q1).2.1
  · rw [iup_n (by omega), iup_n (by omega)]; exact (h.2.1 q q0 q1).2.2.2.2
  · rw [iup_n (by omega)]; exact h.2.2.1 q p q0 q1 p0 p1
  · refine List.Pairwise.imp_of_mem (fun {x y} hx hy hxy => ?_) h.2.2.2
    have a := ho.2.2.1 x hx
    have b := ho.2.2.1 y hy
    rw [iup_n (by omega), iup_n (by omega)]
    exact hxy
theorem lbs_at {lb : List LV} {k q : Int} {w : LV} (k0 : 0 ≤ k) (k1 : k < lb.length) (q0 : 0 ≤ q) : (lb.set k.toNat w).getD q.toNat ([], 0, 0, []) = if q = k then w else lb.getD q.toNat ([], 0, 0, []) := by
  rw [List.getD_eq_getElem?_getD, List.getD_eq_getElem?_getD]
  by_cases c : q = k
  · rw [if_pos c, c, List.getElem?_set_self (by omega)]; rfl
  · rw [if_neg c, List.getElem?_set_ne (by omega)]
theorem MR.tru (h : MR D v) (ho : HVok v) {k z : Int} (k0 : 0 ≤ k) (k1 : k < v.lb.length) : MR (iup D (6 + 24 * k + 0) z) (vLb v (lbT v.lb k z)) := by
  have h8 := ho.2.1
  have h12 := ho.1
  refine h.up (v' := vLb v (lbT v.lb k z)) ho List.length_set rfl (by rw [iup_n (by omega)]; exact h.1.1) (iup_n (by omega)) (iup_n (by omega)) (by rw [iup_n (by omega)]; exact h.1.2.2.2) (fun q i q0 q1 i0 i1 => iup_n (by omega)) (fun q q0 q1 => ?_) (fun q q0 q1 => ?_) (fun q q0 q1 => ?_) (fun q q0 q1 => ?_) (fun q p q0 q1 p0 p1 => ?_) ?_
  · show prf (lbT v.lb k z) q = _
    unfold prf lbT
    rw [lbs_at k0 k1 q0]
    by_cases c : q = k
    · rw [if_pos c, c]
    · rw [if_neg c]
  · show _ = hTr (lbT v.lb k z) q
    unfold hTr lbT
    rw [lbs_at k0 k1 q0]
    by_cases c : q = k
    · rw [if_pos c, c, Int.add_zero, iup_s]
    · rw [if_neg c, iup_n (by omega)]; exact (h.2.1 q q0 q1).1
  · show _ = hKp (lbT v.lb k z) q
    unfold hKp lbT
    rw [lbs_at k0 k1 q0, iup_n (by omega)]
    by_cases c : q = k
    · rw [if_pos c, c]; exact (h.2.1 k k0 k1).2.1
    · rw [if_neg c]; exact (h.2.1 q q0 q1).2.1
  · rw [iup_n (by omega), iup_n (by omega)]; exact (h.2.1 q q0 q1).2.2.2.2
  · rw [iup_n (by omega)]; exact h.2.2.1 q p q0 q1 p0 p1
  · refine List.Pairwise.imp_of_mem (fun {x y} hx hy hxy => ?_) h.2.2.2
    have a := ho.2.2.1 x hx
    have b := ho.2.2.1 y hy
    rw [iup_n (by omega), iup_n (by omega)]
    exact hxy
theorem MR.kee (h : MR D v) (ho : HVok v) {k z : Int} (k0 : 0 ≤ k) (k1 : k < v.lb.length) : MR (iup D (6 + 24 * k + 1) z) (vLb v (lbK v.lb k z)) := by
  have h8 := ho.2.1
  have h12 := ho.1
  refine h.up (v' := vLb v (lbK v.lb k z)) ho List.length_set rfl (by rw [iup_n (by omega)]; exact h.1.1) (iup_n (by omega)) (iup_n (by omega)) (by rw [iup_n (by omega)]; exact h.1.2.2.2) (fun q i q0 q1 i0 i1 => iup_n (by omega)) (fun q q0 q1 => ?_) (fun q q0 q1 => ?_) (fun q q0 q1 => ?_) (fun q q0 q1 => ?_) (fun q p q0 q1 p0 p1 => ?_) ?_
  · show prf (lbK v.lb k z) q = _
    unfold prf lbK
    rw [lbs_at k0 k1 q0]
    by_cases c : q = k
    · rw [if_pos c, c]
    · rw [if_neg c]
  · show _ = hTr (lbK v.lb k z) q
    unfold hTr lbK
    rw [lbs_at k0 k1 q0, iup_n (by omega)]
    by_cases c : q = k
    · rw [if_pos c, c]; exact (h.2.1 k k0 k1).1
    · rw [if_neg c]; exact (h.2.1 q q0 q1).1
  · show _ = hKp (lbK v.lb k z) q
    unfold hKp lbK
    rw [lbs_at k0 k1 q0]
    by_cases c : q = k
    · rw [if_pos c, c, iup_s]
    · rw [if_neg c, iup_n (by omega)]; exact (h.2.1 q q0 q1).2.1
  · rw [iup_n (by omega), iup_n (by omega)]; exact (h.2.1 q q0 q1).2.2.2.2
  · rw [iup_n (by omega)]; exact h.2.2.1 q p q0 q1 p0 p1
  · refine List.Pairwise.imp_of_mem (fun {x y} hx hy hxy => ?_) h.2.2.2
    have a := ho.2.2.1 x hx
    have b := ho.2.2.1 y hy
    rw [iup_n (by omega), iup_n (by omega)]
    exact hxy
theorem fi_era {k x : Int} : ∀ (l : List Int), l.Nodup → k ∈ l → (x ∈ l.eraseIdx (fi l k).toNat ↔ (x ∈ l ∧ x ≠ k)) := by
  intro l
  induction l with
  | nil => intro _ h; cases h
  | cons a l ih =>
    intro hn hk
    obtain ⟨h1, h2⟩ := List.nodup_cons.mp hn
    by_cases e : a = k
    · subst e
      rw [fi_self]
      show x ∈ l ↔ _
      refine ⟨fun hx => ⟨List.mem_cons_of_mem _ hx, fun z => h1 (by rw [← z]; exact hx)⟩, fun hx => (List.mem_cons.mp hx.1).resolve_left hx.2⟩
    · have hk2 : k ∈ l := (List.mem_cons.mp hk).resolve_left (Ne.symm e)
      have p := fi_pos hk2
      have e2 : (fi l k + 1).toNat = (fi l k).toNat + 1 := by omega
      rw [fi_tail e hk2, e2, List.eraseIdx_cons_succ, List.mem_cons, List.mem_cons, ih h2 hk2]
      constructor
      · intro z
        rcases z with z | z
        · exact ⟨Or.inl z, by rw [z]; exact e⟩
        · exact ⟨Or.inr z.1, z.2⟩
      · intro z
        rcases z.1 with w | w
        · exact Or.inl w
        · exact Or.inr ⟨w, z.2⟩
theorem MR.unl (h : MR D v) (ho : HVok v) {k : Int} (k0 : 0 ≤ k) (k1 : k < v.lb.length) (hk : k ∈ v.ld) : MR (iup D (6 + 24 * k + 2) 0) (vLd v (v.ld.eraseIdx (fi v.ld k).toNat)) := by
  have h8 := ho.2.1
  have h12 := ho.1
  have hm := fun x => fi_era (k := k) (x := x) v.ld ho.2.2.2.1 hk
  refine h.up (v' := vLd v (v.ld.eraseIdx (fi v.ld k).toNat)) ho rfl rfl (by rw [iup_n (by omega)]; exact h.1.1) (iup_n (by omega)) (iup_n (by omega)) (by rw [iup_n (by omega)]; exact h.1.2.2.2) (fun q i q0 q1 i0 i1 => iup_n (by omega)) (fun _ _ _ => rfl) (fun q q0 q1 => ?_) (fun q q0 q1 => ?_) (fun q q0 q1 => ?_) (fun q p q0 q1 p0 p1 => ?_) ?_
  · rw [iup_n (by omega)]; exact (h.2.1 q q0 q1).1
  · rw [iup_n (by omega)]; exact (h.2.1 q q0 q1).2.1
  · show (_ ↔ q ∈ v.ld.eraseIdx (fi v.ld k).toNat) ∧ _
    rw [hm q, iup_n (y := 3) (by omega)]
    by_cases c : q = k
    · rw [c, iup_s]
      exact ⟨⟨fun z => absurd z (by decide), fun z => absurd rfl z.2⟩, h.1.2.2.2⟩
    · rw [iup_n (by omega), h.ld q0 q1]
      exact ⟨⟨fun z => ⟨z, c⟩, fun z => z.1⟩, (h.2.1 q q0 q1).2.2.2.2.2⟩
  · rw [iup_n (by omega)]; exact h.2.2.1 q p q0 q1 p0 p1
  · refine List.Pairwise.imp_of_mem (fun {x y} hx hy hxy => ?_) (h.2.2.2.sublist (List.eraseIdx_sublist ..))
    have a := (hm x).mp hx
    have b := (hm y).mp hy
    have := a.2
    have := b.2
    rw [iup_n (by omega), iup_n (by omega)]
    exact hxy
theorem MR.rel (h : MR D v) (ho : HVok v) {k : Int} (k0 : 0 ≤ k) (k1 : k < v.lb.length) (hk : k ∉ v.ld) : MR (iup (iup D 3 (D 3 + 1)) (6 + 24 * k + 2) (D 3 + 1)) (vLd v (v.ld ++ [k])) := by
  have h8 := ho.2.1
  have h12 := ho.1
  have h3 := h.1.2.2.2
  have e3 : iup (iup D 3 (D 3 + 1)) (6 + 24 * k + 2) (D 3 + 1) 3 = D 3 + 1 := by rw [iup_n (by omega), iup_s]
  refine h.up (v' := vLd v (v.ld ++ [k])) ho rfl rfl (by rw [iup_n (by omega), iup_n (by omega)]; exact h.1.1) (by rw [iup_n (by omega), iup_n (by omega)]) (by rw [iup_n (by omega), iup_n (by omega)]) (by rw [e3]; omega) (fun q i q0 q1 i0 i1 => by rw [iup_n (by omega), iup_n (by omega)]) (fun _ _ _ => rfl) (fun q q0 q1 => ?_) (fun q q0 q1 => ?_) (fun q q0 q1 => ?_) (fun q p q0 q1 p0 p1 => ?_) ?_
  · rw [iup_n (by omega), iup_n (by omega)]; exact (h.2.1 q q0 q1).1
  · rw [iup_n (by omega), iup_n (by omega)]; exact (h.2.1 q q0 q1).2.1
  · show (_ ↔ q ∈ v.ld ++ [k]) ∧ _
    rw [e3]
    by_cases c : q = k
    · rw [c, iup_s]
      exact ⟨⟨fun _ => List.mem_append_right _ (List.mem_singleton.mpr rfl), fun _ => by omega⟩, Int.le_refl _⟩
    · rw [iup_n (by omega), iup_n (by omega), h.ld q0 q1]
      have := (h.2.1 q q0 q1).2.2.2.2.2
      exact ⟨⟨fun z => List.mem_append_left _ z, fun z => (List.mem_append.mp z).resolve_right (fun w => c (List.mem_singleton.mp w))⟩, by omega⟩
  · rw [iup_n (by omega), iup_n (by omega)]; exact h.2.2.1 q p q0 q1 p0 p1
  · refine List.pairwise_append.mpr ⟨List.Pairwise.imp_of_mem (fun {x y} hx hy hxy => ?_) h.2.2.2, List.pairwise_singleton _ _, fun x hx y hy => ?_⟩
    · have a := ho.2.2.1 x hx
      have b := ho.2.2.1 y hy
      have a2 : x ≠ k := fun e => hk (by rw [← e]; exact hx)
      have b2 : y ≠ k := fun e => hk (by rw [← e]; exact hy)
      rw [iup_n (by omega), iup_n (by omega), iup_n (by omega), iup_n (by omega)]
      exact hxy
    · have a := ho.2.2.1 x hx
      have a2 : x ≠ k := fun e => hk (by rw [← e]; exact hx)
      rw [List.mem_singleton.mp hy, iup_s, iup_n (by omega), iup_n (by omega)]
      have := (h.2.1 x a.1 a.2).2.2.2.2.2
      omega
theorem MR.lod {τ : MS} {s : PS} (hs : PSok s) (hR : MRep τ s) (he : rEq D (τ 9 0)) : MR D (vP s) := by
  have l8 := hs.lbl
  have l12 := hs.nml
  refine ⟨⟨(he 0 (by decide) (by decide)).trans hR.1.1, (he 1 (by decide) (by decide)).trans hR.1.2.1, (he 2 (by decide) (by decide)).trans hR.1.2.2.1, by rw [he 3 (by decide) (by decide), hR.1.2.2.2.1]; omega⟩, fun k k0 k1 => ?_, fun k n k0 k1 n0 n1 => ?_, ?_⟩
  · have k1 : k < (s.lb.length : Int) := k1
    have hk' : k.toNat < s.lb.length := by omega
    have g := List.getElem?_eq_getElem hk'
    generalize s.lb[k.toNat] = x at g
    obtain ⟨⟨r1, r2, r3, r4⟩, r5, r6, r7⟩ := hR.2.2.1 k.toNat x g
    rw [show ((k.toNat : Nat) : Int) = k by omega] at r1 r2 r3 r4 r5
    have h7 := (hs.2.2.2.1 _ (List.mem_of_getElem? g)).2.2.2.2.1
    have eP : prf s.lb k = x.2.2.2 := prf_get g
    refine ⟨?_, ?_, ?_, ?_, ?_, ?_⟩
    · rw [he _ (by omega) (by omega), r1]; exact (hTr_at g).symm
    · rw [he _ (by omega) (by omega), r2]; exact (hKp_at g).symm
    · rw [he _ (by omega) (by omega), r4]; show _ = ((prf s.lb k).length : Int); rw [eP]
    · show dPf D k = prf s.lb k
      rw [eP]
      unfold dPf lsI
      rw [he _ (by omega) (by omega), r4, Int.toNat_natCast]
      refine List.ext_getElem? (fun i => ?_)
      rw [List.getElem?_map]
      by_cases c : i < x.2.2.2.length
      · rw [List.getElem?_range c, List.getElem?_eq_getElem c]
        show some (D (6 + 24 * k + 4 + (i : Int))) = _
        rw [he _ (by omega) (by omega), r5 i _ (List.getElem?_eq_getElem c)]
      · rw [List.getElem?_eq_none (by rw [List.length_range]; omega), List.getElem?_eq_none (by omega)]; rfl
    · show _ ↔ k ∈ ldN s.lb.length
      rw [he _ (by omega) (by omega), r3]
      refine ⟨fun _ => ?_, fun _ => by omega⟩
      unfold ldN
      exact List.mem_map.mpr ⟨k.toNat, List.mem_range.mpr hk', by omega⟩
    · rw [he _ (by omega) (by omega), r3, he 3 (by decide) (by decide), hR.1.2.2.2.1]; omega
  · have k1 : k < (s.lb.length : Int) := k1
    have n1 : n < (s.nm.length : Int) := n1
    rw [he _ (by omega) (by omega), hR.ofv k0 (by omega) n0 (by omega)]
    rfl
  · show (ldN s.lb.length).Pairwise _
    have key : ∀ i : Int, i ∈ ldN s.lb.length → D (6 + 24 * i + 2) = i + 1 := fun i hi => by
      have rg := ldN_mem hi
      have g := List.getElem?_eq_getElem (show i.toNat < s.lb.length by omega)
      have r3 := (hR.2.2.1 i.toNat _ g).1.2.2.1
      rw [show ((i.toNat : Nat) : Int) = i by omega] at r3
      rw [he _ (by omega) (by omega), r3]
    have pw : (ldN s.lb.length).Pairwise (fun i j => i < j) := by
      unfold ldN
      exact List.pairwise_map.mpr (List.Pairwise.imp (fun {a b} h => by omega) (List.pairwise_lt_range (n := s.lb.length)))
    refine List.Pairwise.imp_of_mem (fun {x y} hx hy hxy => ?_) pw
    rw [key x hx, key y hy]
    omega
end MRQ
/-! both sides in one: the data, what holds of them, the clock's bound -/
def MRc (D : Int → Int) (v : HV) (c : Int) : Prop := MR D v ∧ DOK D v.fn ∧ HVok v ∧ D 3 ≤ c
theorem MRc.congr {D D' : Int → Int} {v : HV} {c : Int} (h : MRc D v c) (e : rEq D' D) : MRc D' v c := ⟨h.1.congr h.2.2.1 e, h.2.1.congr e, h.2.2.1, by rw [e 3 (by decide) (by decide)]; exact h.2.2.2⟩
theorem MRc.w {D : Int → Int} {v : HV} {c d : Int} (h : MRc D v c) (l : c ≤ d) : MRc D v d := ⟨h.1, h.2.1, h.2.2.1, by have := h.2.2.2; omega⟩
/-- the history of both -/
def HsR (hist : List HV) (S : MS) (c : Int) : Prop := S 11 0 0 = hist.length ∧ hist.length ≤ 8 ∧ ∀ (i : Nat) (v : HV), hist[i]? = some v → MRc (S 10 i) v c
theorem HsR.w {hist : List HV} {S : MS} {c d : Int} (h : HsR hist S c) (l : c ≤ d) : HsR hist S d := ⟨h.1, h.2.1, fun i v hv => (h.2.2 i v hv).w l⟩
theorem HsR.of {hist : List HV} {S S' : MS} {c : Int} (h : HsR hist S c) (e1 : S' 10 = S 10) (e2 : S' 11 = S 11) : HsR hist S' c := ⟨by rw [e2]; exact h.1, h.2.1, fun i v hv => by rw [e1]; exact h.2.2 i v hv⟩
theorem HsR.push {hist : List HV} {S S' : MS} {D : Int → Int} {cur : HV} {c : Int} (h : HsR hist S c) (hc : MRc D cur c) (hr : Rem S D S') : HsR (hpush hist cur) S' c := by
  obtain ⟨h1, h2, h3⟩ := h
  unfold hpush
  rcases hr with ⟨r1, r2, r3, r4⟩ | ⟨r1, r2, r3, r4⟩
  · have hl : hist.length = 8 := by omega
    have hl7 : hist.tail.length = 7 := by rw [List.length_tail, hl]
    rw [if_pos hl]
    refine ⟨by rw [r2, List.length_append, hl7]; rfl, by rw [List.length_append, hl7]; exact Nat.le_refl 8, fun i v hv => ?_⟩
    by_cases ci : i < 7
    · rw [List.getElem?_append_left (by omega), List.getElem?_tail] at hv
      exact (h3 (i + 1) v hv).congr (by
        have := r3 i (by omega) (by omega)
        rwa [show ((i : Nat) : Int) + 1 = ((i + 1 : Nat) : Int) by omega] at this)
    · have hi := (List.getElem?_eq_some_iff.mp hv).1
      rw [List.length_append, hl7] at hi
      have hi : i < 7 + 1 := hi
      have e : i = 7 := by omega
      rw [List.getElem?_append_right (by omega), hl7, e] at hv
      cases hv
      rw [e]
      exact hc.congr r4
  · have hl : ¬ hist.length = 8 := by omega
    rw [if_neg hl]
    refine ⟨by rw [r2, h1, List.length_append]; rfl, by rw [List.length_append]; show hist.length + 1 ≤ 8; omega, fun i v hv => ?_⟩
    by_cases ci : i < hist.length
    · rw [List.getElem?_append_left ci] at hv
      exact (h3 i v hv).congr (r3 i (by omega) (by omega))
    · have hi := (List.getElem?_eq_some_iff.mp hv).1
      rw [List.length_append] at hi
      have hi : i < hist.length + 1 := hi
      have e : i = hist.length := by omega
      rw [List.getElem?_append_right (by omega), e, Nat.sub_self] at hv
      cases hv
      rw [e, ← h1]
      exact hc.congr r4
theorem HsR.pop {hs : List HV} {v : HV} {S S' : MS} {D' : Int → Int} {c : Int} (h : HsR (hs ++ [v]) S c) (e1 : S' 10 = S 10) (e2 : S' 11 0 0 = S 11 0 0 - 1) (he : rEq D' (S 10 (S 11 0 0 - 1))) : HsR hs S' c ∧ MRc D' v c := by
  obtain ⟨h1, h2, h3⟩ := h
  rw [List.length_append] at h1 h2
  have h1 : S 11 0 0 = ((hs.length + 1 : Nat) : Int) := h1
  have h2 : hs.length + 1 ≤ 8 := h2
  have e : S 11 0 0 - 1 = (hs.length : Int) := by omega
  rw [e] at e2 he
  refine ⟨⟨e2, by omega, fun i w hw => ?_⟩, ?_⟩
  · rw [e1]
    exact h3 i w (by rw [List.getElem?_append_left (List.getElem?_eq_some_iff.mp hw).1]; exact hw)
  · exact (h3 hs.length v (by rw [List.getElem?_append_right (Nat.le_refl _), Nat.sub_self]; rfl)).congr he
