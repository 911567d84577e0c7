/-! ===== rows of WW: the heap ===== -/
set_option maxRecDepth 100000
/-- a class's field words -/
def CF (C : String) (T : u_T) (N : Nat) : Prop := (∀ w ∈ u_ws C T N, w ∈ lw_all) ∧ (∃ ty0 : Nat → FieldType, ∀ k, k < N → parseFieldDescriptor (T k).2.2.1 = some (ty0 k)) ∧ (∀ a, a < N → ∀ b, b < N → a ≠ b → (T a).2.1 ≠ (T b).2.1)
/-- entry 'index' of own's file is field k of class ci -/
def GF (own : String) (index ci k : Nat) (ty : FieldType) (fin : Bool) : Prop := ∃ (C : String) (T : u_T) (N : Nat) (ref : String), gcl[ci]? = some (C, T, N) ∧ k < N ∧ CF C T N ∧ (ref = (T k).1 ∨ Cond.sameField ref (T k).1 (T k).2.1 (T k).2.2.1 ∈ lw_all) ∧
  (Cond.fieldLink own index ref (T k).2.1 (T k).2.2.1 ∈ lw_all ∨ ∃ host, Cond.fieldLinkNest own index ref (T k).2.1 (T k).2.2.1 host ∈ lw_tbl) ∧ parseFieldDescriptor (T k).2.2.1 = some ty ∧ (T k).2.2.2 = fin ∧ (fin = true → (T k).1 = own)
/-- the same, for reading -/
def GF0 (own : String) (index ci k : Nat) : Prop := ∃ (C : String) (T : u_T) (N : Nat) (ref : String), gcl[ci]? = some (C, T, N) ∧ k < N ∧ CF C T N ∧ (ref = (T k).1 ∨ Cond.sameField ref (T k).1 (T k).2.1 (T k).2.2.1 ∈ lw_all) ∧
  (Cond.fieldLink own index ref (T k).2.1 (T k).2.2.1 ∈ lw_all ∨ ∃ host, Cond.fieldLinkNest own index ref (T k).2.1 (T k).2.2.1 host ∈ lw_tbl)
section RWH
variable {G : GT} {E : ET} {M : MT} {h : AH} {n k pc : Nat} {L : List (Nat × Value)} {st : List Value}
theorem EOK.nest {G : GT} {E : ET} {M : MT} (hE : EOK G E M) {a : String} {i : Nat} {b n d h : String} (hw : Cond.fieldLinkNest a i b n d h ∈ lw_tbl) : (Cond.fieldLinkNest a i b n d h).before (eA E) (eS E) = true :=
  va_Nw.use rfl (va_Nw.warmF hE.w (va_Nw.of rfl (hE.g.1 _ hw)))
theorem ww_getf {own : String} {index ci j a : Nat} {t : Tg} {fs : List Value} {v : Value} (g : GF0 own index ci j) (ho : own = (my M).cls) (d : decode (mcc M) pc = .ok (.getfield index, 3)) (ha : h a = some (t, ob ci fs)) (hv : fs[j]? = some v) (kk : WW G E M h n k (pc + 3) L (v :: st)) : WW G E M h n k pc L (.ref a :: st) := by
  intro hE H locs ls hR hS hl
  subst ho
  obtain ⟨C, T, N, ref, hc, hj, hcf, href, hlink⟩ := g
  have hsame : ∀ x, (eS E).fieldFound? (T j).1 (T j).2.1 (T j).2.2.1 = some x → (eS E).fieldFound? ref (T j).2.1 (T j).2.2.1 = some x := by
    rcases href with rfl | hq
    · exact fun x hx => hx
    · exact fun x hx => u_same (hE.ts _ hq) x hx
  rcases hlink with hlink | ⟨host, hlink⟩
  · obtain ⟨r, cell, h0, q1, q2, q3, q4⟩ := (hR.1 a t _ ha).1.2
    have hr : r = (C, T, N) := Option.some.inj (h0.symm.trans hc)
    subst hr
    obtain ⟨hS9, hfc, kC, hkC, hkind⟩ := hE.K.1 ci _ hc
    obtain ⟨cf, kf, fi, f, hi, hsl⟩ := hS9 j hj
    refine W.getf hE.x hE.b hE.own (hE.ts _ hlink) (hsame _ hi) (u_facts hfc hkC (u_lays hE.ts hcf.1 hj) hi).1 q1 q3.2 (v := v) ?_ rfl rfl d (kk hE H locs ls hR hS hl)
    rw [hsl, q4 j hj]
    simp [vp_V, hv]
  · obtain ⟨r, cell, h0, q1, q2, q3, q4⟩ := (hR.1 a t _ ha).1.2
    have hr : r = (C, T, N) := Option.some.inj (h0.symm.trans hc)
    subst hr
    obtain ⟨hS9, hfc, kC, hkC, hkind⟩ := hE.K.1 ci _ hc
    obtain ⟨cf, kf, fi, f, hi, hsl⟩ := hS9 j hj
    refine va_Wgetf hE.x hE.b hE.own (hE.nest hlink) (hsame _ hi) (u_facts hfc hkC (u_lays hE.ts hcf.1 hj) hi).1 q1 q3.2 (v := v) ?_ rfl rfl d (kk hE H locs ls hR hS hl)
    rw [hsl, q4 j hj]
    simp [vp_V, hv]
theorem locs_add {G : GT} {a i : Nat} {locs : List Loc} (hS : ∀ q ∈ locs, gA G q.base) (hb : gz G ≤ a) : ∀ q ∈ locs ++ [⟨a, i⟩], gA G q.base := fun q hq => by
  rcases List.mem_append.mp hq with h1 | h1
  · exact hS q h1
  · rw [List.mem_singleton.mp h1]; exact hb
theorem ww_putf {own : String} {index ci j a : Nat} {ty : FieldType} {t : Tg} {fs : List Value} {v : Value} (g : GF own index ci j ty false) (ho : own = (my M).cls) (d : decode (mcc M) pc = .ok (.putfield index, 3)) (ha : h a = some (t, ob ci fs)) (ht : t.1 ≠ 0) (hj : j < fs.length) (hn : narrow ty v = v) (hfit : fits ty v = true) (kk : WW G E M (hset h a (t, ob ci (fs.set j v))) n k (pc + 3) L st) : WW G E M h n k pc L (v :: .ref a :: st) := by
  intro hE H locs ls hR hS hl
  subst ho
  obtain ⟨C, T, N, ref, hc, hjN, hcf, href, hlink, hd, hfin, -⟩ := g
  have hsame : ∀ x, (eS E).fieldFound? (T j).1 (T j).2.1 (T j).2.2.1 = some x → (eS E).fieldFound? ref (T j).2.1 (T j).2.2.1 = some x := by
    rcases href with rfl | hq
    · exact fun x hx => hx
    · exact fun x hx => u_same (hE.ts _ hq) x hx
  obtain ⟨hin, ⟨ty0, hty⟩, hnm⟩ := hcf
  have hap := va_apart (own := (my M).cls) hE.ts hin ty0 hty hnm hE.K hc
  obtain ⟨r, h1, cell, q1, q2, q3, q4⟩ := (hR.1 a t _ ha).1.1 ht
  have hr : r = (C, T, N) := Option.some.inj (h1.symm.trans hc)
  subst hr
  obtain ⟨hSl, hfc, kC, hkC, hkind⟩ := hE.K.1 ci _ hc
  obtain ⟨cf, kf, fi, f, hi, hsl⟩ := hSl j hjN
  have hlay := hE.ts _ (hin _ (u_in_lay hjN))
  unfold u_lay at hlay
  rw [if_neg (by rw [hfin]; decide)] at hlay
  have hst := (u_facts hfc hkC (u_lays hE.ts hin hjN) hi).1
  have h6 := u_store hfc hkC hkind hlay hi hd hn hfit
  have key : ∀ H' : Heap, H'[a]? = some (cell.setSlot f.slot v) → H'.size = H.size → (∀ q, q ≠ a → H'[q]? = H[q]?) → W (eP E) (gl G) (eE E) (mroom M) (eS E) (eM E) (eA E) (eB E) (eMt E) (eC E) H' (locs ++ [⟨a, f.slot⟩]) n k (eQ E) (F0 (eM E) (pc + 3) ls st) := by
    intro H' e1 e2 e3
    rw [hsl] at e1
    refine kk hE H' _ ls (hR.put ha ht (Nat.le_of_eq e2.symm) ⟨_, hc, t_OB.to (V := updV (vp_V fs) j v) ⟨_, e1, q2, q3, t_set q4 hap hjN v⟩ (fun i _ => vp_updV_set hj v i)⟩ (fun q _ hq => e3 q hq)) (locs_add hS (hR.own ha ht)) hl
  rcases hlink with hlink | ⟨host, hlink⟩
  · exact W.putK hE.x hE.b (f := f) ⟨hE.own, hE.ts _ hlink, ⟨_, _, _, hsame _ hi⟩, hst⟩ (by rw [q2]; exact h6) q1 q3 (by rw [hsl]; exact k2_hasslot (q4 j hjN)) rfl rfl d key
  · exact va_WputK hE.x hE.b hE.own (hE.nest hlink) (hsame _ hi) hst (by rw [q2]; exact h6) q1 q3 (by rw [hsl]; exact k2_hasslot (q4 j hjN)) rfl rfl d key
theorem ww_putF {own : String} {index ci j a : Nat} {ty : FieldType} {t : Tg} {fs : List Value} {v : Value} (g : GF own index ci j ty true) (ho : own = (my M).cls) (hmn : (my M).name = "<init>") (d : decode (mcc M) pc = .ok (.putfield index, 3)) (ha : h a = some (t, ob ci fs)) (ht : t.1 ≠ 0) (hj : j < fs.length) (hn : narrow ty v = v) (hfit : fits ty v = true) (kk : WW G E M (hset h a (t, ob ci (fs.set j v))) n k (pc + 3) L st) : WW G E M h n k pc L (v :: .ref a :: st) := by
  intro hE H locs ls hR hS hl
  subst ho
  obtain ⟨C, T, N, ref, hc, hjN, hcf, href, hlink, hd, hfin, hdecl⟩ := g
  have hdecl := hdecl rfl
  have hsame : ∀ x, (eS E).fieldFound? (T j).1 (T j).2.1 (T j).2.2.1 = some x → (eS E).fieldFound? ref (T j).2.1 (T j).2.2.1 = some x := by
    rcases href with rfl | hq
    · exact fun x hx => hx
    · exact fun x hx => u_same (hE.ts _ hq) x hx
  obtain ⟨hin, ⟨ty0, hty⟩, hnm⟩ := hcf
  have hap := va_apart (own := (my M).cls) hE.ts hin ty0 hty hnm hE.K hc
  obtain ⟨r, h1, cell, q1, q2, q3, q4⟩ := (hR.1 a t _ ha).1.1 ht
  have hr : r = (C, T, N) := Option.some.inj (h1.symm.trans hc)
  subst hr
  obtain ⟨hSl, hfc, kC, hkC, hkind⟩ := hE.K.1 ci _ hc
  obtain ⟨cf, kf, fi, f, hi, hsl⟩ := hSl j hjN
  have hlay := hE.ts _ (hin _ (u_in_lay hjN))
  unfold u_lay at hlay
  rw [if_pos hfin] at hlay
  have hst := (u_facts hfc hkC (u_lays hE.ts hin hjN) hi).1
  have hcf : (eM E).cls = cf := by
    obtain ⟨_, _, c', _, _, _, -, -, hf', -, -, -, hown2, -⟩ := Cond.laysFinal_spec hlay
    have e1 : c' = cf := by have := hi.symm.trans hf'; simp at this; exact this.1.symm
    rw [hdecl] at hown2
    rw [← e1]; exact Option.some.inj (hE.own.symm.trans hown2)
  have h6 := u_fits hfc hkC hkind (Or.inr hlay) hi hd hn hfit
  have key : ∀ H' : Heap, H'[a]? = some (cell.setSlot f.slot v) → H'.size = H.size → (∀ q, q ≠ a → H'[q]? = H[q]?) → W (eP E) (gl G) (eE E) (mroom M) (eS E) (eM E) (eA E) (eB E) (eMt E) (eC E) H' (locs ++ [⟨a, f.slot⟩]) n k (eQ E) (F0 (eM E) (pc + 3) ls st) := by
    intro H' e1 e2 e3
    rw [hsl] at e1
    refine kk hE H' _ ls (hR.put ha ht (Nat.le_of_eq e2.symm) ⟨_, hc, t_OB.to (V := updV (vp_V fs) j v) ⟨_, e1, q2, q3, t_set q4 hap hjN v⟩ (fun i _ => vp_updV_set hj v i)⟩ (fun q _ hq => e3 q hq)) (locs_add hS (hR.own ha ht)) hl
  rcases hlink with hlink | ⟨host, hlink⟩
  · exact W.putFinK hE.x hE.b hE.own (hE.ts _ hlink) (hsame _ hi) hst hcf (hE.nm.trans hmn) (by rw [q2]; exact h6) q1 q3 (by rw [hsl]; exact k2_hasslot (q4 j hjN)) rfl rfl d key
  · exact va_Wputf hE.x hE.b hE.own (hE.nest hlink) (hsame _ hi) hst (Or.inr ⟨hcf, hE.nm.trans hmn⟩) q1 (by rw [q3]; exact fun h => by cases h) (by rw [hsl]; exact k2_hasslot (q4 j hjN)) h6.1 (by rw [q2, q3]; exact h6.2) rfl rfl d (key _ (by have ha' : a < H.size := hR.lt ha; simp [Array.getElem?_setIfInBounds, ha']) (by simp) (fun q hq => by simp [Array.getElem?_setIfInBounds, Ne.symm hq]))

/-- a new object: NW own index ci fs -/
def NW (own : String) (index ci : Nat) (N : Nat) (fs : List Value) : Prop := ∃ (C : String) (T : u_T) (ty : Nat → FieldType), gcl[ci]? = some (C, T, N) ∧ (∀ w ∈ u_ws C T N, w ∈ lw_all) ∧ (∀ k, k < N → parseFieldDescriptor (T k).2.2.1 = some (ty k)) ∧ Cond.classLink own index C ∈ lw_all ∧ Cond.instantiable C N ∈ lw_all ∧ Cond.initialized C ∈ lw_all ∧ ∀ j, j < N → defaultValue (ty j) = vp_V fs j
theorem ww_new {own : String} {index ci N : Nat} {fs : List Value} (tg : Nat → Tg) (g : NW own index ci N fs) (ho : own = (my M).cls) (d : decode (mcc M) pc = .ok (.new index, 3)) (htg : ∀ q : Nat, (∀ a x, h a = some x → a < q) → q ≠ 0 → (tg q).1 ≠ 0 ∧ (tg q).1 ≤ q) (hn : n + 1 ≤ mmc M) (hk : k + N ≤ mms M)
    (kk : ∀ q : Nat, (∀ a x, h a = some x → a < q) → q ≠ 0 → WW G E M (hset h q (tg q, ob ci fs)) (n + 1) (k + N) (pc + 3) L (.ref q :: st)) : WW G E M h n k pc L st := by
  intro hE H locs ls hR hS hl
  subst ho
  obtain ⟨C, T, ty, hc, hin, hty, hcl, hinst, hini, hfs⟩ := g
  have hKn := hE.K.1 ci _ hc
  have h0 : H.size ≠ 0 := by have := hR.2.2; have := hE.g.2.2.2.2; omega
  refine W.newcK hE.x hE.b hE.own (hE.ts _ hcl) (hE.ts _ hinst) (hE.ts _ hini) rfl d hn hk hKn.2.1 rfl fun H1 kC hkC e1 z1 o1 => ?_
  exact kk H.size hR.fresh h0 hE H1 locs ls (hR.make rfl (htg _ hR.fresh h0) (by omega) ⟨_, hc, (u_born ty hE.ts hin hKn hkC e1 hty).to hfs⟩ o1) hS hl
/-- arrays, by Int -/
def vI (f : Int → Int) : Nat → Int32 := fun j => iI (f j)
def vL (f : Int → Int) : Nat → Int64 := fun j => lI (f j)
def vQ (f : Int → Option Nat) : Nat → Option Nat := fun j => f j
def iup {α : Type} (f : Int → α) (z : Int) (v : α) : Int → α := fun j => if j = z then v else f j
theorem iup_s {α : Type} {f : Int → α} {z : Int} {v : α} : iup f z v z = v := if_pos rfl
theorem iup_n {α : Type} {f : Int → α} {z y : Int} {v : α} (h : y ≠ z) : iup f z v y = f y := if_neg h
/-- aA G t N f: an array of ints of the kind t (0 int, 1 byte, 2 boolean) -/
def aA (G : GT) (t N : Nat) (f : Int → Int) : AE := ai (gC G t) N (vI f)
def aJ (G : GT) (N : Nat) (f : Int → Int) : AE := al (gC G 3) N (vL f)
/-- an array of references (4 Object, 5 Node, 6 int[], 7 boolean[], 8 Integer) -/
def aR (G : GT) (t N : Nat) (f : Int → Option Nat) : AE := aq (gC G t) N (vQ f)
theorem z_nat {z : Int} (h0 : 0 ≤ z) : ((z.toNat : Nat) : Int) = z := Int.toNat_of_nonneg h0
theorem iI_bd {z : Int} {N : Nat} (h0 : 0 ≤ z) (h1 : z < N) (hN : N < 2147483648) : inI z := ⟨by omega, by omega⟩
theorem hN_of {z : Int} {N : Nat} (h0 : 0 ≤ z) (h1 : z < N) (hN : N < 2147483648) : vp_in (iI z) N := iI_in h0 h1 (iI_bd h0 h1 hN)
theorem upd_vI {f : Int → Int} {z v : Int} (h0 : 0 ≤ z) (hz : inI z) : upd (vI f) (iI z).toNatClampNeg (iI v) = vI (iup f z v) := by
  rw [iI_clamp hz]
  funext j
  unfold upd vI iup
  by_cases hj : j = z.toNat
  · subst hj
    simp [Int.max_eq_left h0]
  · have : ¬ ((j : Int) = z) := by omega
    simp [hj, this]
theorem updL_vL {f : Int → Int} {z v : Int} (h0 : 0 ≤ z) (hz : inI z) : vp_updL (vL f) (iI z).toNatClampNeg (lI v) = vL (iup f z v) := by
  rw [iI_clamp hz]
  funext j
  unfold vp_updL vL iup
  by_cases hj : j = z.toNat
  · subst hj
    simp [Int.max_eq_left h0]
  · have : ¬ ((j : Int) = z) := by omega
    simp [hj, this]
theorem up_vQ {f : Int → Option Nat} {z : Int} {v : Option Nat} (h0 : 0 ≤ z) (hz : inI z) : va_up (vQ f) (iI z).toNatClampNeg v = vQ (iup f z v) := by
  rw [iI_clamp hz]
  funext j
  unfold va_up vQ iup
  by_cases hj : j = z.toNat
  · subst hj
    simp [Int.max_eq_left h0]
  · have : ¬ ((j : Int) = z) := by omega
    simp [hj, this]
theorem vI_at {f : Int → Int} {z : Int} (h0 : 0 ≤ z) (hz : inI z) : vI f (iI z).toNatClampNeg = iI (f z) := by rw [iI_clamp hz]; unfold vI; rw [z_nat h0]
theorem vL_at {f : Int → Int} {z : Int} (h0 : 0 ≤ z) (hz : inI z) : vL f (iI z).toNatClampNeg = lI (f z) := by rw [iI_clamp hz]; unfold vL; rw [z_nat h0]
theorem vQ_at {f : Int → Option Nat} {z : Int} (h0 : 0 ≤ z) (hz : inI z) : vQ f (iI z).toNatClampNeg = f z := by rw [iI_clamp hz]; unfold vQ; rw [z_nat h0]
theorem ww_iald {a N : Nat} {z : Int} {t : Tg} {f : Int → Int} (d : decode (mcc M) pc = .ok (.iaload, 1)) (ha : h a = some (t, aA G 0 N f)) (hN : N < 2147483648) (h0 : 0 ≤ z) (h1 : z < N) (kk : WW G E M h n k (pc + 1) L (.int (iI (f z)) :: st)) : WW G E M h n k pc L (.int (iI z) :: .ref a :: st) := by
  intro hE H locs ls hR hS hl
  have hin := hN_of h0 h1 hN
  have hlt : (iI z).toNatClampNeg < N := Nat.not_le.mp fun q => hin (Or.inr q)
  obtain ⟨c, c1, c2, c3, c4⟩ := hR.arr (j := 0) hE ha rfl
  refine W.iald (v := .int (vI f (iI z).toNatClampNeg)) hE.x hE.b c1 c2 c3 (by rw [c4]; show ¬ (iI z < 0 ∨ (arrV _ _ _).slots.size ≤ _); rw [arrV_size]; exact hin) (by rw [c4]; show (arrV _ _ _).slots[_]? = _; rw [arrV_read _ _ hlt]) rfl rfl d ?_
  rw [vI_at h0 (iI_bd h0 h1 hN)]
  exact kk hE H locs ls hR hS hl
theorem ww_bald {a N : Nat} {z : Int} {t : Tg} {f : Int → Int} (d : decode (mcc M) pc = .ok (.baload, 1)) (ha : h a = some (t, aA G 1 N f)) (hN : N < 2147483648) (h0 : 0 ≤ z) (h1 : z < N) (kk : WW G E M h n k (pc + 1) L (.int (iI (f z)) :: st)) : WW G E M h n k pc L (.int (iI z) :: .ref a :: st) := by
  intro hE H locs ls hR hS hl
  have hin := hN_of h0 h1 hN
  have hlt : (iI z).toNatClampNeg < N := Nat.not_le.mp fun q => hin (Or.inr q)
  obtain ⟨c, c1, c2, c3, c4⟩ := hR.arr (j := 1) hE ha rfl
  refine W.bald (v := .int (vI f (iI z).toNatClampNeg)) hE.x hE.b c1 c2 c3 (by rw [c4]; show ¬ (iI z < 0 ∨ (arrV _ _ _).slots.size ≤ _); rw [arrV_size]; exact hin) (by rw [c4]; show (arrV _ _ _).slots[_]? = _; rw [arrV_read _ _ hlt]) rfl rfl d ?_
  rw [vI_at h0 (iI_bd h0 h1 hN)]
  exact kk hE H locs ls hR hS hl
theorem ww_zald {a N : Nat} {z : Int} {t : Tg} {f : Int → Int} (d : decode (mcc M) pc = .ok (.baload, 1)) (ha : h a = some (t, aA G 2 N f)) (hN : N < 2147483648) (h0 : 0 ≤ z) (h1 : z < N) (kk : WW G E M h n k (pc + 1) L (.int (iI (f z)) :: st)) : WW G E M h n k pc L (.int (iI z) :: .ref a :: st) := by
  intro hE H locs ls hR hS hl
  have hin := hN_of h0 h1 hN
  have hlt : (iI z).toNatClampNeg < N := Nat.not_le.mp fun q => hin (Or.inr q)
  obtain ⟨c, c1, c2, c3, c4⟩ := hR.arr (j := 2) hE ha rfl
  refine W.zald (v := .int (vI f (iI z).toNatClampNeg)) hE.x hE.b c1 c2 c3 (by rw [c4]; show ¬ (iI z < 0 ∨ (arrV _ _ _).slots.size ≤ _); rw [arrV_size]; exact hin) (by rw [c4]; show (arrV _ _ _).slots[_]? = _; rw [arrV_read _ _ hlt]) rfl rfl d ?_
  rw [vI_at h0 (iI_bd h0 h1 hN)]
  exact kk hE H locs ls hR hS hl
theorem ww_lald {a N : Nat} {z : Int} {t : Tg} {f : Int → Int} (d : decode (mcc M) pc = .ok (.laload, 1)) (ha : h a = some (t, aJ G N f)) (hN : N < 2147483648) (h0 : 0 ≤ z) (h1 : z < N) (kk : WW G E M h n k (pc + 1) L (.long (lI (f z)) :: st)) : WW G E M h n k pc L (.int (iI z) :: .ref a :: st) := by
  intro hE H locs ls hR hS hl
  have hin := hN_of h0 h1 hN
  have hlt : (iI z).toNatClampNeg < N := Nat.not_le.mp fun q => hin (Or.inr q)
  obtain ⟨c, c1, c2, c3, c4⟩ := hR.arr (j := 3) hE ha rfl
  refine W.lald (v := .long (vL f (iI z).toNatClampNeg)) hE.x hE.b c1 c2 c3 (by rw [c4]; show ¬ (iI z < 0 ∨ (arrV _ _ _).slots.size ≤ _); rw [arrV_size]; exact hin) (by rw [c4]; show (arrV _ _ _).slots[_]? = _; rw [arrV_read _ _ hlt]) rfl rfl d ?_
  rw [vL_at h0 (iI_bd h0 h1 hN)]
  exact kk hE H locs ls hR hS hl
theorem ww_aald {a N j : Nat} {z : Int} {t : Tg} {ty : FieldType} {f : Int → Option Nat} (d : decode (mcc M) pc = .ok (.aaload, 1)) (ha : h a = some (t, aR G j N f)) (hty : (gtys G)[j]? = some (gC G j, ty)) (hrf : ty.isReference = true) (hN : N < 2147483648) (h0 : 0 ≤ z) (h1 : z < N) (kk : WW G E M h n k (pc + 1) L (va_rf (f z) :: st)) : WW G E M h n k pc L (.int (iI z) :: .ref a :: st) := by
  intro hE H locs ls hR hS hl
  have hin := hN_of h0 h1 hN
  have hz := iI_bd h0 h1 hN
  have hlt : (iI z).toNatClampNeg < N := Nat.not_le.mp fun q => hin (Or.inr q)
  obtain ⟨c, c1, c2, c3, c4⟩ := hR.arr (j := j) hE ha hty
  refine W.aald (v := va_rf (f z)) (ty := ty) hE.x hE.b c1 c2 hrf c3 (by rw [c4]; show ¬ (iI z < 0 ∨ (arrV _ _ _).slots.size ≤ _); rw [arrV_size]; exact hin) (by rw [c4]; show (arrV _ _ _).slots[_]? = _; rw [arrV_read _ _ hlt, vQ_at h0 hz]) rfl rfl d ?_
  exact kk hE H locs ls hR hS hl
/-- a reference that is known to be there -/
theorem ww_aalds {a b N j : Nat} {z : Int} {t : Tg} {ty : FieldType} {f : Int → Option Nat} (d : decode (mcc M) pc = .ok (.aaload, 1)) (ha : h a = some (t, aR G j N f)) (hty : (gtys G)[j]? = some (gC G j, ty)) (hrf : ty.isReference = true) (hN : N < 2147483648) (h0 : 0 ≤ z) (h1 : z < N) (hf : f z = some b) (kk : WW G E M h n k (pc + 1) L (.ref b :: st)) : WW G E M h n k pc L (.int (iI z) :: .ref a :: st) :=
  ww_aald d ha hty hrf hN h0 h1 (by rw [hf]; exact kk)
/-- the cache of Integers -/
theorem ww_aald8s {a b N : Nat} {z : Int} {t : Tg} {f : Int → Option Nat} (d : decode (mcc M) pc = .ok (.aaload, 1)) (ha : h a = some (t, aR G 8 N f)) (hN : N < 2147483648) (h0 : 0 ≤ z) (h1 : z < N) (hf : f z = some b) (kk : WW G E M h n k (pc + 1) L (.ref b :: st)) : WW G E M h n k pc L (.int (iI z) :: .ref a :: st) := by
  intro hE H locs ls hR hS hl
  have hin := hN_of h0 h1 hN
  have hz := iI_bd h0 h1 hN
  have hlt : (iI z).toNatClampNeg < N := Nat.not_le.mp fun q => hin (Or.inr q)
  obtain ⟨c, q1, q2, q3, q4⟩ := (hR.1 a t _ ha).1.2
  obtain ⟨-, k9, hk9, hk2⟩ := hE.A8 0 (fun _ => .null)
  have q2 : c.cls = gC G 8 := q2
  have q3 : c.slots = (vp_cell (gC G 8) (N, .inr (.inr (.inr (.inr (vQ f)))))).slots := q3
  refine W.aald (v := va_rf (f z)) (ty := .object "java/lang/Integer") hE.x hE.b q1 ⟨fun q z => (by have := q4.1; rw [z] at this; cases this), k9, by rw [q2]; exact hk9, hk2⟩ rfl q4.2 (by rw [q3]; show ¬ (iI z < 0 ∨ (arrV _ _ _).slots.size ≤ _); rw [arrV_size]; exact hin) (by rw [q3]; show (arrV _ _ _).slots[_]? = _; rw [arrV_read _ _ hlt, vQ_at h0 hz]) rfl rfl d ?_
  rw [hf]
  exact kk hE H locs ls hR hS hl
theorem ww_alen {a : Nat} {t : Tg} {cA : ClassId} {x : vp_A} {ty : FieldType} {j : Nat} (d : decode (mcc M) pc = .ok (.arraylength, 1)) (ha : h a = some (t, .inl (.inl (cA, x)))) (hty : (gtys G)[j]? = some (cA, ty)) (kk : WW G E M h n k (pc + 1) L (.int (iI x.1) :: st)) : WW G E M h n k pc L (.ref a :: st) := by
  intro hE H locs ls hR hS hl
  obtain ⟨c, c1, c2, c3, c4⟩ := hR.arr (j := j) hE ha hty
  refine W.alen (n := iI x.1) hE.x hE.b c1 c2 ?_ rfl rfl d (kk hE H locs ls hR hS hl)
  rw [c4, ← iI_nat]
  obtain ⟨n9, f | f | f | f | f⟩ := x <;> (show _ = Int32.ofNat n9) <;> first | rw [vp_cell_i, arrV_size] | rw [vp_cell_l, arrV_size] | rw [vp_cell_f, arrV_size] | rw [vp_cell_d, arrV_size] | rw [vp_cell_q, arrV_size]
theorem ww_iast {a N : Nat} {z v : Int} {t : Tg} {f : Int → Int} (d : decode (mcc M) pc = .ok (.iastore, 1)) (ha : h a = some (t, aA G 0 N f)) (ht : t.1 ≠ 0) (hN : N < 2147483648) (h0 : 0 ≤ z) (h1 : z < N) (kk : WW G E M (hset h a (t, aA G 0 N (iup f z v))) n k (pc + 1) L st) : WW G E M h n k pc L (.int (iI v) :: .int (iI z) :: .ref a :: st) := by
  intro hE H locs ls hR hS hl
  have hin := hN_of h0 h1 hN
  have hz := iI_bd h0 h1 hN
  refine W.iast hE.x hE.b (hR.one ha ht 0 _ rfl) ((hE.K.2 0 _ rfl).1 N (fun j => .int (vI f j))) (fun q => by cases q) (by show ¬ (iI z < 0 ∨ (arrV _ _ _).slots.size ≤ _); rw [arrV_size]; exact hin) rfl rfl d fun H1 e zs oq => ?_
  refine kk hE H1 _ ls (hR.put ha ht (Nat.le_of_eq zs.symm) ?_ (fun q _ hq => oq q hq)) (locs_add hS (hR.own ha ht)) hl
  show H1[a]? = some (vp_cell _ _)
  rw [e, ← upd_vI h0 hz]
  rw [vp_cell_i, vp_cell_i, arrV_store]
  congr 2
  funext q
  by_cases hq : q = (iI z).toNatClampNeg
  · subst hq
    simp [updV, upd]
  · simp [updV, upd, vp_updL, hq]
theorem ww_bast {a N : Nat} {z v : Int} {t : Tg} {f : Int → Int} (d : decode (mcc M) pc = .ok (.bastore, 1)) (ha : h a = some (t, aA G 1 N f)) (ht : t.1 ≠ 0) (hN : N < 2147483648) (h0 : 0 ≤ z) (h1 : z < N) (hv : narrow .byte (.int (iI v)) = .int (iI v)) (kk : WW G E M (hset h a (t, aA G 1 N (iup f z v))) n k (pc + 1) L st) : WW G E M h n k pc L (.int (iI v) :: .int (iI z) :: .ref a :: st) := by
  intro hE H locs ls hR hS hl
  have hin := hN_of h0 h1 hN
  have hz := iI_bd h0 h1 hN
  refine W.bast hE.x hE.b (hR.one ha ht 0 _ rfl) ((hE.K.2 1 _ rfl).1 N (fun j => .int (vI f j))) (fun q => by cases q) (by show ¬ (iI z < 0 ∨ (arrV _ _ _).slots.size ≤ _); rw [arrV_size]; exact hin) rfl rfl d fun H1 e zs oq => ?_
  refine kk hE H1 _ ls (hR.put ha ht (Nat.le_of_eq zs.symm) ?_ (fun q _ hq => oq q hq)) (locs_add hS (hR.own ha ht)) hl
  show H1[a]? = some (vp_cell _ _)
  rw [e, ← upd_vI h0 hz]
  rw [vp_cell_i, vp_cell_i, arrV_store]
  congr 2
  funext q
  by_cases hq : q = (iI z).toNatClampNeg
  · subst hq
    simp [updV, upd, hv]
  · simp [updV, upd, vp_updL, hq]
theorem ww_zast {a N : Nat} {z v : Int} {t : Tg} {f : Int → Int} (d : decode (mcc M) pc = .ok (.bastore, 1)) (ha : h a = some (t, aA G 2 N f)) (ht : t.1 ≠ 0) (hN : N < 2147483648) (h0 : 0 ≤ z) (h1 : z < N) (hv : narrow .boolean (.int (iI v)) = .int (iI v)) (kk : WW G E M (hset h a (t, aA G 2 N (iup f z v))) n k (pc + 1) L st) : WW G E M h n k pc L (.int (iI v) :: .int (iI z) :: .ref a :: st) := by
  intro hE H locs ls hR hS hl
  have hin := hN_of h0 h1 hN
  have hz := iI_bd h0 h1 hN
  refine W.zast hE.x hE.b (hR.one ha ht 0 _ rfl) ((hE.K.2 2 _ rfl).1 N (fun j => .int (vI f j))) (fun q => by cases q) (by show ¬ (iI z < 0 ∨ (arrV _ _ _).slots.size ≤ _); rw [arrV_size]; exact hin) rfl rfl d fun H1 e zs oq => ?_
  refine kk hE H1 _ ls (hR.put ha ht (Nat.le_of_eq zs.symm) ?_ (fun q _ hq => oq q hq)) (locs_add hS (hR.own ha ht)) hl
  show H1[a]? = some (vp_cell _ _)
  rw [e, ← upd_vI h0 hz]
  rw [vp_cell_i, vp_cell_i, arrV_store]
  congr 2
  funext q
  by_cases hq : q = (iI z).toNatClampNeg
  · subst hq
    simp [updV, upd, hv]
  · simp [updV, upd, vp_updL, hq]
theorem ww_last {a N : Nat} {z v : Int} {t : Tg} {f : Int → Int} (d : decode (mcc M) pc = .ok (.lastore, 1)) (ha : h a = some (t, aJ G N f)) (ht : t.1 ≠ 0) (hN : N < 2147483648) (h0 : 0 ≤ z) (h1 : z < N) (kk : WW G E M (hset h a (t, aJ G N (iup f z v))) n k (pc + 1) L st) : WW G E M h n k pc L (.long (lI v) :: .int (iI z) :: .ref a :: st) := by
  intro hE H locs ls hR hS hl
  have hin := hN_of h0 h1 hN
  have hz := iI_bd h0 h1 hN
  refine W.last hE.x hE.b (hR.one ha ht 0 _ rfl) ((hE.K.2 3 _ rfl).1 N (fun j => .long (vL f j))) (fun q => by cases q) (by show ¬ (iI z < 0 ∨ (arrV _ _ _).slots.size ≤ _); rw [arrV_size]; exact hin) rfl rfl d fun H1 e zs oq => ?_
  refine kk hE H1 _ ls (hR.put ha ht (Nat.le_of_eq zs.symm) ?_ (fun q _ hq => oq q hq)) (locs_add hS (hR.own ha ht)) hl
  show H1[a]? = some (vp_cell _ _)
  rw [e, ← updL_vL h0 hz]
  rw [vp_cell_l, vp_cell_l, arrV_store]
  congr 2
  funext q
  by_cases hq : q = (iI z).toNatClampNeg
  · subst hq
    simp [updV, vp_updL]
  · simp [updV, upd, vp_updL, hq]
end RWH
