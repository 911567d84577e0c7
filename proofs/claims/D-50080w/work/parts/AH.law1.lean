/-! ===== the law's own rows, and what holds between two calls ===== -/
set_option maxRecDepth 100000
abbrev ML : MT := (x, code, 7, ret, 8192, 104096, 659399, 6988884)
/-- the law's own run -/
def LE (G : GT) (E : ET) : Prop := eQ E = lw_Z (eB E) #[Value.ref (gb G)] (eS E) ∧ eA E = #[Value.ref (gb G)] ∧ eS E = g0 G
def scr (xs : Nat → Int32) (z : Int) : Int := (xs z.toNat).toInt
theorem scr_in {xs : Nat → Int32} {z : Int} : inI (scr xs z) := iI_inI _
section LRW
variable {G : GT} {E : ET} {h : AH} {n k pc : Nat} {L : List (Nat × Value)} {st : List Value}
theorem ww_sld {N : Nat} {xs : Nat → Int32} {z : Int} (hX : va_X (gb G) N xs (g0 G) (g0 G).heap) (hLE : LE G E) (hb : gb G < gz G) (h0 : 0 ≤ z) (h1 : z < N) (hN : N ≤ 384) (d : decode code pc = .ok (.iaload, 1)) (kk : WW G E ML h n k (pc + 1) L (.int (iI (scr xs z)) :: st)) : WW G E ML h n k pc L (.int (iI z) :: .ref (gb G) :: st) := by
  intro hE H locs ls hR hS hl
  have hz : inI z := ⟨by omega, by omega⟩
  refine va_sld (A := gA G) (H0 := (g0 G).heap) hE.x hE.b (by rw [hLE.2.2]; exact hX) hb (fun q => by have q : gz G ≤ gb G := q; omega) ⟨hR.2.2, fun q hq _ => hR.2.1 q hq, hS⟩ (iI_in h0 h1 hz) d ?_
  have e : xs (iI z).toNatClampNeg = iI (scr xs z) := by rw [iI_clamp hz]; exact iI_of _
  rw [e]
  exact kk hE H locs ls hR hS hl
theorem ww_slen {N : Nat} {xs : Nat → Int32} (hX : va_X (gb G) N xs (g0 G) (g0 G).heap) (hLE : LE G E) (hb : gb G < gz G) (d : decode code pc = .ok (.arraylength, 1)) (kk : WW G E ML h n k (pc + 1) L (.int (iI (N : Int)) :: st)) : WW G E ML h n k pc L (.ref (gb G) :: st) := by
  intro hE H locs ls hR hS hl
  refine va_slen (A := gA G) (H0 := (g0 G).heap) hE.x hE.b (by rw [hLE.2.2]; exact hX) hb (fun q => by have q : gz G ≤ gb G := q; omega) ⟨hR.2.2, fun q hq _ => hR.2.1 q hq, hS⟩ d ?_
  rw [iI_nat]
  exact kk hE H locs ls hR hS hl
theorem ww_law1 (hLE : LE G E) (d : decode code pc = .ok (.ireturn, 1)) (hn : n ≤ 659399) (hk : k ≤ 6988884) : WW G E ML h n k pc L [.int (iI 1)] := by
  intro hE H locs ls hR hS hl
  rw [hLE.1, hLE.2.1]
  refine va_forget (fun q hq => by rw [hLE.2.2]; exact hS q hq) ?_
  refine W.widen (k := 659399) (n := 6988884) hn hk ?_
  exact lw_ret hE.x hE.b hE.r hE.lk d
theorem cI_self {a : Int} : cI a a = 0 := by unfold cI; simp
/-- equal longs, of any size -/
theorem ww_lcmpE {a : Int} (d : decode (mcc ML) pc = .ok (.lcmp, 1)) (kk : WW G E ML h n k (pc + 1) L (.int (iI 0) :: st)) : WW G E ML h n k pc L (.long (lI a) :: .long (lI a) :: st) := by
  have e : lI a = lI (lI a).toInt := (Int64.ofInt_toInt _).symm
  rw [e]
  have hr : inL (lI a).toInt := ⟨by have := Int64.le_toInt (lI a); simpa using this, by have := Int64.toInt_lt (lI a); omega⟩
  refine ww_lcmp d hr hr ?_
  rw [cI_self]
  exact kk
end LRW
/-! frames -/
theorem CWd.fr {G : GT} {h h' : AH} {x bf hd a r q k1 k2 : Nat} {ys : List Nat} {B : Int → Int} {bl eo : Int} {cur : HV} {hist : List HV} (hC : CWd G h x bf hd a r ys B bl eo cur hist) (f : FO q k1 k2 h h') (hq : q ≠ 0) (hk : k2 < 10000 ∨ 10800 ≤ k1) : CWd G h' x bf hd a r ys B bl eo cur hist := by
  obtain ⟨⟨h1, h2⟩, ⟨h3, h4⟩, h5, h6, h7, h8, h9, h10, h11⟩ := hC
  exact ⟨⟨h1, f.at h2 (by omega)⟩, ⟨f.at h3 (by omega), h4⟩, h5.fo f (by omega), h6.fo f hq (by omega), h7, h8.mono (fun _ _ z => ⟨by obtain ⟨r9, w⟩ := z.1; exact ⟨r9, w.fo f hq (by omega)⟩, z.2⟩), h9, h10, h11.fo f hq⟩
theorem CW.fr {G : GT} {h h' : AH} {x q k1 k2 : Nat} {B : Int → Int} {bl eo : Int} {cur : HV} {hist : List HV} (hC : CW G h x B bl eo cur hist) (f : FO q k1 k2 h h') (hq : q ≠ 0) (hk : k2 < 10000 ∨ 10800 ≤ k1) : CW G h' x B bl eo cur hist := by
  obtain ⟨bf, hd, a, r, ys, hC⟩ := hC
  exact ⟨bf, hd, a, r, ys, hC.fr f hq hk⟩
theorem MW.fo {G : GT} {h h' : AH} {m q k1 k2 : Nat} {A : Nat → Nat} {B : Nat → Int → Nat} {D : Int → Int} {σ : MS} (hM : MW G h m A B D σ) (f : FO q k1 k2 h h') (hk : 10000 ≤ k1) : MW G h' m A B D σ := by
  obtain ⟨h1, h2, h3, h4, h5, h6, h7, h8, h9⟩ := hM
  refine ⟨h1, f.at h2 (by omega), fun j N hj => f.at (h3 j N hj) (by have := (mIA hj).2.2.2.2.2; omega), fun j N hj => f.at (h4 j N hj) (by have := (mIL hj).2.2.2.2.2; omega), fun j N hj => ⟨f.at (h5 j N hj).1 (by have := (mIG hj).2.2.2.2.2.2; omega), fun i i0 i1 => f.at ((h5 j N hj).2 i i0 i1) (by have := mIG hj; omega)⟩, h6, h7, f.at h8 (by omega), h9⟩
theorem LitM.mv {G : GT} {h h' : AH} (hL : LitM G h) (f : ∀ a t x, h a = some (t, x) → t.1 = 0 → h' a = some (t, x)) : LitM G h' := fun k w hk => by
  obtain ⟨a, tx, h1, h2⟩ := hL k w hk
  exact ⟨a, tx, h1, h2.fr (m := 0) f⟩
theorem LitM.fo {G : GT} {h h' : AH} {o k1 k2 : Nat} (hL : LitM G h) (f : FO o k1 k2 h h') (ho : o ≠ 0) : LitM G h' := hL.mv (fun a u x hx hu => f a u x hx (fun e => ho (by rw [← e.1]; exact hu)))
theorem Fr.fo {m : Nat} {h h' : AH} (f : Fr m h h') : FO m 0 9999 h h' := fun a t x hx hn => f a t x hx (fun z => hn ⟨z.1, by omega, by omega⟩)
/-- the buffers of both -/
def BR (σ : MS) (Bf : Int → Int) (bl eo : Int) : Prop := σ 2 0 0 = bl ∧ (0 ≤ bl ∧ bl ≤ 800) ∧ σ 7 0 0 = eo ∧ ∀ q : Int, q < bl → σ 1 0 q = Bf q % 256
theorem BR.of {σ σ' : MS} {Bf : Int → Int} {bl eo : Int} (h : BR σ Bf bl eo) (h1 : σ' 1 = σ 1) (h2 : σ' 2 = σ 2) (h7 : σ' 7 = σ 7) : BR σ' Bf bl eo := by
  unfold BR at h ⊢
  rw [h1, h2, h7]
  exact h
/-- what holds between two calls -/
def LId (G : GT) (h : AH) (x m o : Nat) (A : Nat → Nat) (Bg : Nat → Int → Nat) (f0 D : Int → Int) (σ : MS) (Bf : Int → Int) (bl eo : Int) (cur : HV) (hist : List HV) (c : Int) : Prop := CW G h x Bf bl eo cur hist ∧ MW G h m A Bg D σ ∧ LitM G h ∧ (o ≠ 0 ∧ h o = some ((o, 10800), aJ G 1 f0)) ∧ MRc D cur c ∧ HsR hist σ c ∧ BR σ Bf bl eo
def LI (G : GT) (h : AH) (x m o : Nat) (c : Int) : Prop := ∃ A Bg f0 D σ Bf bl eo cur hist, LId G h x m o A Bg f0 D σ Bf bl eo cur hist c
abbrev LL (G : GT) (x m o : Nat) (i : Int) : List (Nat × Value) := [(4, .int (iI i)), (0, .ref (gb G)), (1, .ref x), (2, .ref m), (3, .ref o)]
/-- behind the model's call: what was thrown and answered is one -/
theorem lw_tail {G : GT} {E : ET} {h h0 : AH} {n k p x m o : Nat} {off i c r : Int} {A : Nat → Nat} {Bg : Nat → Int → Nat} {D f : Int → Int} {σ : MS} (hG : GOK G) (hM : MWF G h0 h m A Bg D σ) (ht : σ 0 0 0 = c) (hc : c = 0 ∨ c = 1 ∨ c = 2) (ho : c = 0 → h o = some ((o, 10800), aJ G 1 f)) (hz : c = 0 → f 0 = r ∧ inI r) (hn : n ≤ 659399) (hk : k ≤ 6988884)
    (d0 : decode code p = .ok (.aload_n 2, 1)) (d1 : decode code (p + 1) = .ok (.invokevirtual 97, 3)) (d4 : decode code (p + 4) = .ok (.iload 5, 2)) (d6 : decode code (p + 6) = .ok (.if_icmp .eq 5, 3)) (d11 : decode code (p + 11) = .ok (.iload 5, 2)) (d13 : decode code (p + 13) = .ok (.ifCond .ne 15, 3)) (d16 : decode code (p + 16) = .ok (.aload_n 3, 1)) (d17 : decode code (p + 17) = .ok (.iconst 0, 1)) (d18 : decode code (p + 18) = .ok (.laload, 1)) (d19 : decode code (p + 19) = .ok (.iload 6, 2)) (d21 : decode code (p + 21) = .ok (.i2l, 1)) (d22 : decode code (p + 22) = .ok (.lcmp, 1)) (d23 : decode code (p + 23) = .ok (.ifCond .eq 5, 3)) (d28 : decode code (p + 28) = .ok (.goto off, 3)) (hoff : ((p + 28 : Nat) : Int) + off = ((1692 : Nat) : Int))
    (kk : WW G E ML h n k 1692 (LL G x m o i) []) : WW G E ML h n k p [(6, .int (iI r)), (5, .int (iI c)), (4, .int (iI i)), (0, .ref (gb G)), (1, .ref x), (2, .ref m), (3, .ref o)] [] := by
  have hci : inI c := by rcases hc with rfl | rfl | rfl <;> exact inI.mk (by decide) (by decide)
  refine ww_aload_n 5 d0 rfl ?_
  refine cr_pi (cr_V (ct_X3_thrown hG hM) sv_L_97 rfl d1 hM.obj rfl rfl rfl rfl ⟨Nat.le_of_ble_eq_true rfl, Nat.le_of_ble_eq_true rfl⟩ (Nat.le_of_ble_eq_true rfl) (by show n + 0 ≤ 659399; omega) (by show k + 0 ≤ 6988884; omega)) ?_
  rw [ht]
  refine ww_iload 1 d4 rfl ?_
  refine ww_icmp_eq (p + 11) d6 (by omega) hci hci (fun _ => ?_) (fun z => absurd rfl z)
  refine ww_iload 1 d11 rfl ?_
  have fin : WW G E ML h n k (p + 28) [(6, .int (iI r)), (5, .int (iI c)), (4, .int (iI i)), (0, .ref (gb G)), (1, .ref x), (2, .ref m), (3, .ref o)] [] := ww_goto 1692 d28 hoff (ww_sub [2, 3, 4, 5, 6] rfl kk)
  refine ww_if_ne (p + 28) d13 (by omega) hci (fun _ => fin) (fun z => ?_)
  obtain ⟨e, hr⟩ := hz z
  refine ww_aload_n 6 d16 rfl ?_
  refine ww_iconst d17 ?_
  refine ww_lald d18 (ho z) (by decide) (by decide) (by decide) ?_
  rw [e]
  refine ww_iload 0 d19 rfl ?_
  refine ww_i2l d21 hr ?_
  refine ww_lcmpE d22 ?_
  exact ww_if_eq (p + 28) d23 (by omega) (inI.mk (by decide) (by decide)) (fun _ => fin) (fun z => absurd rfl z)
/-- what a question's helper leaves -/
theorem HPo.q {h h1 : AH} {o : Nat} {G : GT} {f0 : Int → Int} {C : Prop} {P : Int → Prop} {c : Int} (ho : h o = some ((o, 10800), aJ G 1 f0)) (hp : HPo h o G f0 (fun z g => C ∧ P z ∧ Ex h g) (XJ h (fun X => X = ioN ∧ ¬ C)) ioN isN c h1) : FO o 10800 10800 h h1 ∧ ∃ f, h1 o = some ((o, 10800), aJ G 1 f) ∧ ((c = 0 ∧ C ∧ P (f 0)) ∨ (c = 1 ∧ ¬ C)) := by
  rcases hp with ⟨hc, z, g, ⟨h2, h3, h4⟩, h5, h6⟩ | ⟨hc, q, ⟨h2, h3⟩, h4⟩ | ⟨hc, q, ⟨h2, h3⟩, h4⟩
  · exact ⟨(h4.fo).tr h6.fo, _, h5, Or.inl ⟨hc, h2, by rw [iup_s]; exact h3⟩⟩
  · exact ⟨h4.fo, _, h4 _ _ ho, Or.inr ⟨hc, h3⟩⟩
  · exact absurd h2 (by decide)
