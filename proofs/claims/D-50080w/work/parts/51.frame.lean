/-! ===== frames of the component's cells: owner and kind ===== -/
set_option maxRecDepth 100000
/-- nothing old has changed -/
def Ex (h h' : AH) : Prop := ∀ a x, h a = some x → h' a = some x
/-- all is kept but cells of the owner o and the kinds from k1 to k2 -/
def FO (o k1 k2 : Nat) (h h' : AH) : Prop := ∀ a t x, h a = some (t, x) → ¬ (t.1 = o ∧ k1 ≤ t.2 ∧ t.2 ≤ k2) → h' a = some (t, x)
/-- all is kept but the cell at a, of the tag t -/
def KT (a : Nat) (t : Tg) (h h' : AH) : Prop := ∀ b u x, h b = some (u, x) → (u ≠ t ∨ b ≠ a) → h' b = some (u, x)
/-- q is new -/
def Nw (h : AH) (q : Nat) : Prop := q ≠ 0 ∧ ∀ a t x, h a = some (t, x) → a < q ∧ t.1 < q
theorem Ex.rf {h : AH} : Ex h h := fun _ _ x => x
theorem Ex.tr {h h1 h2 : AH} (a : Ex h h1) (b : Ex h1 h2) : Ex h h2 := fun q x hx => b q x (a q x hx)
theorem Ex.fo {h h' : AH} {o k1 k2 : Nat} (a : Ex h h') : FO o k1 k2 h h' := fun q _ x hx _ => a q _ hx
theorem FO.rf {h : AH} {o k1 k2 : Nat} : FO o k1 k2 h h := fun _ _ _ x _ => x
theorem FO.tr {h h1 h2 : AH} {o k1 k2 : Nat} (a : FO o k1 k2 h h1) (b : FO o k1 k2 h1 h2) : FO o k1 k2 h h2 := fun q t x hx ht => b q t x (a q t x hx ht) ht
theorem FO.ex {h h1 h2 : AH} {o k1 k2 : Nat} (a : FO o k1 k2 h h1) (b : Ex h1 h2) : FO o k1 k2 h h2 := fun q t x hx ht => b q _ (a q t x hx ht)
theorem FO.w {h h1 : AH} {o k1 k2 j1 j2 : Nat} (a : FO o k1 k2 h h1) (h1' : j1 ≤ k1) (h2' : k2 ≤ j2) : FO o j1 j2 h h1 := fun q t x hx ht => a q t x hx (fun z => ht ⟨z.1, by omega, by omega⟩)
theorem FO.kt {h h1 h2 : AH} {o k1 k2 b0 : Nat} {t : Tg} (a : FO o k1 k2 h h1) (b : KT b0 t h1 h2) (ht : t.1 = o ∧ k1 ≤ t.2 ∧ t.2 ≤ k2) : FO o k1 k2 h h2 := fun q u x hx hu => b q u x (a q u x hx hu) (Or.inl (fun e => hu (by rw [e]; exact ht)))
/-- the owner is new: nothing old has changed -/
theorem FO.nw {h h1 : AH} {o k1 k2 : Nat} (a : FO o k1 k2 h h1) (n : Nw h o) : Ex h h1 := fun q x hx => a q x.1 x.2 hx (fun z => by have := (n.2 q x.1 x.2 hx).2; omega)
theorem KT.of {h : AH} {a : Nat} {t : Tg} {x y : AE} (ha : h a = some (t, x)) : KT a t h (hset h a (t, y)) := fun b u z hb hu => by
  rcases hu with hu | hu
  · exact hset_t ha hb hu
  · rw [hset_n hu]; exact hb
theorem Nw.ex {h : AH} {q : Nat} {t : Tg} {x : AE} (n : Nw h q) : Ex h (hset h q (t, x)) := fun a y hy => by
  rw [hset_n (fun e => by have := (n.2 a y.1 y.2 hy).1; omega)]
  exact hy
theorem Nw.ne {h : AH} {q a : Nat} {t : Tg} {x : AE} (n : Nw h q) (ha : h a = some (t, x)) : a ≠ q := by
  have := (n.2 a t x ha).1; omega
theorem Nw.no {h : AH} {q a : Nat} {t : Tg} {x : AE} (n : Nw h q) (ha : h a = some (t, x)) : t.1 ≠ q := by
  have := (n.2 a t x ha).2; omega
section RWX
variable {G : GT} {E : ET} {M M' : MT} {h : AH} {n k pc : Nat} {L : List (Nat × Value)} {st rest as : List Value} {post : Option Value → AH → Prop}
theorem wx_putf {own : String} {index ci j a : Nat} {ty : FieldType} {t : Tg} {fs : List Value} {v : Value} (g : GF own index ci j ty false) (ho : own = (my M).cls) (d : decode (mcc M) pc = .ok (.putfield index, 3)) (ha : h a = some (t, ob ci fs)) (ht : t.1 ≠ 0) (hj : j < fs.length) (hn : narrow ty v = v) (hfit : fits ty v = true)
    (kk : ∀ h', h' a = some (t, ob ci (fs.set j v)) → KT a t h h' → WW G E M h' n k (pc + 3) L st) : WW G E M h n k pc L (v :: .ref a :: st) :=
  ww_putf g ho d ha ht hj hn hfit (kk _ hset_s (KT.of ha))
theorem wx_putF {own : String} {index ci j a : Nat} {ty : FieldType} {t : Tg} {fs : List Value} {v : Value} (g : GF own index ci j ty true) (ho : own = (my M).cls) (hmn : (my M).name = "<init>") (d : decode (mcc M) pc = .ok (.putfield index, 3)) (ha : h a = some (t, ob ci fs)) (ht : t.1 ≠ 0) (hj : j < fs.length) (hn : narrow ty v = v) (hfit : fits ty v = true)
    (kk : ∀ h', h' a = some (t, ob ci (fs.set j v)) → KT a t h h' → WW G E M h' n k (pc + 3) L st) : WW G E M h n k pc L (v :: .ref a :: st) :=
  ww_putF g ho hmn d ha ht hj hn hfit (kk _ hset_s (KT.of ha))
theorem wx_new {own : String} {index ci N : Nat} {fs : List Value} (tg : Nat → Tg) (g : NW own index ci N fs) (ho : own = (my M).cls) (d : decode (mcc M) pc = .ok (.new index, 3)) (htg : ∀ q : Nat, Nw h q → (tg q).1 ≠ 0 ∧ (tg q).1 ≤ q) (hn : n + 1 ≤ mmc M) (hk : k + N ≤ mms M)
    (kk : ∀ (q : Nat) (h' : AH), Nw h q → Ex h h' → h' q = some (tg q, ob ci fs) → WW G E M h' (n + 1) (k + N) (pc + 3) L (.ref q :: st)) : WW G E M h n k pc L st := by
  refine ww_own (fun how => ?_)
  have nw : ∀ q : Nat, (∀ a x, h a = some x → a < q) → q ≠ 0 → Nw h q := fun q hq q0 => ⟨q0, fun a t x hx => ⟨hq a _ hx, Nat.lt_of_le_of_lt (how a t x hx) (hq a _ hx)⟩⟩
  exact ww_new tg g ho d (fun q hq q0 => htg q (nw q hq q0)) hn hk (fun q hq q0 => kk q _ (nw q hq q0) (nw q hq q0).ex hset_s)
theorem wx_newA {z : Int} {N j : Nat} {atype : ArrayType} (tg : Nat → Tg) (hz : z = N) (hN : N < 100000000) (harr : Cond.arrayClass (newarray.typeOf atype) ∈ lw_all) (hty : (gtys G)[j]? = some (gC G j, newarray.typeOf atype)) (hra : ∀ U : State, va_RA U (gC G j) (newarray.typeOf atype) → U.vm.findClass ("[" ++ (newarray.typeOf atype).toString) = some (gC G j)) (hdv : defaultValue (newarray.typeOf atype) = .int 0) (hby : componentBytes (newarray.typeOf atype) ≤ 4) (d : decode (mcc M) pc = .ok (.newarray atype, 2)) (htg : ∀ q : Nat, Nw h q → (tg q).1 ≠ 0 ∧ (tg q).1 ≤ q) (hn : n + 1 ≤ mmc M) (hk : k + N ≤ mms M)
    (kk : ∀ (q : Nat) (h' : AH), Nw h q → Ex h h' → h' q = some (tg q, aA G j N (fun _ => 0)) → WW G E M h' (n + 1) (k + N) (pc + 2) L (.ref q :: st)) : WW G E M h n k pc L (.int (iI z) :: st) := by
  refine ww_own (fun how => ?_)
  have nw : ∀ q : Nat, (∀ a x, h a = some x → a < q) → q ≠ 0 → Nw h q := fun q hq q0 => ⟨q0, fun a t x hx => ⟨hq a _ hx, Nat.lt_of_le_of_lt (how a t x hx) (hq a _ hx)⟩⟩
  exact ww_newA tg hz hN harr hty hra hdv hby d (fun q hq q0 => htg q (nw q hq q0)) hn hk (fun q hq q0 => kk q _ (nw q hq q0) (nw q hq q0).ex hset_s)
theorem wx_newR {own C : String} {z : Int} {index N j : Nat} (tg : Nat → Tg) (hz : z = N) (hN : N < 100000000) (hcl : Cond.classLink own index C ∈ lw_all) (hov : Cond.arrayOver (.object C) ∈ lw_tbl) (hty : (gtys G)[j]? = some (gC G j, .object C)) (ho : own = (my M).cls) (d : decode (mcc M) pc = .ok (.anewarray index, 3)) (htg : ∀ q : Nat, Nw h q → (tg q).1 ≠ 0 ∧ (tg q).1 ≤ q) (hn : n + 1 ≤ mmc M) (hk : k + N ≤ mms M)
    (kk : ∀ (q : Nat) (h' : AH), Nw h q → Ex h h' → h' q = some (tg q, aR G j N (fun _ => none)) → WW G E M h' (n + 1) (k + N) (pc + 3) L (.ref q :: st)) : WW G E M h n k pc L (.int (iI z) :: st) := by
  refine ww_own (fun how => ?_)
  have nw : ∀ q : Nat, (∀ a x, h a = some x → a < q) → q ≠ 0 → Nw h q := fun q hq q0 => ⟨q0, fun a t x hx => ⟨hq a _ hx, Nat.lt_of_le_of_lt (how a t x hx) (hq a _ hx)⟩⟩
  exact ww_newR tg hz hN hcl hov hty ho d (fun q hq q0 => htg q (nw q hq q0)) hn hk (fun q hq q0 => kk q _ (nw q hq q0) (nw q hq q0).ex hset_s)
theorem wx_aast {a e N j ci : Nat} {z : Int} {t u : Tg} {f : Int → Option Nat} {fs : List Value} {q : vw_C} {C : String} (hC : q.1 = C ∨ Cond.castable q.1 C ∈ lw_tbl) (d : decode (mcc M) pc = .ok (.aastore, 1)) (ha : h a = some (t, aR G j N f)) (ht : t.1 ≠ 0) (hty : (gtys G)[j]? = some (gC G j, .object C)) (he : h e = some (u, ob ci fs)) (hci : gcl[ci]? = some q) (hN : N < 2147483648) (h0 : 0 ≤ z) (h1 : z < N)
    (kk : ∀ h', h' a = some (t, aR G j N (iup f z (some e))) → KT a t h h' → WW G E M h' n k (pc + 1) L st) : WW G E M h n k pc L (.ref e :: .int (iI z) :: .ref a :: st) :=
  ww_aast hC d ha ht hty he hci hN h0 h1 (kk _ hset_s (KT.of ha))
theorem wx_aastN {a N j : Nat} {z : Int} {t : Tg} {f : Int → Option Nat} {C : String} (d : decode (mcc M) pc = .ok (.aastore, 1)) (ha : h a = some (t, aR G j N f)) (ht : t.1 ≠ 0) (hty : (gtys G)[j]? = some (gC G j, .object C)) (hN : N < 2147483648) (h0 : 0 ≤ z) (h1 : z < N)
    (kk : ∀ h', h' a = some (t, aR G j N (iup f z none)) → KT a t h h' → WW G E M h' n k (pc + 1) L st) : WW G E M h n k pc L (.null :: .int (iI z) :: .ref a :: st) :=
  ww_aastN d ha ht hty hN h0 h1 (kk _ hset_s (KT.of ha))
theorem wx_iast {a N : Nat} {z v : Int} {t : Tg} {f : Int → Int} (d : decode (mcc M) pc = .ok (.iastore, 1)) (ha : h a = some (t, aA G 0 N f)) (ht : t.1 ≠ 0) (hN : N < 2147483648) (h0 : 0 ≤ z) (h1 : z < N) (kk : ∀ h', h' a = some (t, aA G 0 N (iup f z v)) → KT a t h h' → WW G E M h' n k (pc + 1) L st) : WW G E M h n k pc L (.int (iI v) :: .int (iI z) :: .ref a :: st) :=
  ww_iast d ha ht hN h0 h1 (kk _ hset_s (KT.of ha))
theorem wx_bast {a N : Nat} {z v : Int} {t : Tg} {f : Int → Int} (d : decode (mcc M) pc = .ok (.bastore, 1)) (ha : h a = some (t, aA G 1 N f)) (ht : t.1 ≠ 0) (hN : N < 2147483648) (h0 : 0 ≤ z) (h1 : z < N) (hv : narrow .byte (.int (iI v)) = .int (iI v)) (kk : ∀ h', h' a = some (t, aA G 1 N (iup f z v)) → KT a t h h' → WW G E M h' n k (pc + 1) L st) : WW G E M h n k pc L (.int (iI v) :: .int (iI z) :: .ref a :: st) :=
  ww_bast d ha ht hN h0 h1 hv (kk _ hset_s (KT.of ha))
theorem wx_zast {a N : Nat} {z v : Int} {t : Tg} {f : Int → Int} (d : decode (mcc M) pc = .ok (.bastore, 1)) (ha : h a = some (t, aA G 2 N f)) (ht : t.1 ≠ 0) (hN : N < 2147483648) (h0 : 0 ≤ z) (h1 : z < N) (hv : narrow .boolean (.int (iI v)) = .int (iI v)) (kk : ∀ h', h' a = some (t, aA G 2 N (iup f z v)) → KT a t h h' → WW G E M h' n k (pc + 1) L st) : WW G E M h n k pc L (.int (iI v) :: .int (iI z) :: .ref a :: st) :=
  ww_zast d ha ht hN h0 h1 hv (kk _ hset_s (KT.of ha))
/-- pure answers: a reference -/
def CPr (G : GT) (M : MT) (h : AH) (as : List Value) (z : Nat) : Prop := CT G M h as (pR (fun r h' => r = z ∧ h' = h))
theorem cr_pr {mc ms : Nat} {z : Nat} (hc : CR G E M h n k pc L st rest mc ms (pR (fun r h' => r = z ∧ h' = h))) (kk : WW G E M h (n + mc) (k + ms) (pc + 3) L (.ref z :: rest)) : WW G E M h n k pc L st :=
  cr_r hc (fun r h' hp => by rw [hp.1, hp.2]; exact kk)
theorem cr5_pr {mc ms : Nat} {z : Nat} (hc : CR5 G E M h n k pc L st rest mc ms (pR (fun r h' => r = z ∧ h' = h))) (kk : WW G E M h (n + mc) (k + ms) (pc + 5) L (.ref z :: rest)) : WW G E M h n k pc L st :=
  cr5_r hc (fun r h' hp => by rw [hp.1, hp.2]; exact kk)
theorem cr5_pi {mc ms : Nat} {z : Int} (hc : CR5 G E M h n k pc L st rest mc ms (pI (fun r h' => r = z ∧ h' = h))) (kk : WW G E M h (n + mc) (k + ms) (pc + 5) L (.int (iI z) :: rest)) : WW G E M h n k pc L st :=
  cr5_i hc (fun r h' hp => by rw [hp.1, hp.2]; exact kk)
end RWX
