abbrev gcl : List vw_C := [(RX1, TX1, 5), (RX2, TX2, 6), (RX3, TX3, 27), (RX4, TX4, 9), (RX5, TX5, 8), (RX6, TX6, 4), (RX7, TX7, 2), (RX8, TX8, 8), (RX9, TX9, 3), (RJ1, TJ1, 3), (RJ3, TJ3, 3), (RJ5, TJ5, 8), (RJ24, TJ24, 4), (RJ6, TJ6, 4), (RJ15, TJ15, 4), (RJ20, TJ20, 1)]
/-! ===== my own layer: an abstract heap with owner tags, ints as Int, one judgement WW ===== -/
set_option maxRecDepth 100000
def iI (z : Int) : Int32 := Int32.ofInt z
def lI (z : Int) : Int64 := Int64.ofInt z
def inI (z : Int) : Prop := -2147483648 ≤ z ∧ z ≤ 2147483647
def inL (z : Int) : Prop := -9223372036854775808 ≤ z ∧ z ≤ 9223372036854775807
theorem iI_toInt {z : Int} (h : inI z) : (iI z).toInt = z := Int32.toInt_ofInt_of_le (by have := h.1; omega) (by have := h.2; omega)
theorem lI_toInt {z : Int} (h : inL z) : (lI z).toInt = z := Int64.toInt_ofInt_of_le (by have := h.1; omega) (by have := h.2; omega)
theorem iI_add (a b : Int) : iI a + iI b = iI (a + b) := (Int32.ofInt_add a b).symm
theorem iI_sub (a b : Int) : iI a - iI b = iI (a - b) := (Int32.ofInt_sub a b).symm
theorem iI_mul (a b : Int) : iI a * iI b = iI (a * b) := (Int32.ofInt_mul a b).symm
theorem lI_add (a b : Int) : lI a + lI b = lI (a + b) := (Int64.ofInt_add a b).symm
theorem lI_sub (a b : Int) : lI a - lI b = lI (a - b) := (Int64.ofInt_sub a b).symm
theorem lI_mul (a b : Int) : lI a * lI b = lI (a * b) := (Int64.ofInt_mul a b).symm
theorem iI_of (x : Int32) : x = iI x.toInt := (Int32.ofInt_toInt x).symm
theorem iI_inI (x : Int32) : inI x.toInt := ⟨by have := Int32.le_toInt x; simpa using this, by have := Int32.toInt_lt x; omega⟩
theorem iI_lt {a b : Int} (ha : inI a) (hb : inI b) : iI a < iI b ↔ a < b := by rw [Int32.lt_iff_toInt_lt, iI_toInt ha, iI_toInt hb]
theorem iI_le {a b : Int} (ha : inI a) (hb : inI b) : iI a ≤ iI b ↔ a ≤ b := by rw [Int32.le_iff_toInt_le, iI_toInt ha, iI_toInt hb]
theorem iI_eq {a b : Int} (ha : inI a) (hb : inI b) : iI a = iI b ↔ a = b := by rw [← Int32.toInt_inj, iI_toInt ha, iI_toInt hb]
theorem lI_lt {a b : Int} (ha : inL a) (hb : inL b) : lI a < lI b ↔ a < b := by rw [Int64.lt_iff_toInt_lt, lI_toInt ha, lI_toInt hb]
theorem lI_le {a b : Int} (ha : inL a) (hb : inL b) : lI a ≤ lI b ↔ a ≤ b := by rw [Int64.le_iff_toInt_le, lI_toInt ha, lI_toInt hb]
theorem lI_eq {a b : Int} (ha : inL a) (hb : inL b) : lI a = lI b ↔ a = b := by rw [← Int64.toInt_inj, lI_toInt ha, lI_toInt hb]
theorem iI_0 : (0 : Int32) = iI 0 := rfl
theorem iI_nat (n : Nat) : Int32.ofNat n = iI n := Int32.ofInt_eq_ofNat.symm
theorem iI_clamp {z : Int} (h : inI z) : (iI z).toNatClampNeg = z.toNat := by show (iI z).toInt.toNat = _; rw [iI_toInt h]
theorem iI_l {z : Int} (h : inI z) : (iI z).toInt64 = lI z := by
  rw [← Int64.toInt_inj, Int32.toInt_toInt64, iI_toInt h, lI_toInt ⟨by have := h.1; omega, by have := h.2; omega⟩]
theorem lI_i (z : Int) : (lI z).toInt32 = iI z := Int64.toInt32_ofInt
theorem iI_in {z : Int} {n : Nat} (h0 : 0 ≤ z) (h1 : z < n) (h2 : inI z) : vp_in (iI z) n := by
  unfold vp_in
  rw [iI_0, iI_lt h2 ⟨by decide, by decide⟩, iI_clamp h2]
  omega
abbrev Tg : Type := Nat × Nat
abbrev AE : Type := va_E ⊕ Cell
abbrev AH : Type := Nat → Option (Tg × AE)
abbrev GT : Type := va_G × (Nat → ClassId) × State × Nat × Launch
abbrev gD (G : GT) : va_G := G.1
abbrev gC (G : GT) : Nat → ClassId := G.2.1
abbrev g0 (G : GT) : State := G.2.2.1
abbrev gb (G : GT) : Nat := G.2.2.2.1
abbrev gl (G : GT) : Launch := G.2.2.2.2
abbrev gz (G : GT) : Nat := (g0 G).heap.size
abbrev ob (ci : Nat) (fs : List Value) : AE := .inl (.inr (ci, fs))
abbrev ai (cA : ClassId) (n : Nat) (f : Nat → Int32) : AE := .inl (.inl (cA, n, .inl f))
abbrev al (cA : ClassId) (n : Nat) (f : Nat → Int64) : AE := .inl (.inl (cA, n, .inr (.inl f)))
abbrev aq (cA : ClassId) (n : Nat) (f : Nat → Option Nat) : AE := .inl (.inl (cA, n, .inr (.inr (.inr (.inr f)))))
def aat (G : GT) (a : Nat) (x : AE) (H : Heap) : Prop := match x with
  | .inl e => va_at (gD G) gcl (a, e) H
  | .inr c => H[a]? = some c
/-- a cell of a Java object -/
def vok (v : VmData) : Prop := v.isStatics = false ∧ v ≠ .unknown
/-- a constant's cell: its class and slots -/
def wat (G : GT) (a : Nat) (x : AE) (H : Heap) : Prop := match x with
  | .inl (.inl e) => ∃ c : Cell, H[a]? = some c ∧ c.cls = e.1 ∧ c.slots = (vp_cell e.1 e.2).slots ∧ vok c.vm
  | .inl (.inr o) => ∃ (r : vw_C) (c : Cell), gcl[o.1]? = some r ∧ H[a]? = some c ∧ c.cls = (gD G).1 o.1 ∧ vok c.vm ∧ ∀ k, k < r.2.2 → c.slots[(gD G).2 o.1 k]? = some (vp_V o.2 k)
  | .inr c0 => ∃ c : Cell, H[a]? = some c ∧ c.cls = c0.cls ∧ c.slots = c0.slots ∧ c.vm = c0.vm
theorem vp_cell_cv {cA : ClassId} {x : vp_A} : (vp_cell cA x).cls = cA ∧ (vp_cell cA x).vm = .none := by
  obtain ⟨n, f | f | f | f | f⟩ := x <;> exact ⟨rfl, rfl⟩
theorem vok_none : vok .none := ⟨rfl, fun h => by cases h⟩
theorem aat.w {G : GT} {a : Nat} {x : AE} {H : Heap} (h : aat G a x H) : wat G a x H := by
  match x, h with
  | .inl (.inl e), h => exact ⟨_, h, vp_cell_cv.1, rfl, by rw [vp_cell_cv.2]; exact vok_none⟩
  | .inl (.inr o), h => obtain ⟨r, h1, c, q1, q2, q3, q4⟩ := h; exact ⟨r, c, h1, q1, q2, by rw [q3]; exact vok_none, q4⟩
  | .inr c, h => exact ⟨c, h, rfl, rfl, rfl⟩
/-- an owned cell stands as it is; of a constant's the class and slots are known -/
def bat (G : GT) (t : Tg) (a : Nat) (x : AE) (H : Heap) : Prop := (t.1 ≠ 0 → aat G a x H) ∧ wat G a x H
def gA (G : GT) : Nat → Prop := fun q => gz G ≤ q
def RP (G : GT) (h : AH) (H : Heap) : Prop := (∀ a t x, h a = some (t, x) → bat G t a x H ∧ ((t.1 = 0 ∧ a < gz G) ∨ (t.1 ≠ 0 ∧ gz G ≤ a ∧ t.1 ≤ a))) ∧ (∀ q : Nat, q < gz G → H[q]? = (g0 G).heap[q]?) ∧ gz G ≤ H.size
/-- the array classes: 0 int, 1 byte, 2 boolean, 3 long, 4 Object, 5 HashMap.Node, 6 int[], 7 boolean[] -/
def gtys (G : GT) : List (ClassId × FieldType) := [(gC G 0, .int), (gC G 1, .byte), (gC G 2, .boolean), (gC G 3, .long), (gC G 4, .object "java/lang/Object"), (gC G 5, .object "java/util/HashMap$Node"), (gC G 6, .array .int), (gC G 7, .array .boolean)]
def GOK (G : GT) : Prop := (∀ w ∈ lw_tbl, w.before #[Value.ref (gb G)] (g0 G) = true) ∧ (Jvm.Cond.and given_1 narrow_1).before #[Value.ref (gb G)] (g0 G) = true ∧ (va_K (gD G) gcl (gtys G) (g0 G) ∧ ArrOfT (g0 G) (gC G 8) (.object "java/lang/Integer")) ∧ (gl G).flags = flags0 ∧ gb G < gz G
abbrev MT : Type := MethodName × ByteArray × Nat × Option FieldType × Nat × Nat × Nat × Nat
abbrev my (M : MT) : MethodName := M.1
abbrev mcc (M : MT) : ByteArray := M.2.1
abbrev mnL (M : MT) : Nat := M.2.2.1
abbrev mret (M : MT) : Option FieldType := M.2.2.2.1
abbrev mfr (M : MT) : Nat := M.2.2.2.2.1
abbrev mlo (M : MT) : Nat := M.2.2.2.2.2.1
abbrev mmc (M : MT) : Nat := M.2.2.2.2.2.2.1
abbrev mms (M : MT) : Nat := M.2.2.2.2.2.2.2
abbrev mroom (M : MT) : Room := { frames := mfr M, cells := mmc M, slots := mms M, locals := mlo M }
abbrev ET : Type := Program × Env × State × MethodId × Array Value × List Frame × Method × Code × (State → Prop)
abbrev eP (E : ET) : Program := E.1
abbrev eE (E : ET) : Env := E.2.1
abbrev eS (E : ET) : State := E.2.2.1
abbrev eM (E : ET) : MethodId := E.2.2.2.1
abbrev eA (E : ET) : Array Value := E.2.2.2.2.1
abbrev eB (E : ET) : List Frame := E.2.2.2.2.2.1
abbrev eMt (E : ET) : Method := E.2.2.2.2.2.2.1
abbrev eC (E : ET) : Code := E.2.2.2.2.2.2.2.1
abbrev eQ (E : ET) : State → Prop := E.2.2.2.2.2.2.2.2
def EOK (G : GT) (E : ET) (M : MT) : Prop := (eP E).tables.exec = Jvm.exec ∧ (eC E).code = mcc M ∧ (eC E).maxLocals = mnL M ∧ (eS E).vm.findClass (my M).cls = some (eM E).cls ∧ (∀ w ∈ lw_all, w.before (eA E) (eS E) = true) ∧ GOK G ∧ (g0 G).WarmedH (eS E).vm ∧ (eMt E).locks = false ∧ (eMt E).sig.returnType = mret M ∧ (eMt E).name = (my M).name ∧ (eS E).methodNamed? (my M) = some (eM E)
def WW (G : GT) (E : ET) (M : MT) (h : AH) (n k : Nat) (pc : Nat) (L : List (Nat × Value)) (st : List Value) : Prop :=
  EOK G E M → ∀ (H : Heap) (locs : List Loc) (ls : Array Slot), RP G h H → (∀ q ∈ locs, gA G q.base) → lv_has ls (mnL M) L → W (eP E) (gl G) (eE E) (mroom M) (eS E) (eM E) (eA E) (eB E) (eMt E) (eC E) H locs n k (eQ E) (F0 (eM E) pc ls st)
def PR (G : GT) (h : AH) (as : List Value) : Array Value → State → Prop := fun a U => a = as.toArray ∧ RP G h U.heap ∧ (g0 G).WarmedH U.vm
def QR (G : GT) (post : Option Value → AH → Prop) : Array Value → State → Outcome → State → Prop := fun _ _ o t => ∃ (v : Option Value) (h : AH), o = .returned v ∧ RP G h t.heap ∧ post v h
def CT (G : GT) (M : MT) (h : AH) (as : List Value) (post : Option Value → AH → Prop) : Prop :=
  Met (gl G) (my M) (ws_ (my M) (mcc M) (mnL M) (mret M)) (mroom M) (PR G h as) (QR G post) (mmc M) (mms M) (gA G)
def EQ (G : GT) (E : ET) (M : MT) (post : Option Value → AH → Prop) : Prop := eQ E = MQ (eB E) (QR G post) (eA E) (eS E) (mmc M) (mms M) (gA G)
def pI (p : Int → AH → Prop) : Option Value → AH → Prop := fun v h => ∃ z, v = some (.int (iI z)) ∧ p z h
def pL (p : Int → AH → Prop) : Option Value → AH → Prop := fun v h => ∃ z, v = some (.long (lI z)) ∧ p z h
def pV (p : AH → Prop) : Option Value → AH → Prop := fun v h => v = none ∧ p h
def pR (p : Nat → AH → Prop) : Option Value → AH → Prop := fun v h => ∃ a, v = some (.ref a) ∧ p a h
def pO (p : Option Nat → AH → Prop) : Option Value → AH → Prop := fun v h => ∃ a, v = some (va_rf a) ∧ p a h
def hset (h : AH) (a : Nat) (x : Tg × AE) : AH := fun q => if q = a then some x else h q
theorem hset_s {h : AH} {a : Nat} {x : Tg × AE} : hset h a x a = some x := if_pos rfl
theorem hset_n {h : AH} {a b : Nat} {x : Tg × AE} (n : b ≠ a) : hset h a x b = h b := if_neg n
/-- by tags -/
theorem hset_t {h : AH} {a b : Nat} {x y : Tg × AE} {e : Tg × AE} (ha : h a = some e) (hb : h b = some y) (n : y.1 ≠ e.1) : hset h a x b = some y := by
  rw [hset_n (fun z => n (by rw [z, ha] at hb; cases hb; rfl)), hb]
theorem aat.kept {G : GT} {a : Nat} {x : AE} {H H1 : Heap} (h : aat G a x H) (hq : H1[a]? = H[a]?) : aat G a x H1 := by
  cases x with
  | inl e => exact va_at.kept (q := (a, e)) h hq
  | inr c => exact hq.trans h
theorem aat.lt {G : GT} {a : Nat} {x : AE} {H : Heap} (h : aat G a x H) : a < H.size := by
  cases x with
  | inl e => exact va_at.lt (q := (a, e)) h
  | inr c => exact (Array.getElem?_eq_some_iff.mp h).1
theorem wat.kept {G : GT} {a : Nat} {x : AE} {H H1 : Heap} (h : wat G a x H) (hq : H1[a]? = H[a]?) : wat G a x H1 := by
  match x, h with
  | .inl (.inl e), h => obtain ⟨c, h1, h2⟩ := h; exact ⟨c, hq.trans h1, h2⟩
  | .inl (.inr o), h => obtain ⟨r, c, h0, h1, h2⟩ := h; exact ⟨r, c, h0, hq.trans h1, h2⟩
  | .inr c, h => obtain ⟨c, h1, h2⟩ := h; exact ⟨c, hq.trans h1, h2⟩
theorem wat.lt {G : GT} {a : Nat} {x : AE} {H : Heap} (h : wat G a x H) : a < H.size := by
  match x, h with
  | .inl (.inl e), h => obtain ⟨c, h1, h2⟩ := h; exact (Array.getElem?_eq_some_iff.mp h1).1
  | .inl (.inr o), h => obtain ⟨r, c, h0, h1, h2⟩ := h; exact (Array.getElem?_eq_some_iff.mp h1).1
  | .inr c, h => obtain ⟨c, h1, h2⟩ := h; exact (Array.getElem?_eq_some_iff.mp h1).1
theorem bat.kept {G : GT} {t : Tg} {a : Nat} {x : AE} {H H1 : Heap} (h : bat G t a x H) (hq : H1[a]? = H[a]?) : bat G t a x H1 := ⟨fun z => (h.1 z).kept hq, h.2.kept hq⟩
theorem bat.lt {G : GT} {t : Tg} {a : Nat} {x : AE} {H : Heap} (h : bat G t a x H) : a < H.size := h.2.lt
theorem aat.b {G : GT} {t : Tg} {a : Nat} {x : AE} {H : Heap} (h : aat G a x H) : bat G t a x H := ⟨fun _ => h, h.w⟩
theorem RP.one {G : GT} {h : AH} {H : Heap} {a : Nat} {t : Tg} {e : va_E} (hR : RP G h H) (ha : h a = some (t, .inl e)) (ht : t.1 ≠ 0) : va_P (gD G) gcl [(a, e)] H := by
  intro k q hk
  match k, hk with
  | 0, hk => cases hk; exact (hR.1 a t _ ha).1.1 ht
  | k + 1, hk => simp at hk
theorem RP.own {G : GT} {h : AH} {H : Heap} {a : Nat} {t : Tg} {x : AE} (hR : RP G h H) (ha : h a = some (t, x)) (ht : t.1 ≠ 0) : gz G ≤ a := by
  rcases (hR.1 a t x ha).2 with ⟨h1, -⟩ | ⟨-, h2, -⟩
  · exact absurd h1 ht
  · exact h2
theorem RP.ow {G : GT} {h : AH} {H : Heap} (hR : RP G h H) : ∀ a t x, h a = some (t, x) → t.1 ≤ a := fun a t x ha => by
  rcases (hR.1 a t x ha).2 with ⟨h1, -⟩ | ⟨-, -, h2⟩
  · omega
  · exact h2
theorem RP.lt {G : GT} {h : AH} {H : Heap} {a : Nat} {t : Tg} {x : AE} (hR : RP G h H) (ha : h a = some (t, x)) : a < H.size := ((hR.1 a t x ha).1).lt
theorem va_D1 {A : Nat → Prop} {a : Nat} {e : va_E} (hA : A a) : va_D A [(a, e)] := by
  refine ⟨fun i j x y hi hj _ => ?_, fun k q hk => ?_⟩
  · match i, j, hi, hj with
    | 0, 0, _, _ => rfl
    | 0, j + 1, _, hj => simp at hj
    | i + 1, _, hi, _ => simp at hi
  · match k, hk with
    | 0, hk => cases hk; exact hA
    | k + 1, hk => simp at hk
/-- one cell is written -/
theorem RP.put {G : GT} {h : AH} {H H1 : Heap} {a : Nat} {t : Tg} {x y : AE} (hR : RP G h H) (ha : h a = some (t, x)) (ht : t.1 ≠ 0) (hs : H.size ≤ H1.size) (h1 : aat G a y H1) (hq : ∀ q : Nat, q < H.size → q ≠ a → H1[q]? = H[q]?) : RP G (hset h a (t, y)) H1 := by
  have hb := hR.own ha ht
  refine ⟨fun b u z hz => ?_, fun q hq1 => ?_, Nat.le_trans hR.2.2 hs⟩
  · by_cases hba : b = a
    · subst hba
      rw [hset_s] at hz
      cases hz
      exact ⟨h1.b, Or.inr ⟨ht, hb, hR.ow _ _ _ ha⟩⟩
    · rw [hset_n hba] at hz
      exact ⟨(hR.1 b u z hz).1.kept (hq b (hR.lt hz) hba), (hR.1 b u z hz).2⟩
  · rw [hq q (Nat.lt_of_lt_of_le hq1 hR.2.2) (by omega)]
    exact hR.2.1 q hq1
/-- one cell is made -/
theorem RP.make {G : GT} {h : AH} {H H1 : Heap} {a : Nat} {t : Tg} {y : AE} (hR : RP G h H) (ha : a = H.size) (ht : t.1 ≠ 0 ∧ t.1 ≤ a) (hs : H.size ≤ H1.size) (h1 : aat G a y H1) (hq : ∀ q : Nat, q < H.size → H1[q]? = H[q]?) : RP G (hset h a (t, y)) H1 := by
  refine ⟨fun b u z hz => ?_, fun q hq1 => ?_, Nat.le_trans hR.2.2 hs⟩
  · by_cases hba : b = a
    · subst hba
      rw [hset_s] at hz
      cases hz
      exact ⟨h1.b, Or.inr ⟨ht.1, by rw [ha]; exact hR.2.2, ht.2⟩⟩
    · rw [hset_n hba] at hz
      exact ⟨(hR.1 b u z hz).1.kept (hq b (hR.lt hz)), (hR.1 b u z hz).2⟩
  · rw [hq q (Nat.lt_of_lt_of_le hq1 hR.2.2)]
    exact hR.2.1 q hq1
theorem RP.fresh {G : GT} {h : AH} {H : Heap} (hR : RP G h H) : ∀ a x, h a = some x → a < H.size := fun a x hx => hR.lt (t := x.1) (x := x.2) hx
theorem EOK.K {G : GT} {E : ET} {M : MT} (hE : EOK G E M) : va_K (gD G) gcl (gtys G) (eS E) := va_K.moved hE.2.2.2.2.2.2.1.alike hE.2.2.2.2.2.1.2.2.1.1
theorem EOK.A8 {G : GT} {E : ET} {M : MT} (hE : EOK G E M) : ArrOfT (eS E) (gC G 8) (.object "java/lang/Integer") := arrOfT_moved hE.2.2.2.2.2.2.1.alike hE.2.2.2.2.2.1.2.2.1.2
/-- an object that is read: its class -/
theorem RP.recv {G : GT} {E : ET} {M : MT} {h : AH} {H : Heap} {a ci : Nat} {t : Tg} {fs : List Value} {q : vw_C} (hE : EOK G E M) (hR : RP G h H) (ha : h a = some (t, ob ci fs)) (hci : gcl[ci]? = some q) : ∃ cell : Cell, H[a]? = some cell ∧ cell.vm.isStatics = false ∧ (eS E).vm.findClass q.1 = some cell.cls := by
  obtain ⟨r, c, h0, h1, h2, h3, -⟩ := (hR.1 a t _ ha).1.2
  exact ⟨c, h1, h3.1, by rw [h2]; exact (hE.K.1 ci q hci).2.1⟩
/-- an array that is read -/
theorem RP.arr {G : GT} {E : ET} {M : MT} {h : AH} {H : Heap} {a j : Nat} {t : Tg} {cA : ClassId} {x : vp_A} {ty : FieldType} (hE : EOK G E M) (hR : RP G h H) (ha : h a = some (t, .inl (.inl (cA, x)))) (hty : (gtys G)[j]? = some (cA, ty)) : ∃ c : Cell, H[a]? = some c ∧ (eS E).isArrayOf c ty ∧ c.vm ≠ .unknown ∧ c.slots = (vp_cell cA x).slots := by
  obtain ⟨c, h1, h2, h3, h4⟩ := (hR.1 a t _ ha).1.2
  obtain ⟨-, k, hk, hk2⟩ := (hE.K.2 j _ hty).1 0 (fun _ => .null)
  exact ⟨c, h1, ⟨fun q z => (by have := h4.1; rw [z] at this; cases this), k, by rw [h2]; exact hk, hk2⟩, h4.2, h3⟩
theorem EOK.x {G : GT} {E : ET} {M : MT} (hE : EOK G E M) : (eP E).tables.exec = Jvm.exec := hE.1
theorem EOK.b {G : GT} {E : ET} {M : MT} (hE : EOK G E M) : (eC E).code = mcc M := hE.2.1
theorem EOK.ml {G : GT} {E : ET} {M : MT} (hE : EOK G E M) : (eC E).maxLocals = mnL M := hE.2.2.1
theorem EOK.own {G : GT} {E : ET} {M : MT} (hE : EOK G E M) : (eS E).vm.findClass (my M).cls = some (eM E).cls := hE.2.2.2.1
theorem EOK.ts {G : GT} {E : ET} {M : MT} (hE : EOK G E M) : ∀ w ∈ lw_all, w.before (eA E) (eS E) = true := hE.2.2.2.2.1
theorem EOK.g {G : GT} {E : ET} {M : MT} (hE : EOK G E M) : GOK G := hE.2.2.2.2.2.1
theorem EOK.w {G : GT} {E : ET} {M : MT} (hE : EOK G E M) : (g0 G).WarmedH (eS E).vm := hE.2.2.2.2.2.2.1
theorem EOK.lk {G : GT} {E : ET} {M : MT} (hE : EOK G E M) : (eMt E).locks = false := hE.2.2.2.2.2.2.2.1
theorem EOK.r {G : GT} {E : ET} {M : MT} (hE : EOK G E M) : (eMt E).sig.returnType = mret M := hE.2.2.2.2.2.2.2.2.1
theorem EOK.nm {G : GT} {E : ET} {M : MT} (hE : EOK G E M) : (eMt E).name = (my M).name := hE.2.2.2.2.2.2.2.2.2.1
theorem EOK.mn {G : GT} {E : ET} {M : MT} (hE : EOK G E M) : (eS E).methodNamed? (my M) = some (eM E) := hE.2.2.2.2.2.2.2.2.2.2
/-- a method, from its entry -/
theorem CT.of {G : GT} {M : MT} {h : AH} {as : List Value} {post : Option Value → AH → Prop} {L : List (Nat × Value)} (hy : plainName (my M).cls = true) (hG : GOK G) (hn : (lg_sl as).length ≤ mnL M) (hL : lv_args 0 as = L)
    (body : ∀ E : ET, EQ G E M post → WW G E M h 0 0 0 L []) : CT G M h as post := by
  refine Met.ofW (cc := mcc M) (maxL := mnL M) (ret := mret M) hy rfl ?_
  intro p e s m args below meth c s₁ B hml hv
  obtain ⟨rfl, hR, hW⟩ := hv
  have hts := atoms_spec (ws := ws_ (my M) (mcc M) (mnL M) (mret M)) B.pre
  have hts : ∀ w ∈ lw_all, w.before _ s = true := fun w h => hts w (List.mem_cons_of_mem _ h)
  have hl := lv_entry as hn
  rw [lg_entry_eq]
  rw [hL] at hl
  exact body (p, e, s, m, as.toArray, below, meth, c, MQ below (QR G post) as.toArray s (mmc M) (mms M) (gA G)) rfl
    ⟨B.exec, B.bytes, hml, findClass_of_methodNamed B.named, hts, hG, hW, B.notSynchronized, B.returns, (name_of_methodNamed B.named B.method).1, B.named⟩ s.heap [] _ hR (fun q hq => by cases hq) hl
