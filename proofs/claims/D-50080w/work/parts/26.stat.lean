/-! ===== statics, literals, strings ===== -/
set_option maxRecDepth 100000
theorem GOK.flat {G : GT} (hG : GOK G) : ∀ c ∈ flatC (Jvm.Cond.and given_1 narrow_1), c.before #[Value.ref (gb G)] (g0 G) = true := flat_of_before _ hG.2.1
theorem gA_no {G : GT} : ∀ a : Nat, a < (g0 G).heap.size → ¬ gA G a := fun _ ha q => absurd ha (Nat.not_lt.mpr q)
theorem st_int {G : GT} {C n d : String} {z : Int32} (hG : GOK G) (h1 : Cond.laysStatic C n d ∈ lw_tbl) (h2 : Cond.initialized C ∈ lw_tbl) (h3 : Cond.eq (.static C n d) (.int z) ∈ flatC (Jvm.Cond.and given_1 narrow_1)) : va_Z C n d (.int z) (gA G) (g0 G) (g0 G).heap :=
  va_Zof (hG.1 _ h1) (hG.1 _ h2) (va_eqi (hG.flat _ h3)) gA_no
theorem st_ref {G : GT} {C n d : String} (hG : GOK G) (h1 : Cond.laysStatic C n d ∈ lw_tbl) (h2 : Cond.initialized C ∈ lw_tbl) (h3 : Cond.isRef (.static C n d) ∈ flatC (Jvm.Cond.and given_1 narrow_1)) : va_Zq C n d (gA G) (g0 G) (g0 G).heap :=
  va_Zqof (hG.1 _ h1) (hG.1 _ h2) (hG.flat _ h3) gA_no
section RWS
variable {G : GT} {E : ET} {M : MT} {h : AH} {n k pc : Nat} {L : List (Nat × Value)} {st : List Value}
theorem ww_gets {own C nm ds : String} {index : Nat} {v : Value} (hZ : va_Z C nm ds v (gA G) (g0 G) (g0 G).heap) (hl : Cond.fieldLink own index C nm ds ∈ lw_all) (ho : own = (my M).cls) (d : decode (mcc M) pc = .ok (.getstatic index, 3)) (kk : WW G E M h n k (pc + 3) L (v :: st)) : WW G E M h n k pc L st := by
  intro hE H locs ls hR hS hl'
  subst ho
  obtain ⟨cf, kf, fi, f, a, cell, h1, h2, h3, h4, h5, h6, h7, h8⟩ := va_Z.moved hE.w.alike hZ
  have ha : a < gz G := Nat.not_le.mp h8
  exact W.gets hE.x hE.b hE.own (hE.ts _ hl) h1 h2 h3 h4 (by rw [hR.2.1 a ha]; exact h5) (fun e => by rw [e] at h6; cases h6) h7 rfl d (kk hE H locs ls hR hS hl')
theorem ww_getsq {own C nm ds : String} {index : Nat} (hZ : va_Zq C nm ds (gA G) (g0 G) (g0 G).heap) (hl : Cond.fieldLink own index C nm ds ∈ lw_all) (ho : own = (my M).cls) (d : decode (mcc M) pc = .ok (.getstatic index, 3)) (kk : ∀ r : Option Nat, WW G E M h n k (pc + 3) L (va_rf r :: st)) : WW G E M h n k pc L st := by
  rcases hZ with hZ | ⟨t, hZ⟩
  · exact ww_gets hZ hl ho d (kk none)
  · exact ww_gets hZ hl ho d (kk (some t))
theorem ww_ldcS {tx : String} {index a : Nat} (hZ : vk_R (my M).cls index tx a (g0 G)) (d : decode (mcc M) pc = .ok (.ldc index, 2)) (kk : WW G E M h n k (pc + 2) L (.ref a :: st)) : WW G E M h n k pc L st :=
  fun hE H locs ls hR hS hl => va_ldcS hE.x hE.b hE.own (vk_R.warm hE.w hZ) d (kk hE H locs ls hR hS hl)
theorem ww_aret {post : Option Value → AH → Prop} {a : Nat} {rt : FieldType} (hQ : EQ G E M post) (d : decode (mcc M) pc = .ok (.areturn, 1)) (hr : mret M = some rt) (hrt : rt.isReference = true) (hn : n ≤ mmc M) (hk : k ≤ mms M) (hp : post (some (.ref a)) h) : WW G E M h n k pc L [.ref a] := by
  intro hE H locs ls hR hS hl
  rw [hQ]
  exact W.widen hn hk (W.aret hE.x hE.b (hE.r.trans hr) (by cases rt <;> first | exact Or.inl ⟨_, rfl⟩ | exact Or.inr ⟨_, rfl⟩ | cases hrt) (Or.inr ⟨a, rfl⟩) (fun t ht _ => ⟨_, h, rfl, by rw [ht]; exact hR, hp⟩) hS d hE.lk)
theorem ww_aretq {post : Option Value → AH → Prop} {a : Option Nat} {rt : FieldType} (hQ : EQ G E M post) (d : decode (mcc M) pc = .ok (.areturn, 1)) (hr : mret M = some rt) (hrt : rt.isReference = true) (hn : n ≤ mmc M) (hk : k ≤ mms M) (hp : post (some (va_rf a)) h) : WW G E M h n k pc L [va_rf a] := by
  intro hE H locs ls hR hS hl
  rw [hQ]
  exact W.widen hn hk (W.aret hE.x hE.b (hE.r.trans hr) (by cases rt <;> first | exact Or.inl ⟨_, rfl⟩ | exact Or.inr ⟨_, rfl⟩ | cases hrt) (va_rf_or a) (fun t ht _ => ⟨_, h, rfl, by rw [ht]; exact hR, hp⟩) hS d hE.lk)
/-- byte and char answers -/
theorem ww_nret {post : Option Value → AH → Prop} {ty : FieldType} {z : Int} (hQ : EQ G E M post) (d : decode (mcc M) pc = .ok (.ireturn, 1)) (hr : mret M = some ty) (hz : narrow ty (.int (iI z)) = .int (iI z)) (hn : n ≤ mmc M) (hk : k ≤ mms M) (hp : post (some (.int (iI z))) h) : WW G E M h n k pc L [.int (iI z)] := by
  intro hE H locs ls hR hS hl
  rw [hQ]
  exact W.widen hn hk (W.zret hE.x hE.b (hE.r.trans hr) hz (fun t ht _ => ⟨_, h, rfl, by rw [ht]; exact hR, hp⟩) hS d hE.lk)
theorem ww_i2c {z : Int} (d : decode (mcc M) pc = .ok (.i2c, 1)) (h0 : 0 ≤ z) (h1 : z < 65536) (kk : WW G E M h n k (pc + 1) L (.int (iI z) :: st)) : WW G E M h n k pc L (.int (iI z) :: st) := by
  intro hE H locs ls hR hS hl
  refine lv_i2c hE.x hE.b d ?_ (kk hE H locs ls hR hS hl)
  obtain ⟨q, rfl⟩ : ∃ q : Nat, z = (q : Int) := ⟨z.toNat, by omega⟩
  rw [bt_nat, pk_char, pk_tn (by omega), Nat.mod_eq_of_lt (by omega)]
theorem nar_char {z : Int} (h0 : 0 ≤ z) (h1 : z < 65536) : narrow .char (.int (iI z)) = .int (iI z) := by
  obtain ⟨q, rfl⟩ : ∃ q : Nat, z = (q : Int) := ⟨z.toNat, by omega⟩
  rw [bt_nat]
  exact (pk_charN (by omega)).1
theorem ww_i2b {z v : Int} (d : decode (mcc M) pc = .ok (.i2b, 1)) (hv : (iI z).toInt8.toInt32 = iI v) (kk : WW G E M h n k (pc + 1) L (.int (iI v) :: st)) : WW G E M h n k pc L (.int (iI z) :: st) :=
  fun hE H locs ls hR hS hl => lv_i2b hE.x hE.b d hv (kk hE H locs ls hR hS hl)
end RWS
/-- a word of letters -/
def Wd (l : List Int) : Prop := ∀ c ∈ l, 97 ≤ c ∧ c ≤ 122
def lf (l : List Int) : Int → Int := fun i => l.getD i.toNat 0
def shash (l : List Int) : Int := l.foldl (fun a c => 31 * a + c) 0
/-- a String of the letters l at a; o: its owner (0: a constant) -/
def StO (G : GT) (h : AH) (o a : Nat) (l : List Int) : Prop := ∃ (v : Nat) (hs hz : Int), h a = some ((o, 10000), ob 13 [.ref v, .int (iI 0), .int (iI hs), .int (iI hz)]) ∧ h v = some ((o, 10001), aA G 1 l.length (lf l)) ∧ Wd l ∧ l.length < 1000 ∧ inI hs ∧ ((hs = 0 ∧ hz = 0 ∧ o ≠ 0) ∨ (iI hs = iI (shash l) ∧ hs ≠ 0) ∨ (iI hs = iI (shash l) ∧ hs = 0 ∧ hz = 1))
theorem StO.fr {G : GT} {h h' : AH} {o a m : Nat} {l : List Int} (hS : StO G h o a l) (f : ∀ q t x, h q = some (t, x) → t.1 = o → h' q = some (t, x)) : StO G h' o a l := by
  obtain ⟨v, hs, hz, h1, h2, h3⟩ := hS
  exact ⟨v, hs, hz, f _ _ _ h1 rfl, f _ _ _ h2 rfl, h3⟩
section RWT
variable {G : GT} {E : ET} {M : MT} {h : AH} {n k pc : Nat} {L : List (Nat × Value)} {st : List Value}
theorem ww_alenA {a t N : Nat} {tg : Tg} {f : Int → Int} (d : decode (mcc M) pc = .ok (.arraylength, 1)) (ha : h a = some (tg, aA G t N f)) (ht : t < 3) (kk : WW G E M h n k (pc + 1) L (.int (iI N) :: st)) : WW G E M h n k pc L (.ref a :: st) := by
  match t, ht, ha with
  | 0, _, ha => exact ww_alen (j := 0) d ha rfl kk
  | 1, _, ha => exact ww_alen (j := 1) d ha rfl kk
  | 2, _, ha => exact ww_alen (j := 2) d ha rfl kk
theorem ww_alenR {a t N : Nat} {tg : Tg} {f : Int → Option Nat} (d : decode (mcc M) pc = .ok (.arraylength, 1)) (ha : h a = some (tg, aR G t N f)) (ht : 4 ≤ t ∧ t < 8) (kk : WW G E M h n k (pc + 1) L (.int (iI N) :: st)) : WW G E M h n k pc L (.ref a :: st) := by
  match t, ht, ha with
  | 4, _, ha => exact ww_alen (j := 4) d ha rfl kk
  | 5, _, ha => exact ww_alen (j := 5) d ha rfl kk
  | 6, _, ha => exact ww_alen (j := 6) d ha rfl kk
  | 7, _, ha => exact ww_alen (j := 7) d ha rfl kk
  | 0, ht, _ => exact absurd ht.1 (by decide)
  | 1, ht, _ => exact absurd ht.1 (by decide)
  | 2, ht, _ => exact absurd ht.1 (by decide)
  | 3, ht, _ => exact absurd ht.1 (by decide)
  | t + 8, ht, _ => exact absurd ht.2 (by omega)
theorem ww_acmp_neR {x y : Nat} {off : Int} (tgt : Nat) (d : decode (mcc M) pc = .ok (.if_acmp .ne off, 3)) (ht : (pc : Int) + off = (tgt : Int)) (kt : ¬ x = y → WW G E M h n k tgt L st) (kf : x = y → WW G E M h n k (pc + 3) L st) : WW G E M h n k pc L (.ref y :: .ref x :: st) :=
  ww_acmp_ne (rx := some x) (ry := some y) tgt d ht (fun c => kt (fun e => c (by rw [e]))) (fun c => kf (Option.some.inj c))
theorem ww_acmp_eqR {x y : Nat} {off : Int} (tgt : Nat) (d : decode (mcc M) pc = .ok (.if_acmp .eq off, 3)) (ht : (pc : Int) + off = (tgt : Int)) (kt : x = y → WW G E M h n k tgt L st) (kf : ¬ x = y → WW G E M h n k (pc + 3) L st) : WW G E M h n k pc L (.ref y :: .ref x :: st) :=
  ww_acmp_eq (rx := some x) (ry := some y) tgt d ht (fun c => kt (Option.some.inj c)) (fun c => kf (fun e => c (by rw [e])))
/-- a cast, an instanceof, to the object's own class -/
theorem ww_cast {own : String} {index ci a : Nat} {t : Tg} {fs : List Value} {q : vw_C} (d : decode (mcc M) pc = .ok (.checkcast index, 3)) (ha : h a = some (t, ob ci fs)) (hci : gcl[ci]? = some q) (hl : Cond.classLink own index q.1 ∈ lw_all) (ho : own = (my M).cls) (kk : WW G E M h n k (pc + 3) L (.ref a :: st)) : WW G E M h n k pc L (.ref a :: st) := by
  intro hE H locs ls hR hS hl'
  subst ho
  exact va_castS hE.x hE.b hE.own (hE.ts _ hl) (hE.K.1 ci q hci).2 (hR.recv hE ha hci) d (kk hE H locs ls hR hS hl')
theorem ww_inst {own : String} {index ci a : Nat} {t : Tg} {fs : List Value} {q : vw_C} (d : decode (mcc M) pc = .ok (.instanceof index, 3)) (ha : h a = some (t, ob ci fs)) (hci : gcl[ci]? = some q) (hl : Cond.classLink own index q.1 ∈ lw_all) (ho : own = (my M).cls) (kk : WW G E M h n k (pc + 3) L (.int (iI 1) :: st)) : WW G E M h n k pc L (.ref a :: st) := by
  intro hE H locs ls hR hS hl'
  subst ho
  exact va_instS hE.x hE.b hE.own (hE.ts _ hl) (hE.K.1 ci q hci).2 (hR.recv hE ha hci) d (kk hE H locs ls hR hS hl')
/-- pure, void -/
def CPv (G : GT) (M : MT) (h : AH) (as : List Value) : Prop := CT G M h as (pV (fun h' => h' = h))
theorem cr_pv {rest : List Value} {mc ms : Nat} (hc : CR G E M h n k pc L st rest mc ms (pV (fun h' => h' = h))) (kk : WW G E M h (n + mc) (k + ms) (pc + 3) L rest) : WW G E M h n k pc L st :=
  cr_v hc (fun h' hp => by rw [hp]; exact kk)
end RWT
theorem lf_at {l : List Int} {i : Int} (h0 : 0 ≤ i) (h1 : i < l.length) : ∃ h : i.toNat < l.length, lf l i = l[i.toNat] := ⟨by omega, by unfold lf; rw [List.getD_eq_getElem?_getD, List.getElem?_eq_getElem (by omega)]; rfl⟩
theorem lf_wd {l : List Int} {i : Int} (hw : Wd l) (h0 : 0 ≤ i) (h1 : i < l.length) : 97 ≤ lf l i ∧ lf l i ≤ 122 := by
  obtain ⟨h, e⟩ := lf_at h0 h1
  rw [e]
  exact hw _ (List.getElem_mem h)
theorem lf_ext {l l' : List Int} (hl : l.length = l'.length) (h : ∀ i : Int, 0 ≤ i → i < l.length → lf l i = lf l' i) : l = l' := by
  refine List.ext_getElem hl (fun n h1 h2 => ?_)
  have a := h n (by omega) (by omega)
  obtain ⟨_, e1⟩ := lf_at (l := l) (i := n) (by omega) (by omega)
  obtain ⟨_, e2⟩ := lf_at (l := l') (i := n) (by omega) (by omega)
  rw [e1, e2] at a
  simpa using a
