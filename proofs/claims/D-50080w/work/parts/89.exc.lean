/-! ===== methods that may throw ===== -/
set_option maxRecDepth 100000
def XR (G : GT) (xp : String → Nat → AH → Prop) : String → Addr → State → State → Prop := fun X q _ t => ∃ h : AH, RP G h t.heap ∧ xp X q h
def CX (G : GT) (M : MT) (h : AH) (as : List Value) (post : Option Value → AH → Prop) (xp : String → Nat → AH → Prop) : Prop :=
  vx_Met (gl G) (my M) (ws_ (my M) (mcc M) (mnL M) (mret M)) (mroom M) (PR G h as) (QR G post) (XR G xp) (mmc M) (mms M) (gA G)
def CXH (G : GT) (M : MT) (hh : List (Nat × Nat × Nat × Nat)) (h : AH) (as : List Value) (post : Option Value → AH → Prop) (xp : String → Nat → AH → Prop) : Prop :=
  vx_Met (gl G) (my M) (wsW_ (my M) (mcc M) (mnL M) (mret M) hh) (mroom M) (PR G h as) (QR G post) (XR G xp) (mmc M) (mms M) (gA G)
def EQX (G : GT) (E : ET) (M : MT) (post : Option Value → AH → Prop) (xp : String → Nat → AH → Prop) : Prop := eQ E = vx_MQ (eB E) (QR G post) (XR G xp) (eA E) (eS E) (mmc M) (mms M) (gA G)
def ETn (E : ET) : Prop := ∀ x ∈ (eC E).exceptionTable.toList, False
def ETh (E : ET) (hh : List (Nat × Nat × Nat × Nat)) : Prop := (eC E).exceptionTable.toList = tableOf hh
abbrev eW (E : ET) (Q : State → Prop) : ET := (eP E, eE E, eS E, eM E, eA E, eB E, eMt E, eC E, Q)
theorem CX.of {G : GT} {M : MT} {h : AH} {as : List Value} {post : Option Value → AH → Prop} {xp : String → Nat → AH → Prop} {L : List (Nat × Value)} (hy : plainName (my M).cls = true) (hG : GOK G) (hn : (lg_sl as).length ≤ mnL M) (hL : lv_args 0 as = L)
    (body : ∀ E : ET, EQX G E M post xp → ETn E → WW G E M h 0 0 0 L []) : CX G M h as post xp := by
  refine vx_ofW (cc := mcc M) (maxL := mnL M) (ret := mret M) hy rfl ?_
  intro p e s m args below meth c s₁ B hml ht hv
  obtain ⟨rfl, hR, hW⟩ := hv
  have hts := atoms_spec (ws := ws_ (my M) (mcc M) (mnL M) (mret M)) B.pre
  have hts : ∀ w ∈ lw_all, w.before _ s = true := fun w h => hts w (List.mem_cons_of_mem _ h)
  have hl := lv_entry as hn
  rw [lg_entry_eq]
  rw [hL] at hl
  exact body (p, e, s, m, as.toArray, below, meth, c, vx_MQ below (QR G post) (XR G xp) as.toArray s (mmc M) (mms M) (gA G)) rfl ht
    ⟨B.exec, B.bytes, hml, findClass_of_methodNamed B.named, hts, hG, hW, B.notSynchronized, B.returns, (name_of_methodNamed B.named B.method).1, B.named⟩ s.heap [] _ hR (fun q hq => by cases hq) hl
theorem CXH.of {G : GT} {M : MT} {hh : List (Nat × Nat × Nat × Nat)} {h : AH} {as : List Value} {post : Option Value → AH → Prop} {xp : String → Nat → AH → Prop} {L : List (Nat × Value)} (hy : plainName (my M).cls = true) (hG : GOK G) (hn : (lg_sl as).length ≤ mnL M) (hL : lv_args 0 as = L)
    (body : ∀ E : ET, EQX G E M post xp → ETh E hh → WW G E M h 0 0 0 L []) : CXH G M hh h as post xp := by
  refine vx_ofWH (cc := mcc M) (maxL := mnL M) (ret := mret M) (hh := hh) hy rfl ?_
  intro p e s m args below meth c s₁ B hml hv
  obtain ⟨rfl, hR, hW⟩ := hv
  have hts0 := atoms_spec (ws := wsW_ (my M) (mcc M) (mnL M) (mret M) hh) B.pre
  have hts : ∀ w ∈ lw_all, w.before _ s = true := fun w h => hts0 w (List.mem_cons_of_mem _ h)
  have ht : c.exceptionTable.toList = tableOf hh := vx_table (x := my M) B (hts0 _ List.mem_cons_self)
  have hl := lv_entry as hn
  rw [lg_entry_eq]
  rw [hL] at hl
  exact body (p, e, s, m, as.toArray, below, meth, c, vx_MQ below (QR G post) (XR G xp) as.toArray s (mmc M) (mms M) (gA G)) rfl ht
    ⟨B.exec, B.bytes, hml, findClass_of_methodNamed B.named, hts, hG, hW, B.notSynchronized, B.returns, (name_of_methodNamed B.named B.method).1, B.named⟩ s.heap [] _ hR (fun q hq => by cases hq) hl
def SVH (own : String) (index : Nat) (y : MethodName) (b : ByteArray) (L : Nat) (r : Option FieldType) (hh : List (Nat × Nat × Nat × Nat)) (na : Nat) : Prop :=
  Cond.methodLink own index y ∈ lw_all ∧ Cond.instanceMethod y ∈ lw_all ∧ Cond.selects y.cls y y ∈ lw_all ∧ Cond.initialized y.cls ∈ lw_all ∧ Cond.codeWith y b L r hh ∈ lw_all ∧ MD y na
def SSH (own : String) (index : Nat) (y : MethodName) (b : ByteArray) (L : Nat) (r : Option FieldType) (hh : List (Nat × Nat × Nat × Nat)) (na : Nat) : Prop :=
  Cond.methodLink own index y ∈ lw_all ∧ Cond.static y ∈ lw_all ∧ Cond.initialized y.cls ∈ lw_all ∧ Cond.codeWith y b L r hh ∈ lw_all ∧ MD y na
section RWX
variable {G : GT} {E : ET} {M M' : MT} {h : AH} {n k pc : Nat} {L : List (Nat × Value)} {st rest as : List Value} {post post' : Option Value → AH → Prop} {xp xp' : String → Nat → AH → Prop} {X : String} {q : Nat}
/-- it returns: as a method that does not throw -/
theorem ww_x (hQ : EQX G E M post xp) (kk : WW G (eW E (MQ (eB E) (QR G post) (eA E) (eS E) (mmc M) (mms M) (gA G))) M h n k pc L st) : WW G E M h n k pc L st := by
  intro hE H locs ls hR hS hl
  rw [hQ]
  exact vx_ret (kk hE H locs ls hR hS hl)
/-- q, of the class X, is thrown over the frame -/
def WX (G : GT) (E : ET) (M : MT) (h : AH) (n k pc : Nat) (L : List (Nat × Value)) (st : List Value) (X : String) (q : Nat) : Prop :=
  EOK G E M → ∀ (H : Heap) (locs : List Loc) (ls : Array Slot) (ce : Cell), RP G h H → (∀ q ∈ locs, gA G q.base) → lv_has ls (mnL M) L → H[q]? = some ce → ce.vm = .none → (eS E).vm.findClass X = some ce.cls → vx_W (eP E) (gl G) (eE E) (mroom M) (eS E) (eM E) (eA E) (eB E) (eMt E) (eC E) H locs n k (eQ E) (F0 (eM E) pc ls st) q
theorem wq_out (hQ : EQX G E M post xp) (hT : ETn E) (hn : n ≤ mmc M) (hk : k ≤ mms M) (hp : xp X q h) : WX G E M h n k pc L st X q := by
  intro hE H locs ls ce hR hS hl h1 h2 h3
  rw [hQ]
  exact vx_out (fun x hx => (hT x hx).elim) hE.lk h1 h2 h3 (fun t ht _ => ⟨h, by rw [ht]; exact hR, hp⟩) hS hn hk
/-- past the method's own rows: none covers it -/
theorem wq_outH {hh : List (Nat × Nat × Nat × Nat)} (hQ : EQX G E M post xp) (hT : ETh E hh) (hc : ∀ x ∈ tableOf hh, covers x pc = false) (hn : n ≤ mmc M) (hk : k ≤ mms M) (hp : xp X q h) : WX G E M h n k pc L st X q := by
  intro hE H locs ls ce hR hS hl h1 h2 h3
  rw [hQ]
  exact vx_out (fun x hx => hc x (by rw [← hT]; exact hx)) hE.lk h1 h2 h3 (fun t ht _ => ⟨h, by rw [ht]; exact hR, hp⟩) hS hn hk
/-- caught by the first row -/
theorem wq_catch {own name : String} {hh : List (Nat × Nat × Nat × Nat)} {x : ExceptionTableEntry} {suf : List ExceptionTableEntry} (hT : ETh E hh) (hs : tableOf hh = x :: suf) (hx : covers x pc = true) (h0 : x.catchType ≠ 0) (hl : Cond.classLink own x.catchType name ∈ lw_all) (ho : own = (my M).cls) (hc : Cond.castable X name ∈ lw_tbl) (kk : WW G E M h n k x.handlerPc L [.ref q]) : WX G E M h n k pc L st X q := by
  intro hE H locs ls ce hR hS hl' h1 h2 h3
  subst ho
  exact vx_catch hE.own [] x suf (by rw [hT, hs]; rfl) (fun z hz => by cases hz) hx h0 (hE.ts _ hl) (va_Nw.use rfl (va_Nw.warmC hE.w (va_Nw.of rfl (hE.g.1 _ hc)))) h1 h2 h3 (kk hE H locs ls hR hS hl')
/-- caught by the second row -/
theorem wq_catch2 {own name nm1 : String} {hh : List (Nat × Nat × Nat × Nat)} {x y : ExceptionTableEntry} {suf : List ExceptionTableEntry} (hT : ETh E hh) (hs : tableOf hh = y :: x :: suf) (hy0 : y.catchType ≠ 0) (hyl : Cond.classLink own y.catchType nm1 ∈ lw_all) (hyn : Cond.not (.castable X nm1) ∈ flatC (Jvm.Cond.and given_1 narrow_1)) (hx : covers x pc = true) (h0 : x.catchType ≠ 0) (hl : Cond.classLink own x.catchType name ∈ lw_all) (ho : own = (my M).cls) (hc : Cond.castable X name ∈ lw_tbl) (kk : WW G E M h n k x.handlerPc L [.ref q]) : WX G E M h n k pc L st X q := by
  intro hE H locs ls ce hR hS hl' h1 h2 h3
  subst ho
  exact vx_catch hE.own [y] x suf (by rw [hT, hs]; rfl) (fun z hz => by
      rw [List.mem_singleton.mp hz]
      exact Or.inr ⟨hy0, nm1, hE.ts _ hyl, va_Nc.moved hE.w.alike (va_Nc.of (hE.g.flat _ hyn))⟩) hx h0 (hE.ts _ hl) (va_Nw.use rfl (va_Nw.warmC hE.w (va_Nw.of rfl (hE.g.1 _ hc)))) h1 h2 h3 (kk hE H locs ls hR hS hl')
/-- a call that is set up, of a method that may throw -/
def CRX (G : GT) (E : ET) (M : MT) (h : AH) (n k pc : Nat) (L : List (Nat × Value)) (st rest : List Value) (mc ms : Nat) (post : Option Value → AH → Prop) (xp : String → Nat → AH → Prop) : Prop :=
  EOK G E M → ∀ (H : Heap) (locs : List Loc) (ls : Array Slot), RP G h H → (∀ q ∈ locs, gA G q.base) → lv_has ls (mnL M) L → ∃ a, vx_Run (eP E) (gl G) (eE E) (mroom M) (eS E) (eM E) (eA E) (eB E) (eMt E) (eC E) H locs n k mc ms (F0 (eM E) pc ls st) rest (QR G post a) (XR G xp) (gA G)
theorem cx_go {mc ms : Nat} (hc : CRX G E M h n k pc L st rest mc ms post xp) (kx : ∀ (X : String) (q : Nat) (h' : AH), xp X q h' → WX G E M h' (n + mc) (k + ms) pc L rest X q) (kk : ∀ (v : Option Value) (h' : AH), post v h' → WW G E M h' (n + mc) (k + ms) (pc + 3) L (v.toList ++ rest)) : WW G E M h n k pc L st := by
  intro hE H locs ls hR hS hl
  obtain ⟨a, hr⟩ := hc hE H locs ls hR hS hl
  intro T hT X
  rcases hr T hT X with ⟨v, st₀, t, T', LL, h0, X', hL, e1, e2, ⟨v', h', hv, hR', hp⟩, st⟩ | ⟨q, st₀, t, T', LL, E9, ce, h0, X', hL, e1, e2, ⟨h', hR', hp⟩, hce, hcv, hcl, st⟩
  · cases hv
    obtain ⟨t2, a1, b1⟩ := kk v h' hp hE T'.heap (locs ++ LL) ls (by rw [e1]; exact hR') (fun q hq => by
        rcases List.mem_append.mp hq with h | h
        · exact hS q h
        · exact hL q h) hl T' rfl X'
    exact ⟨t2, st t2 a1, b1⟩
  · obtain ⟨t2, a1, b1⟩ := kx E9 q h' hp hE T'.heap (locs ++ LL) ls ce (by rw [e1]; exact hR') (fun q hq => by
        rcases List.mem_append.mp hq with h | h
        · exact hS q h
        · exact hL q h) hl (by rw [e1]; exact hce) hcv hcl T' rfl X'
    exact ⟨t2, st.trans a1, b1⟩
theorem cx_V {own : String} {index na b ci : Nat} {t : Tg} {fs : List Value} {c : vw_C} (hC : CX G M' h (.ref b :: as) post xp) (hs : SV own index (my M') (mcc M') (mnL M') (mret M') na) (ho : own = (my M).cls) (d : decode (mcc M) pc = .ok (.invokevirtual index, 3)) (hb : h b = some (t, ob ci fs)) (hci : gcl[ci]? = some c) (hq : c.1 = (my M').cls) (hst : st = as.reverse ++ .ref b :: rest) (hna : as.length = na) (hroom : RF M M') (hw : (rest.map fun v => v.category).sum ≤ 8) (hn : n + mmc M' ≤ mmc M) (hk : k + mms M' ≤ mms M) : CRX G E M h n k pc L st rest (mmc M') (mms M') post xp := by
  intro hE H locs ls hR hS hl
  subst ho; subst hst
  obtain ⟨w1, w2, w3, w4, w5, hd⟩ := hs
  exact ⟨_, vx_runV ⟨hE.x, hE.b, hE.ml, hE.own, hE.ts⟩ hC (cwV (C := (my M').cls) na hE.ts (lw_V w1 w2 w3 w4 w5) rfl rfl rfl ⟨rfl, hd⟩ hroom) (hq ▸ pre_v hE hR hb hci) rfl hna hl.1 rfl (lv_room hw) d ⟨hn, hk⟩⟩
theorem cx_S {own : String} {index na : Nat} (hC : CX G M' h as post xp) (hs : SS own index (my M') (mcc M') (mnL M') (mret M') na) (ho : own = (my M).cls) (d : decode (mcc M) pc = .ok (.invokestatic index, 3)) (hst : st = as.reverse ++ rest) (hna : as.length = na) (hroom : RF M M') (hw : (rest.map fun v => v.category).sum ≤ 8) (hn : n + mmc M' ≤ mmc M) (hk : k + mms M' ≤ mms M) : CRX G E M h n k pc L st rest (mmc M') (mms M') post xp := by
  intro hE H locs ls hR hS hl
  subst ho; subst hst
  obtain ⟨w1, w2, w3, w4, hd⟩ := hs
  exact ⟨_, vx_runS ⟨hE.x, hE.b, hE.ml, hE.own, hE.ts⟩ hC (va_cwS na hE.ts (lw_S w1 w2 w3 w4) rfl rfl rfl hd hroom) (pre_s hE hR) rfl hna hl.1 rfl (lv_room hw) d ⟨hn, hk⟩⟩
theorem cx_VH {own : String} {index na b ci : Nat} {hh : List (Nat × Nat × Nat × Nat)} {t : Tg} {fs : List Value} {c : vw_C} (hC : CXH G M' hh h (.ref b :: as) post xp) (hs : SVH own index (my M') (mcc M') (mnL M') (mret M') hh na) (ho : own = (my M).cls) (d : decode (mcc M) pc = .ok (.invokevirtual index, 3)) (hb : h b = some (t, ob ci fs)) (hci : gcl[ci]? = some c) (hq : c.1 = (my M').cls) (hst : st = as.reverse ++ .ref b :: rest) (hna : as.length = na) (hroom : RF M M') (hw : (rest.map fun v => v.category).sum ≤ 8) (hn : n + mmc M' ≤ mmc M) (hk : k + mms M' ≤ mms M) : CRX G E M h n k pc L st rest (mmc M') (mms M') post xp := by
  intro hE H locs ls hR hS hl
  subst ho; subst hst
  obtain ⟨w1, w2, w3, w4, w5, hd⟩ := hs
  exact ⟨_, vx_runVX (hh := hh) ⟨hE.x, hE.b, hE.ml, hE.own, hE.ts⟩ hC (vx_cwVW (C := (my M').cls) na hE.ts (lw_VW w1 w2 w3 w4 w5) rfl rfl rfl ⟨rfl, hd⟩ hroom) (hq ▸ pre_v hE hR hb hci) rfl hna hl.1 rfl (lv_room hw) d ⟨hn, hk⟩⟩
theorem cx_SH {own : String} {index na : Nat} {hh : List (Nat × Nat × Nat × Nat)} (hC : CXH G M' hh h as post xp) (hs : SSH own index (my M') (mcc M') (mnL M') (mret M') hh na) (ho : own = (my M).cls) (d : decode (mcc M) pc = .ok (.invokestatic index, 3)) (hst : st = as.reverse ++ rest) (hna : as.length = na) (hroom : RF M M') (hw : (rest.map fun v => v.category).sum ≤ 8) (hn : n + mmc M' ≤ mmc M) (hk : k + mms M' ≤ mms M) : CRX G E M h n k pc L st rest (mmc M') (mms M') post xp := by
  intro hE H locs ls hR hS hl
  subst ho; subst hst
  obtain ⟨w1, w2, w3, w4, hd⟩ := hs
  exact ⟨_, vx_runSX (hh := hh) ⟨hE.x, hE.b, hE.ml, hE.own, hE.ts⟩ hC (vx_cwSW na hE.ts (lw_SW w1 w2 w3 w4) rfl rfl rfl hd hroom) (pre_s hE hR) rfl hna hl.1 rfl (lv_room hw) d ⟨hn, hk⟩⟩
/-- how it goes on, by the kind of the answer -/
theorem cx_i {mc ms : Nat} {p : Int → AH → Prop} (hc : CRX G E M h n k pc L st rest mc ms (pI p) xp) (kx : ∀ (X : String) (q : Nat) (h' : AH), xp X q h' → WX G E M h' (n + mc) (k + ms) pc L rest X q) (kk : ∀ (z : Int) (h' : AH), p z h' → WW G E M h' (n + mc) (k + ms) (pc + 3) L (.int (iI z) :: rest)) : WW G E M h n k pc L st :=
  cx_go hc kx (fun v h' hp => by obtain ⟨z, rfl, hp⟩ := hp; exact kk z h' hp)
theorem cx_l {mc ms : Nat} {p : Int → AH → Prop} (hc : CRX G E M h n k pc L st rest mc ms (pL p) xp) (kx : ∀ (X : String) (q : Nat) (h' : AH), xp X q h' → WX G E M h' (n + mc) (k + ms) pc L rest X q) (kk : ∀ (z : Int) (h' : AH), p z h' → WW G E M h' (n + mc) (k + ms) (pc + 3) L (.long (lI z) :: rest)) : WW G E M h n k pc L st :=
  cx_go hc kx (fun v h' hp => by obtain ⟨z, rfl, hp⟩ := hp; exact kk z h' hp)
theorem cx_v {mc ms : Nat} {p : AH → Prop} (hc : CRX G E M h n k pc L st rest mc ms (pV p) xp) (kx : ∀ (X : String) (q : Nat) (h' : AH), xp X q h' → WX G E M h' (n + mc) (k + ms) pc L rest X q) (kk : ∀ (h' : AH), p h' → WW G E M h' (n + mc) (k + ms) (pc + 3) L rest) : WW G E M h n k pc L st :=
  cx_go hc kx (fun v h' hp => by obtain ⟨rfl, hp⟩ := hp; exact kk h' hp)
theorem cx_r {mc ms : Nat} {p : Nat → AH → Prop} (hc : CRX G E M h n k pc L st rest mc ms (pR p) xp) (kx : ∀ (X : String) (q : Nat) (h' : AH), xp X q h' → WX G E M h' (n + mc) (k + ms) pc L rest X q) (kk : ∀ (a : Nat) (h' : AH), p a h' → WW G E M h' (n + mc) (k + ms) (pc + 3) L (.ref a :: rest)) : WW G E M h n k pc L st :=
  cx_go hc kx (fun v h' hp => by obtain ⟨z, rfl, hp⟩ := hp; exact kk z h' hp)
/-- an object of the abstract heap is thrown -/
theorem GOK.cid {G : GT} {E : ET} {M : MT} (hE : EOK G E M) {ci : Nat} {c : vw_C} (hci : gcl[ci]? = some c) {h : AH} {H : Heap} {q : Nat} {t : Tg} {fs : List Value} (hR : RP G h H) (hq : h q = some (t, ob ci fs)) (ht : t.1 ≠ 0) : ∃ ce, H[q]? = some ce ∧ ce.vm = .none ∧ (eS E).vm.findClass c.1 = some ce.cls := by
  obtain ⟨r, h1, cell, q1, q2, q3, q4⟩ := (hR.1 q t _ hq).1.1 ht
  have hr : r = c := Option.some.inj (h1.symm.trans hci)
  subst hr
  exact ⟨cell, q1, q3, by rw [q2]; exact (hE.K.1 ci _ hci).2.1⟩
theorem ww_athrow {ci : Nat} {c : vw_C} {t : Tg} {fs : List Value} (d : decode (mcc M) pc = .ok (.athrow, 1)) (hq : h q = some (t, ob ci fs)) (ht : t.1 ≠ 0) (hci : gcl[ci]? = some c) (hX : c.1 = X) (kk : WX G E M h n k pc L st X q) : WW G E M h n k pc L (.ref q :: st) := by
  intro hE H locs ls hR hS hl
  subst hX
  obtain ⟨ce, h1, h2, h3⟩ := GOK.cid hE hci hR hq ht
  exact vx_athrow hE.x hE.b d (kk hE H locs ls ce hR hS hl h1 h2 h3)
/-- an exception of the JDK, made and thrown -/
def PW (w : Cond) : Prop := vx_no w = false ∨ ((w ∈ lw_all ∨ (w ∈ lw_tbl ∧ ((∃ x, w = .declares x) ∨ ∃ a b, w = .castable a b))) ∧ vx_ot w = true)
theorem at_c {P : Cond → Prop} {w : Cond} {B : List Cond} (h : P w) (t : ∀ w ∈ B, P w) : ∀ w' ∈ w :: B, P w' := fun w' h' => (List.mem_cons.mp h').elim (fun e => by rw [e]; exact h) (t w')
theorem at_n {P : Cond → Prop} : ∀ w ∈ ([] : List Cond), P w := fun _ h => nomatch h
theorem pw_a {w : Cond} (h : w ∈ lw_all) (g : vx_ot w = true) : PW w := Or.inr ⟨Or.inl h, g⟩
theorem pw_d {x : MethodName} (h : Cond.declares x ∈ lw_tbl) (g : vx_ot (.declares x) = true) : PW (.declares x) := Or.inr ⟨Or.inr ⟨h, Or.inl ⟨x, rfl⟩⟩, g⟩
theorem pw_c {a b : String} (h : Cond.castable a b ∈ lw_tbl) (g : vx_ot (.castable a b) = true) : PW (.castable a b) := Or.inr ⟨Or.inr ⟨h, Or.inr ⟨a, b, rfl⟩⟩, g⟩
theorem EOK.pw (hE : EOK G E M) {own cls : String} {ic : Nat} {nms : List String} (ha : ∀ w ∈ Bundle.ownAtoms0 own ic cls nms, PW w) : ∀ w ∈ vx_at0 own ic cls nms, w.before (eA E) (eS E) = true ∧ vx_ot w = true := by
  intro w hw
  obtain ⟨h1, h2⟩ := List.mem_filter.mp hw
  rcases ha w h1 with h3 | ⟨h3, h4⟩
  · rw [h2] at h3; cases h3
  · refine ⟨?_, h4⟩
    rcases h3 with h3 | ⟨h3, ⟨x, rfl⟩ | ⟨a, b, rfl⟩⟩
    · exact hE.ts _ h3
    · exact va_Nw.use rfl (va_Nw.warmD hE.w (va_Nw.of rfl (hE.g.1 _ h3)))
    · exact va_Nw.use rfl (va_Nw.warmC hE.w (va_Nw.of rfl (hE.g.1 _ h3)))
abbrev rtN : List String := ["java/lang/RuntimeException", "java/lang/Exception"]
theorem zx_ref {C n d : String} (hG : GOK G) (h1 : Cond.laysStatic C n d ∈ lw_tbl) (h2 : Cond.initialized C ∈ lw_tbl) (h3 : Cond.isRef (.static C n d) ∈ flatC (Jvm.Cond.and given_1 narrow_1)) : vx_Zq C n d (gA G) (g0 G) (g0 G).heap :=
  vx_Zqof (hG.1 _ h1) (hG.1 _ h2) (hG.flat _ h3) gA_no
theorem ww_throw0 {own cls : String} {ik ic : Nat} (ha : ∀ w ∈ Bundle.ownAtoms0 own ic cls rtN, PW w) (hcl : Cond.classLink own ik cls ∈ lw_all) (hini : Cond.initialized cls ∈ lw_all) (hfit : Bundle.fit cls = true) (hQ : EQX G E M post xp) (hT : ETn E) (ho : own = (my M).cls)
    (hZU : ∀ G, GOK G → vx_Zq Bundle.tN "UNASSIGNED_STACK" Bundle.steD (gA G) (g0 G) (g0 G).heap) (hZN : ∀ G, GOK G → vx_Zq Bundle.tN "SUPPRESSED_SENTINEL" Bundle.listD (gA G) (g0 G) (g0 G).heap)
    (d0 : decode (mcc M) pc = .ok (.new ik, 3)) (d3 : decode (mcc M) (pc + 3) = .ok (.dup, 1)) (d4 : decode (mcc M) (pc + 4) = .ok (.invokespecial ic, 3)) (d7 : decode (mcc M) (pc + 7) = .ok (.athrow, 1))
    (hf : 6 ≤ mfr M) (hlo : (st.map fun v => v.category).sum + 81 ≤ mlo M) (hn : n + 1 ≤ mmc M) (hk : k + 6 ≤ mms M) (hp : ∀ q, xp cls q h) : WW G E M h n k pc L st := by
  intro hE H locs ls hR hS hl
  subst ho
  rw [hQ]
  have hpw := hE.pw ha
  have hzq : ∀ {C n d : String}, vx_Zq C n d (gA G) (g0 G) (g0 G).heap → vx_Zq C n d (gA G) (eS E) H := fun z => vx_Zq.kept (vx_Zq.moved hE.w.alike z) (fun a h1 h2 => hR.2.1 a h1)
  refine vx_throw0 (own := (my M).cls) (cls := cls) (names := rtN) (ik := ik) (ic := ic) (A := gA G) hE.x hE.b ?_ hE.own hfit (fun n hn => ?_) (hE.ts _ hcl) (hE.ts _ hini) (fun w hw => (hpw w hw).1) (fun w hw => ?_) (hzq (hZU G hE.g)) (hzq (hZN G hE.g)) (by rw [hE.ml]; exact hl.1) d0 d3 d4 d7 (fun x hx => (hT x hx).elim) (by show 2 + 3 < mfr M; omega) (by show _ + (13 * (2 + 1) + 42) ≤ mlo M; omega) hn hk hE.lk (fun q t _ h1 h2 => ⟨h, ⟨fun a u z hz => ⟨(hR.1 a u z hz).1.kept (h2 a (hR.lt hz)), (hR.1 a u z hz).2⟩, fun q hq => by rw [h2 q (Nat.lt_of_lt_of_le hq hR.2.2)]; exact hR.2.1 q hq, Nat.le_trans hR.2.2 h1⟩, hp q⟩) hS hn hk
  · show (!(gl G).flags.contains noTraceFlag) = false
    rw [hE.g.2.2.2.1]
    decide +kernel
  · rcases List.mem_cons.mp hn with e | e
    · rw [e]; decide +kernel
    · rw [List.mem_singleton.mp e]; decide +kernel
  · rcases List.mem_cons.mp hw with e | e
    · rw [e]; rfl
    · rcases List.mem_cons.mp e with e | e
      · rw [e]; rfl
      · exact (hpw w e).2
end RWX
