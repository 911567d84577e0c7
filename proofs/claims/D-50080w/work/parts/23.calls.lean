/-! ===== rows of WW: calls ===== -/
set_option maxRecDepth 100000
def MD (y : MethodName) (na : Nat) : Prop := y.cls ≠ "java/lang/invoke/MethodHandle" ∧ y.cls ≠ "java/lang/invoke/VarHandle" ∧ (parseMethodDescriptor y.desc).map (fun d => d.parameters.length) = some na
/-- sites, as the tables have them: virtual (the receiver's class is the method's), static, constructor -/
def SV (own : String) (index : Nat) (y : MethodName) (b : ByteArray) (L : Nat) (r : Option FieldType) (na : Nat) : Prop :=
  Cond.methodLink own index y ∈ lw_all ∧ Cond.instanceMethod y ∈ lw_all ∧ Cond.selects y.cls y y ∈ lw_all ∧ Cond.initialized y.cls ∈ lw_all ∧ Cond.code y b L r ∈ lw_all ∧ MD y na
def SS (own : String) (index : Nat) (y : MethodName) (b : ByteArray) (L : Nat) (r : Option FieldType) (na : Nat) : Prop :=
  Cond.methodLink own index y ∈ lw_all ∧ Cond.static y ∈ lw_all ∧ Cond.initialized y.cls ∈ lw_all ∧ Cond.code y b L r ∈ lw_all ∧ MD y na
def SI (own : String) (index : Nat) (y : MethodName) (b : ByteArray) (L : Nat) (na : Nat) : Prop :=
  Cond.methodLink own index y ∈ lw_all ∧ Cond.instanceMethod y ∈ lw_all ∧ Cond.initialized y.cls ∈ lw_all ∧ Cond.code y b L none ∈ lw_all ∧ y.name = "<init>" ∧ MD y na
def SSN (own : String) (index : Nat) (y : MethodName) (b : ByteArray) (L : Nat) (r : Option FieldType) (na : Nat) : Prop :=
  (∃ host, Cond.methodLinkNest own index y host ∈ lw_tbl) ∧ Cond.static y ∈ lw_all ∧ Cond.initialized y.cls ∈ lw_all ∧ Cond.code y b L r ∈ lw_all ∧ MD y na
/-- inherited: the entry names x, the method is y of the class owner; the receiver is of the class C -/
def SU (own : String) (index : Nat) (C owner : String) (x y : MethodName) (b : ByteArray) (L : Nat) (r : Option FieldType) (na : Nat) : Prop :=
  (Cond.methodLink own index x ∈ lw_all ∧ Cond.sameMethod x.cls owner x.name x.desc ∈ lw_all ∧ Cond.selects C x y ∈ lw_all ∧ Cond.instanceMethod y ∈ lw_all ∧ Cond.initialized y.cls ∈ lw_all ∧ Cond.code y b L r ∈ lw_all) ∧ y = ⟨owner, x.name, x.desc⟩ ∧ owner ≠ "java/lang/invoke/MethodHandle" ∧ owner ≠ "java/lang/invoke/VarHandle" ∧ (parseMethodDescriptor x.desc).map (fun d => d.parameters.length) = some na
/-- an override: the entry names x (declared in x's class or owner, which has code there), the method is y -/
def SO (own : String) (index : Nat) (C owner : String) (x y : MethodName) (b : ByteArray) (L : Nat) (r : Option FieldType) (na : Nat) : Prop :=
  (Cond.methodLink own index x ∈ lw_all ∧ Cond.sameMethod x.cls owner x.name x.desc ∈ lw_all ∧ Cond.instanceMethod ⟨owner, x.name, x.desc⟩ ∈ lw_all ∧ Cond.selects C x y ∈ lw_all ∧ Cond.instanceMethod y ∈ lw_all ∧ Cond.initialized y.cls ∈ lw_all ∧ Cond.code y b L r ∈ lw_all) ∧ (∃ b0 m0 r0, Cond.code ⟨owner, x.name, x.desc⟩ b0 m0 r0 ∈ lw_all) ∧ owner ≠ "java/lang/invoke/MethodHandle" ∧ owner ≠ "java/lang/invoke/VarHandle" ∧ (parseMethodDescriptor x.desc).map (fun d => d.parameters.length) = some na
/-- through an interface -/
def SF (own : String) (index : Nat) (C : String) (x y : MethodName) (b : ByteArray) (L : Nat) (r : Option FieldType) (na : Nat) : Prop :=
  (Cond.methodLink own index x ∈ lw_all ∧ Cond.selects C x y ∈ lw_all ∧ Cond.instanceMethod y ∈ lw_all ∧ Cond.initialized y.cls ∈ lw_all ∧ Cond.code y b L r ∈ lw_all) ∧ (Cond.declares x ∈ lw_tbl ∧ Cond.interfaceMethod x.cls x.cls x.name x.desc ∈ lw_tbl ∧ Cond.publicMethod y ∈ lw_tbl ∧ Cond.unhidden C x.name x.desc ∈ lw_tbl ∧ Cond.castable C x.cls ∈ lw_tbl) ∧ x.cls ≠ "java/lang/invoke/MethodHandle" ∧ x.cls ≠ "java/lang/invoke/VarHandle" ∧ (parseMethodDescriptor x.desc).map (fun d => d.parameters.length) = some na
/-- the callee's room fits -/
abbrev RF (M M' : MT) : Prop := mfr M' + 1 ≤ mfr M ∧ 8 + (mnL M' + 11) + mlo M' ≤ mlo M
section RWC
variable {G : GT} {E : ET} {M M' : MT} {h : AH} {n k pc : Nat} {L : List (Nat × Value)} {st rest as : List Value} {post : Option Value → AH → Prop}
/-- a call that is set up: what it leaves -/
def CR (G : GT) (E : ET) (M : MT) (h : AH) (n k pc : Nat) (L : List (Nat × Value)) (st rest : List Value) (mc ms : Nat) (post : Option Value → AH → Prop) : Prop :=
  EOK G E M → ∀ (H : Heap) (locs : List Loc) (ls : Array Slot), RP G h H → (∀ q ∈ locs, gA G q.base) → lv_has ls (mnL M) L → ∃ a, va_Run (eP E) (gl G) (eE E) (mroom M) (eS E) (eM E) (eA E) (eB E) (eMt E) (eC E) H locs n k mc ms (F0 (eM E) pc ls st) rest (QR G post a) (gA G)
def CR5 (G : GT) (E : ET) (M : MT) (h : AH) (n k pc : Nat) (L : List (Nat × Value)) (st rest : List Value) (mc ms : Nat) (post : Option Value → AH → Prop) : Prop :=
  EOK G E M → ∀ (H : Heap) (locs : List Loc) (ls : Array Slot), RP G h H → (∀ q ∈ locs, gA G q.base) → lv_has ls (mnL M) L → ∃ a, va_Run5 (eP E) (gl G) (eE E) (mroom M) (eS E) (eM E) (eA E) (eB E) (eMt E) (eC E) H locs n k mc ms (F0 (eM E) pc ls st) rest (QR G post a) (gA G)
theorem cr_go {mc ms : Nat} (hc : CR G E M h n k pc L st rest mc ms post) (kk : ∀ (v : Option Value) (h' : AH), post v h' → WW G E M h' (n + mc) (k + ms) (pc + 3) L (v.toList ++ rest)) : WW G E M h n k pc L st := by
  intro hE H locs ls hR hS hl
  obtain ⟨a, hr⟩ := hc hE H locs ls hR hS hl
  intro T hT X
  obtain ⟨v, st₀, t, T', LL, h0, X', hL, e1, e2, ⟨v', h', hv, hR', hp⟩, st⟩ := hr T hT X
  cases hv
  obtain ⟨t2, a1, b1⟩ := kk v h' hp hE T'.heap (locs ++ LL) ls (by rw [e1]; exact hR') (fun q hq => by
      rcases List.mem_append.mp hq with h | h
      · exact hS q h
      · exact hL q h) hl T' rfl X'
  exact ⟨t2, st t2 a1, b1⟩
theorem cr_go5 {mc ms : Nat} (hc : CR5 G E M h n k pc L st rest mc ms post) (kk : ∀ (v : Option Value) (h' : AH), post v h' → WW G E M h' (n + mc) (k + ms) (pc + 5) L (v.toList ++ rest)) : WW G E M h n k pc L st := by
  intro hE H locs ls hR hS hl
  obtain ⟨a, hr⟩ := hc hE H locs ls hR hS hl
  intro T hT X
  obtain ⟨v, st₀, t, T', LL, h0, X', hL, e1, e2, ⟨v', h', hv, hR', hp⟩, st⟩ := hr T hT X
  cases hv
  obtain ⟨t2, a1, b1⟩ := kk v h' hp hE T'.heap (locs ++ LL) ls (by rw [e1]; exact hR') (fun q hq => by
      rcases List.mem_append.mp hq with h | h
      · exact hS q h
      · exact hL q h) hl T' rfl X'
  exact ⟨t2, st t2 a1, b1⟩
theorem pre_blind {G : GT} {h : AH} {as : List Value} : FrameBlind (PR G h as) := fun _ _ _ _ q => q
theorem pre_s (hE : EOK G E M) {H : Heap} (hR : RP G h H) : PreS (eS E) H (PR G h as) as :=
  ⟨pre_blind, fun U hU hW => ⟨rfl, by rw [hU]; exact hR, State.WarmedH.trans (t := eS E) hE.w hW⟩⟩
theorem pre_v (hE : EOK G E M) {H : Heap} (hR : RP G h H) {b ci : Nat} {t : Tg} {fs : List Value} {q : vw_C} (hb : h b = some (t, ob ci fs)) (hci : gcl[ci]? = some q) : PreV (eS E) H q.1 b (PR G h (.ref b :: as)) as :=
  ⟨pre_blind, hR.recv hE hb hci, fun U hU hW => ⟨rfl, by rw [hU]; exact hR, State.WarmedH.trans (t := eS E) hE.w hW⟩⟩
theorem cr_V {own : String} {index na b ci : Nat} {t : Tg} {fs : List Value} {q : vw_C} (hC : CT G M' h (.ref b :: as) post) (hs : SV own index (my M') (mcc M') (mnL M') (mret M') na) (ho : own = (my M).cls) (d : decode (mcc M) pc = .ok (.invokevirtual index, 3)) (hb : h b = some (t, ob ci fs)) (hci : gcl[ci]? = some q) (hq : q.1 = (my M').cls) (hst : st = as.reverse ++ .ref b :: rest) (hna : as.length = na) (hroom : RF M M') (hw : (rest.map fun v => v.category).sum ≤ 8) (hn : n + mmc M' ≤ mmc M) (hk : k + mms M' ≤ mms M) : CR G E M h n k pc L st rest (mmc M') (mms M') post := by
  intro hE H locs ls hR hS hl
  subst ho; subst hst
  obtain ⟨w1, w2, w3, w4, w5, hd⟩ := hs
  exact ⟨_, va_runV ⟨hE.x, hE.b, hE.ml, hE.own, hE.ts⟩ hC (cwV (C := (my M').cls) na hE.ts (lw_V w1 w2 w3 w4 w5) rfl rfl rfl ⟨rfl, hd⟩ hroom) (hq ▸ pre_v hE hR hb hci) rfl hna hl.1 rfl (lv_room hw) d ⟨hn, hk⟩⟩
theorem cr_S {own : String} {index na : Nat} (hC : CT G M' h as post) (hs : SS own index (my M') (mcc M') (mnL M') (mret M') na) (ho : own = (my M).cls) (d : decode (mcc M) pc = .ok (.invokestatic index, 3)) (hst : st = as.reverse ++ rest) (hna : as.length = na) (hroom : RF M M') (hw : (rest.map fun v => v.category).sum ≤ 8) (hn : n + mmc M' ≤ mmc M) (hk : k + mms M' ≤ mms M) : CR G E M h n k pc L st rest (mmc M') (mms M') post := by
  intro hE H locs ls hR hS hl
  subst ho; subst hst
  obtain ⟨w1, w2, w3, w4, hd⟩ := hs
  exact ⟨_, va_runS ⟨hE.x, hE.b, hE.ml, hE.own, hE.ts⟩ hC (va_cwS na hE.ts (lw_S w1 w2 w3 w4) rfl rfl rfl hd hroom) (pre_s hE hR) rfl hna hl.1 rfl (lv_room hw) d ⟨hn, hk⟩⟩
theorem cr_I {own : String} {index na b : Nat} (hC : CT G M' h (.ref b :: as) post) (hs : SI own index (my M') (mcc M') (mnL M') na) (hret : mret M' = none) (ho : own = (my M).cls) (d : decode (mcc M) pc = .ok (.invokespecial index, 3)) (hst : st = as.reverse ++ .ref b :: rest) (hna : as.length = na) (hroom : RF M M') (hw : (rest.map fun v => v.category).sum ≤ 8) (hn : n + mmc M' ≤ mmc M) (hk : k + mms M' ≤ mms M) : CR G E M h n k pc L st rest (mmc M') (mms M') post := by
  intro hE H locs ls hR hS hl
  subst ho; subst hst
  obtain ⟨w1, w2, w3, w4, w5, hd⟩ := hs
  have hC2 : Met (gl G) (my M') (ws_ (my M') (mcc M') (mnL M') none) (mroom M') (PR G h (.ref b :: as)) (QR G post) (mmc M') (mms M') (gA G) := by
    rw [← hret]; exact hC
  exact ⟨_, va_runI ⟨hE.x, hE.b, hE.ml, hE.own, hE.ts⟩ hC2 (cwI na hE.ts (lw_meth w4) rfl rfl rfl (hE.ts _ w3) (hE.ts _ w1) (hE.ts _ w2) w5 hd hroom) (pre_s hE hR) rfl hna hl.1 rfl (lv_room hw) d ⟨hn, hk⟩⟩
theorem cr_SN {own : String} {index na : Nat} (hC : CT G M' h as post) (hs : SSN own index (my M') (mcc M') (mnL M') (mret M') na) (ho : own = (my M).cls) (d : decode (mcc M) pc = .ok (.invokestatic index, 3)) (hst : st = as.reverse ++ rest) (hna : as.length = na) (hroom : RF M M') (hw : (rest.map fun v => v.category).sum ≤ 8) (hn : n + mmc M' ≤ mmc M) (hk : k + mms M' ≤ mms M) : CR G E M h n k pc L st rest (mmc M') (mms M') post := by
  intro hE H locs ls hR hS hl
  subst ho; subst hst
  obtain ⟨⟨host, w1⟩, w2, w3, w4, hd⟩ := hs
  exact ⟨_, va_runSN ⟨hE.x, hE.b, hE.ml, hE.own, hE.ts⟩ hC ⟨va_cnB na hE.ts (lw_meth w4) rfl rfl rfl (va_Nw.warmM hE.w (va_Nw.of rfl (hE.g.1 _ w1))) (hE.ts _ w3) hd hroom, hE.ts _ w2, trivial⟩ (pre_s hE hR) rfl hna hl.1 rfl (lv_room hw) d ⟨hn, hk⟩⟩
theorem cr_U {own C owner : String} {x : MethodName} {index na b ci : Nat} {t : Tg} {fs : List Value} {q : vw_C} (hC : CT G M' h (.ref b :: as) post) (hs : SU own index C owner x (my M') (mcc M') (mnL M') (mret M') na) (ho : own = (my M).cls) (d : decode (mcc M) pc = .ok (.invokevirtual index, 3)) (hb : h b = some (t, ob ci fs)) (hci : gcl[ci]? = some q) (hq : q.1 = C) (hst : st = as.reverse ++ .ref b :: rest) (hna : as.length = na) (hroom : RF M M') (hw : (rest.map fun v => v.category).sum ≤ 8) (hn : n + mmc M' ≤ mmc M) (hk : k + mms M' ≤ mms M) : CR G E M h n k pc L st rest (mmc M') (mms M') post := by
  intro hE H locs ls hR hS hl
  subst ho; subst hst; subst hq
  obtain ⟨⟨w1, w2, w3, w4, w5, w6⟩, hyx, hd⟩ := hs
  exact ⟨_, va_runU ⟨hE.x, hE.b, hE.ml, hE.own, hE.ts⟩ hC (va_cwU na hE.ts (lw_app (fun w hw => by
    simp only [List.mem_cons, List.not_mem_nil, or_false] at hw
    rcases hw with e | e | e | e | e <;> rw [e] <;> assumption) (lw_meth w6)) rfl rfl rfl hyx hd hroom) (pre_v hE hR hb hci) rfl hna hl.1 rfl (lv_room hw) d ⟨hn, hk⟩⟩
theorem cr_O {own C owner : String} {x : MethodName} {index na b ci : Nat} {t : Tg} {fs : List Value} {q : vw_C} (hC : CT G M' h (.ref b :: as) post) (hs : SO own index C owner x (my M') (mcc M') (mnL M') (mret M') na) (ho : own = (my M).cls) (d : decode (mcc M) pc = .ok (.invokevirtual index, 3)) (hb : h b = some (t, ob ci fs)) (hci : gcl[ci]? = some q) (hq : q.1 = C) (hst : st = as.reverse ++ .ref b :: rest) (hna : as.length = na) (hroom : RF M M') (hw : (rest.map fun v => v.category).sum ≤ 8) (hn : n + mmc M' ≤ mmc M) (hk : k + mms M' ≤ mms M) : CR G E M h n k pc L st rest (mmc M') (mms M') post := by
  intro hE H locs ls hR hS hl
  subst ho; subst hst; subst hq
  obtain ⟨⟨w1, w2, w3, w4, w5, w6, w7⟩, ⟨b0, m0, r0, w8⟩, hd⟩ := hs
  exact ⟨_, va_runU ⟨hE.x, hE.b, hE.ml, hE.own, hE.ts⟩ hC (va_cwO na hE.ts (lw_app (fun w hw => by
    simp only [List.mem_cons, List.not_mem_nil, or_false] at hw
    rcases hw with e | e | e | e | e | e <;> rw [e] <;> assumption) (lw_meth w7)) rfl rfl rfl w8 hd hroom) (pre_v hE hR hb hci) rfl hna hl.1 rfl (lv_room hw) d ⟨hn, hk⟩⟩
theorem EOK.fw (hE : EOK G E M) {C : String} {x y : MethodName} (hx : x.cls ≠ "java/lang/invoke/MethodHandle" ∧ x.cls ≠ "java/lang/invoke/VarHandle") (h1 : Cond.declares x ∈ lw_tbl) (h2 : Cond.interfaceMethod x.cls x.cls x.name x.desc ∈ lw_tbl) (h3 : Cond.publicMethod y ∈ lw_tbl) (h4 : Cond.unhidden C x.name x.desc ∈ lw_tbl) (h5 : Cond.castable C x.cls ∈ lw_tbl) : va_Fw C x y (eS E) :=
  va_Fw.moved hx hE.w.alike (va_Fw.of (hE.g.1 _ h1) (hE.g.1 _ h2) (hE.g.1 _ h3) (hE.g.1 _ h4) (hE.g.1 _ h5))
theorem cr_F {own C : String} {x : MethodName} {index count na b ci : Nat} {t : Tg} {fs : List Value} {q : vw_C} (hC : CT G M' h (.ref b :: as) post) (hs : SF own index C x (my M') (mcc M') (mnL M') (mret M') na) (ho : own = (my M).cls) (d : decode (mcc M) pc = .ok (.invokeinterface index count, 5)) (hb : h b = some (t, ob ci fs)) (hci : gcl[ci]? = some q) (hq : q.1 = C) (hst : st = as.reverse ++ .ref b :: rest) (hna : as.length = na) (hroom : RF M M') (hw : (rest.map fun v => v.category).sum ≤ 8) (hn : n + mmc M' ≤ mmc M) (hk : k + mms M' ≤ mms M) : CR5 G E M h n k pc L st rest (mmc M') (mms M') post := by
  intro hE H locs ls hR hS hl
  subst ho; subst hst; subst hq
  obtain ⟨⟨w1, w2, w3, w4, w5⟩, ⟨f1, f2, f3, f4, f5⟩, hx1, hx2, hd⟩ := hs
  exact ⟨_, va_runF (hE.K.1 ci q hci).2 ⟨hE.x, hE.b, hE.ml, hE.own, hE.ts⟩ hC (va_cwF na hE.ts (lw_app (fun w hw => by
    simp only [List.mem_cons, List.not_mem_nil, or_false] at hw
    rcases hw with e | e | e | e <;> rw [e] <;> assumption) (lw_meth w5)) rfl rfl rfl (hE.fw ⟨hx1, hx2⟩ f1 f2 f3 f4 f5) ⟨hx1, hx2, hd⟩ hroom) (pre_v hE hR hb hci) rfl hna hl.1 rfl (lv_room hw) d ⟨hn, hk⟩⟩
/-- how it goes on, by the kind of the answer -/
theorem cr_i {mc ms : Nat} {p : Int → AH → Prop} (hc : CR G E M h n k pc L st rest mc ms (pI p)) (kk : ∀ (z : Int) (h' : AH), p z h' → WW G E M h' (n + mc) (k + ms) (pc + 3) L (.int (iI z) :: rest)) : WW G E M h n k pc L st :=
  cr_go hc (fun v h' hp => by obtain ⟨z, rfl, hp⟩ := hp; exact kk z h' hp)
theorem cr_l {mc ms : Nat} {p : Int → AH → Prop} (hc : CR G E M h n k pc L st rest mc ms (pL p)) (kk : ∀ (z : Int) (h' : AH), p z h' → WW G E M h' (n + mc) (k + ms) (pc + 3) L (.long (lI z) :: rest)) : WW G E M h n k pc L st :=
  cr_go hc (fun v h' hp => by obtain ⟨z, rfl, hp⟩ := hp; exact kk z h' hp)
theorem cr_v {mc ms : Nat} {p : AH → Prop} (hc : CR G E M h n k pc L st rest mc ms (pV p)) (kk : ∀ (h' : AH), p h' → WW G E M h' (n + mc) (k + ms) (pc + 3) L rest) : WW G E M h n k pc L st :=
  cr_go hc (fun v h' hp => by obtain ⟨rfl, hp⟩ := hp; exact kk h' hp)
theorem cr_r {mc ms : Nat} {p : Nat → AH → Prop} (hc : CR G E M h n k pc L st rest mc ms (pR p)) (kk : ∀ (a : Nat) (h' : AH), p a h' → WW G E M h' (n + mc) (k + ms) (pc + 3) L (.ref a :: rest)) : WW G E M h n k pc L st :=
  cr_go hc (fun v h' hp => by obtain ⟨z, rfl, hp⟩ := hp; exact kk z h' hp)
theorem cr_o {mc ms : Nat} {p : Option Nat → AH → Prop} (hc : CR G E M h n k pc L st rest mc ms (pO p)) (kk : ∀ (a : Option Nat) (h' : AH), p a h' → WW G E M h' (n + mc) (k + ms) (pc + 3) L (va_rf a :: rest)) : WW G E M h n k pc L st :=
  cr_go hc (fun v h' hp => by obtain ⟨z, rfl, hp⟩ := hp; exact kk z h' hp)
theorem cr5_i {mc ms : Nat} {p : Int → AH → Prop} (hc : CR5 G E M h n k pc L st rest mc ms (pI p)) (kk : ∀ (z : Int) (h' : AH), p z h' → WW G E M h' (n + mc) (k + ms) (pc + 5) L (.int (iI z) :: rest)) : WW G E M h n k pc L st :=
  cr_go5 hc (fun v h' hp => by obtain ⟨z, rfl, hp⟩ := hp; exact kk z h' hp)
theorem cr5_v {mc ms : Nat} {p : AH → Prop} (hc : CR5 G E M h n k pc L st rest mc ms (pV p)) (kk : ∀ (h' : AH), p h' → WW G E M h' (n + mc) (k + ms) (pc + 5) L rest) : WW G E M h n k pc L st :=
  cr_go5 hc (fun v h' hp => by obtain ⟨rfl, hp⟩ := hp; exact kk h' hp)
theorem cr5_r {mc ms : Nat} {p : Nat → AH → Prop} (hc : CR5 G E M h n k pc L st rest mc ms (pR p)) (kk : ∀ (a : Nat) (h' : AH), p a h' → WW G E M h' (n + mc) (k + ms) (pc + 5) L (.ref a :: rest)) : WW G E M h n k pc L st :=
  cr_go5 hc (fun v h' hp => by obtain ⟨z, rfl, hp⟩ := hp; exact kk z h' hp)
theorem cr5_o {mc ms : Nat} {p : Option Nat → AH → Prop} (hc : CR5 G E M h n k pc L st rest mc ms (pO p)) (kk : ∀ (a : Option Nat) (h' : AH), p a h' → WW G E M h' (n + mc) (k + ms) (pc + 5) L (va_rf a :: rest)) : WW G E M h n k pc L st :=
  cr_go5 hc (fun v h' hp => by obtain ⟨z, rfl, hp⟩ := hp; exact kk z h' hp)
/-- Object.<init> -/
theorem ww_objInit {own : String} {index a : Nat} (hl1 : Cond.methodLink own index Lib.objectInit ∈ lw_all) (hi : Cond.instanceMethod Lib.objectInit ∈ lw_all) (hc : Cond.code Lib.objectInit ⟨#[0xb1]⟩ 1 none ∈ lw_all) (ho : own = (my M).cls) (d : decode (mcc M) pc = .ok (.invokespecial index, 3)) (hf : 1 ≤ mfr M) (hlo : (st.map fun v => v.category).sum + 12 ≤ mlo M) (kk : WW G E M h n k (pc + 3) L st) : WW G E M h n k pc L (.ref a :: st) := by
  intro hE H locs ls hR hS hl
  subst ho
  exact W.objInit hE.x hE.b hE.own (hE.ts _ hl1) (hE.ts _ hi) (hE.ts _ hc) rfl (by rw [hE.ml]; exact hl.1) rfl d hf (by show 2 * 0 + _ + 12 ≤ _; rw [Nat.mul_zero, Nat.zero_add]; exact hlo) (kk hE H locs ls hR hS hl)
end RWC
