/-! ===== rows for the lambdas' objects ===== -/
set_option maxRecDepth 100000
section LPT
variable {G : GT} {p : Program} {e : Env}
theorem lb10 : decode (lB 1) 0 = .ok (.iload_n 1, 1) := by decide +kernel
theorem lb11 : decode (lB 1) 1 = .ok (.iload_n 2, 1) := by decide +kernel
theorem lb12 : decode (lB 1) 2 = .ok (.iload_n 3, 1) := by decide +kernel
theorem lb13 : decode (lB 1) 3 = .ok (.iload 4, 2) := by decide +kernel
theorem lp_1 (hexec : p.tables.exec = Jvm.exec) {k : Nat} (hk : lB k = lB 1) (hk2 : (lE k).2.2.2.2 = 5) {w : Nat} {t r o f : Int} : LPath G p e k w [] t r o f := by
  intro U c bl hA hb hc hf target hs
  rw [hk] at hb
  rw [hk2] at hs
  jvm_step hA [hexec, hb, lb10]
  jvm_step hA [hexec, hb, lb11]
  jvm_step hA [hexec, hb, lb12]
  jvm_step hA [hexec, hb, lb13]
  exact hs
theorem lb50 : decode (lB 5) 0 = .ok (.aload_n 0, 1) := by decide +kernel
theorem lb51 : decode (lB 5) 1 = .ok (.getfield 15, 3) := by decide +kernel
theorem lb54 : decode (lB 5) 4 = .ok (.iload_n 1, 1) := by decide +kernel
theorem lb55 : decode (lB 5) 5 = .ok (.iload_n 2, 1) := by decide +kernel
theorem lb56 : decode (lB 5) 6 = .ok (.iload_n 3, 1) := by decide +kernel
theorem lb57 : decode (lB 5) 7 = .ok (.iload 4, 2) := by decide +kernel
theorem lp_5 (hexec : p.tables.exec = Jvm.exec) {w : Nat} {v : Int} {t r o f : Int} : LPath G p e 5 w [.long (lI v)] t r o f := by
  intro U c bl hA hb hc hf target hs
  obtain ⟨c9, hc, hs9, hv9⟩ := hc
  obtain ⟨f0, a1, a2, a3⟩ := hf _ _ _ _ fE5
  have hT : U.topJava?.isSome := hA.top
  jvm_step hA [hexec, hb, lb50, Value.isRef]
  jvm_step hA [hexec, hb, lb51, getfield.wp_ready (e := e) (s := U) (c := lcl G 5) (field := f0) (a := w) (rest := []) (cell := c9) (v := .long (lI v))
    (f := { method := ⟨lcl G 5, 1⟩, pc := 1, locals := lsl w t r o f, stack := [.ref w], locked := none }) hT a1 a2 rfl hc (by rw [hv9]; intro h; cases h) (by rw [a3, hs9]; rfl)]
  jvm_step hA [hexec, hb, lb54]
  jvm_step hA [hexec, hb, lb55]
  jvm_step hA [hexec, hb, lb56]
  jvm_step hA [hexec, hb, lb57]
  exact hs
theorem lb60 : decode (lB 6) 0 = .ok (.aload_n 0, 1) := by decide +kernel
theorem lb61 : decode (lB 6) 1 = .ok (.getfield 18, 3) := by decide +kernel
theorem lb64 : decode (lB 6) 4 = .ok (.aload_n 0, 1) := by decide +kernel
theorem lb65 : decode (lB 6) 5 = .ok (.getfield 20, 3) := by decide +kernel
theorem lb68 : decode (lB 6) 8 = .ok (.aload_n 0, 1) := by decide +kernel
theorem lb69 : decode (lB 6) 9 = .ok (.getfield 22, 3) := by decide +kernel
theorem lb6a : decode (lB 6) 12 = .ok (.iload_n 1, 1) := by decide +kernel
theorem lb6b : decode (lB 6) 13 = .ok (.iload_n 2, 1) := by decide +kernel
theorem lb6c : decode (lB 6) 14 = .ok (.iload_n 3, 1) := by decide +kernel
theorem lb6d : decode (lB 6) 15 = .ok (.iload 4, 2) := by decide +kernel
theorem lp_6 (hexec : p.tables.exec = Jvm.exec) {w a b : Nat} {v : Int} {t r o f : Int} : LPath G p e 6 w [.ref a, .ref b, .int (iI v)] t r o f := by
  intro U c bl hA hb hc hf target hs
  obtain ⟨c9, hc, hs9, hv9⟩ := hc
  obtain ⟨f0, a1, a2, a3⟩ := hf _ _ _ _ fE60
  obtain ⟨f1, b1, b2, b3⟩ := hf _ _ _ _ fE61
  obtain ⟨f2, c1, c2, c3⟩ := hf _ _ _ _ fE62
  have hT : U.topJava?.isSome := hA.top
  jvm_step hA [hexec, hb, lb60, Value.isRef]
  jvm_step hA [hexec, hb, lb61, getfield.wp_ready (e := e) (s := U) (c := lcl G 6) (field := f0) (a := w) (rest := []) (cell := c9) (v := .ref a)
    (f := { method := ⟨lcl G 6, 1⟩, pc := 1, locals := lsl w t r o f, stack := [.ref w], locked := none }) hT a1 a2 rfl hc (by rw [hv9]; intro h; cases h) (by rw [a3, hs9]; rfl)]
  jvm_step hA [hexec, hb, lb64, Value.isRef]
  jvm_step hA [hexec, hb, lb65, getfield.wp_ready (e := e) (s := U) (c := lcl G 6) (field := f1) (a := w) (rest := [.ref a]) (cell := c9) (v := .ref b)
    (f := { method := ⟨lcl G 6, 1⟩, pc := 5, locals := lsl w t r o f, stack := [.ref w, .ref a], locked := none }) hT b1 b2 rfl hc (by rw [hv9]; intro h; cases h) (by rw [b3, hs9]; rfl)]
  jvm_step hA [hexec, hb, lb68, Value.isRef]
  jvm_step hA [hexec, hb, lb69, getfield.wp_ready (e := e) (s := U) (c := lcl G 6) (field := f2) (a := w) (rest := [.ref b, .ref a]) (cell := c9) (v := .int (iI v))
    (f := { method := ⟨lcl G 6, 1⟩, pc := 9, locals := lsl w t r o f, stack := [.ref w, .ref b, .ref a], locked := none }) hT c1 c2 rfl hc (by rw [hv9]; intro h; cases h) (by rw [c3, hs9]; rfl)]
  jvm_step hA [hexec, hb, lb6a]
  jvm_step hA [hexec, hb, lb6b]
  jvm_step hA [hexec, hb, lb6c]
  jvm_step hA [hexec, hb, lb6d]
  exact hs
end LPT
/-- the callee's room fits, through a forwarder -/
abbrev RF2 (M M' : MT) : Prop := mfr M' + 2 ≤ mfr M ∧ 8 + 16 + (mnL M' + 11) + mlo M' ≤ mlo M
/-- the entry names Weight.of -/
def SWo (own : String) (index : Nat) : Prop := Cond.methodLink own index yWof ∈ lw_all
def SIm (k na : Nat) (y : MethodName) (b : ByteArray) (L : Nat) (r : Option FieldType) : Prop := y = ⟨(lsh k).implClass, (lsh k).implName, (lsh k).implDesc.toString⟩ ∧ Cond.code y b L r ∈ lw_all ∧ Cond.static y ∈ lw_all ∧ Cond.initialized y.cls ∈ lw_all ∧ MD y na
theorem lam_wd {G : GT} (hG : GOK G) {s : State} (hW : (g0 G).WarmedH s.vm) {A : Array Value} : (Cond.declares yWof).before A s = true ∧ (Cond.interfaceMethod yWof.cls yWof.cls yWof.name yWof.desc).before A s = true := by
  have h1 := hG.1 (Cond.declares yWof) (by decide +kernel)
  have h2 := hG.1 (Cond.interfaceMethod yWof.cls yWof.cls yWof.name yWof.desc) (by decide +kernel)
  obtain ⟨r, meth, hn, -⟩ := Cond.declares_spec h1
  exact ⟨va_tabs rfl (rfl : ((g0 G).setVm s.vm).vm = s.vm) (A := #[Value.ref (gb G)]) (by rw [Cond.declares_setVm hW.alike]; exact h1), va_tabs rfl (rfl : ((g0 G).setVm s.vm).vm = s.vm) (A := #[Value.ref (gb G)]) ((Cond.interfaceMethod_setVm (ref := yWof.cls) (name := yWof.name) (desc := yWof.desc) hW.alike (r := r) hn ⟨by decide, by decide⟩).trans h2)⟩
/-- what a call through the interface finds -/
theorem lam_fn {G : GT} (hG : GOK G) {k : Nat} (h1 : 1 ≤ k) (h2 : k ≤ 6) {s : State} (hW : (g0 G).WarmedH s.vm) : ∃ (kF : Class) (mK : Method) (cL : ClassId) (kL : Class) (r0 : MethodId) (r : Method), s.vm.classes[lcl G k]? = some kF ∧ s.vm.method? ⟨lcl G k, 1⟩ = some mK ∧ mK.accessFlags = 0x0001 ∧ s.methodNamed? yWof = some r0 ∧ s.vm.method? r0 = some r ∧ r.isStatic = false ∧ parseMethodDescriptor yWof.desc = some r.sig ∧ s.vm.classes[r0.cls]? = some kL ∧ kL.isInterface = true ∧
    s.vm.assignable (lcl G k) r0.cls = true ∧ selectMethod {} s.vm (lcl G k) r0 = .method ⟨lcl G k, 1⟩ ∧ ((lcl G k :: s.vm.superclasses (lcl G k)).any fun c => (declaredIn s.vm r.name r.desc c).any fun (_, y) => y.isPrivate || y.isStatic) = false := by
  obtain ⟨d, dk, hdk, hdn, hmade, hcan, hO⟩ := hG.made h1 h2 hW
  obtain ⟨kK, tk, file, methk, ck, toy, tB, hkK, hkn, hfile, hpool, hmk, hck, hbytes, hml, hlk, hfl, -⟩ := lam_facts h1 h2 hdk hdn hmade hO
  obtain ⟨w1, w2⟩ := lam_wd hG hW (A := #[])
  obtain ⟨r0, r, hn, hrm, hstR, hsigR⟩ := Cond.declares_spec w1
  obtain ⟨cL, kL, r1, hcL, hkL, hiL, hfoundL, hn1⟩ := Cond.interfaceMethod_spec w2
  cases hn.symm.trans hn1
  have hr0cls : r0.cls = cL := Option.some.inj ((findClass_of_methodNamed hn).symm.trans hcL)
  obtain ⟨hnameR, hdescR⟩ := name_of_methodNamed hn hrm
  obtain ⟨-, -, -, -, -, -, -, iface', -, -, -, -, found, -, -, -, -, -, hi', -, -, -, -, -, -, hfound', -, -, -, -, -, -, -, -, -, -, hsel⟩ := Lambda.isMade_spec hmade
  have hcls : (lsh k).iface = yWof.cls := l6 (p := fun k => (lsh k).iface = yWof.cls) rfl rfl rfl rfl rfl rfl k h1 h2
  have hname : (lsh k).name = yWof.name := l6 (p := fun k => (lsh k).name = yWof.name) rfl rfl rfl rfl rfl rfl k h1 h2
  have hdesc : (lsh k).sam.toString = yWof.desc := l6 (p := fun k => (lsh k).sam.toString = yWof.desc) (by decide +kernel) (by decide +kernel) (by decide +kernel) (by decide +kernel) (by decide +kernel) (by decide +kernel) k h1 h2
  rw [hcls] at hi'
  cases hcL.symm.trans hi'
  have hfr : found = r0 := by
    have h3 : s.methodFound? yWof.cls yWof.name yWof.desc = some r0 := hfoundL
    simp only [State.methodFound?, hcL, hkL, hiL, Option.bind_eq_bind, Option.bind_some] at h3
    rw [hname, hdesc] at hfound'
    rw [hfound'] at h3
    exact Option.some.inj h3
  subst hfr
  obtain ⟨i2, hi2, hasg, hway⟩ := State.lambdaCallable_spec hcan
  rw [hcls] at hi2
  cases hcL.symm.trans hi2
  exact ⟨kK, methk, cL, kL, found, r, hkK, hmk, hfl, hn, hrm, hstR, hsigR, by rw [hr0cls]; exact hkL, hiL, by rw [hr0cls]; exact hasg, hsel, by rw [hnameR, hdescR]; rw [hname, hdesc] at hway; exact hway⟩
section RWM
variable {G : GT} {E : ET} {M M' : MT} {h : AH} {n k pc : Nat} {L : List (Nat × Value)} {st rest : List Value}
theorem cr_W {own : String} {index count i w : Nat} {tg : Tg} {vs : List Value} {t r o f : Int} {q : Int → AH → Prop} (h1 : 1 ≤ i) (h2 : i ≤ 6) (hw : h w = some (tg, cel (lcl G i) vs)) (hC : CT G M' h (vs ++ lxs t r o f) (pL q)) (hs : SIm i (vs ++ lxs t r o f).length (my M') (mcc M') (mnL M') (mret M')) (hso : SWo own index) (ho : own = (my M).cls)
    (path : ∀ {p : Program} {e : Env}, p.tables.exec = Jvm.exec → LPath G p e i w vs t r o f) (d : decode (mcc M) pc = .ok (.invokeinterface index count, 5)) (hst : st = (lxs t r o f).reverse ++ .ref w :: rest) (hroom : RF2 M M') (hwt : (rest.map fun v => v.category).sum ≤ 8) (hn : n + mmc M' ≤ mmc M) (hk : k + mms M' ≤ mms M) : CR5 G E M h n k pc L st rest (mmc M') (mms M') (pL q) := by
  intro hE H locs ls hR hS hl
  subst ho; subst hst
  obtain ⟨hy, w1, w2, w3, hd⟩ := hs
  refine ⟨#[], fun T hT X => ?_⟩
  have hbw := lam_bw (R := mroom M) (p := eP E) (e := eE E) (below := eB E) (s := eS E) (sargs := eA E) hE.g h1 h2 hE.x hE.w hE.ts hw hC hy w1 w2 w3 hd hroom.1 hroom.2 (path hE.x)
  have hwd := lam_wd hE.g hE.w (A := eA E)
  obtain ⟨kF, mK, cL, kL, r0, r', hkF, hmK, hfl, hn0, hrm, hstR, hsigR, hkL, hiL, hasg, hsel, hway⟩ := lam_fn hE.g h1 h2 hE.w
  obtain ⟨⟨cls9, slots9, mon9, hash9, vm9⟩, w9, w91, w92, w93⟩ := (hR.1 w tg _ hw).1.2
  have w91 : cls9 = lcl G i := w91
  have w93 : vm9 = .none := w93
  subst w91 w93
  have hcl : T.heap[w]? = some { cls := lcl G i, slots := slots9, monitor := mon9, hash := hash9, vm := .none } := by rw [hT]; exact w9
  obtain ⟨vm₁, X₁, hstep₁⟩ := X.invokeinterface hE.x hE.own (hE.ts _ hso) hn0 hrm hstR hkL hiL ⟨by decide, by decide⟩ (a := w) (cell := { cls := lcl G i, slots := slots9, monitor := mon9, hash := hash9, vm := .none }) (kcell := kF) hcl
    (fun z h => by cases h) hkF hasg (m' := ⟨lcl G i, 1⟩) (meth' := mK) (by rw [Launch.admits_selectMethod X.admits]; exact hsel) hmK hway (by rw [hfl]; decide) (by simp [Method.isAbstract, hfl, hasFlag, Acc.abstract])
    (g := F0 (eM E) pc ls ((lxs t r o f).reverse ++ .ref w :: rest)) rfl (argsL := lxs t r o f) (rest := rest) (by
        have : parseMethodDescriptor yWof.desc = some i4D := by decide +kernel
        rw [this] at hsigR
        rw [← Option.some.inj hsigR]
        rfl) rfl (by rw [hE.b]; exact d)
  obtain ⟨v, ⟨BU, Bl, Bc, Bs⟩, X', ⟨h', hR', hp, LL, e1, e2, e3, e4⟩, hsteps⟩ := hbw (eM E) (eMt E) (eC E) ⟨T.setVm vm₁, locs, n, k⟩ { F0 (eM E) pc ls ((lxs t r o f).reverse ++ .ref w :: rest) with stack := rest } (.invokeinterface index count) ⟨lcl G i, 1⟩ (.ref w :: lxs t r o f).toArray X₁ rfl (by rw [hE.ml]; exact hl.1) (by rw [hE.b]; exact d) (lv_room hwt) rfl ⟨rfl, hn, hk, by show RP G h T.heap; rw [hT]; exact hR⟩
  dsimp only [Pt.U, Pt.locs, Pt.cells, Pt.slots] at X' hR' e1 e2 e3 e4 hsteps
  subst e1 e3 e4
  exact ⟨v, T, BU, BU, LL, hT, X', e2, rfl, rfl, ⟨v, h', rfl, hR', hp⟩, fun tg hg => (hstep₁ _ fun acts => by rw [doInvoke_state]; exact Steps.refl _).trans (hsteps.trans hg)⟩
theorem cr5_l {mc ms : Nat} {p : Int → AH → Prop} (hc : CR5 G E M h n k pc L st rest mc ms (pL p)) (kk : ∀ (z : Int) (h' : AH), p z h' → WW G E M h' (n + mc) (k + ms) (pc + 5) L (.long (lI z) :: rest)) : WW G E M h n k pc L st :=
  cr_go5 hc (fun v h' hp => by obtain ⟨z, rfl, hp⟩ := hp; exact kk z h' hp)
end RWM
