/-! ===== calls of the lambdas' objects ===== -/
set_option maxRecDepth 100000
def yWof : MethodName := ⟨"LinkElection$Weight", "of", "(IIII)J"⟩
theorem GOK.made {G : GT} (hG : GOK G) {k : Nat} (h1 : 1 ≤ k) (h2 : k ≤ 6) {s : State} (hW : (g0 G).WarmedH s.vm) :
    ∃ d dk, s.vm.classes[d]? = some dk ∧ dk.name = lho k ∧ Lambda.isMade { classPath := fun _ => none } s.vm d (lsh k) (lcl G k) = true ∧ s.lambdaCallable (lsh k) (lcl G k) = true ∧
      (∀ o ok, s.vm.findClass "java/lang/Object" = some o → s.vm.classes[o]? = some ok → ok.instanceTypes.size = 0) := by
  obtain ⟨one, hat⟩ := hG.lam h1 h2
  obtain ⟨m0, k0, cf0, i0, p0, l0, a1, a2, a3, a4, a5, a6, a7, a8, a9⟩ := State.lambdaAt?_spec hat
  obtain ⟨dk, hdk, he⟩ := hW.alike.2.2 _ _ a2
  obtain ⟨k1, hk1, hn1⟩ := className_of_methodNamed a1
  cases a2.symm.trans hk1
  have hn2 : (lsx k).1.cls = lho k := l6 (p := fun k => (lsx k).1.cls = lho k) rfl rfl rfl rfl rfl rfl k h1 h2
  refine ⟨m0.cls, dk, hdk, by rw [he]; exact hn1.trans hn2, Lambda.isMade_warmer hW a7, ?_, fun o ok ho hok => ?_⟩
  · have hA := hW.alike
    simp only [State.lambdaCallable, hA.findClass, hA.assignable, hA.superclasses, hA.declaredIn] at a8 ⊢
    exact a8
  · obtain ⟨o', ok', b1, b2, -, -, -, b3⟩ := Cond.instantiable_spec (hG.1 (Cond.instantiable "java/lang/Object" 0) (by decide +kernel))
    rw [hW.alike.findClass] at ho
    cases b1.symm.trans ho
    obtain ⟨ok2, c1, c2⟩ := hW.alike.2.2 _ _ b2
    cases hok.symm.trans c1
    rw [c2]
    exact b3
theorem lq_S : ∀ k, 1 ≤ k → k ≤ 6 → decode (lB k) (lE k).2.2.2.2 = .ok (.invokestatic (lE k).1, 3) := l6 (by decide +kernel) (by decide +kernel) (by decide +kernel) (by decide +kernel) (by decide +kernel) (by decide +kernel)
theorem lq_R : ∀ k, 1 ≤ k → k ≤ 6 → decode (lB k) ((lE k).2.2.2.2 + 3) = .ok (.lreturn, 1) := l6 (by decide +kernel) (by decide +kernel) (by decide +kernel) (by decide +kernel) (by decide +kernel) (by decide +kernel)
abbrev lsl (w : Nat) (t r o f : Int) : Array Slot := #[.val (.ref w), .val (.int (iI t)), .val (.int (iI r)), .val (.int (iI o)), .val (.int (iI f))]
abbrev lxs (t r o f : Int) : List Value := [.int (iI t), .int (iI r), .int (iI o), .int (iI f)]
/-- the forwarder's road to its call -/
def LPath (G : GT) (p : Program) (e : Env) (k w : Nat) (vs : List Value) (t r o f : Int) : Prop := ∀ (U : State) (c : Code) (bl : List Frame), At U ⟨lcl G k, 1⟩ c bl → c.code = lB k → (∃ c0 : Cell, U.heap[w]? = some c0 ∧ c0.slots = vs.toArray ∧ c0.vm = .none) →
  (∀ i nt nm j, fE k i nt nm j → ∃ f, U.vm.fieldReady (lcl G k) i (lcl G k) f ∧ f.isStatic = false ∧ f.slot = j) →
  ∀ target, Steps p.tables e bl (U.setTop { method := ⟨lcl G k, 1⟩, pc := (lE k).2.2.2.2, locals := lsl w t r o f, stack := (vs ++ lxs t r o f).reverse, locked := none }) target → Steps p.tables e bl (U.setTop { method := ⟨lcl G k, 1⟩, pc := 0, locals := lsl w t r o f, stack := [], locked := none }) target
section LBW
variable {G : GT} {R : Room} {p : Program} {e : Env} {below : List Frame} {s : State} {sargs : Array Value}
def LPre (G : GT) (R : Room) (h : AH) (w mc ms : Nat) (t r o f : Int) : Pt → Array Value → Prop := fun A a => a = (.ref w :: lxs t r o f).toArray ∧ A.cells + mc ≤ R.cells ∧ A.slots + ms ≤ R.slots ∧ RP G h A.U.heap
def LPost (G : GT) (mc ms : Nat) (post : Option Value → AH → Prop) : Pt → Array Value → Option Value → Pt → Prop := fun A _ v B => ∃ h', RP G h' B.U.heap ∧ post v h' ∧ ∃ L, B.locs = A.locs ++ L ∧ (∀ q ∈ L, gA G q.base) ∧ B.cells = A.cells + mc ∧ B.slots = A.slots + ms
theorem lq_P : ∀ k, 1 ≤ k → k ≤ 6 → plainName (lho k ++ "$$Lambda") = true := l6 (by decide) (by decide) (by decide) (by decide) (by decide) (by decide)
/-- the method that a forwarder calls -/
theorem lam_impl {U : State} {k : Nat} (h1 : 1 ≤ k) (h2 : k ≤ 6) {y : MethodName} {bb : ByteArray} {nL na : Nat} {rt : Option FieldType} {toy : ClassId} {tk : Class} {tB : MethodId} (hy : y = ⟨(lsh k).implClass, (lsh k).implName, (lsh k).implDesc.toString⟩)
    (hcB : (Cond.code y bb nL rt).before #[] U = true) (hsB : (Cond.static y).before #[] U = true) (hiB : (Cond.initialized y.cls).before #[] U = true) (hd : MD y na)
    (htoy : U.vm.findClass (lsh k).implClass = some toy) (htk : U.vm.classes[toy]? = some tk) (hlook : ((methodIn toy (lsh k).implName (lsh k).implDesc.toString tk.isInterface none).ask { classPath := fun _ => none } U.vm).1 = .ok tB) :
    ∃ methB, U.methodNamed? y = some tB ∧ toy = tB.cls ∧ U.vm.method? tB = some methB ∧ methB.isStatic = true ∧ tk.init = .initialized ∧ methB.sig.parameters.length = na ∧ ∀ z : Method, signaturePolymorphic tk z = false := by
  cases hnB : U.methodNamed? y with
  | none => simp [Cond.before, Cond.holds, Cond.value, hnB] at hcB
  | some mB =>
  obtain ⟨methB, cB, hmB, -, -, -, -, -, -, hsigB⟩ := Cond.code_spec hnB hcB
  have hstaticB : methB.isStatic = true := Cond.static_spec hnB hmB hsB
  have hfT : U.vm.findClass y.cls = some mB.cls := findClass_of_methodNamed hnB
  have hcl : y.cls = (lsh k).implClass := by rw [hy]
  have hfT2 : U.vm.findClass (lsh k).implClass = some mB.cls := by rw [← hcl]; exact hfT
  cases htoy.symm.trans hfT2
  have hinitK : tk.init = .initialized := Cond.initialized_spec hfT htk hiB
  obtain ⟨kT', hkT', hnameT⟩ := className_of_methodNamed hnB
  cases htk.symm.trans hkT'
  have htB : tB = mB := by
    have h3 : U.methodFound? y.cls y.name y.desc = some mB := State.methodFound?_of_named hnB ⟨hd.1, hd.2.1⟩
    simp only [State.methodFound?, hfT, htk, Option.bind_eq_bind, Option.bind_some] at h3
    rw [hy] at h3
    rw [hlook] at h3
    exact Option.some.inj h3
  subst htB
  refine ⟨methB, rfl, rfl, hmB, hstaticB, hinitK, ?_, fun z => ?_⟩
  · have h3 := hd.2.2
    rw [hsigB] at h3
    exact Option.some.inj h3
  · have h3 : tk.name ≠ "java/lang/invoke/MethodHandle" ∧ tk.name ≠ "java/lang/invoke/VarHandle" := by rw [hnameT]; exact ⟨hd.1, hd.2.1⟩
    simp [signaturePolymorphic, h3.1, h3.2]
abbrev lrm (M' : MT) : Room := { frames := mfr M' + 1, cells := mmc M', slots := mms M', locals := (mnL M' + 11) + mlo M' }
theorem lam_back {M' : MT} {h : AH} {as : List Value} {post : Option Value → AH → Prop} {U : State} {gj : JFrame} {bl : List Frame} {cK : MethodId} {aa : Array Value} (hC : CT G M' h as post) (hcode : Cond.code (my M') (mcc M') (mnL M') (mret M') ∈ lw_all) (hini : Cond.initialized (my M').cls ∈ lw_all)
    (wU : ∀ c ∈ lw_all, ∀ a' (V : State), U.WarmedH V.vm → c.before a' V = true) :
    Back (gl G) (lrm M') p e bl (U.calling gj cK aa) aa (my M') 3 0 (PreOf (lrm M') (mmc M') (mms M') (PR G h as)) (PostOf (QR G post) (mmc M') (mms M') (gA G)) :=
  back_of (bytes := mcc M') (maxL := mnL M') (ret := mret M') hC pre_blind rfl rfl (Nat.le_refl _) (by show 0 + (mnL M' + 11) + mlo M' ≤ (mnL M' + 11) + mlo M'; omega) (fun c hc a' V hV => by
      rcases List.mem_cons.mp hc with e1 | e1
      · rw [e1]; exact wU _ hcode a' V hV
      · exact wU _ e1 a' V hV) List.mem_cons_self (fun a' V hV => wU _ hini a' V hV)
theorem lam_bw (hG : GOK G) {k : Nat} (h1 : 1 ≤ k) (h2 : k ≤ 6) {M' : MT} {h : AH} {w : Nat} {tg : Tg} {vs : List Value} {t r o f : Int} {q : Int → AH → Prop}
    (hexec : p.tables.exec = Jvm.exec) (hW0 : (g0 G).WarmedH s.vm) (hts : ∀ w ∈ lw_all, w.before sargs s = true)
    (hw : h w = some (tg, cel (lcl G k) vs)) (hC : CT G M' h (vs ++ lxs t r o f) (pL q)) (hy : my M' = ⟨(lsh k).implClass, (lsh k).implName, (lsh k).implDesc.toString⟩)
    (hcode : Cond.code (my M') (mcc M') (mnL M') (mret M') ∈ lw_all) (hst : Cond.static (my M') ∈ lw_all) (hini : Cond.initialized (my M').cls ∈ lw_all) (hd : MD (my M') (vs ++ lxs t r o f).length)
    (hr1 : mfr M' + 2 ≤ R.frames) (hr2 : 8 + 16 + (mnL M' + 11) + mlo M' ≤ R.locals) (path : LPath G p e k w vs t r o f) :
    BackW (gl G) R p e below s sargs (fun _ mk => mk = ⟨lcl G k, 1⟩) 5 8 (LPre G R h w (mmc M') (mms M') t r o f) (LPost G (mmc M') (mms M') (pL q)) := by
  intro m meth c A gj ig mk a X hg hsize hdg hW hwho hpre
  obtain ⟨U, L, cc, nn⟩ := A
  dsimp only [Pt.U, Pt.locs, Pt.cells, Pt.slots, LPre] at X hpre hwho ⊢
  obtain ⟨rfl, hp1, hp2, hR⟩ := hpre
  subst hwho
  have hWU : (g0 G).WarmedH U.vm := State.WarmedH.trans (t := s) hW0 X.warmed
  obtain ⟨d, dk, hdk, hdn, hmade, -, hO⟩ := hG.made h1 h2 hWU
  obtain ⟨kK, tk, file, methk, ck, toy, tB, hkK, hkn, hfile, hpool, hmk, hck, hbytes, hml, hlk, hfl, hretk, htoy, htk, hitf, hlook, hready, hclsR, hfA, -, -⟩ := lam_facts h1 h2 hdk hdn hmade hO
  have hcell : ∃ c0 : Cell, U.heap[w]? = some c0 ∧ c0.slots = vs.toArray ∧ c0.vm = .none := by
    obtain ⟨c0, w1, w2, w3, w4⟩ := (hR.1 w tg _ hw).1.2
    exact ⟨c0, w1, w3, w4⟩
  have hpk : U.plainMethod ⟨lcl G k, 1⟩ := State.plainMethod.of_name (fun k' hk' => by
    cases hkK.symm.trans hk'; rw [hkn]
    exact lq_P k h1 h2)
  have wU : ∀ c ∈ lw_all, ∀ a' (V : State), U.WarmedH V.vm → c.before a' V = true := fun c hc a' V hV => pay_in hts (lw_meth hcode) c (List.mem_cons_of_mem _ hc) a' V (State.WarmedH.trans (t := U) X.warmed hV)
  obtain ⟨methB, hnB, rfl, hmB, hstaticB, hinitK, hpar, hsp⟩ := lam_impl h1 h2 hy (wU _ hcode #[] U (State.WarmedH.refl U)) (wU _ hst #[] U (State.WarmedH.refl U)) (wU _ hini #[] U (State.WarmedH.refl U)) hd htoy htk hlook
  clear hts hO hmade hdk hdn hW0 hlook
  obtain ⟨q1, q2, q3, q4, q5, q6⟩ := lE_is k h1 h2
  obtain ⟨b, hmem⟩ := memberRef_ask' (e := e) (vm := U.vm) (d := lcl G k) (index := (lE k).1) hkK hfile (Or.inl (by rw [hpool]; exact q1)) (by rw [hpool]; exact q3)
  obtain ⟨Y₀, hin⟩ := X.into hg hsize hdg (.ref w :: lxs t r o f).toArray (R' := lrm M') hmk hck hlk hpk (by show mfr M' + 1 + 1 ≤ R.frames; omega) (by rw [hml]; show _ + (5 + 11) + ((mnL M' + 11) + mlo M') ≤ R.locals; omega) hp1 hp2
  have hent : entryFrame ⟨lcl G k, 1⟩ (.ref w :: lxs t r o f).toArray 5 = { method := ⟨lcl G k, 1⟩, pc := 0, locals := lsl w t r o f, stack := [], locked := none } := rfl
  rw [hml, hent] at Y₀ hin
  generalize hU0 : (U.setTop gj).pushFrame (.java { method := ⟨lcl G k, 1⟩, pc := 0, locals := lsl w t r o f, stack := [], locked := none }) = U₀ at Y₀ hin
  have hvm : U₀.vm = U.vm := by rw [← hU0]; rfl
  have hheap : U₀.heap = U.heap := by rw [← hU0]; rfl
  clear hU0 hent
  obtain ⟨v, ⟨U₁, L₁, c₁, n₁⟩, Y₁, ⟨g', mk', t', L', e1, e2, ⟨v', h', hv', hR', hq'⟩, e3, hL', e4, e5⟩, stepsB⟩ := (lam_back (p := p) (e := e) hC hcode hini wU) ⟨lcl G k, 1⟩ methk ck ⟨U₀, [], 0, 0⟩ { method := ⟨lcl G k, 1⟩, pc := (lE k).2.2.2.2, locals := lsl w t r o f, stack := [], locked := none } (.invokestatic (lE k).1) tB (vs ++ lxs t r o f).toArray Y₀ rfl (by rw [hml]; rfl) (by rw [hbytes]; exact lq_S k h1 h2) (by show 2 * 0 + 0 ≤ 0; decide)
    (show U₀.methodNamed? (my M') = some tB by
      have q9 : (U.setVm U₀.vm).methodNamed? (my M') = some tB := by rw [hvm]; exact hnB
      exact q9)
    ⟨by show 0 + mmc M' ≤ mmc M'; omega, by show 0 + mms M' ≤ mms M'; omega, rfl, by show RP G h U₀.heap; rw [hheap]; exact hR, by show (g0 G).WarmedH U₀.vm; rw [hvm]; exact hWU⟩
  dsimp only [Pt.U, Pt.locs, Pt.cells, Pt.slots] at Y₁ e1 e2 e3 e4 e5 stepsB
  clear wU
  cases hv'
  obtain ⟨z, rfl, hq'⟩ := hq'
  obtain ⟨fs, hleave, -, hended, hWe, hsame⟩ := Y₁.leave (v := some (.long (lI z))) (fun h => by rw [hretk] at h; cases h) hlk
  obtain ⟨T', X', hW', -, ht⟩ := X.outOf hg hdg hended hWe hsame
  have hhT' : T'.heap = U₁.heap := by
    have := congrArg State.heap ht
    exact this.symm
  refine ⟨some (.long (lI z)), (T', L ++ L₁, cc + c₁, nn + n₁), X', ⟨h', by show RP G h' T'.heap; rw [hhT', e1]; exact hR', ⟨z, rfl, hq'⟩, L₁, rfl, fun x hx => hL' x (by rw [e3] at hx; simpa using hx), by show cc + c₁ = cc + mmc M'; rw [e4, Nat.zero_add], by show nn + n₁ = nn + mms M'; rw [e5, Nat.zero_add]⟩, ?_⟩
  clear hsame hWe hended X' hR' hq' e1 e2 e3 e4 e5 hL'
  dsimp only [Pt.U, Option.toList]
  dsimp only [Option.toList] at ht
  rw [hin [], ← ht]
  clear hin ht
  refine Steps.weaken (mid := [.java gj]) ?_
  have hs : U₀.topJava?.isSome := Y₀.here.top
  refine path U₀ ck _ Y₀.here hbytes (by rw [hheap]; exact hcell) (by rw [hvm]; exact hfA) _ ?_
  jvm_step Y₀.here [hexec, hbytes, lq_S k h1 h2, invokestatic.wp_ready (e := e) (s := U₀) (m := tB) (k := tk) (meth := methB) (args := vs ++ lxs t r o f) (rest := [])
    (f := { method := ⟨lcl G k, 1⟩, pc := (lE k).2.2.2.2, locals := lsl w t r o f, stack := .int (iI f) :: .int (iI o) :: .int (iI r) :: .int (iI t) :: vs.reverse, locked := none }) hs ⟨(lE k).2.1, _, _, b, tB.cls, tk, by rw [hvm]; exact hmem, by rw [hvm]; exact hclsR, by rw [hvm]; exact htk, by simp [hsp]⟩ (by rw [hvm]; exact hready) (by rw [hvm]; exact htk) (by rw [hvm]; exact hmB) (hsp _) hstaticB hinitK hpar.symm (by simp)]
  intro acts'
  rw [doInvoke_state]
  refine stepsB.trans ?_
  show Steps p.tables e (.java gj :: below) (U₁.setTop { method := ⟨lcl G k, 1⟩, pc := (lE k).2.2.2.2 + 3, locals := lsl w t r o f, stack := [.long (lI z)], locked := none }) _
  jvm_step Y₁.here [Y₁.here.top, hexec, hbytes, lq_R k h1 h2, Y₁.method', hretk, narrow]
  first | (intro acts''; rw [hleave _ acts'' rfl rfl rfl]) | rw [hleave _ _ rfl rfl rfl]
  exact Steps.refl _
end LBW
