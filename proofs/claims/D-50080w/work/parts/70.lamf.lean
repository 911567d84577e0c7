/-! ===== the classes made for the lambdas ===== -/
set_option maxRecDepth 100000
def lho : Nat → String
  | 5 => "LinkElection$Parser"
  | _ => "LinkElection"
def lD (k : Nat) : ClassFile := ((lsh k).file (lho k)).getD { minorVersion := 0, majorVersion := 0, constantPool := #[], accessFlags := 0, thisClass := 0, superClass := 0, interfaces := #[], fields := #[], methods := #[], attributes := #[] }
def lF (k : Nat) : Method := ((layoutMethods (lD k)).bind (·[1]?)).getD default
def lL (k : Nat) : Array Field × Array FieldType × Array FieldType := (layoutFields (lD k) 0).getD (#[], #[], #[])
def lB : Nat → ByteArray
  | 5 => ⟨#[42, 180, 0, 15, 27, 28, 29, 21, 4, 184, 0, 23, 173]⟩
  | 6 => ⟨#[42, 180, 0, 18, 42, 180, 0, 20, 42, 180, 0, 22, 27, 28, 29, 21, 4, 184, 0, 30, 173]⟩
  | _ => ⟨#[27, 28, 29, 21, 4, 184, 0, 17, 173]⟩
/-- the entries of the method, of its class; where the call stands -/
def lE : Nat → Nat × Nat × Nat × Nat × Nat
  | 5 => (23, 19, 22, 18, 9)
  | 6 => (30, 26, 29, 25, 17)
  | _ => (17, 14, 16, 13, 5)
theorem l6 {p : Nat → Prop} (h1 : p 1) (h2 : p 2) (h3 : p 3) (h4 : p 4) (h5 : p 5) (h6 : p 6) : ∀ k, 1 ≤ k → k ≤ 6 → p k := by
  intro k a b
  have : k = 1 ∨ k = 2 ∨ k = 3 ∨ k = 4 ∨ k = 5 ∨ k = 6 := by omega
  rcases this with rfl | rfl | rfl | rfl | rfl | rfl <;> assumption
theorem lD_is : ∀ k, 1 ≤ k → k ≤ 6 → (lsh k).file (lho k) = some (lD k) := by
  intro k h1 h2
  have h : ((lsh k).file (lho k)).isSome = true := l6 (p := fun k => ((lsh k).file (lho k)).isSome = true) (by decide +kernel) (by decide +kernel) (by decide +kernel) (by decide +kernel) (by decide +kernel) (by decide +kernel) k h1 h2
  obtain ⟨x, hx⟩ := Option.isSome_iff_exists.mp h
  simp [lD, hx]
theorem lF_is {k : Nat} (h1 : 1 ≤ k) (h2 : k ≤ 6) : ∀ ms, layoutMethods (lD k) = some ms → ms[1]? = some (lF k) := by
  intro ms hms
  have h : ((layoutMethods (lD k)).bind (·[1]?)).isSome = true := l6 (p := fun k => ((layoutMethods (lD k)).bind (·[1]?)).isSome = true) (by decide +kernel) (by decide +kernel) (by decide +kernel) (by decide +kernel) (by decide +kernel) (by decide +kernel) k h1 h2
  obtain ⟨x, hx⟩ := Option.isSome_iff_exists.mp h
  have hf : lF k = x := by simp [lF, hx]
  rw [hms] at hx
  rw [hf]
  exact hx
theorem lL_is : ∀ k, 1 ≤ k → k ≤ 6 → layoutFields (lD k) 0 = some (lL k) := by
  intro k h1 h2
  have h : (layoutFields (lD k) 0).isSome = true := l6 (p := fun k => (layoutFields (lD k) 0).isSome = true) (by decide +kernel) (by decide +kernel) (by decide +kernel) (by decide +kernel) (by decide +kernel) (by decide +kernel) k h1 h2
  obtain ⟨x, hx⟩ := Option.isSome_iff_exists.mp h
  simp [lL, hx]
theorem lF_code : ∀ k, 1 ≤ k → k ≤ 6 → ((lF k).code.map fun c => (c.code.data, c.maxLocals)) = some ((lB k).data, 5) := l6 (by decide +kernel) (by decide +kernel) (by decide +kernel) (by decide +kernel) (by decide +kernel) (by decide +kernel)
theorem lF_flags : ∀ k, 1 ≤ k → k ≤ 6 → ((lF k).accessFlags, (lF k).name, (lF k).sig.returnType) = (0x0001, "of", some FieldType.long) := l6 (by decide +kernel) (by decide +kernel) (by decide +kernel) (by decide +kernel) (by decide +kernel) (by decide +kernel)
theorem lE_is : ∀ k, 1 ≤ k → k ≤ 6 → (lD k).constantPool[(lE k).1]? = some (.methodref (lE k).2.1 (lE k).2.2.1) ∧ (lD k).constantPool.className? (lE k).2.1 = some (lsh k).implClass ∧ (lD k).constantPool.nameAndType? (lE k).2.2.1 = some ((lsh k).implName, (lsh k).implDesc.toString) ∧ (lD k).constantPool[(lE k).2.1]? = some (.class_ (lE k).2.2.2.1) ∧ (lD k).constantPool.string? (lE k).2.2.2.1 = some (lsh k).implClass ∧ (lE k).2.1 ≠ (lD k).thisClass := l6 (by decide +kernel) (by decide +kernel) (by decide +kernel) (by decide +kernel) (by decide +kernel) (by decide +kernel)
theorem lT_is : ∀ k, 1 ≤ k → k ≤ 6 → (lL k).2.1.toList = (lsh k).captured := l6 (by decide +kernel) (by decide +kernel) (by decide +kernel) (by decide +kernel) (by decide +kernel) (by decide +kernel)
def fE (k i nt : Nat) (nm : String) (j : Nat) : Prop := ∃ ds, (lD k).constantPool[i]? = some (.fieldref 2 nt) ∧ (lD k).constantPool.nameAndType? nt = some (nm, ds) ∧ (lL k).1.findIdx? (·.name == nm) = some j ∧ ((lL k).1[j]?).map (fun f => (f.isStatic, f.slot)) = some (false, j)
theorem fE5 : fE 5 15 14 "arg$1" 0 := ⟨"J", by decide +kernel⟩
theorem fE60 : fE 6 18 17 "arg$1" 0 := ⟨"LLinkElection$Weight;", by decide +kernel⟩
theorem fE61 : fE 6 20 19 "arg$2" 1 := ⟨"LLinkElection$Weight;", by decide +kernel⟩
theorem fE62 : fE 6 22 21 "arg$3" 2 := ⟨"I", by decide +kernel⟩
/-- what a made class holds -/
theorem lam_facts {e : Setting} {vm : Vm} {d c : ClassId} {dk : Class} {k : Nat} (h1 : 1 ≤ k) (h2 : k ≤ 6) (hd : vm.classes[d]? = some dk) (hname : dk.name = lho k) (h : Lambda.isMade e vm d (lsh k) c = true)
    (hO : ∀ o ok, vm.findClass "java/lang/Object" = some o → vm.classes[o]? = some ok → ok.instanceTypes.size = 0) :
    ∃ (kK tk : Class) (file : ClassFile) (methk : Method) (ck : Code) (toy : ClassId) (t : MethodId),
      vm.classes[c]? = some kK ∧ kK.name = lho k ++ "$$Lambda" ∧ kK.cf = some file ∧ file.constantPool = (lD k).constantPool ∧
      vm.method? ⟨c, 1⟩ = some methk ∧ methk.code = some ck ∧ ck.code = lB k ∧ ck.maxLocals = 5 ∧ methk.locks = false ∧ methk.accessFlags = 0x0001 ∧ methk.sig.returnType = some .long ∧
      vm.findClass (lsh k).implClass = some toy ∧ vm.classes[toy]? = some tk ∧ tk.isInterface = false ∧ ((methodIn toy (lsh k).implName (lsh k).implDesc.toString tk.isInterface none).ask e vm).1 = .ok t ∧
      vm.methodReady c (lE k).1 t ∧ vm.classReady c (lE k).2.1 toy ∧ (∀ i nt nm j, fE k i nt nm j → ∃ f, vm.fieldReady c i c f ∧ f.isStatic = false ∧ f.slot = j) ∧ kK.instanceTypes.toList = (lsh k).captured ∧ kK.kind = .ordinary := by
  obtain ⟨dk', kK, ok, tk, file, cf, object, iface, toy, lay, methods, target, found, hd', hk, hfile, hcf, hobj, -, hok, hlay, hms, ht, htk, hg, -, hrec, -, -, -, hitf, hpool, hmeth, hfields, hty, hres, -⟩ := Lambda.isMade_spec h
  cases hd.symm.trans hd'
  rw [hname, lD_is k h1 h2] at hcf
  cases hcf
  have hok0 : ok.instanceTypes = #[] := Array.eq_empty_of_size_eq_zero (hO object ok hobj hok)
  rw [hO object ok hobj hok, lL_is k h1 h2] at hlay
  cases hlay
  obtain ⟨b, hb, hsame⟩ := hmeth 1 (lF k) (lF_is h1 h2 methods hms)
  obtain ⟨-, -, hsig, hfl, x, y, hfc, hbc, -, hml, hcc, -⟩ := Lambda.sameMethod_spec hsame
  have fc := lF_code k h1 h2
  have ff := lF_flags k h1 h2
  simp only [Prod.mk.injEq] at ff
  rw [hfc] at fc
  simp only [Option.map_some, Option.some.injEq, Prod.mk.injEq] at fc
  obtain ⟨q1, q2, q3, q4, q5, q6⟩ := lE_is k h1 h2
  refine ⟨kK, tk, file, b, y, toy, target, hk, by rw [hrec.1, hname], hfile, hpool.2.1, by simp [Vm.method?, hk, hb], hbc, by rw [hcc]; exact ByteArray.ext fc.1, by rw [hml]; exact fc.2, ?_, by rw [hfl]; exact ff.1, by rw [hsig]; exact ff.2.2, ht, htk, ?_, hg,
    ⟨kK, hk, hres _ _ (Lambda.resolvedOf_method q1 q2 ht htk q3 hg)⟩, ⟨kK, hk, hres _ _ (Lambda.resolvedOf_class q4 q6 q5 ht)⟩, fun i nt nm j hf => ?_, ?_, hrec.2.1⟩
  · simp [Method.locks, Method.isSynchronized, hfl, ff.1, hasFlag, Acc.synchronized]
  · rw [hitf]
    exact l6 (p := fun k => (lsh k).implItf = false) rfl rfl rfl rfl rfl rfl k h1 h2
  · obtain ⟨ds, e1, e2, e3, e4⟩ := hf
    obtain ⟨g0, hg0, hp0⟩ := Option.map_eq_some_iff.mp e4
    simp only [Prod.mk.injEq] at hp0
    exact ⟨g0, ⟨kK, j, kK, hk, hres _ _ (Lambda.resolvedOf_field e1 e2 e3), hk, hfields j _ hg0⟩, hp0.1, hp0.2⟩
  · rw [hty.1, hok0]
    simp only [Array.empty_append]
    exact lT_is k h1 h2
