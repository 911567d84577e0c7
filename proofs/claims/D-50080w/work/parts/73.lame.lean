/-! ===== making the lambdas' objects ===== -/
set_option maxRecDepth 100000
theorem lam_arr {α : Type} {x : Array Nat} {f : Nat → Nat → Nat → Option α} {r : α} (h : Lambda.shapeOf?.match_15 (fun _ => Option α) x f (fun _ => none) = some r) : ∃ a0 a1 a2, f a0 a1 a2 = some r := by
  rcases x with ⟨Lx⟩
  match Lx, h with
  | [], h => cases h
  | [_], h => cases h
  | [_, _], h => cases h
  | _ :: _ :: _ :: _ :: _, h => cases h
  | [a0, a1, a2], h => exact ⟨a0, a1, a2, h⟩
theorem lam_site {cf : ClassFile} {index : Nat} {σ : Lambda.Shape} (h : Lambda.shapeOf? cf index = some σ) :
    ∃ (b nt : Nat) (nm desc : String) (site : MethodDescriptor), cf.constantPool[index]? = some (.invokeDynamic b nt) ∧ cf.constantPool.nameAndType? nt = some (nm, desc) ∧ parseMethodDescriptor desc = some site ∧ site.parameters = σ.captured := by
  unfold Lambda.shapeOf? at h
  split at h
  · rename_i b nt hc
    obtain ⟨entries, -, h⟩ := Option.bind_eq_some_iff.mp h
    obtain ⟨bm, -, h⟩ := Option.bind_eq_some_iff.mp h
    split at h
    · obtain ⟨_, -, h⟩ := Option.bind_eq_some_iff.mp h
      obtain ⟨a0, a1, a2, h⟩ := lam_arr h
      split at h
      · split at h
        · split at h
          · obtain ⟨⟨name, desc⟩, hnt, h⟩ := Option.bind_eq_some_iff.mp h
            obtain ⟨site, hsite, h⟩ := Option.bind_eq_some_iff.mp h
            split at h
            · obtain ⟨_, -, h⟩ := Option.bind_eq_some_iff.mp h
              obtain ⟨x1, -, h⟩ := Option.bind_eq_some_iff.mp h
              obtain ⟨x2, -, h⟩ := Option.bind_eq_some_iff.mp h
              obtain ⟨x3, -, h⟩ := Option.bind_eq_some_iff.mp h
              obtain ⟨x4, -, h⟩ := Option.bind_eq_some_iff.mp h
              obtain ⟨x5, -, h⟩ := Option.bind_eq_some_iff.mp h
              cases h
              exact ⟨b, nt, name, desc, site, hc, hnt, hsite, rfl⟩
            · cases h
          · cases h
        · cases h
      · cases h
    · cases h
  · cases h
/-- what is held fits -/
def LFit (k : Nat) (vs : List Value) : Prop := vs.length = (lsh k).captured.length ∧ (((lsh k).captured.zip vs).map fun (t, v) => narrow t v) = vs ∧ ∀ (i : Nat) (v : Value), vs[i]? = some v → ∃ t, (lsh k).captured[i]? = some t ∧ fits t v = true
section RWN
variable {G : GT} {E : ET} {M : MT} {h : AH} {n k pc : Nat} {L : List (Nat × Value)} {st rest : List Value}
theorem ww_indyM {i index : Nat} {vs : List Value} (hi : 5 ≤ i) (hi4 : i ≤ 6) (hG : GOK G) (hv : LFit i vs) (hst : st = vs.reverse ++ rest) (hy : (lsx i).1 = my M) (hpc : (lsx i).2.1 = pc) (hix : (lsx i).2.2 = index) (d : decode (mcc M) pc = .ok (.invokedynamic index, 5)) (hlo : (st.map fun v => v.category).sum + 3072 ≤ mlo M) (hn : n + 1 ≤ mmc M) (hk : k + vs.length ≤ mms M)
    (kk : ∀ (q : Nat) (h' : AH), Nw h q → Ex h h' → h' q = some ((q, 10003), cel (lcl G i) vs) → WW G E M h' (n + 1) (k + vs.length) (pc + 5) L (.ref q :: rest)) : WW G E M h n k pc L st := by
  refine ww_own (fun how => ?_)
  have nw : ∀ q : Nat, (∀ a x, h a = some x → a < q) → q ≠ 0 → Nw h q := fun q hq q0 => ⟨q0, fun a t x hx => ⟨hq a _ hx, Nat.lt_of_le_of_lt (how a t x hx) (hq a _ hx)⟩⟩
  intro hE H locs ls hR hS hl
  obtain ⟨one, hat⟩ := hG.lam (by omega) hi4
  obtain ⟨m0, k0, cf0, i0, p0, l0, a1, a2, a3, a4, a5, a6, a7, a8, a9⟩ := State.lambdaAt?_spec hat
  have hW := hE.w
  have hm0 : eM E = m0 := by
    have h1 : (eS E).methodNamed? (lsx i).1 = some m0 := by
      have := State.methodNamed?_setVm (s := g0 G) hW.alike (lsx i).1
      rw [a1] at this
      exact this
    rw [hy, hE.mn] at h1
    exact Option.some.inj h1
  subst hm0
  obtain ⟨k', hk', he⟩ := hW.alike.2.2 _ _ a2
  have hcap : (lsh i).captured ≠ [] := by
    have : i = 5 ∨ i = 6 := by omega
    rcases this with rfl | rfl <;> decide
  rcases a9 with ⟨a, cell, b1, b2, b3, -⟩ | ⟨b1, -, -⟩
  · exact absurd b3 hcap
  subst b1
  obtain ⟨bs, nt, nm, ds, site, c1, c2, c3, c4⟩ := lam_site a4
  obtain ⟨dd, dk, hdk, hdn, hmade, -, hO⟩ := hG.made (k := i) (by omega) hi4 hE.w
  obtain ⟨kK, tk, file, methk, ck, toy, tB, hkK, -, -, -, -, -, -, -, -, -, -, -, -, -, -, -, -, -, hty, hkind⟩ := lam_facts (by omega) hi4 hdk hdn hmade hO
  have hsl : ((kK.instanceTypes.toList.zip vs).map fun (t, v) => narrow t v) = vs := by rw [hty]; exact hv.2.1
  have h0 : H.size ≠ 0 := by have := hR.2.2; have := hE.g.2.2.2.2; omega
  intro T hT X
  subst hT
  obtain ⟨X', st1⟩ := X.lambdaMakes hE.x (g := F0 (eM E) pc ls st) rfl (by rw [hE.ml]; exact hl.1) (by rw [hE.b]; exact d) (vals := vs) (rest := rest) hk' (i0 := i0) (p0 := p0) (cK := lcl G i) (by rw [he, ← hpc]; exact a6) (by rw [he]; exact a3) (by rw [← hix]; exact c1) c2 (parseLong_of_parse c3) (by rw [c4]; exact hv.1) hst hkK
    (by rw [X.admits.platform]; show 2 * 0 + (st.map fun v => v.category).sum + 3072 ≤ mlo M; omega) hn (by rw [hsl]; exact hk) (fun j v hj => by
      rw [hsl] at hj
      obtain ⟨t, e1, e2⟩ := hv.2.2 j v (by simpa using hj)
      have e3 : kK.instanceTypes[j]? = some t := by rw [← hty] at e1; simpa using e1
      simp [State.fitsSlot, State.slotType?, hkK, hkind, e3, e2])
  rw [hsl] at X' st1
  have hR1 : RP G (hset h T.heap.size ((T.heap.size, 10003), cel (lcl G i) vs)) (T.pushCell { cls := lcl G i, slots := vs.toArray, vm := .none }).heap := hR.make rfl ⟨h0, Nat.le_refl _⟩ (by rw [size_pushCell]; omega) (State.heap_pushCell_size _ _) (fun q hq => State.heap_pushCell_of_lt _ _ hq)
  obtain ⟨t, d1, d2⟩ := kk T.heap.size _ (nw _ hR.fresh h0) (nw _ hR.fresh h0).ex hset_s hE _ locs ls hR1 hS hl _ rfl (by simpa using X')
  exact ⟨t, st1 t d1, d2⟩
end RWN
theorem lfit5 {v : Int} : LFit 5 [.long (lI v)] := ⟨rfl, rfl, fun i x hx => by
  match i, hx with
  | 0, hx => cases hx; exact ⟨_, rfl, rfl⟩
  | i + 1, hx => simp at hx⟩
theorem lfit6 {a b : Nat} {v : Int} : LFit 6 [.ref a, .ref b, .int (iI v)] := ⟨rfl, rfl, fun i x hx => by
  match i, hx with
  | 0, hx => cases hx; exact ⟨_, rfl, rfl⟩
  | 1, hx => cases hx; exact ⟨_, rfl, rfl⟩
  | 2, hx => cases hx; exact ⟨_, rfl, rfl⟩
  | i + 3, hx => simp at hx⟩
