/-! ===== the weight's lambdas: 1 .. 4 variables, 5 a literal, 6 an operation ===== -/
set_option maxRecDepth 100000
def i4D : MethodDescriptor := { parameters := [.int, .int, .int, .int], returnType := some .long }
def wIf : String := "LinkElection$Weight"
def lvS (nm : String) : Lambda.Shape := { iface := wIf, name := "of", sam := i4D, captured := [], kind := 6, implClass := "LinkElection", implName := nm, implDesc := i4D, implItf := false, inst := i4D }
def lsh : Nat → Lambda.Shape
  | 1 => lvS "lambda$variable$1"
  | 2 => lvS "lambda$variable$2"
  | 3 => lvS "lambda$variable$3"
  | 4 => lvS "lambda$variable$4"
  | 5 => { iface := wIf, name := "of", sam := i4D, captured := [.long], kind := 6, implClass := "LinkElection$Parser", implName := "lambda$factor$0", implDesc := { parameters := [.long, .int, .int, .int, .int], returnType := some .long }, implItf := false, inst := i4D }
  | _ => { iface := wIf, name := "of", sam := i4D, captured := [.object wIf, .object wIf, .int], kind := 6, implClass := "LinkElection", implName := "lambda$operation$0", implDesc := { parameters := [.object wIf, .object wIf, .int, .int, .int, .int, .int], returnType := some .long }, implItf := false, inst := i4D }
def lsx : Nat → MethodName × Nat × Nat
  | 1 => (yX1_variable, 136, 23)
  | 2 => (yX1_variable, 142, 26)
  | 3 => (yX1_variable, 148, 27)
  | 4 => (yX1_variable, 154, 28)
  | 5 => (yX4_factor, 93, 120)
  | _ => (yX1_operation, 3, 1)
def lat (G : GT) (k : Nat) : Option (ClassId × Option Addr) := (g0 G).lambdaAt? (lsx k).1 (lsx k).2.1 (lsx k).2.2 (lsh k)
def lcl (G : GT) (k : Nat) : ClassId := match lat G k with | some (c, _) => c | none => 0
def lob (G : GT) (k : Nat) : Nat := match lat G k with | some (_, some a) => a | _ => 0
theorem ls_in : ∀ k, 1 ≤ k → k ≤ 6 → Cond.lambdaSite (lsx k).1 (lsx k).2.1 (lsx k).2.2 (lsh k) ∈ flatC (Jvm.Cond.and given_1 narrow_1) := by
  intro k h1 h2
  have : k = 1 ∨ k = 2 ∨ k = 3 ∨ k = 4 ∨ k = 5 ∨ k = 6 := by omega
  rcases this with rfl | rfl | rfl | rfl | rfl | rfl <;> decide +kernel
theorem GOK.lam {G : GT} (hG : GOK G) {k : Nat} (h1 : 1 ≤ k) (h2 : k ≤ 6) : ∃ one, lat G k = some (lcl G k, one) := by
  obtain ⟨c, one, h⟩ := Cond.lambdaSite_spec (hG.flat _ (ls_in k h1 h2))
  refine ⟨one, ?_⟩
  have e : lat G k = some (c, one) := h
  unfold lcl
  rw [e]
def fvar : Nat → EF
  | 1 => fun t _ _ _ => t
  | 2 => fun _ r _ _ => r
  | 3 => fun _ _ o _ => o
  | _ => fun _ _ _ f => f
def cel (c : ClassId) (xs : List Value) : AE := .inr { cls := c, slots := xs.toArray, vm := .none }
def sgn : Int → Int
  | 2 => 43
  | 3 => 45
  | 4 => 42
  | _ => 47
/-- the weight at w computes fn; d: its depth -/
def WT (G : GT) (h : AH) : Nat → Nat → EF → Prop
  | 0, _, _ => False
  | d + 1, w, fn => (∃ k, 1 ≤ k ∧ k ≤ 4 ∧ w = lob G k ∧ h w = some ((0, 13), cel (lcl G k) []) ∧ fn = fvar k) ∨ (∃ v : Int, 0 ≤ v ∧ v ≤ 9999 ∧ h w = some ((w, 10003), cel (lcl G 5) [.long (lI v)]) ∧ fn = fun _ _ _ _ => v) ∨
    ∃ (op : Int) (l r : Nat) (f1 f2 : EF), 2 ≤ op ∧ op ≤ 5 ∧ h w = some ((w, 10003), cel (lcl G 6) [.ref l, .ref r, .int (iI (sgn op))]) ∧ WT G h d l f1 ∧ WT G h d r f2 ∧ fn = fun t r o f => opr op (f1 t r o f) (f2 t r o f)
theorem WT.mv {G : GT} {h h' : AH} (f : ∀ a t x, h a = some (t, x) → (t.1 = 0 ∨ t.2 = 10003) → h' a = some (t, x)) : ∀ {d w : Nat} {fn : EF}, WT G h d w fn → WT G h' d w fn := by
  intro d
  induction d with
  | zero => intro w fn h; exact h.elim
  | succ d ih =>
    intro w fn h
    rcases h with ⟨k, a, b, c, e, g⟩ | ⟨v, a, b, c, e⟩ | ⟨op, l, r, f1, f2, a, b, c, e1, e2, g⟩
    · exact Or.inl ⟨k, a, b, c, f _ _ _ e (Or.inl rfl), g⟩
    · exact Or.inr (Or.inl ⟨v, a, b, f _ _ _ c (Or.inr rfl), e⟩)
    · exact Or.inr (Or.inr ⟨op, l, r, f1, f2, a, b, f _ _ _ c (Or.inr rfl), ih e1, ih e2, g⟩)
theorem WT.up {G : GT} {h : AH} : ∀ {d w : Nat} {fn : EF}, WT G h d w fn → WT G h (d + 1) w fn := by
  intro d
  induction d with
  | zero => intro w fn h; exact h.elim
  | succ d ih =>
    intro w fn h
    rcases h with h | h | ⟨op, l, r, f1, f2, a, b, c, e1, e2, g⟩
    · exact Or.inl h
    · exact Or.inr (Or.inl h)
    · exact Or.inr (Or.inr ⟨op, l, r, f1, f2, a, b, c, ih e1, ih e2, g⟩)
theorem WT.le {G : GT} {h : AH} {d e w : Nat} {fn : EF} (hw : WT G h d w fn) (hl : d ≤ e) : WT G h e w fn := by
  induction hl with
  | refl => exact hw
  | step _ ih => exact ih.up
theorem WT.ex {G : GT} {h h' : AH} {d w : Nat} {fn : EF} (hw : WT G h d w fn) (f : Ex h h') : WT G h' d w fn := hw.mv (fun a _ _ hx _ => f a _ hx)
theorem WT.fo {G : GT} {h h' : AH} {d w o k1 k2 : Nat} {fn : EF} (hw : WT G h d w fn) (f : FO o k1 k2 h h') (ho : o ≠ 0) (hk : 10003 < k1 ∨ k2 < 10003) : WT G h' d w fn := hw.mv (fun a t x hx ht => f a t x hx (fun z => by obtain ⟨z1, z2, z3⟩ := z; omega))
theorem sml_fvar {k : Nat} {t r o f : Int} (h1 : sml t) (h2 : sml r) (h3 : sml o) (h4 : sml f) : sml (fvar k t r o f) := by
  unfold fvar
  split <;> assumption
theorem WT.bd {G : GT} {h : AH} : ∀ {d w : Nat} {fn : EF}, WT G h d w fn → ∀ t r o f : Int, sml t → sml r → sml o → sml f → sml (fn t r o f) := by
  intro d
  induction d with
  | zero => intro w fn h; exact h.elim
  | succ d ih =>
    intro w fn h t r o f h1 h2 h3 h4
    rcases h with ⟨k, a, b, c, e, rfl⟩ | ⟨v, a, b, c, rfl⟩ | ⟨op, l, r', f1, f2, a, b, c, e1, e2, rfl⟩
    · exact sml_fvar h1 h2 h3 h4
    · show -1000000 ≤ v ∧ v ≤ 1000000; omega
    · have b1 := ih e1 t r o f h1 h2 h3 h4
      exact opr_bd b1.1 b1.2
section RWL
variable {G : GT} {E : ET} {M : MT} {h : AH} {n k pc : Nat} {L : List (Nat × Value)} {st : List Value}
/-- a lambda that holds nothing -/
theorem ww_indy0 {i index : Nat} (hi1 : 1 ≤ i) (hi4 : i ≤ 4) (hG : GOK G) (hy : (lsx i).1 = my M) (hpc : (lsx i).2.1 = pc) (d : decode (mcc M) pc = .ok (.invokedynamic index, 5)) (hlo : (st.map fun v => v.category).sum + 3072 ≤ mlo M) (kk : WW G E M h n k (pc + 5) L (.ref (lob G i) :: st)) : WW G E M h n k pc L st := by
  intro hE H locs ls hR hS hl
  obtain ⟨one, hat⟩ := hG.lam hi1 (by omega)
  obtain ⟨m0, k0, cf0, i0, p0, l0, a1, a2, a3, a4, a5, a6, a7, a8, a9⟩ := State.lambdaAt?_spec hat
  have hW := hE.w
  have hm0 : eM E = m0 := by
    have h1 : (eS E).methodNamed? (lsx i).1 = some m0 := by
      have := State.methodNamed?_setVm (s := g0 G) hW.alike (lsx i).1
      rw [a1] at this
      exact this
    rw [hy, hE.mn] at h1
    exact Option.some.inj h1
  subst hm0
  obtain ⟨k', hk', he⟩ := hW.alike.2.2 _ _ a2
  have hcap : (lsh i).captured = [] := by
    have : i = 1 ∨ i = 2 ∨ i = 3 ∨ i = 4 := by omega
    rcases this with rfl | rfl | rfl | rfl <;> rfl
  rcases a9 with ⟨a, cell, b1, b2, -⟩ | ⟨-, -, b3⟩
  · have hl1 : lob G i = a := by unfold lob; rw [hat, b2]
    intro T hT X
    obtain ⟨t, c1, c2⟩ := kk hE H locs ls hR hS hl T hT X
    refine ⟨t, X.lambdaConstant hE.x (g := F0 (eM E) pc ls st) rfl (by rw [hE.ml]; exact hl.1) (by rw [hE.b]; exact d) hk' (i0 := i0) (p0 := p0) (a := a) (by rw [he, ← hpc, ← b1]; exact a6) (by rw [X.admits.platform]; show 2 * 0 + (st.map fun v => v.category).sum + 3072 ≤ mlo M; omega) ?_, c2⟩
    rw [← hl1]
    exact c1
  · exact absurd hcap b3
end RWL
