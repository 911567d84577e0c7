/-! ===== literals of the component; the hash field ===== -/
set_option maxRecDepth 100000
def litsC : List (String × Nat × List Int) := [("LinkElection", 11, kwTrust), ("LinkElection", 17, kwRank), ("LinkElection", 19, kwOffers), ("LinkElection", 21, kwFriends), ("LinkElection$House", 28, kwTrust), ("LinkElection$Parser", 243, kwLink), ("LinkElection$Parser", 212, kwName), ("LinkElection$Parser", 214, kwLibrary), ("LinkElection$Parser", 216, kwOffer), ("LinkElection$Parser", 217, kwPrefer), ("LinkElection$Parser", 219, kwShare), ("LinkElection$Parser", 221, kwWeight), ("LinkElection$Parser", 171, kwKeeps), ("LinkElection$Parser", 194, kwTo)]
/-- literals, constants and the weight's variables lie in the heap -/
def LitC (G : GT) (h : AH) : Prop := (∀ (c : String) (k : Nat) (w : List Int), (c, k, w) ∈ litsC → Lit G h c k w) ∧ KC G h ∧ ∀ k, 1 ≤ k → k ≤ 4 → h (lob G k) = some ((0, 13), cel (lcl G k) [])
theorem LitC.mv {G : GT} {h h' : AH} (hL : LitC G h) (f : ∀ a t x, h a = some (t, x) → t.1 = 0 → h' a = some (t, x)) : LitC G h' :=
  ⟨fun c k w hw => by obtain ⟨a, tx, h1, h2⟩ := hL.1 c k w hw; exact ⟨a, tx, h1, h2.fr (m := 0) f⟩, hL.2.1.mv f, fun k h1 h2 => f _ _ _ (hL.2.2 k h1 h2) rfl⟩
theorem LitC.ex {G : GT} {h h' : AH} (hL : LitC G h) (f : Ex h h') : LitC G h' := hL.mv (fun a _ _ hx _ => f a _ hx)
theorem LitC.kt {G : GT} {h h' : AH} {t : Tg} {b : Nat} (hL : LitC G h) (f : KT b t h h') (ht : t.1 ≠ 0) : LitC G h' := hL.mv (fun a u x hx hu => f a u x hx (Or.inl (fun e => ht (by rw [← e]; exact hu))))
theorem LitC.fo {G : GT} {h h' : AH} {o k1 k2 : Nat} (hL : LitC G h) (f : FO o k1 k2 h h') (ho : o ≠ 0) : LitC G h' := hL.mv (fun a u x hx hu => f a u x hx (fun e => ho (by rw [← e.1]; exact hu)))
/-- a string's hash may be set, if it is no constant -/
def FZ (o : Nat) (h h' : AH) : Prop := ∀ a t x, h a = some (t, x) → ¬ (o ≠ 0 ∧ t = (o, 10000)) → h' a = some (t, x)
theorem FZ.rf {o : Nat} {h : AH} : FZ o h h := fun _ _ _ x _ => x
theorem FZ.at {h h' : AH} {o o' k' a : Nat} {x : AE} (f : FZ o h h') (ha : h a = some ((o', k'), x)) (hne : o' ≠ o ∨ k' ≠ 10000 ∨ o = 0) : h' a = some ((o', k'), x) := f a _ x ha (fun z => by
  obtain ⟨z1, z2⟩ := z
  simp only [Prod.mk.injEq] at z2
  omega)
theorem FZ.fo {h h' : AH} {o : Nat} (f : FZ o h h') : FO o 10000 10000 h h' := fun a t x hx ht => f a t x hx (fun z => ht (by rw [z.2]; exact ⟨rfl, Nat.le_refl _, Nat.le_refl _⟩))
theorem FZ.ex {h h' : AH} (f : FZ 0 h h') : Ex h h' := fun a x hx => f a x.1 x.2 hx (fun z => z.1 rfl)
theorem LitC.fz {G : GT} {h h' : AH} {o : Nat} (hL : LitC G h) (f : FZ o h h') : LitC G h' := hL.mv (fun a u x hx hu => f a u x hx (fun z => z.1 (by have := z.2; rw [this] at hu; exact hu)))
/-- the weight of a variable's name -/
def vkw : Nat → List Int
  | 1 => kwTrust
  | 2 => kwRank
  | 3 => kwOffers
  | _ => kwFriends
def VRes (G : GT) (l : List Int) (r : Option Nat) : Prop := (∃ k, 1 ≤ k ∧ k ≤ 4 ∧ l = vkw k ∧ r = some (lob G k)) ∨ (l ≠ kwTrust ∧ l ≠ kwRank ∧ l ≠ kwOffers ∧ l ≠ kwFriends ∧ r = none)
