/-! ===== strings: hashes, frames ===== -/
set_option maxRecDepth 100000
theorem shash_s {l : List Int} {i : Nat} (h : i < l.length) : shash (l.take (i + 1)) = 31 * shash (l.take i) + lf l i := by
  have e : l.take (i + 1) = l.take i ++ [l[i]] := List.take_succ_eq_append_getElem h
  unfold shash
  rw [e, List.foldl_append]
  obtain ⟨_, e2⟩ := lf_at (l := l) (i := i) (by omega) (by omega)
  rw [e2]
  rfl
theorem StO.ex {G : GT} {h h' : AH} {o a : Nat} {l : List Int} (hS : StO G h o a l) (f : Ex h h') : StO G h' o a l := hS.fr (m := 0) (fun q _ _ hx _ => f q _ hx)
theorem StO.fo {G : GT} {h h' : AH} {o a o' k1 k2 : Nat} {l : List Int} (hS : StO G h o a l) (f : FO o' k1 k2 h h') (hne : o ≠ o' ∨ 10001 < k1 ∨ k2 < 10000) : StO G h' o a l := by
  obtain ⟨v, hs, hz, h1, h2, h3⟩ := hS
  exact ⟨v, hs, hz, f.at h1 (by omega), f.at h2 (by omega), h3⟩
theorem StO.kt {G : GT} {h h' : AH} {o a o' k b : Nat} {l : List Int} (hS : StO G h o a l) (f : KT b (o', k) h h') (hne : o ≠ o' ∨ (k ≠ 10000 ∧ k ≠ 10001)) : StO G h' o a l := by
  obtain ⟨v, hs, hz, h1, h2, h3⟩ := hS
  exact ⟨v, hs, hz, f.at h1 (by omega), f.at h2 (by omega), h3⟩
theorem StO.obj {G : GT} {h : AH} {o a : Nat} {l : List Int} (hS : StO G h o a l) : ∃ fs, h a = some ((o, 10000), ob 13 fs) := by
  obtain ⟨v, hs, hz, h1, h2, h3⟩ := hS
  exact ⟨_, h1⟩
theorem StO.wd {G : GT} {h : AH} {o a : Nat} {l : List Int} (hS : StO G h o a l) : Wd l := by
  obtain ⟨v, hs, hz, h1, h2, h3, -⟩ := hS
  exact h3
def hsI (l : List Int) : Int := (iI (shash l)).toInt
theorem hsI_i (l : List Int) : iI (hsI l) = iI (shash l) := (iI_of _).symm
theorem hsI_in (l : List Int) : inI (hsI l) := iI_inI _
theorem hsI_eq {l : List Int} {z : Int} (h : inI z) (e : iI z = iI (shash l)) : hsI l = z := by
  unfold hsI
  rw [← e, iI_toInt h]
