/-! ===== a good load's data ===== -/
set_option maxRecDepth 100000
theorem DOK.load {D : Int → Int} {τ : MS} {s : PS} (hs : PSok s) (hR : MRep τ s) (he : rEq D (τ 9 0)) : DOK D s.fn := by
  have l8 := hs.lbl
  have l12 := hs.nml
  have e1 : D 1 = s.lb.length := (he 1 (by decide) (by decide)).trans hR.hl
  have e2 : D 2 = s.nm.length := (he 2 (by decide) (by decide)).trans hR.hn
  have e0 : D 0 = s.sh := (he 0 (by decide) (by decide)).trans hR.1.1
  have e5 : D 5 = s.cs.length := (he 5 (by decide) (by decide)).trans hR.ncs
  have hsh := hs.2.2.2.2.2.2.1
  have hcl := hs.2.2.2.2.2.2.2.1
  refine ⟨by omega, by omega, by omega, fun k k0 k1 => ?_, fun k i k0 k1 i0 i1 => ?_, fun k k0 k1 => ?_, ?_, fun k n k0 k1 n0 n1 => ?_⟩
  · rw [he _ (by omega) (by omega)]
    by_cases hk : k < s.lb.length
    · rw [(hR.pfl k0 hk).1]
      have := hs.pfx k0 hk
      omega
    · rw [hR.2.2.2.1 k (by omega) k1]; decide
  · rw [he _ (by omega) (by omega)] at i1
    by_cases hk : k < s.lb.length
    · obtain ⟨a, b⟩ := hR.pfl k0 hk
      have h7 := hs.pfx k0 hk
      rw [a] at i1
      have hi : i.toNat < (prf s.lb k).length := by omega
      have hg := List.getElem?_eq_getElem hi
      have hb := b i.toNat _ hg
      rw [show ((i.toNat : Nat) : Int) = i by omega] at hb
      rw [he _ (by omega) (by omega), hb, e1]
      have hk' : k.toNat < s.lb.length := by omega
      have q := List.getElem?_eq_getElem hk'
      have h4 := (hs.2.2.2.1 _ (List.mem_of_getElem? q)).2.2.2.2.2
      rw [← prf_get q] at h4
      exact h4 _ (List.mem_of_getElem? hg)
    · rw [hR.2.2.2.1 k (by omega) k1] at i1; omega
  · have hk' : k.toNat < s.lb.length := by omega
    have q := List.getElem?_eq_getElem hk'
    have h4 := hs.2.2.2.1 _ (List.mem_of_getElem? q)
    have h5 := (hR.2.2.1 k.toNat _ q).1.1
    rw [show ((k.toNat : Nat) : Int) = k by omega] at h5
    rw [he _ (by omega) (by omega), h5]
    exact ⟨h4.2.1, h4.2.2.1⟩
  · rcases hs.2.2.2.2.2.2.2.2.1 with ⟨-, a, b⟩ | ⟨-, d, hd⟩
    · exact Or.inl ⟨by rw [e5, a]; rfl, b⟩
    · refine Or.inr ⟨d, s.cs, hd, e5, by omega, fun n c hc => ?_⟩
      have hn := (List.getElem?_eq_some_iff.mp hc).1
      rw [he _ (by omega) (by omega)]
      exact hR.2.1 n c hc
  · rw [he (6 + 24 * k + 12 + n) (by omega) (by omega), hR.ofv k0 (by omega) n0 (by omega), e2]
    exact hs.2.2.2.2.1 k n
