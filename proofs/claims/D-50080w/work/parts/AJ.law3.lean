/-! ===== changes, loads, appends, undoing: both sides ===== -/
set_option maxRecDepth 100000
theorem fi_mem {l : List Int} {k : Int} : fi l k ≠ -1 ↔ k ∈ l := ⟨fun h => Classical.byContradiction (fun z => h (fi_out z)), fun h z => fi_neg z h⟩
section LM
variable {G : GT} {h h1 : AH} {x m o : Nat} {D D' : Int → Int} {σ σ' : MS} {Bf : Int → Int} {bl eo : Int} {cur : HV} {hist : List HV} {c0 c z r t k n w : Int}
theorem j_c {K : AH → Prop} {X1 X2 : Prop} {C1 C2 C1' C2' M0 : Prop} (hcc : (c = 0 ∧ ∃ g, K g ∧ FO o 10800 10800 g h1) ∨ (c = 1 ∧ X1 ∧ CW G h1 x Bf bl eo cur hist) ∨ (c = 2 ∧ X2 ∧ CW G h1 x Bf bl eo cur hist)) (hm : ((C1' ∧ C2') ∧ M0) ∨ ((¬ C1') ∧ D' = D ∧ kp σ σ' ∧ t = 1) ∨ ((C1' ∧ ¬ C2') ∧ D' = D ∧ kp σ σ' ∧ t = 2)) (hR : MRc D cur c0) (hH : HsR hist σ c0) (hB : BR σ Bf bl eo) (hp : ∀ g, K g → C1 ∧ C2) (x1 : X1 → ¬ C1) (x2 : X2 → C1 ∧ ¬ C2) (e1 : C1 ↔ C1') (e2 : C1 → (C2 ↔ C2')) (main : ∀ g, c = 0 → K g → FO o 10800 10800 g h1 → M0 → JC G h1 x c0 c t z r D' σ') : JC G h1 x c0 c t z r D' σ' := by
  rcases hcc with ⟨hc, g, hpz, F⟩ | ⟨hc, hx, hC⟩ | ⟨hc, hx, hC⟩
  · have q := hp g hpz
    rcases hm with ⟨-, hm⟩ | ⟨hk, -⟩ | ⟨hk, -⟩
    · exact main g hc hpz F hm
    · exact absurd (e1.mp q.1) hk
    · exact absurd ((e2 q.1).mp q.2) hk.2
  · have q := x1 hx
    rcases hm with ⟨hk, -⟩ | ⟨hk, rfl, hkp, ht⟩ | ⟨hk, -⟩
    · exact absurd (e1.mpr hk.1) q
    · exact JC.same hC hR hH hB hkp (by omega) (Or.inl hc)
    · exact absurd (e1.mpr hk.1) q
  · have q := x2 hx
    rcases hm with ⟨hk, -⟩ | ⟨hk, -⟩ | ⟨hk, rfl, hkp, ht⟩
    · exact absurd ((e2 q.1).mpr hk.2) q.2
    · exact absurd (e1.mp q.1) hk
    · exact JC.same hC hR hH hB hkp (by omega) (Or.inr hc)
theorem j_c1 {K : AH → Prop} {X1 X2 : Prop} {C1 C1' M0 : Prop} (hcc : (c = 0 ∧ ∃ g, K g ∧ FO o 10800 10800 g h1) ∨ (c = 1 ∧ X1 ∧ CW G h1 x Bf bl eo cur hist) ∨ (c = 2 ∧ X2 ∧ CW G h1 x Bf bl eo cur hist)) (hm : (C1' ∧ M0) ∨ ((¬ C1') ∧ D' = D ∧ kp σ σ' ∧ t = 1)) (hR : MRc D cur c0) (hH : HsR hist σ c0) (hB : BR σ Bf bl eo) (hp : ∀ g, K g → C1) (x1 : X1 → ¬ C1) (x2 : X2 → False) (e1 : C1 ↔ C1') (main : ∀ g, c = 0 → K g → FO o 10800 10800 g h1 → M0 → JC G h1 x c0 c t z r D' σ') : JC G h1 x c0 c t z r D' σ' := by
  rcases hcc with ⟨hc, g, hpz, F⟩ | ⟨hc, hx, hC⟩ | ⟨hc, hx, hC⟩
  · have q := hp g hpz
    rcases hm with ⟨-, hm⟩ | ⟨hk, -⟩
    · exact main g hc hpz F hm
    · exact absurd (e1.mp q) hk
  · have q := x1 hx
    rcases hm with ⟨hk, -⟩ | ⟨hk, rfl, hkp, ht⟩
    · exact absurd (e1.mpr hk) q
    · exact JC.same hC hR hH hB hkp (by omega) (Or.inl hc)
  · exact (x2 hx).elim
theorem m_unload (hR : MRc D cur c0) (hH : HsR hist σ c0) (hB : BR σ Bf bl eo) (hr : RK cur k) (hf : fi cur.ld k ≠ -1) (hmov : MOV cur (vLd cur (cur.ld.eraseIdx (fi cur.ld k).toNat)) k z) (hC1 : CW G h1 x Bf bl eo (vLd cur (cur.ld.eraseIdx (fi cur.ld k).toNat)) (hpush hist cur)) (hD : D' = iup D (6 + 24 * k + 2) 0) (hch : Chg σ D σ') (ht : t = 0) (hr2 : r = xCh (xBd D cur.fn) (iup D (6 + 24 * k + 2) 0) cur.fn (-1)) (hc : c = 0) : JC G h1 x c0 c t z r D' σ' := by
  have h8 := hR.2.2.1.2.1
  have e1 := hR.1.1.2.1
  have hm := hR.1.unl hR.2.2.1 hr.1 hr.2 (fi_mem.mp hf)
  have ho := hR.2.2.1.unl (fi cur.ld k).toNat
  rw [hD]
  refine JC.chg hC1 hR ⟨hm, hR.2.1.ld hr.1 (by omega), ho, by rw [iup_n (by omega)]; have := hR.2.2.2; omega⟩ hH hB hch ht hc ?_ (hmov.in h8 hR.2.2.1.1)
  rw [hr2, ← xCh_off (D := iup D (6 + 24 * k + 2) 0) hr.1 (by rw [iup_s]; decide)]
  exact hmov.x hR.1 hR.2.2.1 hm ho rfl rfl rfl
theorem m_reload (hR : MRc D cur c0) (hH : HsR hist σ c0) (hB : BR σ Bf bl eo) (hr : RK cur k) (hf : fi cur.ld k = -1) (hmov : MOV cur (vLd cur (cur.ld ++ [k])) k z) (hC1 : CW G h1 x Bf bl eo (vLd cur (cur.ld ++ [k])) (hpush hist cur)) (hD : D' = iup (iup D 3 (D 3 + 1)) (6 + 24 * k + 2) (D 3 + 1)) (hch : Chg σ D σ') (ht : t = 0) (hr2 : r = xCh (xBd D cur.fn) (iup (iup D 3 (D 3 + 1)) (6 + 24 * k + 2) (D 3 + 1)) cur.fn k) (hc : c = 0) : JC G h1 x c0 c t z r D' σ' := by
  have h8 := hR.2.2.1.2.1
  have e1 := hR.1.1.2.1
  have hm := hR.1.rel hR.2.2.1 hr.1 hr.2 (fi_neg hf)
  have ho := hR.2.2.1.rel hr.1 hr.2 hf
  rw [hD]
  refine JC.chg hC1 hR ⟨hm, (hR.2.1.ck).ld hr.1 (by omega), ho, by rw [iup_n (by omega), iup_s]; have := hR.2.2.2; omega⟩ hH hB hch ht hc ?_ (hmov.in h8 hR.2.2.1.1)
  rw [hr2]
  exact hmov.x hR.1 hR.2.2.1 hm ho rfl rfl rfl
theorem m_offers (hR : MRc D cur c0) (hH : HsR hist σ c0) (hB : BR σ Bf bl eo) (hr : RK cur k ∧ RN cur n) (hw : -2 - (cur.nm.length : Int) < w ∧ w ≤ 9999) (hP : ∃ W Wi T O V S B, QE (vOf cur (o2 cur.of k n w)) W Wi T O V S B ∧ z = Wi n) (hC1 : CW G h1 x Bf bl eo (vOf cur (o2 cur.of k n w)) (hpush hist cur)) (hD : D' = iup D (6 + 24 * k + 12 + n) w) (hch : Chg σ D σ') (ht : t = 0) (hr2 : r = xBs (iup D (6 + 24 * k + 12 + n) w) cur.fn n) (hc : c = 0) : JC G h1 x c0 c t z r D' σ' := by
  have h8 := hR.2.2.1.2.1
  have h12 := hR.2.2.1.1
  have e1 := hR.1.1.2.1
  have e2 := hR.1.1.2.2.1
  have hm := hR.1.put (z := w) hR.2.2.1 hr.1.1 hr.1.2 hr.2.1 hr.2.2
  have ho := hR.2.2.1.put hr.1.1 hr.1.2 hr.2.1 hr.2.2 hw
  rw [hD]
  refine JC.chg hC1 hR ⟨hm, hR.2.1.of hr.1.1 (by omega) hr.2.1 (by omega) (by omega) hw.2, ho, by rw [iup_n (by omega)]; have := hR.2.2.2; omega⟩ hH hB hch ht hc ?_ (QE.wii ho hr.2.1 hr.2.2 hP)
  rw [hr2]
  obtain ⟨W, Wi, T, O, V, S, B, hq, rfl⟩ := hP
  exact (hm.q ho hq).wi n hr.2.1 hr.2.2
theorem m_trust (hR : MRc D cur c0) (hH : HsR hist σ c0) (hB : BR σ Bf bl eo) (hr : RK cur k) (hw : 0 ≤ w ∧ w ≤ 999) (hz : z = hTr cur.lb k) (hC1 : CW G h1 x Bf bl eo (vLb cur (lbT cur.lb k w)) (hpush hist cur)) (hD : D' = iup D (6 + 24 * k + 0) w) (hch : Chg σ D σ') (ht : t = 0) (hr2 : r = D (6 + 24 * k + 0)) (hc : c = 0) : JC G h1 x c0 c t z r D' σ' := by
  have h8 := hR.2.2.1.2.1
  have e1 := hR.1.1.2.1
  have hm := hR.1.tru (z := w) hR.2.2.1 hr.1 hr.2
  have ho : HVok (vLb cur (lbT cur.lb k w)) := by
    obtain ⟨bf, hd, a, r9, ys, hCd⟩ := hC1
    exact hCd.2.2.2.2.1
  have hv := (hR.1.2.1 k hr.1 hr.2).1
  have hb := hR.2.1.2.2.2.2.2.1 k hr.1 (by rw [e1]; exact hr.2)
  rw [hD]
  refine JC.chg hC1 hR ⟨hm, hR.2.1.tr hr.1 (by omega) hw.1 hw.2, ho, by rw [iup_n (by omega)]; have := hR.2.2.2; omega⟩ hH hB hch ht hc ?_ ?_
  · rw [hr2, hz, Int.add_zero, hv]
  · rw [hz, ← hv]; exact inI.mk (by omega) (by omega)
theorem m_keeps (hR : MRc D cur c0) (hH : HsR hist σ c0) (hB : BR σ Bf bl eo) (hr : RK cur k) (hmov : MOV cur (vLb cur (lbK cur.lb k w)) (-1) z) (hC1 : CW G h1 x Bf bl eo (vLb cur (lbK cur.lb k w)) (hpush hist cur)) (hD : D' = iup D (6 + 24 * k + 1) w) (hch : Chg σ D σ') (ht : t = 0) (hr2 : r = xCh (xBd D cur.fn) (iup D (6 + 24 * k + 1) w) cur.fn (-1)) (hc : c = 0) : JC G h1 x c0 c t z r D' σ' := by
  have h8 := hR.2.2.1.2.1
  have e1 := hR.1.1.2.1
  have hm := hR.1.kee (z := w) hR.2.2.1 hr.1 hr.2
  have ho : HVok (vLb cur (lbK cur.lb k w)) := by
    obtain ⟨bf, hd, a, r9, ys, hCd⟩ := hC1
    exact hCd.2.2.2.2.1
  rw [hD]
  refine JC.chg hC1 hR ⟨hm, hR.2.1.kp hr.1 (by omega), ho, by rw [iup_n (by omega)]; have := hR.2.2.2; omega⟩ hH hB hch ht hc ?_ (hmov.in h8 hR.2.2.1.1)
  rw [hr2]
  exact hmov.x hR.1 hR.2.2.1 hm ho List.length_set rfl rfl
theorem m_share (hR : MRc D cur c0) (hH : HsR hist σ c0) (hB : BR σ Bf bl eo) (hw : 0 ≤ w ∧ w ≤ 100) (hmov : MOV cur (vSh cur w) (-1) z) (hC1 : CW G h1 x Bf bl eo (vSh cur w) (hpush hist cur)) (hD : D' = iup D 0 w) (hch : Chg σ D σ') (ht : t = 0) (hr2 : r = xCh (xBd D cur.fn) (iup D 0 w) cur.fn (-1)) (hc : c = 0) : JC G h1 x c0 c t z r D' σ' := by
  have h8 := hR.2.2.1.2.1
  have hm := hR.1.shr (z := w) hR.2.2.1
  have ho := hR.2.2.1.shr hw
  rw [hD]
  refine JC.chg hC1 hR ⟨hm, hR.2.1.sh hw.1 hw.2, ho, by rw [iup_n (by omega)]; have := hR.2.2.2; omega⟩ hH hB hch ht hc ?_ (hmov.in h8 hR.2.2.1.1)
  rw [hr2]
  exact hmov.x hR.1 hR.2.2.1 hm ho rfl rfl rfl
theorem BR.txe (hB : BR σ Bf bl eo) (hn : n ≤ bl) : tx σ n = txB Bf n := by
  funext q
  unfold tx txB
  by_cases c : q < n
  · rw [if_pos c, if_pos c]; exact hB.2.2.2 q (by omega)
  · rw [if_neg c, if_neg c]
theorem m_load (ho0 : o ≠ 0) (hR : MRc D cur c0) (hc0 : 8 ≤ c0) (hH : HsR hist σ c0) (hB : BR σ Bf bl eo)
    (hcc : (c = 0 ∧ ∃ g, ((0 ≤ n ∧ n ≤ bl) ∧ ((∃ c o, pAll (txB Bf n) = .error (c, o) ∧ (-7 ≤ c ∧ c ≤ -2 ∧ 0 ≤ o ∧ o ≤ 800) ∧ z = c ∧ CW G g x Bf 0 o cur hist) ∨ (∃ s, pAll (txB Bf n) = .ok s ∧ PSc s ∧ z = s.lb.length ∧ CW G g x Bf 0 (-1) (vP s) (hpush hist cur))) ∧ FX x h g) ∧ FO o 10800 10800 g h1) ∨ (c = 1 ∧ (iaN = iaN ∧ ¬ (0 ≤ n ∧ n ≤ bl)) ∧ CW G h1 x Bf bl eo cur hist) ∨ (c = 2 ∧ (isN = iaN ∧ ¬ (0 ≤ n ∧ n ≤ bl)) ∧ CW G h1 x Bf bl eo cur hist))
    (hm : σ' 1 = σ 1 ∧ ((¬ (0 ≤ n ∧ n ≤ σ 2 0 0) ∧ D = D' ∧ σ' 2 = σ 2 ∧ σ' 0 0 0 = 1 ∧ σ' 7 = σ 7 ∧ σ' 10 = σ 10 ∧ σ' 11 = σ 11 ∧ r = 0) ∨ (0 ≤ n ∧ n ≤ σ 2 0 0 ∧ σ' 0 0 0 = 0 ∧ σ' 2 0 0 = 0 ∧ ((∃ c o, pAll (tx σ n) = .error (c, o) ∧ c ≠ 0 ∧ D = D' ∧ σ' 7 0 0 = o ∧ σ' 10 = σ 10 ∧ σ' 11 = σ 11 ∧ r = c) ∨ (∃ s, pAll (tx σ n) = .ok s ∧ PSok s ∧ σ' 7 0 0 = -1 ∧ Rem σ D σ' ∧ (∃ τ, MRep τ s ∧ rEq D' (τ 9 0)) ∧ r = s.lb.length))))) : JC G h1 x c0 c (σ' 0 0 0) z r D' σ' := by
  obtain ⟨s1, hm⟩ := hm
  have eb := hB.1
  rcases hcc with ⟨hc, g, ⟨hr, hcc, -⟩, F⟩ | ⟨hc, hx, hC⟩ | ⟨hc, hx, hC⟩
  · rcases hm with ⟨hk, -⟩ | ⟨-, -, ht, s2, hm⟩
    · exact absurd hr (by rw [eb] at hk; exact hk)
    · have et := hB.txe hr.2
      rw [et] at hm
      rcases hcc with ⟨cc, oo, hpa, hrg, hz, hC⟩ | ⟨s, hpa, hps, hz, hC⟩
      · rcases hm with ⟨cc2, oo2, hpa2, hne, rfl, s7, s10, s11, hr2⟩ | ⟨s2, hpa2, -⟩
        · rw [hpa] at hpa2
          cases hpa2
          refine ⟨by omega, Or.inl hc, fun _ => ⟨by omega, inI.mk (by omega) (by omega)⟩, _, _, _, _, _, hC.fr F ho0 (by omega), hR.w (by omega), (hH.of s10 s11).w (by omega), s2, by omega, s7, fun q hq => ?_⟩
          rw [s1]
          exact hB.2.2.2 q (by have := hB.2.1; omega)
        · rw [hpa] at hpa2; cases hpa2
      · rcases hm with ⟨cc2, oo2, hpa2, -⟩ | ⟨s3, hpa2, hok, s7, hrem, ⟨τ, hrep, heq⟩, hr2⟩
        · rw [hpa] at hpa2; cases hpa2
        · rw [hpa] at hpa2
          cases hpa2
          have h8 := hok.lbl
          have hvo : HVok (vP s) := by
            obtain ⟨bf, hd, a, r9, ys, hCd⟩ := hC
            exact hCd.2.2.2.2.1
          have hRn : MRc D' (vP s) (c0 + 1) := ⟨MR.lod hok hrep heq, DOK.load hok hrep heq, hvo, by rw [heq 3 (by decide) (by decide), hrep.1.2.2.2.1]; omega⟩
          refine ⟨by omega, Or.inl hc, fun _ => ⟨by omega, by rw [hr2]; exact inI.mk (by omega) (by omega)⟩, _, _, _, _, _, hC.fr F ho0 (by omega), hRn, (hH.push hR hrem).w (by omega), s2, by omega, s7, fun q hq => ?_⟩
          rw [s1]
          exact hB.2.2.2 q (by have := hB.2.1; omega)
  · rcases hm with ⟨hk, rfl, s2, ht, s7, s10, s11, hr2⟩ | ⟨k1, k2, -⟩
    · exact ⟨by omega, Or.inr (Or.inl hc), fun q => by omega, _, _, _, _, _, hC, hR.w (by omega), (hH.of s10 s11).w (by omega), hB.of s1 s2 s7⟩
    · exact absurd ⟨k1, by omega⟩ hx.2
  · exact absurd hx.1 (by decide)
theorem HsR.app (hB : BR σ Bf bl eo) {Bf' : Int → Int} {w0 w1 w2 w3 w4 : Int} (h1 : bl + 20 ≤ 800) (h7 : σ' 7 = σ 7) (h2 : σ' 2 0 0 = σ 2 0 0 + 20) (h3 : ∀ z : Int, z < σ 2 0 0 → σ' 1 0 z = σ 1 0 z) (h4 : ∀ q : Nat, q < 20 → σ' 1 0 (σ 2 0 0 + q) = wby (wsl w0 w1 w2 w3 w4 q) (q % 4)) (g1 : ∀ q : Int, q < bl → Bf' q = Bf q) (g2 : ∀ q : Nat, q < 20 → Bf' (bl + q) % 256 = wby (wsl w0 w1 w2 w3 w4 q) (q % 4)) : BR σ' Bf' (bl + 20) eo := by
  obtain ⟨b1, b2, b3, b4⟩ := hB
  refine ⟨by omega, by omega, by rw [h7]; exact b3, fun q hq => ?_⟩
  by_cases cc : q < bl
  · rw [h3 q (by omega), g1 q cc]; exact b4 q cc
  · have e : q = bl + ((q - bl).toNat : Nat) := by omega
    rw [e, g2 _ (by omega), ← b1]
    exact h4 _ (by omega)
end LM
