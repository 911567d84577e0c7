/-! ===== both sides' answers, call by call ===== -/
set_option maxRecDepth 100000
section LV
variable {D : Int → Int} {cur : HV} {c0 k n z : Int}
abbrev RK (cur : HV) (k : Int) : Prop := 0 ≤ k ∧ k < (cur.lb.length : Int)
abbrev RN (cur : HV) (n : Int) : Prop := 0 ≤ n ∧ n < (cur.nm.length : Int)
theorem v_offer (hR : MRc D cur c0) (hr : RK cur k ∧ RN cur n) (hP : z = cur.of k n) : z = D (6 + 24 * k + 12 + n) ∧ inI z := by
  rw [hP]
  exact ⟨(hR.1.2.2.1 k n hr.1.1 hr.1.2 hr.2.1 hr.2.2).symm, hR.2.2.1.ofi k n⟩
theorem v_vote (hR : MRc D cur c0) (hr : RK cur k ∧ RN cur n) (hP : ∃ W Wi T O V S B, QE cur W Wi T O V S B ∧ z = V k n) : z = dVt D k n ∧ inI z := by
  obtain ⟨W, Wi, T, O, V, S, B, hq, rfl⟩ := hP
  have g := (QE.rg hq hR.2.2.1).2.2.1 k n hr.1.1 hr.1.2 hr.2.1 hr.2.2
  have h8 := hR.2.2.1.2.1
  exact ⟨(hR.1.q hR.2.2.1 hq).vt k n hr.1.1 hr.1.2 hr.2.1 hr.2.2, inI.mk (by omega) (by omega)⟩
theorem v_binding (hR : MRc D cur c0) (hr : RK cur k ∧ RN cur n) (hP : ∃ W Wi T O V S B, QE cur W Wi T O V S B ∧ z = B k n) : z = xBd D cur.fn k n ∧ inI z := by
  obtain ⟨W, Wi, T, O, V, S, B, hq, rfl⟩ := hP
  have g := (QE.rg hq hR.2.2.1).2.2.2.1 k n hr.1.1 hr.1.2 hr.2.1 hr.2.2
  have h8 := hR.2.2.1.2.1
  exact ⟨(hR.1.q hR.2.2.1 hq).b k n hr.1.1 hr.1.2 hr.2.1 hr.2.2, inI.mk (by omega) (by omega)⟩
theorem v_support (hR : MRc D cur c0) (hr : RK cur k ∧ RN cur n) (hP : ∃ W Wi T O V S B, QE cur W Wi T O V S B ∧ z = if W k ≠ -1 ∧ O k n ≠ -1 then S k n else -1) : z = (if dCd D k n = true then xSp D cur.fn k n else -1) ∧ inI z := by
  obtain ⟨W, Wi, T, O, V, S, B, hq, rfl⟩ := hP
  have g := (QE.rg hq hR.2.2.1).1 k n hr.1.1 hr.1.2 hr.2.1 hr.2.2
  refine ⟨(hR.1.q hR.2.2.1 hq).sup hr.1.1 hr.1.2 hr.2.1 hr.2.2, ?_⟩
  split
  · exact inI.mk (by omega) (by omega)
  · exact inI.mk (by decide) (by decide)
theorem v_winner (hR : MRc D cur c0) (hr : RN cur n) (hP : ∃ W Wi T O V S B, QE cur W Wi T O V S B ∧ z = Wi n) : z = xBs D cur.fn n ∧ inI z := by
  obtain ⟨W, Wi, T, O, V, S, B, hq, rfl⟩ := hP
  have g := (QE.rg hq hR.2.2.1).2.1 n hr.1 hr.2
  have h8 := hR.2.2.1.2.1
  exact ⟨(hR.1.q hR.2.2.1 hq).wi n hr.1 hr.2, inI.mk (by omega) (by omega)⟩
theorem v_candidates (hR : MRc D cur c0) (hr : RN cur n) (hP : ∃ W Wi T O V S B, QE cur W Wi T O V S B ∧ z = smI (cur.lb.length : Int) (fun k => bI (W k ≠ -1 ∧ O k n ≠ -1))) : z = smI (D 1) (fun k => bI (D (6 + 24 * k + 2) > 0 ∧ D (6 + 24 * k + 12 + n) ≠ -1)) ∧ inI z := by
  obtain ⟨W, Wi, T, O, V, S, B, hq, rfl⟩ := hP
  have h8 := hR.2.2.1.2.1
  have g := smI_b1 (z := cur.lb.length) (f := fun k => W k ≠ -1 ∧ O k n ≠ -1)
  exact ⟨(hR.1.q hR.2.2.1 hq).can hR.1 hr.1 hr.2, inI.mk (by omega) (by omega)⟩
theorem v_margin (hR : MRc D cur c0) (hr : RN cur n) (hP : ∃ W Wi T O V S B, QE cur W Wi T O V S B ∧ z = if Wi n = -1 then -1 else S (Wi n) n - hMx (fun k => hCd W O k n) (fun c => S c n) (Wi n) cur.lb.length) : z = (if xBs D cur.fn n = -1 then -1 else xSp D cur.fn (xBs D cur.fn n) n - xMx D cur.fn n (xBs D cur.fn n) (D 1).toNat) ∧ inI z := by
  obtain ⟨W, Wi, T, O, V, S, B, hq, rfl⟩ := hP
  have g := QE.rg hq hR.2.2.1
  refine ⟨(hR.1.q hR.2.2.1 hq).mar hR.1 g hr.1 hr.2, ?_⟩
  have g1 := g.2.1 n hr.1 hr.2
  split
  · exact inI.mk (by decide) (by decide)
  · have g2 := g.1 (Wi n) n (by omega) (by omega) hr.1 hr.2
    have g3 := hMx_bd (cd := fun k => hCd W O k n) (sp := fun c => S c n) (b := Wi n) (z := cur.lb.length) (C := 79992) (fun c a b => g.1 c n a b hr.1 hr.2) (by decide)
    exact inI.mk (by omega) (by omega)
theorem v_minority (hR : MRc D cur c0) (hr : RN cur n) (hP : ∃ W Wi T O V S B, QE cur W Wi T O V S B ∧ z = smI (cur.lb.length : Int) (fun k => bI (W k ≠ -1 ∧ (B k n = Wi n ↔ (0 : Int) = 1)))) : z = smI (D 1) (fun k => bI (D (6 + 24 * k + 2) > 0 ∧ xBd D cur.fn k n ≠ xBs D cur.fn n)) ∧ inI z := by
  obtain ⟨W, Wi, T, O, V, S, B, hq, rfl⟩ := hP
  have h8 := hR.2.2.1.2.1
  have g := smI_b1 (z := cur.lb.length) (f := fun k => W k ≠ -1 ∧ (B k n = Wi n ↔ (0 : Int) = 1))
  exact ⟨(hR.1.q hR.2.2.1 hq).mno hR.1 hr.1 hr.2, inI.mk (by omega) (by omega)⟩
theorem v_users (hR : MRc D cur c0) (hr : RK cur k ∧ RN cur n) (hP : ∃ W Wi T O V S B, QE cur W Wi T O V S B ∧ z = smI (cur.lb.length : Int) (fun k9 => bI (W k9 ≠ -1 ∧ (B k9 n = k ↔ (1 : Int) = 1)))) : z = smI (D 1) (fun q => bI (D (6 + 24 * q + 2) > 0 ∧ xBd D cur.fn q n = k)) ∧ inI z := by
  obtain ⟨W, Wi, T, O, V, S, B, hq, rfl⟩ := hP
  have h8 := hR.2.2.1.2.1
  have g := smI_b1 (z := cur.lb.length) (f := fun k9 => W k9 ≠ -1 ∧ (B k9 n = k ↔ (1 : Int) = 1))
  exact ⟨(hR.1.q hR.2.2.1 hq).us hR.1 hr.2.1 hr.2.2, inI.mk (by omega) (by omega)⟩
theorem v_call (hR : MRc D cur c0) (hr : RK cur k ∧ RN cur n) (hP : ∃ W Wi T O V S B, QE cur W Wi T O V S B ∧ z = (flw 97 B O (fun _ _ => false) k n 0).1) : z = (xCl D cur.fn k n).1 ∧ inI z := by
  obtain ⟨W, Wi, T, O, V, S, B, hq, rfl⟩ := hP
  refine ⟨by rw [(hR.1.q hR.2.2.1 hq).cl (QE.rg hq hR.2.2.1) hr.1.1 hr.1.2 hr.2.1 hr.2.2], ?_⟩
  rcases flw_rg (bd := B) (of := O) 97 (fun _ _ => false) k n 0 with q | q | ⟨a, b, q⟩ <;> rw [q]
  · exact inI.mk (by decide) (by decide)
  · exact inI.mk (by decide) (by decide)
  · exact hq.2.2.2.1 a b
theorem flw_st {bd of : Int → Int → Int} : ∀ (f : Nat) (V : Int → Int → Bool) (k n s : Int), s ≤ (flw f bd of V k n s).2 ∧ (flw f bd of V k n s).2 ≤ s + f := by
  intro f
  induction f with
  | zero => intro V k n s; exact ⟨Int.le_refl _, by show s ≤ s + ((0 : Nat) : Int); omega⟩
  | succ f ih =>
    intro V k n s
    unfold flw
    split
    · exact ⟨Int.le_refl _, by show s ≤ s + ((f + 1 : Nat) : Int); omega⟩
    · split
      · exact ⟨Int.le_refl _, by show s ≤ s + ((f + 1 : Nat) : Int); omega⟩
      · split
        · exact ⟨by show s ≤ s + 1; omega, by show s + 1 ≤ s + ((f + 1 : Nat) : Int); omega⟩
        · have := ih (fmk V k n) (bd k n) (-2 - of (bd k n) n) (s + 1)
          omega
theorem v_steps (hR : MRc D cur c0) (hr : RK cur k ∧ RN cur n) (hP : ∃ W Wi T O V S B, QE cur W Wi T O V S B ∧ z = (flw 97 B O (fun _ _ => false) k n 0).2) : z = (xCl D cur.fn k n).2 ∧ inI z := by
  obtain ⟨W, Wi, T, O, V, S, B, hq, rfl⟩ := hP
  refine ⟨by rw [(hR.1.q hR.2.2.1 hq).cl (QE.rg hq hR.2.2.1) hr.1.1 hr.1.2 hr.2.1 hr.2.2], ?_⟩
  have := flw_st (bd := B) (of := O) 97 (fun _ _ => false) k n 0
  exact inI.mk (by omega) (by omega)
theorem v_library {w : Int} (hR : MRc D cur c0) (hd : ∀ z, inI (D z)) (hr : RK cur k) (hw : 0 ≤ w ∧ w ≤ 5) (hP : z = lbv cur k w) : z = dTo D cur.fn k w ∧ inI z := by
  have e := hR.1.to hR.2.2.1 hr.1 hr.2 hw.1 hw.2
  rw [hP, e]
  exact ⟨rfl, dTo_in hd hR.2.1.1 hR.2.1.2.1⟩
end LV
/-- a question's two answers are one -/
theorem j_q {C C' P : Prop} {c z t r rv : Int} (hcc : (c = 0 ∧ C ∧ P) ∨ (c = 1 ∧ ¬ C)) (hm : (C' ∧ t = 0 ∧ r = rv) ∨ (¬ C' ∧ t = 1)) (e : C ↔ C') (v : C → P → z = rv ∧ inI z) : t = c ∧ (c = 0 ∨ c = 1 ∨ c = 2) ∧ (c = 0 → z = r ∧ inI r) := by
  rcases hcc with ⟨h1, h2, h3⟩ | ⟨h1, h2⟩ <;> rcases hm with ⟨g1, g2, g3⟩ | ⟨g1, g2⟩
  · have := v h2 h3
    exact ⟨by omega, Or.inl h1, fun _ => ⟨by rw [g3]; exact this.1, by rw [g3, ← this.1]; exact this.2⟩⟩
  · exact absurd (e.mp h2) g1
  · exact absurd (e.mpr g1) h2
  · exact ⟨by omega, Or.inr (Or.inl h1), fun q => by omega⟩
/-- what any helper leaves -/
theorem HPo.g {h h1 : AH} {x m o : Nat} {G : GT} {A : Nat → Nat} {Bg : Nat → Int → Nat} {D f0 : Int → Int} {σ : MS} {Bf : Int → Int} {bl eo : Int} {cur : HV} {hist : List HV} {p : Int → AH → Prop} {XP : String → Prop} {N1 N2 : String} {c : Int} (hC : CW G h x Bf bl eo cur hist) (hM : MW G h m A Bg D σ) (hL : LitM G h) (ho0 : o ≠ 0) (ho : h o = some ((o, 10800), aJ G 1 f0)) (hp : HPo h o G f0 p (XJ h XP) N1 N2 c h1) (hK : ∀ z g, p z g → FX x h g) :
    MW G h1 m A Bg D σ ∧ LitM G h1 ∧ ∃ f, h1 o = some ((o, 10800), aJ G 1 f) ∧ ((c = 0 ∧ ∃ g, p (f 0) g ∧ FO o 10800 10800 g h1) ∨ (c = 1 ∧ XP N1 ∧ CW G h1 x Bf bl eo cur hist) ∨ (c = 2 ∧ XP N2 ∧ CW G h1 x Bf bl eo cur hist)) := by
  obtain ⟨bf, hd, a, r, ys, hCd⟩ := id hC
  have hx0 := hCd.1.1
  rcases hp with ⟨hc, z, g, h2, h5, h6⟩ | ⟨hc, q, h2, h4⟩ | ⟨hc, q, h2, h4⟩
  · have F := hK z g h2
    exact ⟨(hM.fo F (by omega)).fo h6.fo (by omega), (hL.fo F hx0).fo h6.fo ho0, _, h5, Or.inl ⟨hc, g, by rw [iup_s]; exact h2, h6.fo⟩⟩
  · exact ⟨hM.fo (h4.fo (o := x) (k1 := 10570) (k2 := 10575)) (by omega), hL.fo (h4.fo (o := x) (k1 := 10570) (k2 := 10575)) hx0, _, h4 _ _ ho, Or.inr (Or.inl ⟨hc, h2, hC.ex h4⟩)⟩
  · exact ⟨hM.fo (h4.fo (o := x) (k1 := 10570) (k2 := 10575)) (by omega), hL.fo (h4.fo (o := x) (k1 := 10570) (k2 := 10575)) hx0, _, h4 _ _ ho, Or.inr (Or.inr ⟨hc, h2, hC.ex h4⟩)⟩
theorem LI.fin {G : GT} {h1 h2 : AH} {x m o : Nat} {A : Nat → Nat} {Bg : Nat → Int → Nat} {D' f : Int → Int} {σ' : MS} {Bf : Int → Int} {bl eo : Int} {cur : HV} {hist : List HV} {c : Int} (hC1 : CW G h1 x Bf bl eo cur hist) (hL1 : LitM G h1) (ho0 : o ≠ 0) (ho1 : h1 o = some ((o, 10800), aJ G 1 f)) (hM2 : MWF G h1 h2 m A Bg D' σ') (hR : MRc D' cur c) (hH : HsR hist σ' c) (hB : BR σ' Bf bl eo) : LI G h2 x m o c :=
  ⟨A, Bg, f, D', σ', Bf, bl, eo, cur, hist, hC1.fr hM2.2.fo hM2.1.1 (by omega), hM2.1, hL1.fr hM2, ⟨ho0, hM2.2.fo.at ho1 (by omega)⟩, hR, hH, hB⟩
/-- behind a change: what both hold -/
def JC (G : GT) (h1 : AH) (x : Nat) (c0 c t : Int) (z r : Int) (D' : Int → Int) (σ' : MS) : Prop := t = c ∧ (c = 0 ∨ c = 1 ∨ c = 2) ∧ (c = 0 → z = r ∧ inI r) ∧ ∃ Bf bl eo cur hist, CW G h1 x Bf bl eo cur hist ∧ MRc D' cur (c0 + 1) ∧ HsR hist σ' (c0 + 1) ∧ BR σ' Bf bl eo
section LC
variable {G : GT} {h h1 : AH} {x m o : Nat} {D : Int → Int} {σ σ' : MS} {Bf : Int → Int} {bl eo : Int} {cur : HV} {hist : List HV} {c0 c z r : Int}
theorem JC.same {t : Int} (hC1 : CW G h1 x Bf bl eo cur hist) (hR : MRc D cur c0) (hH : HsR hist σ c0) (hB : BR σ Bf bl eo) (hk : kp σ σ') (ht : t = c) (hc : c = 1 ∨ c = 2) : JC G h1 x c0 c t z r D σ' :=
  ⟨ht, Or.inr hc, fun q => by omega, _, _, _, _, _, hC1, hR.w (by omega), (hH.of hk.2.2.2.1 hk.2.2.2.2).w (by omega), hB.of hk.1 hk.2.1 hk.2.2.1⟩
theorem JC.chg {t : Int} {D' : Int → Int} {v' : HV} (hC1 : CW G h1 x Bf bl eo v' (hpush hist cur)) (hR : MRc D cur c0) (hR' : MRc D' v' (c0 + 1)) (hH : HsR hist σ c0) (hB : BR σ Bf bl eo) (hk : Chg σ D σ') (ht : t = 0) (hc : c = 0) (hz : z = r) (hi : inI z) : JC G h1 x c0 c t z r D' σ' :=
  ⟨by omega, Or.inl hc, fun _ => ⟨hz, by rw [← hz]; exact hi⟩, _, _, _, _, _, hC1, hR', (hH.push hR hk.1).w (by omega), hB.of hk.2.1 hk.2.2.1 hk.2.2.2⟩
theorem xCh_bd {w : Int → Int → Int} {fn : EF} {b : Int} (h1 : 0 ≤ D 1 ∧ D 1 ≤ 8) (h2 : 0 ≤ D 2 ∧ D 2 ≤ 12) : inI (xCh w D fn b) := by
  have g := smI_bd (z := D 1) (c := 12) (f := fun k => smI (D 2) (fun n => bI (k ≠ b ∧ D (6 + 24 * k + 2) > 0 ∧ w k n ≠ xBd D fn k n))) h1.1 (fun k _ _ => by
    have := smI_bd (z := D 2) (c := 1) (f := fun n => bI (k ≠ b ∧ D (6 + 24 * k + 2) > 0 ∧ w k n ≠ xBd D fn k n)) h2.1 (fun i _ _ => by unfold bI; split <;> omega)
    omega)
  unfold xCh
  exact inI.mk (by omega) (by omega)
theorem MOV.in {v v' : HV} {b : Int} (hm : MOV v v' b z) (h8 : v.lb.length ≤ 8) (h12 : v.nm.length ≤ 12) : inI z := by
  obtain ⟨W, Wi, T, O, V, S, B, hq, W', Wi', T', O', V', S', B', hq', rfl⟩ := hm
  have g := smI_bd (z := (v.lb.length : Int)) (c := 12) (f := fun k => smI (v.nm.length : Int) (fun n => bI (k ≠ b ∧ W' k ≠ -1 ∧ B' k n ≠ B k n))) (by omega) (fun k _ _ => by
    have := smI_bd (z := (v.nm.length : Int)) (c := 1) (f := fun n => bI (k ≠ b ∧ W' k ≠ -1 ∧ B' k n ≠ B k n)) (by omega) (fun i _ _ => by unfold bI; split <;> omega)
    omega)
  exact inI.mk (by omega) (by omega)
theorem QE.wii {v : HV} {n : Int} (h8 : HVok v) (n0 : 0 ≤ n) (n1 : n < v.nm.length) (hP : ∃ W Wi T O V S B, QE v W Wi T O V S B ∧ z = Wi n) : inI z := by
  obtain ⟨W, Wi, T, O, V, S, B, hq, rfl⟩ := hP
  have g := (QE.rg hq h8).2.1 n n0 n1
  have := h8.2.1
  exact inI.mk (by omega) (by omega)
end LC
