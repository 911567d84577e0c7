/-! ===== what a weight answers ===== -/
set_option maxRecDepth 100000
def CWt (G : GT) (h : AH) (d w : Nat) (fn : EF) : Prop := ∀ t r o f : Int, sml t → sml r → sml o → sml f → ∃ (i : Nat) (vs : List Value) (M' : MT) (tg : Tg), 1 ≤ i ∧ i ≤ 6 ∧ h w = some (tg, cel (lcl G i) vs) ∧ CPl G M' h (vs ++ lxs t r o f) (fn t r o f) ∧ SIm i (vs ++ lxs t r o f).length (my M') (mcc M') (mnL M') (mret M') ∧ (∀ {p : Program} {e : Env}, p.tables.exec = Jvm.exec → LPath G p e i w vs t r o f) ∧ mfr M' ≤ 2 * d ∧ mnL M' + 11 + mlo M' ≤ 64 * d ∧ mmc M' = 0 ∧ mms M' = 0
section RWO
variable {G : GT} {E : ET} {M : MT} {h : AH} {n k pc : Nat} {L : List (Nat × Value)} {st rest : List Value}
theorem ww_of {d w : Nat} {fn : EF} {own : String} {index count : Nat} {t r o f : Int} (hc : CWt G h d w fn) (ht : sml t) (hr : sml r) (ho : sml o) (hf : sml f) (hso : SWo own index) (how : own = (my M).cls) (dd : decode (mcc M) pc = .ok (.invokeinterface index count, 5)) (hst : st = (lxs t r o f).reverse ++ .ref w :: rest) (hr1 : 2 * d + 2 ≤ mfr M) (hr2 : 64 * d + 24 ≤ mlo M) (hwt : (rest.map fun v => v.category).sum ≤ 8) (hn : n ≤ mmc M) (hk : k ≤ mms M)
    (kk : WW G E M h n k (pc + 5) L (.long (lI (fn t r o f)) :: rest)) : WW G E M h n k pc L st := by
  obtain ⟨i, vs, M', tg, h1, h2, h3, h4, h5, h6, h7, h8, h9, h10⟩ := hc t r o f ht hr ho hf
  refine cr5_l (cr_W h1 h2 h3 h4 h5 hso how h6 dd hst ⟨by omega, by omega⟩ hwt (by omega) (by omega)) (fun z h' hp => ?_)
  obtain ⟨e1, e2⟩ := hp
  subst e1 e2
  rw [h9, h10]
  exact kk
end RWO
theorem swo_1 : SWo "LinkElection" 281 := by unfold SWo; decide +kernel
theorem swo_8 : SWo "LinkElection$Election" 90 := by unfold SWo; decide +kernel
theorem clm_mm (z : Int) : max (-1000000) (min 1000000 z) = clm z := by unfold clm; split <;> (try split) <;> omega
theorem clm_id {z : Int} (h1 : -1000000 ≤ z) (h2 : z ≤ 1000000) : clm z = z := by unfold clm; split <;> (try split) <;> omega
theorem sgn_in (op : Int) : inI (sgn op) := by unfold sgn; split <;> exact ⟨by decide, by decide⟩
theorem sgn_op {op : Int} (h1 : 2 ≤ op) (h2 : op ≤ 5) : (op = 2 ∧ sgn op = 43) ∨ (op = 3 ∧ sgn op = 45) ∨ (op = 4 ∧ sgn op = 42) ∨ (op = 5 ∧ sgn op = 47) := by
  have : op = 2 ∨ op = 3 ∨ op = 4 ∨ op = 5 := by omega
  rcases this with rfl | rfl | rfl | rfl <;> simp [sgn]
