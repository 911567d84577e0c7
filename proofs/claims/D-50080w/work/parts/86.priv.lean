/-! ===== calls of private methods of a superclass ===== -/
set_option maxRecDepth 100000
def SQ (own : String) (index : Nat) (y : MethodName) (b : ByteArray) (L : Nat) (r : Option FieldType) (na : Nat) : Prop :=
  Cond.methodLink own index y ∈ lw_all ∧ Cond.instanceMethod y ∈ lw_all ∧ Cond.privateMethod y ∈ lw_tbl ∧ Cond.initialized y.cls ∈ lw_all ∧ Cond.code y b L r ∈ lw_all ∧ (∃ nm ds, Cond.sameMethod y.cls y.cls nm ds ∈ lw_all ∧ Cond.instanceMethod ⟨y.cls, nm, ds⟩ ∈ lw_all) ∧ MD y na
section RWQ
variable {G : GT} {E : ET} {M M' : MT} {h : AH} {n k pc : Nat} {L : List (Nat × Value)} {st rest as : List Value} {post : Option Value → AH → Prop}
theorem cr_Q {own : String} {index na b ci : Nat} {t : Tg} {fs : List Value} {q : vw_C} (hC : CT G M' h (.ref b :: as) post) (hs : SQ own index (my M') (mcc M') (mnL M') (mret M') na) (ho : own = (my M).cls) (d : decode (mcc M) pc = .ok (.invokevirtual index, 3)) (hb : h b = some (t, ob ci fs)) (hci : gcl[ci]? = some q) (hst : st = as.reverse ++ .ref b :: rest) (hna : as.length = na) (hroom : RF M M') (hw : (rest.map fun v => v.category).sum ≤ 8) (hn : n + mmc M' ≤ mmc M) (hk : k + mms M' ≤ mms M) : CR G E M h n k pc L st rest (mmc M') (mms M') post := by
  intro hE H locs ls hR hS hl
  subst ho; subst hst
  obtain ⟨w1, w2, w3, w4, w5, ⟨nm, ds, w6, w7⟩, hd1, hd2, hd3⟩ := hs
  have hp : (eS E).PrivateAt (my M') := Cond.privateMethod_at (args := #[]) (Cond.privateMethod_warm hE.w (hE.g.1 _ w3))
  obtain ⟨-, ⟨cellB, hcB, hoB, hclB⟩, -⟩ := pre_v (as := as) hE hR hb hci
  obtain ⟨c0, k0, e1, e2, e3⟩ : ∃ c k, (eS E).vm.findClass (my M').cls = some c ∧ (eS E).vm.classes[c]? = some k ∧ k.isInterface = false := by
    obtain ⟨mk, methM, hnamed, -, -, -⟩ := Cond.instanceMethod_spec (hE.ts _ w7)
    have hf := findClass_of_methodNamed hnamed
    obtain ⟨-, k, a2, a3⟩ := Cond.sameMethod_spec hf (State.methodFound?_of_named hnamed ⟨hd1, hd2⟩) (hE.ts _ w6)
    exact ⟨_, k, hf, a2, a3⟩
  have hsel := selects_self_of_private (args := eA E) e1 e2 e3 hp (hE.ts _ w2) ⟨hd1, hd2⟩
  have hK : Back (gl G) (mroom M) (eP E) (eE E) (eB E) (eS E) (eA E) (my M') 3 8 (PreOf (mroom M) (mmc M') (mms M') (PR G h (.ref b :: as))) (PostOf (QR G post) (mmc M') (mms M') (gA G)) :=
    back_of (bytes := mcc M') (maxL := mnL M') (ret := mret M') hC pre_blind rfl rfl hroom.1 hroom.2 (fun c hc a' U hW => pay_in hE.ts (lw_meth w5) c hc a' U hW) List.mem_cons_self (fun a' U hW => pay_in hE.ts (lw_meth w5) _ (List.mem_cons_of_mem _ w4) a' U hW)
  refine ⟨(.ref b :: as).toArray, fun T hT X => ?_⟩
  obtain ⟨v, vm₁, ⟨U', l2, c2, s2⟩, hW₁, X', ⟨g', mk, t', L', x1, x2, hq, y1, hL, y2, y3⟩, st⟩ := X.privateBack hE.x hE.own (hE.ts _ w1) (hE.ts _ w2) hsel hp (hE.ts _ w5) ⟨hd1, hd2⟩ hK (g := F0 (eM E) pc ls (as.reverse ++ .ref b :: rest)) rfl (by rw [hE.ml]; exact hl.1) (Steps.refl _) (a := b) (cell := cellB) (by rw [hT]; exact hcB) (fun q hq => by rw [hq] at hoB; cases hoB) (argsL := as) (rest := rest) (fun sig hsg => by
      rw [hsg] at hd3
      exact hna.trans (Option.some.inj hd3).symm) rfl (lv_room hw) (by rw [hE.b]; exact d) (fun vm₁ hW₁ => ⟨hn, hk, rfl, by show RP G h T.heap; rw [hT]; exact hR, State.WarmedH.trans (t := eS E) hE.w hW₁⟩)
  dsimp only [Pt.U, Pt.locs, Pt.cells, Pt.slots] at X' x1 x2 y1 y2 y3 st
  subst y1; subst y2; subst y3
  exact ⟨v, (T.setVm vm₁).calling g' mk (Value.ref b :: as).toArray, t', U', L', hT, X', hL, x1, x2, hq, fun tg hg => st.trans hg⟩
end RWQ
