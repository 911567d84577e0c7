/-! ===== new arrays ===== -/
set_option maxRecDepth 100000
section NEWA
variable {G : GT} {E : ET} {M : MT} {h : AH} {n k pc : Nat} {L : List (Nat × Value)} {st : List Value}
theorem iI_pos {z : Int} {N : Nat} (hz : z = N) (hN : N < 2147483648) : ¬ iI z < 0 ∧ (iI z).toNatClampNeg = N := by
  have hi : inI z := ⟨by omega, by omega⟩
  refine ⟨?_, by rw [iI_clamp hi]; omega⟩
  rw [iI_0, iI_lt hi ⟨by decide, by decide⟩]
  omega
theorem ww_newA {z : Int} {N j : Nat} {atype : ArrayType} (tg : Nat → Tg) (hz : z = N) (hN : N < 100000000) (harr : Cond.arrayClass (newarray.typeOf atype) ∈ lw_all) (hty : (gtys G)[j]? = some (gC G j, newarray.typeOf atype)) (hra : ∀ U : State, va_RA U (gC G j) (newarray.typeOf atype) → U.vm.findClass ("[" ++ (newarray.typeOf atype).toString) = some (gC G j)) (hdv : defaultValue (newarray.typeOf atype) = .int 0) (hby : componentBytes (newarray.typeOf atype) ≤ 4) (d : decode (mcc M) pc = .ok (.newarray atype, 2)) (htg : ∀ q : Nat, (∀ a x, h a = some x → a < q) → q ≠ 0 → (tg q).1 ≠ 0 ∧ (tg q).1 ≤ q) (hn : n + 1 ≤ mmc M) (hk : k + N ≤ mms M)
    (kk : ∀ q : Nat, (∀ a x, h a = some x → a < q) → q ≠ 0 → WW G E M (hset h q (tg q, aA G j N (fun _ => 0))) (n + 1) (k + N) (pc + 2) L (.ref q :: st)) : WW G E M h n k pc L (.int (iI z) :: st) := by
  intro hE H locs ls hR hS hl
  have h0 : H.size ≠ 0 := by have := hR.2.2; have := hE.g.2.2.2.2; omega
  have hp := iI_pos hz (by omega)
  refine va_newaK hE.x hE.b (hE.ts _ harr) rfl d rfl hp.1 hp.2 (Nat.le_trans (Nat.mul_le_mul_left N hby) (by omega)) hn hk rfl fun H1 cA e1 z1 o1 hAr hNm => ?_
  have hc : cA = gC G j := Option.some.inj (hNm.symm.trans (hra _ (hE.K.2 j _ hty).2))
  subst hc
  exact kk H.size hR.fresh h0 hE H1 locs ls (hR.make rfl (htg _ hR.fresh h0) (by omega) (by show H1[H.size]? = some (vp_cell _ _); rw [e1, hdv]; rfl) o1) hS hl
theorem ww_newJ {z : Int} {N : Nat} (tg : Nat → Tg) (hz : z = N) (hN : N < 50000000) (harr : Cond.arrayClass .long ∈ lw_all) (d : decode (mcc M) pc = .ok (.newarray .long, 2)) (htg : ∀ q : Nat, (∀ a x, h a = some x → a < q) → q ≠ 0 → (tg q).1 ≠ 0 ∧ (tg q).1 ≤ q) (hn : n + 1 ≤ mmc M) (hk : k + N ≤ mms M)
    (kk : ∀ q : Nat, (∀ a x, h a = some x → a < q) → q ≠ 0 → WW G E M (hset h q (tg q, aJ G N (fun _ => 0))) (n + 1) (k + N) (pc + 2) L (.ref q :: st)) : WW G E M h n k pc L (.int (iI z) :: st) := by
  intro hE H locs ls hR hS hl
  have h0 : H.size ≠ 0 := by have := hR.2.2; have := hE.g.2.2.2.2; omega
  have hp := iI_pos hz (by omega)
  refine va_newaK (atype := .long) hE.x hE.b (hE.ts _ harr) rfl d rfl hp.1 hp.2 (by show N * 8 ≤ _; omega) hn hk rfl fun H1 cA e1 z1 o1 hAr hNm => ?_
  have hc : cA = gC G 3 := Option.some.inj (hNm.symm.trans (hE.K.2 3 _ rfl).2)
  subst hc
  exact kk H.size hR.fresh h0 hE H1 locs ls (hR.make rfl (htg _ hR.fresh h0) (by omega) (by show H1[H.size]? = some (vp_cell _ _); rw [e1]; rfl) o1) hS hl
theorem ww_newR {own C : String} {z : Int} {index N j : Nat} (tg : Nat → Tg) (hz : z = N) (hN : N < 100000000) (hcl : Cond.classLink own index C ∈ lw_all) (hov : Cond.arrayOver (.object C) ∈ lw_tbl) (hty : (gtys G)[j]? = some (gC G j, .object C)) (ho : own = (my M).cls) (d : decode (mcc M) pc = .ok (.anewarray index, 3)) (htg : ∀ q : Nat, (∀ a x, h a = some x → a < q) → q ≠ 0 → (tg q).1 ≠ 0 ∧ (tg q).1 ≤ q) (hn : n + 1 ≤ mmc M) (hk : k + N ≤ mms M)
    (kk : ∀ q : Nat, (∀ a x, h a = some x → a < q) → q ≠ 0 → WW G E M (hset h q (tg q, aR G j N (fun _ => none))) (n + 1) (k + N) (pc + 3) L (.ref q :: st)) : WW G E M h n k pc L (.int (iI z) :: st) := by
  intro hE H locs ls hR hS hl
  subst ho
  have h0 : H.size ≠ 0 := by have := hR.2.2; have := hE.g.2.2.2.2; omega
  have hp := iI_pos hz (by omega)
  refine W.anew hE.x hE.b hE.own (hE.ts _ hcl) (va_AO.use (va_AO.moved hE.w.alike (va_AO.of (hE.g.1 _ hov)))) rfl d rfl hp.1 (by rw [hp.2]; omega) hn (by rw [hp.2]; exact hk) fun cA kA comp f1 f2 f3 f4 => ?_
  rw [hp.2]
  obtain ⟨_, _, _, _, _, hra⟩ := (hE.K.2 j _ hty).2
  have hc : cA = gC G j := Option.some.inj (f1.symm.trans hra)
  subst hc
  refine kk H.size hR.fresh h0 hE _ locs ls (hR.make rfl (htg _ hR.fresh h0) (by simp) ?_ (fun q hq => by rw [Array.getElem?_push, if_neg (Nat.ne_of_lt hq)])) hS hl
  show (H.push _)[H.size]? = some (vp_cell _ _)
  rw [Array.getElem?_push_size, vp_cell_q]
  exact congrArg some (arrV_new _ _ _)
theorem ao_moved {t : FieldType} {A A' : Array Value} {u U : State} (hal : u.vm.Alike U.vm) (h : (Cond.arrayOver (.array t)).before A u = true) : (Cond.arrayOver (.array t)).before A' U = true := by
  obtain ⟨comp, c, k, hcomp, hidx, hk, hkind, hname⟩ := arrayOverA_spec h
  obtain ⟨k', hk', hek'⟩ := hal.2.2 _ _ hk
  have hkind' : k'.kind = .array comp (.array t) := by rw [hek']; exact hkind
  have hidx' : (U.vm.classes.findIdx? fun x => match x.kind with | .array component _ => component == comp | _ => false) = some c := by
    rw [hal.findIdx?_eq _ (fun _ => rfl)]; exact hidx
  have hname' : U.vm.findClass ("[" ++ (FieldType.array t).toString) = some c := by rw [hal.findClass]; exact hname
  have hcomp' : U.vm.findClass (FieldType.array t).toString = some comp := by rw [hal.findClass]; exact hcomp
  unfold Cond.before Cond.holds
  simp only [Cond.value, hcomp', Option.bind_some, beq_iff_eq]
  rw [Option.bind_eq_some_iff]
  refine ⟨c, hidx', ?_⟩
  simp [hk', hkind', hname']
theorem ww_newRA {own : String} {z : Int} {index N j : Nat} {t : FieldType} (tg : Nat → Tg) (hz : z = N) (hN : N < 100000000) (hcl : Cond.classLink own index (FieldType.array t).toString ∈ lw_all) (hov : Cond.arrayOver (.array t) ∈ lw_tbl) (hty : (gtys G)[j]? = some (gC G j, .array t)) (ho : own = (my M).cls) (d : decode (mcc M) pc = .ok (.anewarray index, 3)) (htg : ∀ q : Nat, (∀ a x, h a = some x → a < q) → q ≠ 0 → (tg q).1 ≠ 0 ∧ (tg q).1 ≤ q) (hn : n + 1 ≤ mmc M) (hk : k + N ≤ mms M)
    (kk : ∀ q : Nat, (∀ a x, h a = some x → a < q) → q ≠ 0 → WW G E M (hset h q (tg q, aR G j N (fun _ => none))) (n + 1) (k + N) (pc + 3) L (.ref q :: st)) : WW G E M h n k pc L (.int (iI z) :: st) := by
  intro hE H locs ls hR hS hl
  subst ho
  have h0 : H.size ≠ 0 := by have := hR.2.2; have := hE.g.2.2.2.2; omega
  have hp := iI_pos hz (by omega)
  refine W.anewA hE.x hE.b hE.own (hE.ts _ hcl) (ao_moved hE.w.alike (hE.g.1 _ hov)) rfl d rfl hp.1 (by rw [hp.2]; omega) hn (by rw [hp.2]; exact hk) fun cA kA comp f1 f2 f3 f4 => ?_
  rw [hp.2]
  have hra := (hE.K.2 j _ hty).2
  have hc : cA = gC G j := Option.some.inj (f1.symm.trans hra)
  subst hc
  refine kk H.size hR.fresh h0 hE _ locs ls (hR.make rfl (htg _ hR.fresh h0) (by simp) ?_ (fun q hq => by rw [Array.getElem?_push, if_neg (Nat.ne_of_lt hq)])) hS hl
  show (H.push _)[H.size]? = some (vp_cell _ _)
  rw [Array.getElem?_push_size, vp_cell_q]
  exact congrArg some (arrV_new _ _ _)
theorem arrV_congr {cA : ClassId} {N : Nat} {f g : Nat → Value} (h : ∀ j, j < N → f j = g j) : arrV cA N f = arrV cA N g := by
  unfold arrV
  have : (fun j : Fin N => f j.val) = fun j => g j.val := funext (fun j => h j.val j.isLt)
  rw [this]
theorem outerC_arrV (c : ClassId) (N h0 : Nat) : ∀ i, Jvm.Free.Multi.outerC c N h0 i = arrV c N (fun j => if j < i then .ref (h0 + 1 + j) else .null) := by
  intro i
  induction i with
  | zero => exact (arrV_new _ _ _).trans (arrV_congr (fun j _ => by rw [if_neg (Nat.not_lt_zero j)]))
  | succ i ih =>
    show (Jvm.Free.Multi.outerC c N h0 i).setSlot i (.ref (h0 + 1 + i)) = _
    rw [ih, arrV_store]
    refine arrV_congr (fun j _ => ?_)
    unfold updV
    by_cases e : j = i
    · rw [if_pos e, if_pos (by omega), e]
    · rw [if_neg e]
      show (if j < i then Value.ref (h0 + 1 + j) else Value.null) = _
      by_cases e2 : j < i
      · rw [if_pos e2, if_pos (by omega)]
      · rw [if_neg e2, if_neg (by omega)]
/-- a grid of ints: the outer array at q, its rows behind it -/
def hgrid (G : GT) (h : AH) (q : Nat) (to : Tg) (ti : Nat → Tg) (N K : Nat) : AH := fun a => if a = q then some (to, aR G 6 N (fun i => some (q + 1 + i.toNat))) else if q + 1 ≤ a ∧ a < q + 1 + N then some (ti (a - (q + 1)), aA G 0 K (fun _ => 0)) else h a
theorem ww_multi {own : String} {z y : Int} {index N K : Nat} (to : Tg) (ti : Nat → Tg) (hz : z = N) (hy : y = K) (hN : N < 10000) (hK : K < 10000) (hcl : Cond.classLink own index ("[" ++ (FieldType.array .int).toString) ∈ lw_all) (hov : Cond.arrayOver (.array .int) ∈ lw_tbl) (harr : Cond.arrayClass .int ∈ lw_all) (ho : own = (my M).cls) (d : decode (mcc M) pc = .ok (.multianewarray index 2, 4)) (hto : to.1 ≠ 0) (hti : ∀ i, (ti i).1 ≠ 0) (hto2 : ∀ q : Nat, (∀ a x, h a = some x → a < q) → to.1 ≤ q ∧ ∀ i, (ti i).1 ≤ q) (hn : n + (1 + N) ≤ mmc M) (hk : k + (N + N * K) ≤ mms M)
    (kk : ∀ q : Nat, (∀ a x, h a = some x → a < q) → q ≠ 0 → WW G E M (hgrid G h q to ti N K) (n + 1 + N) (k + N + N * K) (pc + 4) L (.ref q :: st)) : WW G E M h n k pc L (.int (iI y) :: .int (iI z) :: st) := by
  intro hE H locs ls hR hS hl
  subst ho
  have h0 : H.size ≠ 0 := by have := hR.2.2; have := hE.g.2.2.2.2; omega
  have hp := iI_pos hz (by omega)
  have hq := iI_pos hy (by omega)
  intro T hT X
  subst hT
  obtain ⟨vm₁, cA, comp, hW, hfA, hfC, hO, hI, X1, step⟩ := X.multianewarray2F hE.x hE.own (hE.ts _ hcl) (ao_moved hE.w.alike (hE.g.1 _ hov)) (hE.ts _ harr) (g := F0 (eM E) pc ls (.int (iI y) :: .int (iI z) :: st)) rfl (by rw [hE.b]; exact d) (n := iI z) (k := iI y) (rest := st) rfl hp.1 hq.1 (by rw [hp.2]; omega) (by rw [hq.2]; show K * 4 ≤ _; omega) (by rw [hq.2]; omega) rfl rfl (by rw [hp.2]; exact hn) (by rw [hp.2, hq.2]; exact hk)
  rw [hp.2, hq.2] at X1 step
  have hc : cA = gC G 6 := Option.some.inj (hfA.symm.trans (hE.K.2 6 _ rfl).2)
  have hc2 : comp = gC G 0 := Option.some.inj (hfC.symm.trans (hE.K.2 0 _ rfl).2)
  subst hc hc2
  obtain ⟨f1, f2, f3, f4⟩ := Jvm.Free.Multi.fill_facts (T.setVm vm₁) (gC G 6) (gC G 0) N K (defaultValue .int) N
  have fo := fun (a : Nat) (ha : a < T.heap.size) => Jvm.Free.Multi.fill_old (T.setVm vm₁) (gC G 6) (gC G 0) N K (defaultValue .int) (a := a) ha N
  have fi := fun (j : Nat) (hj : j < N) => Jvm.Free.Multi.fill_inner (T.setVm vm₁) (gC G 6) (gC G 0) N K (defaultValue .int) N j hj
  obtain ⟨o1, o2, o3⟩ := Jvm.Free.Multi.outerC_facts (gC G 6) N T.heap.size N
  have os := fun (j : Nat) (hj : j < N) => Jvm.Free.Multi.outerC_slot (gC G 6) N T.heap.size N j hj
  have hRn : RP G (hgrid G h T.heap.size to ti N K) (Jvm.Free.Multi.fill (T.setVm vm₁) (gC G 6) (gC G 0) N K (defaultValue .int) N).heap := by
    refine ⟨fun a t x hx => ?_, fun q hq1 => ?_, ?_⟩
    · unfold hgrid at hx
      by_cases e1 : a = T.heap.size
      · rw [if_pos e1] at hx
        cases hx
        refine ⟨?_, Or.inr ⟨hto, by rw [e1]; exact hR.2.2, by rw [e1]; exact (hto2 _ hR.fresh).1⟩⟩
        refine aat.b ?_
        show (Jvm.Free.Multi.fill (T.setVm vm₁) (gC G 6) (gC G 0) N K (defaultValue .int) N).heap[a]? = some (vp_cell _ _)
        rw [e1, vp_cell_q]
        refine f2.trans (congrArg some ((outerC_arrV _ _ _ _).trans (arrV_congr (fun j hj => ?_))))
        rw [if_pos hj]
        rfl
      · rw [if_neg e1] at hx
        by_cases e2 : T.heap.size + 1 ≤ a ∧ a < T.heap.size + 1 + N
        · rw [if_pos e2] at hx
          cases hx
          refine ⟨?_, Or.inr ⟨hti _, by have := hR.2.2; omega, by have := (hto2 _ hR.fresh).2 (a - (T.heap.size + 1)); omega⟩⟩
          refine aat.b ?_
          show (Jvm.Free.Multi.fill (T.setVm vm₁) (gC G 6) (gC G 0) N K (defaultValue .int) N).heap[a]? = some (vp_cell _ _)
          have := fi (a - (T.heap.size + 1)) (by omega)
          rw [show (T.setVm vm₁).heap.size + 1 + (a - (T.heap.size + 1)) = a by show T.heap.size + 1 + (a - (T.heap.size + 1)) = a; omega] at this
          rw [this, vp_cell_i]
          exact congrArg some (arrV_new _ _ _)
        · rw [if_neg e2] at hx
          exact ⟨(hR.1 a t x hx).1.kept (fo a (hR.lt hx)), (hR.1 a t x hx).2⟩
    · exact (fo q (Nat.lt_of_lt_of_le hq1 hR.2.2)).trans (hR.2.1 q hq1)
    · rw [f1]; have := hR.2.2; show gz G ≤ T.heap.size + 1 + N; omega
  obtain ⟨t, a1, b1⟩ := kk T.heap.size hR.fresh h0 hE _ locs ls hRn hS hl _ rfl X1
  exact ⟨t, step t a1, b1⟩
end NEWA
