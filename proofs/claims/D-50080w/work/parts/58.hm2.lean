/-! ===== HashMap: a table is doubled ===== -/
set_option maxRecDepth 100000
def loL (N : Nat) (l : List Nat) : List Nat := l.filter (fun c => decide (c / N % 2 = 0))
def hiL (N : Nat) (l : List Nat) : List Nat := l.filter (fun c => decide (c / N % 2 = 1))
theorem loL_s0 {N e : Nat} {l : List Nat} (h : e / N % 2 = 0) : loL N (l ++ [e]) = loL N l ++ [e] ∧ hiL N (l ++ [e]) = hiL N l := by
  unfold loL hiL
  simp [List.filter_append, h]
theorem loL_s1 {N e : Nat} {l : List Nat} (h : e / N % 2 = 1) : loL N (l ++ [e]) = loL N l ∧ hiL N (l ++ [e]) = hiL N l ++ [e] := by
  unfold loL hiL
  simp [List.filter_append, h]
theorem lo_sub {N c : Nat} {l : List Nat} (h : c ∈ loL N l) : c ∈ l ∧ c / N % 2 = 0 := by
  unfold loL at h
  have := List.mem_filter.mp h
  exact ⟨this.1, of_decide_eq_true this.2⟩
theorem hi_sub {N c : Nat} {l : List Nat} (h : c ∈ hiL N l) : c ∈ l ∧ c / N % 2 = 1 := by
  unfold hiL at h
  have := List.mem_filter.mp h
  exact ⟨this.1, of_decide_eq_true this.2⟩
theorem lo_mem {N c : Nat} {l : List Nat} (h : c ∈ l) (e : c / N % 2 = 0) : c ∈ loL N l := List.mem_filter.mpr ⟨h, decide_eq_true e⟩
theorem hi_mem {N c : Nat} {l : List Nat} (h : c ∈ l) (e : c / N % 2 = 1) : c ∈ hiL N l := List.mem_filter.mpr ⟨h, decide_eq_true e⟩
theorem lo_nd {N : Nat} {l : List Nat} (h : l.Nodup) : (loL N l).Nodup ∧ (hiL N l).Nodup := ⟨h.filter _, h.filter _⟩
/-- the last one of a list -/
theorem lst_or {l : List Nat} {t : Option Nat} (h : t = l.getLast?) : (t = none ∧ l = []) ∨ ∃ d l0, t = some d ∧ l = l0 ++ [d] := by
  cases l with
  | nil => exact Or.inl ⟨h, rfl⟩
  | cons a l =>
    obtain ⟨l', c, e⟩ : ∃ l' c, a :: l = l' ++ [c] := by
      refine ⟨(a :: l).dropLast, (a :: l).getLast (by simp), ?_⟩
      exact (List.dropLast_concat_getLast (by simp)).symm
    exact Or.inr ⟨c, l', by rw [h, e]; simp, e⟩
theorem lst_s {l : List Nat} {d : Nat} : (l ++ [d]).getLast? = some d := by simp
theorem hd_s {l : List Nat} {t : Option Nat} {d e : Nat} (h : t = (l ++ [d]).head?) : t = ((l ++ [d]) ++ [e]).head? := by
  rw [h]; cases l <;> rfl
theorem hd_in {l : List Nat} {d : Nat} : ∃ c, (l ++ [d]).head? = some c ∧ c ∈ l ++ [d] := by
  cases l with
  | nil => exact ⟨d, rfl, List.mem_cons_self⟩
  | cons a l => exact ⟨a, rfl, List.mem_cons_self⟩
/-- other buckets than j, while j is split: done ones, those to come -/
def RB (N : Nat) (bk : Nat → List Nat) (tb : Nat → Option Nat) (j : Nat) (X tn : Nat → Option Nat) : Prop := (∀ i, i < N → i < j → Pth X (tn i) (loL N (bk i)) ∧ Pth X (tn (i + N)) (hiL N (bk i))) ∧ (∀ i, i < N → j < i → Pth X (tb i) (bk i)) ∧ ∀ i, i < N → j ≤ i → tn i = none ∧ tn (i + N) = none
def RBo (N : Nat) (bk : Nat → List Nat) (tb : Nat → Option Nat) (j : Nat) (X tn : Nat → Option Nat) : Prop := RB N bk tb j X tn ∧ (j < N → Pth X (tb j) (bk j))
theorem RB.up {N : Nat} {bk : Nat → List Nat} {tb : Nat → Option Nat} {j d : Nat} {X tn : Nat → Option Nat} {v : Option Nat} (h : RB N bk tb j X tn) (hm : ∀ i, i < N → ∀ c ∈ bk i, c % N = i) (hd : d % N = j) : RB N bk tb j (ux X d v) tn := by
  have hn : ∀ i, i < N → i ≠ j → d ∉ bk i := fun i hi hij hc => hij ((hm i hi d hc).symm.trans hd)
  refine ⟨fun i hi hij => ⟨(h.1 i hi hij).1.up (fun z => hn i hi (by omega) (lo_sub z).1), (h.1 i hi hij).2.up (fun z => hn i hi (by omega) (hi_sub z).1)⟩, fun i hi hij => (h.2.1 i hi hij).up (fun z => hn i hi (by omega) z), h.2.2⟩
/-- the bucket j is done -/
theorem RB.next {N : Nat} {bk : Nat → List Nat} {tb : Nat → Option Nat} {j : Nat} {X tn tn' : Nat → Option Nat} (h : RB N bk tb j X tn) (hj : j < N) (hl : Pth X (tn' j) (loL N (bk j))) (hh : Pth X (tn' (j + N)) (hiL N (bk j))) (he : ∀ i, i ≠ j → i ≠ j + N → tn' i = tn i) : RBo N bk tb (j + 1) X tn' := by
  refine ⟨⟨fun i hi hij => ?_, fun i hi hij => h.2.1 i hi (by omega), fun i hi hij => ?_⟩, fun hj1 => h.2.1 (j + 1) hj1 (by omega)⟩
  · by_cases e : i = j
    · subst e; exact ⟨hl, hh⟩
    · rw [he i e (by omega), he (i + N) (by omega) (by omega)]
      exact h.1 i hi (by omega)
  · rw [he i (by omega) (by omega), he (i + N) (by omega) (by omega)]
    exact h.2.2 i hi (by omega)
theorem mod2 (c N : Nat) : c % (2 * N) = c % N + N * (c / N % 2) := by rw [Nat.mul_comm 2 N]; exact Nat.mod_mul
theorem RBo.done {N : Nat} {bk : Nat → List Nat} {tb : Nat → Option Nat} {X0 X tn : Nat → Option Nat} {of : Int → Int → Int} (hN : 0 < N) (h : RBo N bk tb N X tn) (hI : HI N tb X0 of bk) : HI (2 * N) tn X of (fun i => if i < N then loL N (bk i) else hiL N (bk (i - N))) := by
  refine ⟨fun i hi => ?_, fun c hc => ?_⟩
  · by_cases e : i < N
    · simp only [if_pos e]
      obtain ⟨h1, h2, h3⟩ := hI.1 i e
      refine ⟨(h.1.1 i e e).1, (lo_nd h2).1, fun c hc => ?_⟩
      have hs := lo_sub hc
      exact ⟨(h3 c hs.1).1, by rw [mod2, (h3 c hs.1).2, hs.2]; omega⟩
    · simp only [if_neg e]
      have ei : i - N < N := by omega
      obtain ⟨h1, h2, h3⟩ := hI.1 (i - N) ei
      have hp := (h.1.1 (i - N) ei ei).2
      rw [show i - N + N = i by omega] at hp
      refine ⟨hp, (lo_nd h2).2, fun c hc => ?_⟩
      have hs := hi_sub hc
      exact ⟨(h3 c hs.1).1, by rw [mod2, (h3 c hs.1).2, hs.2]; omega⟩
  · have hm := hI.2 c hc
    have hlt : c % N < N := Nat.mod_lt _ hN
    have h01 : c / N % 2 = 0 ∨ c / N % 2 = 1 := by omega
    rw [mod2]
    rcases h01 with e | e
    · rw [e]
      simp only [Nat.mul_zero, Nat.add_zero, if_pos hlt]
      exact lo_mem hm e
    · rw [e]
      simp only [Nat.mul_one]
      rw [if_neg (by omega), Nat.add_sub_cancel]
      exact hi_mem hm e
/-- all nodes, and one link is set -/
def HA (G : GT) (h : AH) (o : Nat) (A K V : Nat → Nat) (X : Nat → Option Nat) (of : Int → Int → Int) : Prop := ∀ c, lvo of c = true → HN h o A K V X c ∧ IV G h (V c) (of ((c / 16 : Nat) : Int) ((c % 16 : Nat) : Int))
theorem HA.put {G : GT} {h h' : AH} {o d b : Nat} {A K V : Nat → Nat} {X : Nat → Option Nat} {of : Int → Int → Int} {v : Option Nat} (ho : o ≠ 0) (hA : HA G h o A K V X of) (h1 : h' (A d) = some ((o, 10202 + d), ob 12 [.int (iI (d : Int)), .ref (K d), .ref (V d), va_rf (v.map A)])) (f : KT b (o, 10202 + d) h h') : HA G h' o A K V (ux X d v) of := by
  intro c hc
  obtain ⟨⟨a1, a2⟩, a3⟩ := hA c hc
  refine ⟨⟨?_, f.at a2 (by omega)⟩, a3.kt f ho (by omega)⟩
  by_cases e : c = d
  · subst e; rw [ux_s]; exact h1
  · rw [ux_n e]; exact f.at a1 (by omega)
theorem HA.mv {G : GT} {h h' : AH} {o o' k1 k2 : Nat} {A K V : Nat → Nat} {X : Nat → Option Nat} {of : Int → Int → Int} (hA : HA G h o A K V X of) (f : FO o' k1 k2 h h') (ho : o' ≠ 0) (hne : (o ≠ o' ∨ 10329 < k1 ∨ k2 < 10202) ∧ (10004 < k1 ∨ k2 < 10002)) : HA G h' o A K V X of := by
  intro c hc
  obtain ⟨⟨a1, a2⟩, a3⟩ := hA c hc
  have := (lvo_lt hc).1
  exact ⟨⟨f.at a1 (by omega), f.at a2 (by omega)⟩, a3.fo f ho (by omega)⟩
theorem HA.ex {G : GT} {h h' : AH} {o : Nat} {A K V : Nat → Nat} {X : Nat → Option Nat} {of : Int → Int → Int} (hA : HA G h o A K V X of) (f : Ex h h') : HA G h' o A K V X of := fun c hc => by
  obtain ⟨⟨a1, a2⟩, a3⟩ := hA c hc
  exact ⟨⟨f _ _ a1, f _ _ a2⟩, a3.ex f⟩
theorem HA.kt {G : GT} {h h' : AH} {o o' k b : Nat} {A K V : Nat → Nat} {X : Nat → Option Nat} {of : Int → Int → Int} (hA : HA G h o A K V X of) (f : KT b (o', k) h h') (ho : o' ≠ 0) (hne : (o ≠ o' ∨ 10329 < k ∨ k < 10202) ∧ (10004 < k ∨ k < 10002)) : HA G h' o A K V X of := hA.mv f.fo ho (by omega)
section RWP
variable {G : GT} {E : ET} {M : MT} {h : AH} {n k pc : Nat} {L : List (Nat × Value)} {st : List Value}
/-- the bit N of a code -/
theorem bit_and : ∀ c : Nat, c < 128 → ∀ N : Nat, N = 16 ∨ N = 32 ∨ N = 64 → iI (c : Int) &&& iI (N : Int) = iI ((c / N % 2 * N : Nat) : Int) := by
  have key : ∀ c : Nat, c < 128 → (iI (c : Int) &&& iI ((16 : Nat) : Int) = iI ((c / 16 % 2 * 16 : Nat) : Int) ∧ iI (c : Int) &&& iI ((32 : Nat) : Int) = iI ((c / 32 % 2 * 32 : Nat) : Int) ∧ iI (c : Int) &&& iI ((64 : Nat) : Int) = iI ((c / 64 % 2 * 64 : Nat) : Int)) := by decide +kernel
  intro c hc N hN
  have := key c hc
  rcases hN with rfl | rfl | rfl
  · exact this.1
  · exact this.2.1
  · exact this.2.2
theorem ww_iandN {c N : Nat} (d : decode (mcc M) pc = .ok (.iand, 1)) (hc : c < 128) (hN : N = 16 ∨ N = 32 ∨ N = 64) (kk : WW G E M h n k (pc + 1) L (.int (iI ((c / N % 2 * N : Nat) : Int)) :: st)) : WW G E M h n k pc L (.int (iI (N : Int)) :: .int (iI (c : Int)) :: st) := by
  intro hE H locs ls hR hS hl
  refine lv_iand hE.x hE.b d ?_
  rw [bit_and c hc N hN]
  exact kk hE H locs ls hR hS hl
end RWP
/-- a code comes in, a code goes -/
theorem Pth.nx {X : Nat → Option Nat} {d e : Nat} : ∀ {l : List Nat} {r : Option Nat}, Pth X r l → d ∈ l → X d = some e → e ∈ l
  | [], _, _, hd, _ => by cases hd
  | a :: l, r, h, hd, he => by
    rcases List.mem_cons.mp hd with q | q
    · subst q
      have := h.2
      rw [he] at this
      obtain ⟨l', e1, -⟩ := this.cons
      rw [e1]
      exact List.mem_cons_of_mem _ List.mem_cons_self
    · exact List.mem_cons_of_mem _ (h.2.nx q he)
theorem HI.nx {N : Nat} {tb X : Nat → Option Nat} {of : Int → Int → Int} {bk : Nat → List Nat} {d e : Nat} (h : HI N tb X of bk) (hN : 0 < N) (hd : lvo of d = true) (he : X d = some e) : lvo of e = true := by
  obtain ⟨h1, -, h3⟩ := h.1 (d % N) (Nat.mod_lt _ hN)
  exact (h3 e (h1.nx (h.2 d hd) he)).1
theorem HI.hd {N : Nat} {tb X : Nat → Option Nat} {of : Int → Int → Int} {bk : Nat → List Nat} {j e : Nat} (h : HI N tb X of bk) (hj : j < N) (he : tb j = some e) : lvo of e = true := by
  obtain ⟨h1, -, h3⟩ := h.1 j hj
  rw [he] at h1
  obtain ⟨l', e1, -⟩ := h1.cons
  exact (h3 e (by rw [e1]; exact List.mem_cons_self)).1
theorem HI.no {N : Nat} {tb X : Nat → Option Nat} {of : Int → Int → Int} {bk : Nat → List Nat} {j c : Nat} (h : HI N tb X of bk) (hj : j < N) (hc : lvo of c = false) : c ∉ bk j := fun z => by
  have := ((h.1 j hj).2.2 c z).1
  rw [hc] at this; cases this
abbrev oup (of : Int → Int → Int) (c : Nat) (v : Int) : Int → Int → Int := o2 of ((c / 16 : Nat) : Int) ((c % 16 : Nat) : Int) v
theorem oup_s {of : Int → Int → Int} {c : Nat} {v : Int} : oup of c v ((c / 16 : Nat) : Int) ((c % 16 : Nat) : Int) = v := by unfold oup o2; simp
theorem oup_n {of : Int → Int → Int} {c d : Nat} {v : Int} (h : d ≠ c) : oup of c v ((d / 16 : Nat) : Int) ((d % 16 : Nat) : Int) = of ((d / 16 : Nat) : Int) ((d % 16 : Nat) : Int) := by
  unfold oup o2
  rw [if_neg (by omega)]
theorem lvo_s {of : Int → Int → Int} {c : Nat} {v : Int} (h1 : c < 128) (h2 : c % 16 < 12) (hv : v ≠ -1) : lvo (oup of c v) c = true := by rw [lvo_up h1 h2, if_pos rfl]; exact decide_eq_true hv
theorem lvo_n {of : Int → Int → Int} {c d : Nat} {v : Int} (h1 : c < 128) (h2 : c % 16 < 12) (h : d ≠ c) : lvo (oup of c v) d = lvo of d := by rw [lvo_up h1 h2, if_neg h]
theorem lvo_x {of : Int → Int → Int} {c : Nat} (h1 : c < 128) (h2 : c % 16 < 12) : lvo (oup of c (-1)) c = false := by rw [lvo_up h1 h2, if_pos rfl]; rfl
theorem HI.ins {N : Nat} {tb tb' X X' : Nat → Option Nat} {of : Int → Int → Int} {bk : Nat → List Nat} {c : Nat} {v : Int} {l : List Nat} (h : HI N tb X of bk) (hN : 0 < N) (h1 : c < 128) (h2 : c % 16 < 12) (hv : v ≠ -1) (hc : lvo of c = false) (hp : Pth X' (tb' (c % N)) l) (hl : l = bk (c % N) ++ [c])
    (he : ∀ i, i < N → i ≠ c % N → tb' i = tb i) (hX : ∀ d, lvo of d = true → d % N ≠ c % N → X' d = X d) : HI N tb' X' (oup of c v) (ux bk (c % N) l) := by
  have hlt : c % N < N := Nat.mod_lt _ hN
  refine ⟨fun i hi => ?_, fun d hd => ?_⟩
  · by_cases e : i = c % N
    · subst e
      obtain ⟨g1, g2, g3⟩ := h.1 _ hlt
      rw [ux_s]
      refine ⟨hp, ?_, fun d hd => ?_⟩
      · rw [hl]
        refine List.nodup_append.mpr ⟨g2, List.nodup_cons.mpr ⟨(fun z => by cases z), List.nodup_nil⟩, fun a ha b hb => ?_⟩
        rw [List.mem_singleton.mp hb]
        intro e
        rw [e] at ha
        exact h.no hlt hc ha
      · rw [hl] at hd
        rcases List.mem_append.mp hd with q | q
        · have := g3 d q
          exact ⟨by rw [lvo_n h1 h2 (fun e => by rw [e, hc] at this; cases this.1)]; exact this.1, this.2⟩
        · rw [List.mem_singleton.mp q]
          exact ⟨lvo_s h1 h2 hv, rfl⟩
    · obtain ⟨g1, g2, g3⟩ := h.1 i hi
      rw [ux_n e, he i hi e]
      refine ⟨g1.cg (fun d hd => hX d (g3 d hd).1 (by rw [(g3 d hd).2]; exact e)), g2, fun d hd => ?_⟩
      have := g3 d hd
      exact ⟨by rw [lvo_n h1 h2 (fun e => by rw [e, hc] at this; cases this.1)]; exact this.1, this.2⟩
  · by_cases e : d = c
    · subst e
      rw [ux_s, hl]
      exact List.mem_append_right _ List.mem_cons_self
    · rw [lvo_n h1 h2 e] at hd
      have := h.2 d hd
      by_cases e2 : d % N = c % N
      · rw [e2, ux_s, hl]
        rw [e2] at this
        exact List.mem_append_left _ this
      · rw [ux_n e2]; exact this
theorem HI.set {N : Nat} {tb X : Nat → Option Nat} {of : Int → Int → Int} {bk : Nat → List Nat} {c : Nat} {v : Int} (h : HI N tb X of bk) (h1 : c < 128) (h2 : c % 16 < 12) (hv : v ≠ -1) (hc : lvo of c = true) : HI N tb X (oup of c v) bk := by
  have e : ∀ d, lvo (oup of c v) d = lvo of d := fun d => by
    by_cases q : d = c
    · subst q; rw [lvo_s h1 h2 hv, hc]
    · exact lvo_n h1 h2 q
  exact ⟨fun i hi => ⟨(h.1 i hi).1, (h.1 i hi).2.1, fun d hd => by rw [e]; exact (h.1 i hi).2.2 d hd⟩, fun d hd => h.2 d (by rw [← e]; exact hd)⟩
theorem HI.del {N : Nat} {tb tb' X X' : Nat → Option Nat} {of : Int → Int → Int} {bk : Nat → List Nat} {c : Nat} {l : List Nat} (h : HI N tb X of bk) (hN : 0 < N) (h1 : c < 128) (h2 : c % 16 < 12) (hp : Pth X' (tb' (c % N)) l) (hl : ∀ d, d ∈ l ↔ d ∈ bk (c % N) ∧ d ≠ c) (hn : l.Nodup)
    (he : ∀ i, i < N → i ≠ c % N → tb' i = tb i) (hX : ∀ d, lvo of d = true → d % N ≠ c % N → X' d = X d) : HI N tb' X' (oup of c (-1)) (ux bk (c % N) l) := by
  have hlt : c % N < N := Nat.mod_lt _ hN
  refine ⟨fun i hi => ?_, fun d hd => ?_⟩
  · by_cases e : i = c % N
    · subst e
      obtain ⟨g1, g2, g3⟩ := h.1 _ hlt
      rw [ux_s]
      refine ⟨hp, hn, fun d hd => ?_⟩
      have q := (hl d).mp hd
      exact ⟨by rw [lvo_n h1 h2 q.2]; exact (g3 d q.1).1, (g3 d q.1).2⟩
    · obtain ⟨g1, g2, g3⟩ := h.1 i hi
      rw [ux_n e, he i hi e]
      refine ⟨g1.cg (fun d hd => hX d (g3 d hd).1 (by rw [(g3 d hd).2]; exact e)), g2, fun d hd => ?_⟩
      have := g3 d hd
      exact ⟨by rw [lvo_n h1 h2 (fun e2 => e (by rw [← this.2, e2]))]; exact this.1, this.2⟩
  · have dc : d ≠ c := fun e => by rw [e, lvo_x h1 h2] at hd; cases hd
    rw [lvo_n h1 h2 dc] at hd
    have := h.2 d hd
    by_cases e2 : d % N = c % N
    · rw [e2, ux_s]
      rw [e2] at this
      exact (hl d).mpr ⟨this, dc⟩
    · rw [ux_n e2]; exact this
theorem HA.ins {G : GT} {h : AH} {o c q kx vx : Nat} {A K V : Nat → Nat} {X : Nat → Option Nat} {of : Int → Int → Int} {v : Int} (hA : HA G h o A K V X of) (h1 : c < 128) (h2 : c % 16 < 12) (hc : lvo of c = false) (hnx : ∀ d e, lvo of d = true → X d = some e → lvo of e = true)
    (hq : h q = some ((o, 10202 + c), ob 12 [.int (iI (c : Int)), .ref kx, .ref vx, .null])) (hk : h kx = some ((kx, 10004), ob 6 [.int (iI ((c / 16 : Nat) : Int)), .int (iI ((c % 16 : Nat) : Int))])) (hv : IV G h vx v) : HA G h o (ux A c q) (ux K c kx) (ux V c vx) (ux X c none) (oup of c v) := by
  intro d hd
  by_cases e : d = c
  · subst e
    unfold HN
    rw [ux_s, ux_s, ux_s, ux_s, oup_s]
    exact ⟨⟨hq, hk⟩, hv⟩
  · rw [lvo_n h1 h2 e] at hd
    obtain ⟨⟨a1, a2⟩, a3⟩ := hA d hd
    unfold HN
    rw [ux_n e, ux_n e, ux_n e, ux_n e, oup_n e]
    refine ⟨⟨?_, a2⟩, a3⟩
    rw [a1]
    cases hx : X d with
    | none => rfl
    | some y =>
      have : y ≠ c := fun z => by have := hnx d y hd hx; rw [z, hc] at this; cases this
      simp only [Option.map_some]
      rw [ux_n this]
theorem HA.set {G : GT} {h h' : AH} {o c vx b : Nat} {A K V : Nat → Nat} {X : Nat → Option Nat} {of : Int → Int → Int} {v : Int} (hA : HA G h o A K V X of) (ho : o ≠ 0) (h1 : c < 128) (h2 : c % 16 < 12) (hc : lvo of c = true) (hq : h' (A c) = some ((o, 10202 + c), ob 12 [.int (iI (c : Int)), .ref (K c), .ref vx, va_rf ((X c).map A)])) (f : KT b (o, 10202 + c) h h') (hv : IV G h' vx v) : HA G h' o A K (ux V c vx) X (oup of c v) := by
  intro d hd
  by_cases e : d = c
  · subst e
    obtain ⟨⟨a1, a2⟩, a3⟩ := hA d hc
    unfold HN
    rw [ux_s, oup_s]
    exact ⟨⟨hq, f.at a2 (by omega)⟩, hv⟩
  · rw [lvo_n h1 h2 e] at hd
    obtain ⟨⟨a1, a2⟩, a3⟩ := hA d hd
    unfold HN
    rw [ux_n e, oup_n e]
    exact ⟨⟨f.at a1 (by omega), f.at a2 (by omega)⟩, a3.kt f ho (by omega)⟩
theorem HA.del {G : GT} {h : AH} {o c : Nat} {A K V : Nat → Nat} {X : Nat → Option Nat} {of : Int → Int → Int} (hA : HA G h o A K V X of) (h1 : c < 128) (h2 : c % 16 < 12) : HA G h o A K V X (oup of c (-1)) := by
  intro d hd
  have e : d ≠ c := fun e => by rw [e, lvo_x h1 h2] at hd; cases hd
  rw [lvo_n h1 h2 e] at hd
  rw [oup_n e]
  exact hA d hd
theorem oup_id {of : Int → Int → Int} {c : Nat} (h1 : c < 128) (h2 : c % 16 < 12) (h : lvo of c = false) : oup of c (-1) = of := by
  have e : of ((c / 16 : Nat) : Int) ((c % 16 : Nat) : Int) = -1 := Classical.byContradiction (fun n => by
    have : lvo of c = true := decide_eq_true ⟨h1, h2, n⟩
    rw [h] at this; cases this)
  funext a b
  unfold oup o2
  split
  · rename_i q; rw [q.1, q.2, e]
  · rfl
theorem wx_aastq {G : GT} {E : ET} {M : MT} {h : AH} {n k pc : Nat} {L : List (Nat × Value)} {st : List Value} {a N j ci : Nat} {e : Option Nat} {z : Int} {t : Tg} {f : Int → Option Nat} {q : vw_C} {C : String} (hC : q.1 = C ∨ Cond.castable q.1 C ∈ lw_tbl) (d : decode (mcc M) pc = .ok (.aastore, 1)) (ha : h a = some (t, aR G j N f)) (ht : t.1 ≠ 0) (hty : (gtys G)[j]? = some (gC G j, .object C)) (he : ∀ x, e = some x → ∃ u fs, h x = some (u, ob ci fs)) (hci : gcl[ci]? = some q) (hN : N < 2147483648) (h0 : 0 ≤ z) (h1 : z < N)
    (kk : ∀ h', h' a = some (t, aR G j N (iup f z e)) → KT a t h h' → WW G E M h' n k (pc + 1) L st) : WW G E M h n k pc L (va_rf e :: .int (iI z) :: .ref a :: st) :=
  ww_aastq (u := (0, 0)) (fs := fun _ => []) hC d ha ht hty he hci hN h0 h1 (kk _ hset_s (KT.of ha))
theorem va_rf_cat (r : Option Nat) : (va_rf r).category = 1 := by cases r <;> rfl
theorem ls1_x {L L' : List (Nat × Value)} {i : Nat} {v : Value} (hc : ∀ q ∈ L, q.1 + 1 = i → q.2.category = 1) (hl' : (i, v) :: L.filter (fun q => !(q.1 == i)) = L') : ls1 L i v = L' := by
  rw [← hl']
  unfold ls1
  congr 1
  refine List.filter_congr (fun q hq => ?_)
  by_cases e : q.1 + 1 = i
  · have := hc q hq e
    rw [this]
    simp
  · simp [e]
