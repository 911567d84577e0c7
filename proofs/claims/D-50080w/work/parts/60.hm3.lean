/-! ===== HashMap: the table behind a change ===== -/
set_option maxRecDepth 100000
theorem tb_A {N c q : Nat} {tb : Nat → Option Nat} {A : Nat → Nat} {F : Int → Option Nat} (hF : ∀ i : Nat, i < N → F (i : Int) = (tb i).map A) (hd : ∀ i e, i < N → tb i = some e → e ≠ c) : ∀ i : Nat, i < N → F (i : Int) = (tb i).map (ux A c q) := by
  intro i hi
  rw [hF i hi]
  cases ht : tb i with
  | none => rfl
  | some y => simp only [Option.map_some]; rw [ux_n (hd i y hi ht)]
theorem tb_ins {N c q j : Nat} {tb : Nat → Option Nat} {A : Nat → Nat} {F : Int → Option Nat} (hF : ∀ i : Nat, i < N → F (i : Int) = (tb i).map A) (hd : ∀ i e, i < N → tb i = some e → e ≠ c) : ∀ i : Nat, i < N → iup F (j : Int) (some q) (i : Int) = (ux tb j (some c) i).map (ux A c q) := by
  intro i hi
  by_cases e : i = j
  · subst e
    rw [iup_s, ux_s]
    simp only [Option.map_some]
    rw [ux_s]
  · rw [iup_n (by omega), ux_n e]
    exact tb_A hF hd i hi
theorem tb_set {N j : Nat} {tb : Nat → Option Nat} {A : Nat → Nat} {F : Int → Option Nat} {v : Option Nat} (hF : ∀ i : Nat, i < N → F (i : Int) = (tb i).map A) : ∀ i : Nat, i < N → iup F (j : Int) (v.map A) (i : Int) = (ux tb j v i).map A := by
  intro i hi
  by_cases e : i = j
  · subst e
    rw [iup_s, ux_s]
  · rw [iup_n (by omega), ux_n e]
    exact hF i hi
theorem cnt_set {of : Int → Int → Int} {c : Nat} {v : Int} (h1 : c < 128) (h2 : c % 16 < 12) (hv : v ≠ -1) (hc : lvo of c = true) : cnt (oup of c v) = cnt of := by
  rw [cnt_up h1 h2, bI_t hv, bI_t hc]; omega
theorem cnt_ins {of : Int → Int → Int} {c : Nat} {v : Int} (h1 : c < 128) (h2 : c % 16 < 12) (hv : v ≠ -1) (hc : lvo of c = false) : cnt (oup of c v) = cnt of + 1 := by
  rw [cnt_up h1 h2, bI_t hv, bI_f (by rw [hc]; decide)]; omega
theorem cnt_del {of : Int → Int → Int} {c : Nat} (h1 : c < 128) (h2 : c % 16 < 12) (hc : lvo of c = true) : cnt (oup of c (-1)) = cnt of - 1 := by
  rw [cnt_up h1 h2, bI_f (by decide), bI_t hc]; omega
theorem mem_del0 {c : Nat} {l : List Nat} (hn : (c :: l).Nodup) (d : Nat) : d ∈ l ↔ d ∈ c :: l ∧ d ≠ c := by
  have := List.nodup_cons.mp hn
  constructor
  · intro h; exact ⟨List.mem_cons_of_mem _ h, fun e => this.1 (e ▸ h)⟩
  · rintro ⟨h, e⟩
    rcases List.mem_cons.mp h with q | q
    · exact absurd q e
    · exact q
theorem nd_del1 {p c : Nat} {l1 l2 : List Nat} (hn : (l1 ++ p :: c :: l2).Nodup) : (l1 ++ p :: l2).Nodup := by
  refine hn.sublist ?_
  exact (List.Sublist.refl l1).append (List.Sublist.cons₂ p (List.sublist_cons_self c l2))
theorem mem_del1 {p c : Nat} {l1 l2 : List Nat} (hn : (l1 ++ p :: c :: l2).Nodup) (d : Nat) : d ∈ l1 ++ p :: l2 ↔ d ∈ l1 ++ p :: c :: l2 ∧ d ≠ c := by
  have h1 := List.nodup_append.mp hn
  have h2 := List.nodup_cons.mp h1.2.1
  have h3 := List.nodup_cons.mp h2.2
  have hc1 : c ∉ l1 := fun z => h1.2.2 c z c (List.mem_cons_of_mem _ List.mem_cons_self) rfl
  constructor
  · intro h
    rcases List.mem_append.mp h with q | q
    · exact ⟨List.mem_append_left _ q, fun e => hc1 (e ▸ q)⟩
    · rcases List.mem_cons.mp q with q | q
      · exact ⟨List.mem_append_right _ (by rw [q]; exact List.mem_cons_self), fun e => h2.1 (by rw [← q, e]; exact List.mem_cons_self)⟩
      · exact ⟨List.mem_append_right _ (List.mem_cons_of_mem _ (List.mem_cons_of_mem _ q)), fun e => h3.1 (e ▸ q)⟩
  · rintro ⟨h, e⟩
    rcases List.mem_append.mp h with q | q
    · exact List.mem_append_left _ q
    · rcases List.mem_cons.mp q with q | q
      · exact List.mem_append_right _ (by rw [q]; exact List.mem_cons_self)
      · rcases List.mem_cons.mp q with q | q
        · exact absurd q e
        · exact List.mem_append_right _ (List.mem_cons_of_mem _ q)
theorem nar_rf {r : Option Nat} {C : String} : narrow (.object C) (va_rf r) = va_rf r ∧ fits (.object C) (va_rf r) = true := by cases r <;> exact ⟨rfl, rfl⟩
theorem lvo_0 {c : Nat} : lvo (fun _ _ => -1) c = false := by unfold lvo; simp
theorem cnt_0 : cnt (fun _ _ => -1) = 0 := by decide +kernel
