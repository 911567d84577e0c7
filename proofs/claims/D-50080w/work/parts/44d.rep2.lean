/-! ===== the readers' steps on the draft ===== -/
set_option maxRecDepth 100000
def NP (σ σ' : MS) : Prop := ∀ j, j < 4 ∨ j = 7 ∨ j = 10 ∨ j = 11 ∨ 18 ≤ j → σ' j = σ j
theorem NP.rf {σ : MS} : NP σ σ := fun _ _ => rfl
theorem NP.tr {σ σ1 σ2 : MS} (a : NP σ σ1) (b : NP σ1 σ2) : NP σ σ2 := fun j h => (b j h).trans (a j h)
theorem NP.sx {σ σ1 : MS} {j : Nat} {i k v : Int} (a : NP σ σ1) (n : ¬ (j < 4 ∨ j = 7 ∨ j = 10 ∨ j = 11 ∨ 18 ≤ j)) : NP σ (su σ1 j i k v) := fun j' h => by
  have e : j' ≠ j := fun e => n (by rw [← e]; exact h)
  rw [su_off e]; exact a j' h
theorem su_e {σ : MS} {j : Nat} {i k v k' : Int} (h : k' = k) : su σ j i k v j i k' = v := by rw [h, su_s]
theorem PSok.lbl {s : PS} (h : PSok s) : s.lb.length ≤ 8 := h.2.1
theorem PSok.nml {s : PS} (h : PSok s) : s.nm.length ≤ 12 := h.1
theorem PSok.nmw {s : PS} (h : PSok s) : ∀ x ∈ s.nm, Wd x := fun x hx => (h.2.2.1 x hx).1
theorem PSok.lbw {s : PS} (h : PSok s) : ∀ x ∈ s.lb.map (·.1), Wd x := fun x hx => by
  obtain ⟨y, hy, rfl⟩ := List.mem_map.mp hx
  exact (h.2.2.2.1 y hy).1.1
theorem ls_snoc_get {α : Type} {l : List α} {a b : α} {i : Nat} (h : (l ++ [a])[i]? = some b) : l[i]? = some b ∨ (i = l.length ∧ a = b) := by
  by_cases hi : i < l.length
  · rw [List.getElem?_append_left hi] at h; exact Or.inl h
  · rw [List.getElem?_append_right (by omega)] at h
    have := (List.getElem?_eq_some_iff.mp h).1
    simp only [List.length_singleton] at this
    have e : i - l.length = 0 := by omega
    rw [e] at h
    exact Or.inr ⟨by omega, Option.some.inj h⟩
theorem MRep.hn {σ : MS} {s : PS} (h : MRep σ s) : σ 9 0 2 = s.nm.length := h.1.2.2.1
theorem MRep.hl {σ : MS} {s : PS} (h : MRep σ s) : σ 9 0 1 = s.lb.length := h.1.2.1
theorem MRep.wnm {σ : MS} {s : PS} (h : MRep σ s) : ∀ (i : Nat) (w : List Int), s.nm[i]? = some w → σ 16 0 i = wn w := h.2.2.2.2.1
theorem PSok.addN {s : PS} {w : List Int} (h : PSok s) (hl : s.nm.length < 12) (hw : Wd8 w) : PSok (PS.mk0 (s.nm ++ [w]) s.lb s.of s.sh s.hs s.hw s.cs s.fn) := by
  obtain ⟨h1, h2, h3, h4, h5, h6, h7, h8, h9⟩ := h
  have hle : (s.nm ++ [w]).length = s.nm.length + 1 := by simp
  refine ⟨by show (s.nm ++ [w]).length ≤ 12; omega, h2, fun x hx => ?_, h4, fun k n => ?_, fun k n hh => h6 k n ?_, h7, h8, h9⟩
  · rcases List.mem_append.mp hx with hx | hx
    · exact h3 x hx
    · rw [List.mem_singleton.mp hx]; exact hw
  · have := h5 k n
    show -2 - ((s.nm ++ [w]).length : Int) < s.of k n ∧ _
    rw [hle]
    exact ⟨by omega, this.2⟩
  · have hh : (s.lb.length : Int) ≤ k ∨ ((s.nm ++ [w]).length : Int) ≤ n := hh
    rw [hle] at hh
    omega
theorem MRep.addN {σ σ' : MS} {s : PS} {w : List Int} (h : MRep σ s) (hl : s.nm.length < 12) (h2 : σ' 9 0 2 = (s.nm.length : Int) + 1) (h9 : ∀ z : Int, z ≠ 2 → σ' 9 0 z = σ 9 0 z) (h16 : σ' 16 0 s.nm.length = wn w) (h16' : ∀ z : Int, z ≠ s.nm.length → σ' 16 0 z = σ 16 0 z) (h13 : σ' 13 = σ 13) (h14 : σ' 14 = σ 14) (h15 : σ' 15 = σ 15) : MRep σ' (PS.mk0 (s.nm ++ [w]) s.lb s.of s.sh s.hs s.hw s.cs s.fn) := by
  obtain ⟨⟨a0, a1, a2, a3, a5⟩, hh, hb, h0, hn, hf, hd⟩ := h
  refine ⟨⟨by rw [h9 _ (by decide)]; exact a0, by rw [h9 _ (by decide)]; exact a1, by rw [h2]; show (s.nm.length : Int) + 1 = ((s.nm ++ [w]).length : Int); simp, by rw [h9 _ (by decide)]; exact a3, by rw [h9 _ (by decide)]; exact a5⟩, fun n c hc => by rw [h9 _ (by omega)]; exact hh n c hc, fun k x hx => ?_, fun k h1 h2 => by rw [h9 _ (by have : (s.lb.length : Int) ≤ k := h1; omega)]; exact h0 k h1 h2, fun i x hx => ?_, by rw [h14]; exact hf, by rw [h13]; exact hd⟩
  · obtain ⟨⟨b0, b1, b2, b3⟩, c, d, e⟩ := hb k x hx
    refine ⟨⟨by rw [h9 _ (by omega)]; exact b0, by rw [h9 _ (by omega)]; exact b1, by rw [h9 _ (by omega)]; exact b2, by rw [h9 _ (by omega)]; exact b3⟩, fun i y hy => by rw [h9 _ (by omega)]; exact c i y hy, fun n n0 n1 => by rw [h9 _ (by omega)]; exact d n n0 n1, by rw [h15]; exact e⟩
  · rcases ls_snoc_get hx with hx | ⟨rfl, rfl⟩
    · have := (List.getElem?_eq_some_iff.mp hx).1
      rw [h16' _ (by omega)]; exact hn i x hx
    · exact h16
theorem PSok.addL {s : PS} {w : List Int} {v kp : Int} (h : PSok s) (hl : s.lb.length < 8) (hw : Wd8 w) (hv : 0 ≤ v ∧ v ≤ 999) (hk : kp = 0 ∨ kp = 1) : PSok (PS.mk0 s.nm (s.lb ++ [(w, v, kp, [])]) s.of s.sh s.hs s.hw s.cs s.fn) := by
  obtain ⟨h1, h2, h3, h4, h5, h6, h7, h8, h9, h10⟩ := h
  have hle : (s.lb ++ [(w, v, kp, ([] : List Int))]).length = s.lb.length + 1 := by simp
  refine ⟨h1, by show (s.lb ++ [(w, v, kp, ([] : List Int))]).length ≤ 8; omega, h3, fun x hx => ?_, h5, fun k n hh => h6 k n ?_, h7, h8, h9, fun k x hx => (ls_snoc_get hx).elim (h10 k x) (fun e => by rw [← e.2]; exact ⟨List.nodup_nil, fun q => by cases q⟩)⟩
  · rcases List.mem_append.mp hx with hx | hx
    · obtain ⟨a, b, c, d, e, f⟩ := h4 x hx
      exact ⟨a, b, c, d, e, fun o ho => ⟨(f o ho).1, by have := (f o ho).2; show o < ((s.lb ++ [(w, v, kp, ([] : List Int))]).length : Int); omega⟩⟩
    · rw [List.mem_singleton.mp hx]; exact ⟨hw, hv.1, hv.2, hk, by show ([] : List Int).length ≤ 7; decide, fun o ho => by cases ho⟩
  · have hh : ((s.lb ++ [(w, v, kp, ([] : List Int))]).length : Int) ≤ k ∨ (s.nm.length : Int) ≤ n := hh
    rw [hle] at hh
    omega
theorem MRep.addL {σ σ' : MS} {s : PS} {w : List Int} {v kp : Int} (h : MRep σ s) (hs : PSok s) (hl : s.lb.length < 8) (h1 : σ' 9 0 1 = (s.lb.length : Int) + 1) (h3 : σ' 9 0 3 = (s.lb.length : Int) + 1)
    (g0 : σ' 9 0 (6 + 24 * s.lb.length) = v) (g1 : σ' 9 0 (6 + 24 * s.lb.length + 1) = kp) (g2 : σ' 9 0 (6 + 24 * s.lb.length + 2) = (s.lb.length : Int) + 1) (g12 : ∀ n : Int, 0 ≤ n → n < 12 → σ' 9 0 (6 + 24 * s.lb.length + 12 + n) = -1)
    (h9 : ∀ z : Int, z ≠ 1 → z ≠ 3 → ¬ (6 + 24 * (s.lb.length : Int) ≤ z ∧ z < 6 + 24 * (s.lb.length : Int) + 3) → ¬ (6 + 24 * (s.lb.length : Int) + 12 ≤ z ∧ z < 6 + 24 * (s.lb.length : Int) + 24) → σ' 9 0 z = σ 9 0 z)
    (h15 : σ' 15 0 s.lb.length = wn w) (h15' : ∀ z : Int, z ≠ s.lb.length → σ' 15 0 z = σ 15 0 z) (h13 : σ' 13 = σ 13) (h14 : σ' 14 = σ 14) (h16 : σ' 16 = σ 16) : MRep σ' (PS.mk0 s.nm (s.lb ++ [(w, v, kp, [])]) s.of s.sh s.hs s.hw s.cs s.fn) := by
  obtain ⟨⟨a0, a1, a2, a3, a5⟩, hh, hb, h0, hn, hf, hd⟩ := h
  have hle : ((s.lb ++ [(w, v, kp, ([] : List Int))]).length : Int) = s.lb.length + 1 := by simp
  refine ⟨⟨by rw [h9 _ (by decide) (by decide) (by omega) (by omega)]; exact a0, by rw [h1]; exact hle.symm, by rw [h9 _ (by decide) (by decide) (by omega) (by omega)]; exact a2, by rw [h3]; exact hle.symm, by rw [h9 _ (by decide) (by decide) (by omega) (by omega)]; exact a5⟩, fun n c hc => by rw [h9 _ (by omega) (by omega) (by omega) (by omega)]; exact hh n c hc, fun k x hx => ?_, fun k k1 k2 => ?_, fun i x hx => by rw [h16]; exact hn i x hx, by rw [h14]; exact hf, by rw [h13]; exact hd⟩
  · rcases ls_snoc_get hx with hx | ⟨rfl, rfl⟩
    · have hk := (List.getElem?_eq_some_iff.mp hx).1
      obtain ⟨⟨b0, b1, b2, b3⟩, c, d, e⟩ := hb k x hx
      have hx7 := (hs.2.2.2.1 x (List.mem_of_getElem? hx)).2.2.2.2.1
      refine ⟨⟨by rw [h9 _ (by omega) (by omega) (by omega) (by omega)]; exact b0, by rw [h9 _ (by omega) (by omega) (by omega) (by omega)]; exact b1, by rw [h9 _ (by omega) (by omega) (by omega) (by omega)]; exact b2, by rw [h9 _ (by omega) (by omega) (by omega) (by omega)]; exact b3⟩, fun i y hy => ?_, fun n n0 n1 => by rw [h9 _ (by omega) (by omega) (by omega) (by omega)]; exact d n n0 n1, by rw [h15' _ (by omega)]; exact e⟩
      have := (List.getElem?_eq_some_iff.mp hy).1
      rw [h9 _ (by omega) (by omega) (by omega) (by omega)]; exact c i y hy
    · refine ⟨⟨g0, g1, g2, ?_⟩, fun i y hy => (by cases hy), fun n n0 n1 => ?_, h15⟩
      · rw [h9 _ (by omega) (by omega) (by omega) (by omega)]; exact h0 _ (Int.le_refl _) (by omega)
      · rw [g12 n n0 n1]; exact (hs.2.2.2.2.2.1 _ _ (Or.inl (Int.le_refl _))).symm
  · have k1 : ((s.lb ++ [(w, v, kp, ([] : List Int))]).length : Int) ≤ k := k1
    rw [hle] at k1
    rw [h9 _ (by omega) (by omega) (by omega) (by omega)]; exact h0 k (by omega) k2
theorem PSok.addO {s : PS} {k n v : Int} (h : PSok s) (hk : k < s.lb.length) (hn : n < s.nm.length) (hv : -2 - s.nm.length < v ∧ v ≤ 9999) : PSok (PS.mk0 s.nm s.lb (o2 s.of k n v) s.sh s.hs s.hw s.cs s.fn) := by
  obtain ⟨h1, h2, h3, h4, h5, h6, h7, h8, h9⟩ := h
  refine ⟨h1, h2, h3, h4, fun a b => ?_, fun a b hh => ?_, h7, h8, h9⟩
  · show _ < o2 s.of k n v a b ∧ o2 s.of k n v a b ≤ 9999
    unfold o2
    split
    · exact hv
    · exact h5 a b
  · show o2 s.of k n v a b = -1
    have hh : (s.lb.length : Int) ≤ a ∨ (s.nm.length : Int) ≤ b := hh
    unfold o2
    rw [if_neg (by omega)]
    exact h6 a b hh
theorem MRep.addO {σ σ' : MS} {s : PS} {k n v : Int} (h : MRep σ s) (hs : PSok s) (hk0 : 0 ≤ k) (hk : k < s.lb.length) (hn0 : 0 ≤ n) (hn : n < s.nm.length) (hv : σ' 9 0 (6 + 24 * k + 12 + n) = v) (h9 : ∀ z : Int, z ≠ 6 + 24 * k + 12 + n → σ' 9 0 z = σ 9 0 z) (h13 : σ' 13 = σ 13) (h14 : σ' 14 = σ 14) (h15 : σ' 15 = σ 15) (h16 : σ' 16 = σ 16) : MRep σ' (PS.mk0 s.nm s.lb (o2 s.of k n v) s.sh s.hs s.hw s.cs s.fn) := by
  obtain ⟨⟨a0, a1, a2, a3, a5⟩, hh, hb, h0, hn', hf, hd⟩ := h
  have l8 := hs.lbl
  have l12 := hs.nml
  refine ⟨⟨by rw [h9 _ (by omega)]; exact a0, by rw [h9 _ (by omega)]; exact a1, by rw [h9 _ (by omega)]; exact a2, by rw [h9 _ (by omega)]; exact a3, by rw [h9 _ (by omega)]; exact a5⟩, fun n c hc => by rw [h9 _ (by omega)]; exact hh n c hc, fun j x hx => ?_, fun j k1 k2 => by rw [h9 _ (by have : (s.lb.length : Int) ≤ j := k1; omega)]; exact h0 j k1 k2, fun i x hx => by rw [h16]; exact hn' i x hx, by rw [h14]; exact hf, by rw [h13]; exact hd⟩
  have hk := (List.getElem?_eq_some_iff.mp hx).1
  obtain ⟨⟨b0, b1, b2, b3⟩, c, d, e⟩ := hb j x hx
  have hx7 := (hs.2.2.2.1 x (List.mem_of_getElem? hx)).2.2.2.2.1
  refine ⟨⟨by rw [h9 _ (by omega)]; exact b0, by rw [h9 _ (by omega)]; exact b1, by rw [h9 _ (by omega)]; exact b2, by rw [h9 _ (by omega)]; exact b3⟩, fun i y hy => ?_, fun i n0 n1 => ?_, by rw [h15]; exact e⟩
  · have := (List.getElem?_eq_some_iff.mp hy).1
    rw [h9 _ (by omega)]; exact c i y hy
  · show _ = o2 s.of k n v j i
    unfold o2
    by_cases q : (j : Int) = k ∧ i = n
    · rw [if_pos q, q.1, q.2]; exact hv
    · rw [if_neg q, h9 _ (by omega)]; exact d i n0 n1
theorem adp_len {l : List (List Int × Int × Int × List Int)} {k o : Int} : (adp l k o).length = l.length := by unfold adp; rw [List.length_modify]
theorem adp_get {l : List (List Int × Int × Int × List Int)} {k o : Int} {i : Nat} (hk : 0 ≤ k) {x : List Int × Int × Int × List Int} (h : (adp l k o)[i]? = some x) : (i ≠ k.toNat ∧ l[i]? = some x) ∨ (i = k.toNat ∧ ∃ y, l[i]? = some y ∧ x = (y.1, y.2.1, y.2.2.1, y.2.2.2 ++ [o])) := by
  unfold adp at h
  rw [List.getElem?_modify] at h
  cases q : l[i]? with
  | none => rw [q] at h; cases h
  | some y =>
    rw [q] at h
    have h : (if k.toNat = i then (y.1, y.2.1, y.2.2.1, y.2.2.2 ++ [o]) else y) = x := Option.some.inj h
    by_cases e : k.toNat = i
    · rw [if_pos e] at h
      exact Or.inr ⟨e.symm, y, rfl, h.symm⟩
    · rw [if_neg e] at h
      exact Or.inl ⟨fun q => e q.symm, by rw [h]⟩
theorem PSok.addP {s : PS} {k o : Int} (h : PSok s) (hk0 : 0 ≤ k) (ho0 : 0 ≤ o) (ho : o < s.lb.length) (hl : ∀ x, s.lb[k.toNat]? = some x → x.2.2.2.length < 7 ∧ o ∉ x.2.2.2) (hko : o ≠ k) : PSok (PS.mk0 s.nm (adp s.lb k o) s.of s.sh s.hs s.hw s.cs s.fn) := by
  obtain ⟨h1, h2, h3, h4, h5, h6, h7, h8, h9, h10⟩ := h
  refine ⟨h1, by show (adp s.lb k o).length ≤ 8; rw [adp_len]; exact h2, h3, fun x hx => ?_, h5, fun a b hh => h6 a b (by have hh : ((adp s.lb k o).length : Int) ≤ a ∨ (s.nm.length : Int) ≤ b := hh; rwa [adp_len] at hh), h7, h8, h9, fun j x hx => ?_⟩
  case refine_2 =>
    rcases adp_get hk0 hx with ⟨-, hi⟩ | ⟨hj, y, hiy, rfl⟩
    · exact h10 j x hi
    · have h11 := h10 j y hiy
      have hlo := (hl y (by rw [← hj]; exact hiy)).2
      refine ⟨List.nodup_append.mpr ⟨h11.1, by simp, fun a ha b hb e => hlo (by rw [← List.mem_singleton.mp hb, ← e]; exact ha)⟩, fun q => ?_⟩
      rcases List.mem_append.mp q with q | q
      · exact h11.2 q
      · have := List.mem_singleton.mp q
        omega
  show _ ∧ _ ∧ _ ∧ _ ∧ _ ∧ ∀ o_1 ∈ x.2.2.2, 0 ≤ o_1 ∧ o_1 < ((adp s.lb k o).length : Int)
  rw [adp_len]
  obtain ⟨i, hi⟩ := List.mem_iff_getElem?.mp hx
  rcases adp_get hk0 hi with ⟨-, hi⟩ | ⟨rfl, y, hiy, rfl⟩
  · exact h4 x (List.mem_of_getElem? hi)
  · obtain ⟨a, b, c, d, e, f⟩ := h4 y (List.mem_of_getElem? hiy)
    refine ⟨a, b, c, d, by have := (hl y hiy).1; show (y.2.2.2 ++ [o]).length ≤ 7; rw [List.length_append]; show _ + 1 ≤ 7; omega, fun z hz => ?_⟩
    rcases List.mem_append.mp hz with hz | hz
    · exact f z hz
    · rw [List.mem_singleton.mp hz]; exact ⟨ho0, ho⟩
theorem MRep.addP {σ σ' : MS} {s : PS} {k o l : Int} (h : MRep σ s) (hs : PSok s) (hk0 : 0 ≤ k) (hk : k < s.lb.length) (hl : σ 9 0 (6 + 24 * k + 3) = l) (hl7 : l < 7) (hv : σ' 9 0 (6 + 24 * k + 4 + l) = o) (h3 : σ' 9 0 (6 + 24 * k + 3) = l + 1) (h9 : ∀ z : Int, z ≠ 6 + 24 * k + 3 → z ≠ 6 + 24 * k + 4 + l → σ' 9 0 z = σ 9 0 z) (h13 : σ' 13 = σ 13) (h14 : σ' 14 = σ 14) (h15 : σ' 15 = σ 15) (h16 : σ' 16 = σ 16) : MRep σ' (PS.mk0 s.nm (adp s.lb k o) s.of s.sh s.hs s.hw s.cs s.fn) := by
  obtain ⟨⟨a0, a1, a2, a3, a5⟩, hh, hb, h0, hn', hf, hd⟩ := h
  have l8 := hs.lbl
  have hl0 : 0 ≤ l := by
    have hk' : k.toNat < s.lb.length := by omega
    have := (hb k.toNat _ (List.getElem?_eq_getElem hk')).1.2.2.2
    rw [show ((k.toNat : Nat) : Int) = k by omega, hl] at this
    omega
  refine ⟨⟨by rw [h9 _ (by omega) (by omega)]; exact a0, by rw [h9 _ (by omega) (by omega)]; show _ = ((adp s.lb k o).length : Int); rw [adp_len]; exact a1, by rw [h9 _ (by omega) (by omega)]; exact a2, by rw [h9 _ (by omega) (by omega)]; show _ = ((adp s.lb k o).length : Int); rw [adp_len]; exact a3, by rw [h9 _ (by omega) (by omega)]; exact a5⟩, fun n c hc => by rw [h9 _ (by omega) (by omega)]; exact hh n c hc, fun j x hx => ?_, fun j k1 k2 => ?_, fun i x hx => by rw [h16]; exact hn' i x hx, by rw [h14]; exact hf, by rw [h13]; exact hd⟩
  · rcases adp_get hk0 hx with ⟨hj, hx⟩ | ⟨hj, y, hxy, rfl⟩
    · have hk := (List.getElem?_eq_some_iff.mp hx).1
      obtain ⟨⟨b0, b1, b2, b3⟩, c, d, e⟩ := hb j x hx
      have hx7 := (hs.2.2.2.1 x (List.mem_of_getElem? hx)).2.2.2.2.1
      refine ⟨⟨by rw [h9 _ (by omega) (by omega)]; exact b0, by rw [h9 _ (by omega) (by omega)]; exact b1, by rw [h9 _ (by omega) (by omega)]; exact b2, by rw [h9 _ (by omega) (by omega)]; exact b3⟩, fun i y hy => ?_, fun i n0 n1 => by rw [h9 _ (by omega) (by omega)]; exact d i n0 n1, by rw [h15]; exact e⟩
      have := (List.getElem?_eq_some_iff.mp hy).1
      rw [h9 _ (by omega) (by omega)]; exact c i y hy
    · have hk := (List.getElem?_eq_some_iff.mp hxy).1
      obtain ⟨⟨b0, b1, b2, b3⟩, c, d, e⟩ := hb j y hxy
      have hjk : (j : Int) = k := by omega
      have hyl : (y.2.2.2.length : Int) = l := by rw [← hl, ← hjk]; exact b3.symm
      refine ⟨⟨by rw [h9 _ (by omega) (by omega)]; exact b0, by rw [h9 _ (by omega) (by omega)]; exact b1, by rw [h9 _ (by omega) (by omega)]; exact b2, ?_⟩, fun i z hz => ?_, fun i n0 n1 => by rw [h9 _ (by omega) (by omega)]; exact d i n0 n1, by rw [h15]; exact e⟩
      · rw [hjk, h3]
        show l + 1 = ((y.2.2.2 ++ [o]).length : Int)
        rw [List.length_append, ← hyl]; rfl
      · rcases ls_snoc_get hz with hz | ⟨rfl, rfl⟩
        · have := (List.getElem?_eq_some_iff.mp hz).1
          rw [h9 _ (by omega) (by omega)]; exact c i z hz
        · rw [hjk, hyl]; exact hv
  · have k1 : ((adp s.lb k o).length : Int) ≤ j := k1
    rw [adp_len] at k1
    rw [h9 _ (by omega) (by omega)]; exact h0 j k1 k2
theorem MRep.pfl {σ : MS} {s : PS} {k : Int} (h : MRep σ s) (hk0 : 0 ≤ k) (hk : k < s.lb.length) : σ 9 0 (6 + 24 * k + 3) = (prf s.lb k).length ∧ ∀ (i : Nat) (c : Int), (prf s.lb k)[i]? = some c → σ 9 0 (6 + 24 * k + 4 + i) = c := by
  have hk' : k.toNat < s.lb.length := by omega
  obtain ⟨⟨-, -, -, b3⟩, c, -, -⟩ := h.2.2.1 k.toNat _ (List.getElem?_eq_getElem hk')
  rw [show ((k.toNat : Nat) : Int) = k by omega] at b3 c
  have e : prf s.lb k = (s.lb[k.toNat]).2.2.2 := by unfold prf; rw [List.getD_eq_getElem?_getD, List.getElem?_eq_getElem hk', Option.getD_some]
  rw [e]
  exact ⟨b3, c⟩
def Lit (G : GT) (h : AH) (c : String) (k : Nat) (w : List Int) : Prop := ∃ (a : Nat) (tx : String), vk_R c k tx a (g0 G) ∧ StO G h 0 a w
def litsM : List (Nat × List Int) := [(128, kwTrust), (134, kwRank), (136, kwOffers), (138, kwFriends), (177, kwKeeps), (183, kwTo), (189, kwName), (194, kwLibrary), (199, kwOffer), (204, kwPrefer), (209, kwShare), (214, kwWeight), (220, kwLink)]
def LitM (G : GT) (h : AH) : Prop := ∀ (k : Nat) (w : List Int), (k, w) ∈ litsM → Lit G h "LinkElectionModel" k w
theorem LitM.fr {G : GT} {h h1 : AH} {m : Nat} {A : Nat → Nat} {B : Nat → Int → Nat} {D : Int → Int} {σ : MS} (hL : LitM G h) (hM : MWF G h h1 m A B D σ) : LitM G h1 := fun k w hk => by
  obtain ⟨a, tx, h1, h2⟩ := hL k w hk
  exact ⟨a, tx, h1, h2.fr (m := m) (fun q u x e1 e2 => hM.2 q u x e1 (fun z => hM.1.1 (z.1.symm.trans e2)))⟩
theorem Txt.kk {t : Int → Int} {n p : Int} (h : Txt t n) (hp : p ≤ n) : sk t (sk t p) = sk t p := sc_f (by
  have := (h.k1 hp).2.2
  unfold isSp; exact decide_eq_false this)
theorem pnum_kk {t : Int → Int} {n p lo hi : Int} (h : Txt t n) (hp : p ≤ n) : pnum t (sk t p) lo hi = pnum t p lo hi := by unfold pnum; rw [h.kk hp]
theorem pw_kk {t : Int → Int} {n p : Int} (h : Txt t n) (hp : p ≤ n) : pw t (sk t p) = pw t p := by unfold pw; rw [h.kk hp]
theorem pw_hd {t : Int → Int} {p c : Int} {l : List Int} (h : pw t p = c :: l) : t (sk t p) = c := by
  unfold pw wd lsI at h
  have e := congrArg (fun l => l[0]?) h
  simp only [List.getElem?_cons_zero, List.getElem?_map] at e
  cases q : (List.range (we t (sk t p) - sk t p).toNat)[0]? with
  | none => rw [q] at e; cases e
  | some i =>
    rw [q] at e
    have hi := (List.getElem?_eq_some_iff.mp q).2
    rw [List.getElem_range] at hi
    rw [← hi] at e
    have := Option.some.inj e
    simpa using this
theorem pOff_e1 {t : Int → Int} {p : Int} {s : PS} {x : Int × Int} (h1 : pkn t p (s.lb.map (·.1)) = .error x) : pOff t p s = .error x := by unfold pOff; rw [h1]
theorem pOff_e2 {t : Int → Int} {p k b e : Int} {s : PS} {x : Int × Int} (h1 : pkn t p (s.lb.map (·.1)) = .ok (k, b, e)) (h2 : pkn t e s.nm = .error x) : pOff t p s = .error x := by unfold pOff; rw [h1]; simp only; rw [h2]
theorem pOff_e3 {t : Int → Int} {p k b e n' b2 e2 : Int} {s : PS} (h1 : pkn t p (s.lb.map (·.1)) = .ok (k, b, e)) (h2 : pkn t e s.nm = .ok (n', b2, e2)) (h3 : s.of k n' ≠ -1) : pOff t p s = .error (-5, b2) := by unfold pOff; rw [h1]; simp only; rw [h2]; simp only; rw [if_pos h3]
theorem pOff_to {t : Int → Int} {p k b e n' b2 e2 : Int} {s : PS} (h1 : pkn t p (s.lb.map (·.1)) = .ok (k, b, e)) (h2 : pkn t e s.nm = .ok (n', b2, e2)) (h3 : s.of k n' = -1) (h4 : pw t e2 = kwTo) : pOff t p s = match pkn t (we t (sk t e2)) s.nm with
        | .error x => .error x
        | .ok (v, _, e5) => .ok (e5, PS.mk0 s.nm s.lb (o2 s.of k n' (-2 - v)) s.sh s.hs s.hw s.cs s.fn) := by
  have := pw_hd h4
  unfold pOff; rw [h1]; simp only; rw [h2]; simp only; rw [if_neg (fun q => q h3), if_neg (by omega), if_pos h4]
  cases pkn t (we t (sk t e2)) s.nm <;> rfl
theorem pOff_nu {t : Int → Int} {p k b e n' b2 e2 : Int} {s : PS} (h1 : pkn t p (s.lb.map (·.1)) = .ok (k, b, e)) (h2 : pkn t e s.nm = .ok (n', b2, e2)) (h3 : s.of k n' = -1) (h4 : pw t e2 ≠ kwTo) : pOff t p s = match pnum t e2 0 9999 with
        | .error x => .error x
        | .ok (v, e4) => .ok (e4, PS.mk0 s.nm s.lb (o2 s.of k n' v) s.sh s.hs s.hw s.cs s.fn) := by
  unfold pOff; rw [h1]; simp only; rw [h2]; simp only; rw [if_neg (fun q => q h3)]
  by_cases q : 48 ≤ t (sk t e2) ∧ t (sk t e2) ≤ 57
  · rw [if_pos q]; cases pnum t e2 0 9999 <;> rfl
  · rw [if_neg q, if_neg h4]
    unfold pnum
    rw [if_neg q]
theorem MRep.ofv {σ : MS} {s : PS} {k n : Int} (h : MRep σ s) (hk0 : 0 ≤ k) (hk : k < s.lb.length) (hn0 : 0 ≤ n) (hn : n < 12) : σ 9 0 (6 + 24 * k + 12 + n) = s.of k n := by
  have hk' : k.toNat < s.lb.length := by omega
  obtain ⟨-, -, d, -⟩ := h.2.2.1 k.toNat _ (List.getElem?_eq_getElem hk')
  rw [show ((k.toNat : Nat) : Int) = k by omega] at d
  exact d n hn0 hn
theorem nodup_lt : ∀ (n : Nat) (l : List Int), l.Nodup → (∀ x ∈ l, 0 ≤ x ∧ x < n) → l.length ≤ n := by
  intro n
  induction n with
  | zero =>
    intro l _ h
    cases l with
    | nil => simp
    | cons a l => have := h a List.mem_cons_self; omega
  | succ n ih =>
    intro l hl h
    have := ih (l.erase (n : Int)) (hl.erase _) (fun x hx => by
      have := (List.Nodup.mem_erase_iff hl).mp hx
      have h2 := h x this.2
      have h3 := this.1
      omega)
    rw [List.length_erase] at this
    split at this <;> omega
theorem lsI_eq {l : List Int} {f : Int → Int} (h : ∀ (i : Nat) (c : Int), l[i]? = some c → f i = c) : lsI l.length f = l := by
  refine List.ext_getElem? (fun i => ?_)
  by_cases hi : i < l.length
  · rw [lsI_get (by omega), List.getElem?_eq_getElem hi, h i _ (List.getElem?_eq_getElem hi)]
  · rw [List.getElem?_eq_none (by rw [lsI_len]; omega), List.getElem?_eq_none (by omega)]
theorem MRep.dpf {σ : MS} {s : PS} {k : Int} (h : MRep σ s) (hk0 : 0 ≤ k) (hk : k < s.lb.length) : dPf (σ 9 0) k = prf s.lb k := by
  obtain ⟨a, b⟩ := h.pfl hk0 hk
  unfold dPf
  rw [a]
  exact lsI_eq b
theorem prf_get {l : List (List Int × Int × Int × List Int)} {k : Int} {x : List Int × Int × Int × List Int} (h : l[k.toNat]? = some x) : prf l k = x.2.2.2 := by unfold prf; rw [List.getD_eq_getElem?_getD, h, Option.getD_some]
theorem PSok.pf7 {s : PS} {k o : Int} (h : PSok s) (hk0 : 0 ≤ k) (hk : k < s.lb.length) (ho0 : 0 ≤ o) (ho : o < s.lb.length) (hn : o ≠ k ∧ o ∉ prf s.lb k) : (prf s.lb k).length < 7 := by
  have hk' : k.toNat < s.lb.length := by omega
  have e := List.getElem?_eq_getElem hk'
  have hp := prf_get e
  have h8 := h.lbl
  have h4 := (h.2.2.2.1 _ (List.mem_of_getElem? e)).2.2.2.2.2
  have h10 := h.2.2.2.2.2.2.2.2.2 k.toNat _ e
  rw [← hp] at h4 h10
  rw [show ((k.toNat : Nat) : Int) = k by omega] at h10
  have := nodup_lt 8 (o :: k :: prf s.lb k) (List.nodup_cons.mpr ⟨fun q => (List.mem_cons.mp q).elim hn.1 hn.2, List.nodup_cons.mpr ⟨h10.2, h10.1⟩⟩) (fun x hx => by
    rcases List.mem_cons.mp hx with rfl | hx
    · omega
    · rcases List.mem_cons.mp hx with rfl | hx
      · omega
      · have := h4 x hx
        omega)
  simp only [List.length_cons] at this
  omega
theorem pPre_e1 {t : Int → Int} {p : Int} {s : PS} {x : Int × Int} (h1 : pkn t p (s.lb.map (·.1)) = .error x) : pPre t p s = .error x := by unfold pPre; rw [h1]
theorem pPre_e2 {t : Int → Int} {p k b e : Int} {s : PS} {x : Int × Int} (h1 : pkn t p (s.lb.map (·.1)) = .ok (k, b, e)) (h2 : pkn t e (s.lb.map (·.1)) = .error x) : pPre t p s = .error x := by unfold pPre; rw [h1]; simp only; rw [h2]
theorem pPre_e3 {t : Int → Int} {p k b e o b2 e2 : Int} {s : PS} (h1 : pkn t p (s.lb.map (·.1)) = .ok (k, b, e)) (h2 : pkn t e (s.lb.map (·.1)) = .ok (o, b2, e2)) (h3 : ¬ (o ≠ k ∧ o ∉ prf s.lb k)) : pPre t p s = .error (-5, b2) := by unfold pPre; rw [h1]; simp only; rw [h2]; simp only; rw [if_neg h3]
theorem pPre_ok {t : Int → Int} {p k b e o b2 e2 : Int} {s : PS} (h1 : pkn t p (s.lb.map (·.1)) = .ok (k, b, e)) (h2 : pkn t e (s.lb.map (·.1)) = .ok (o, b2, e2)) (h3 : o ≠ k ∧ o ∉ prf s.lb k) : pPre t p s = .ok (e2, PS.mk0 s.nm (adp s.lb k o) s.of s.sh s.hs s.hw s.cs s.fn) := by unfold pPre; rw [h1]; simp only; rw [h2]; simp only; rw [if_pos h3]
theorem PSok.pfx {s : PS} {k : Int} (h : PSok s) (hk0 : 0 ≤ k) (hk : k < s.lb.length) : (prf s.lb k).length ≤ 7 := by
  have hk' : k.toNat < s.lb.length := by omega
  have e := List.getElem?_eq_getElem hk'
  rw [prf_get e]
  exact (h.2.2.2.1 _ (List.mem_of_getElem? e)).2.2.2.2.1
