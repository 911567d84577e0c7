set_option maxRecDepth 100000
set_option maxHeartbeats 4000000 in
theorem ct_J5_afterNodeAccess {G : GT} {h : AH} (hG : GOK G) (a b : Nat) : CPv G (MJ5_afterNodeAccess 0 0 0 0) h [.ref a, .ref b]  := by
  refine CT.of rfl hG (Nat.le_of_ble_eq_true rfl) rfl (fun E hQ => ?_)
  exact ww_vret hQ dJ5_afterNodeAccess_0 rfl (Nat.le_of_ble_eq_true rfl) (Nat.le_of_ble_eq_true rfl) ⟨rfl, rfl⟩

set_option maxHeartbeats 4000000 in
theorem ct_J5_afterNodeInsertion {G : GT} {h : AH} (hG : GOK G) (a b : Nat) : CPv G (MJ5_afterNodeInsertion 0 0 0 0) h [.ref a, .int (iI 1)]  := by
  refine CT.of rfl hG (Nat.le_of_ble_eq_true rfl) rfl (fun E hQ => ?_)
  exact ww_vret hQ dJ5_afterNodeInsertion_0 rfl (Nat.le_of_ble_eq_true rfl) (Nat.le_of_ble_eq_true rfl) ⟨rfl, rfl⟩

set_option maxHeartbeats 4000000 in
theorem ct_J5_afterNodeRemoval {G : GT} {h : AH} (hG : GOK G) (a b : Nat) : CPv G (MJ5_afterNodeRemoval 0 0 0 0) h [.ref a, .ref b]  := by
  refine CT.of rfl hG (Nat.le_of_ble_eq_true rfl) rfl (fun E hQ => ?_)
  exact ww_vret hQ dJ5_afterNodeRemoval_0 rfl (Nat.le_of_ble_eq_true rfl) (Nat.le_of_ble_eq_true rfl) ⟨rfl, rfl⟩

set_option maxHeartbeats 4000000 in
theorem ct_J5_resize0 {G : GT} {h : AH} (hG : GOK G) {o a : Nat} {sz mc : Int} {tb X : Nat → Option Nat} {A K V : Nat → Nat} {bk : Nat → List Nat} {of : Int → Int → Int} (hM : HMd G h o a 0 none sz mc tb X A K V bk of) : CT G (MJ5_resize 0 0 1 16) h [.ref a] (pR (fun r2 h' => HMd G h' o a 16 (some r2) sz mc (fun _ => none) X A K V (fun _ => []) of ∧ FO o 10200 10459 h h')) := by
  refine CT.of rfl hG (Nat.le_of_ble_eq_true rfl) rfl (fun E hQ => ?_)
  obtain ⟨ho, ha, h2, h3⟩ := hM
  have h3 : HA G h o A K V X of := h3
  have hno : ∀ c, lvo of c = false := by rcases h2 with q | ⟨r, F, e, -⟩; exact q.2.2; cases e
  have hF : FO o 10200 10459 h h := FO.rf
  refine ww_aload_n 0 dJ5_resize_0 rfl ?_
  refine ww_getf gf_J5_105 rfl dJ5_resize_1 ha rfl ?_
  refine ww_astore_nN [(1, _), (0, _)] dJ5_resize_4 (by decide) rfl ?_
  refine ww_aload_nN 0 dJ5_resize_5 rfl ?_
  refine ww_ifnonnullN dJ5_resize_6 ?_
  refine ww_iconst dJ5_resize_9 ?_
  refine ww_goto 15 dJ5_resize_10 (by decide) ?_
  refine ww_istore_n [(2, _), (1, _), (0, _)] dJ5_resize_15 (by decide) rfl ?_
  refine ww_aload_n 2 dJ5_resize_16 rfl ?_
  refine ww_getf gf_J5_88 rfl dJ5_resize_17 ha rfl ?_
  refine ww_istore_n [(3, _), (2, _), (1, _), (0, _)] dJ5_resize_20 (by decide) rfl ?_
  refine ww_iconst dJ5_resize_21 ?_
  refine ww_istore [(5, _), (3, _), (2, _), (1, _), (0, _)] dJ5_resize_22 (by decide) rfl ?_
  refine ww_iload_n 2 dJ5_resize_24 rfl ?_
  refine ww_if_le 67 dJ5_resize_25 (by decide) (inI.mk (by decide) (by decide)) (fun c_25 => ?_) (fun c_25 => ?_)
  · refine ww_iload_n 1 dJ5_resize_67 rfl ?_
    refine ww_if_le 77 dJ5_resize_68 (by decide) (inI.mk (by decide) (by decide)) (fun c_68 => ?_) (fun c_68 => ?_)
    · refine ww_bipush dJ5_resize_77 (by decide) ?_
      refine ww_istore [(4, _), (5, _), (3, _), (2, _), (1, _), (0, _)] dJ5_resize_79 (by decide) rfl ?_
      refine ww_bipush dJ5_resize_81 (by decide) ?_
      refine ww_istore [(5, _), (4, _), (3, _), (2, _), (1, _), (0, _)] dJ5_resize_83 (by decide) rfl ?_
      refine ww_iload 0 dJ5_resize_85 rfl ?_
      refine ww_if_ne 125 dJ5_resize_87 (by decide) (inI.mk (by decide) (by decide)) (fun c_87 => ?_) (fun c_87 => ?_)
      · refine ww_aload_n 5 dJ5_resize_125 rfl ?_
        refine ww_iload 0 dJ5_resize_126 rfl ?_
        refine wx_putf pf_J5_88 rfl dJ5_resize_128 ha ho (Nat.le_of_ble_eq_true rfl) rfl rfl (fun h_128 ha f_128 => ?_)
        have hF := hF.kt f_128 ⟨rfl, by omega, by omega⟩
        have h3 := h3.kt f_128 ho (by omega)
        refine ww_iload 1 dJ5_resize_131 rfl ?_
        refine wx_newR (N := 16) (j := 5) (fun _ => (o, 10330 + 16)) rfl (by decide) q1546 q1610 rfl rfl dJ5_resize_133 (fun q hq => ⟨ho, Nat.le_of_lt (hq.2 _ _ _ ha).2⟩) (Nat.le_of_ble_eq_true rfl) (Nat.le_of_ble_eq_true rfl) (fun q_133 h_133 n_133 e_133 hq => ?_)
        have ha := e_133 _ _ ha
        have hF := hF.ex e_133
        have h3 := h3.ex e_133
        refine ww_astore [(6, _), (5, _), (4, _), (3, _), (2, _), (1, _), (0, _)] dJ5_resize_136 (by decide) rfl ?_
        refine ww_aload_n 6 dJ5_resize_138 rfl ?_
        refine ww_aload 0 dJ5_resize_139 rfl ?_
        refine wx_putf pf_J5_105 rfl dJ5_resize_141 ha ho (Nat.le_of_ble_eq_true rfl) rfl rfl (fun h_141 ha f_141 => ?_)
        have hq := f_141.at hq (by omega)
        have hF := hF.kt f_141 ⟨rfl, by omega, by omega⟩
        have h3 := h3.kt f_141 ho (by omega)
        refine ww_aload_nN 5 dJ5_resize_144 rfl ?_
        refine ww_ifnullN 353 dJ5_resize_145 (by decide) ?_
        refine ww_aload 0 dJ5_resize_353 rfl ?_
        exact ww_aret hQ dJ5_resize_355 rfl rfl (Nat.le_of_ble_eq_true rfl) (Nat.le_of_ble_eq_true rfl) ⟨_, rfl, ⟨ho, ha, Or.inr ⟨_, _, rfl, hq, fun j hj => rfl, Or.inl rfl, fun i hi => ⟨rfl, List.nodup_nil, fun c hc => by cases hc⟩, fun c hc => by rw [hno c] at hc; cases hc⟩, h3⟩, hF⟩
      · exact absurd c_87 (by decide)
    · exact absurd c_68 (by decide)
  · exact absurd c_25 (by decide)

set_option maxHeartbeats 4000000 in
theorem ct_J5_resizeS {G : GT} {h : AH} (hG : GOK G) {o a N r : Nat} {sz mc : Int} {tb X : Nat → Option Nat} {A K V : Nat → Nat} {bk : Nat → List Nat} {of : Int → Int → Int} (hM : HMd G h o a N (some r) sz mc tb X A K V bk of) (hN : N ≤ 64) : CT G (MJ5_resize 0 0 1 128) h [.ref a] (pR (fun r2 h' => ∃ tb2 X2 bk2, HMd G h' o a (2 * N) (some r2) sz mc tb2 X2 A K V bk2 of ∧ FO o 10200 10459 h h')) := by
  refine CT.of rfl hG (Nat.le_of_ble_eq_true rfl) rfl (fun E hQ => ?_)
  have hM0 := hM
  obtain ⟨ho, ha, h2, h3⟩ := hM
  have h3 : HA G h o A K V X of := h3
  obtain ⟨F, hr, hF0, hcap, hI⟩ : ∃ F, h r = some ((o, 10330 + N), aR G 5 N F) ∧ (∀ j : Nat, j < N → F (j : Int) = (tb j).map A) ∧ tcap N ∧ HI N tb X of bk := by rcases h2 with ⟨e, -⟩ | ⟨r2, F, e, q⟩; cases e; cases e; exact ⟨F, q⟩
  have hF : FO o 10200 10459 h h := FO.rf
  have hNp := hcap.pos
  have hN3 : N = 16 ∨ N = 32 ∨ N = 64 := by rcases hcap with e | e | e | e <;> omega
  have hcap2 : tcap (2 * N) := by rcases hN3 with e | e | e <;> rw [e] <;> simp [tcap]
  obtain ⟨qq, hqq, hq7⟩ := hcap.pow
  have hmd : ∀ i, i < N → ∀ c ∈ bk i, c % N = i := fun i hi c hc => ((hI.1 i hi).2.2 c hc).2
  refine ww_aload_n 0 dJ5_resize_0 rfl ?_
  refine ww_getf gf_J5_105 rfl dJ5_resize_1 ha rfl ?_
  refine ww_astore_n [(1, _), (0, _)] dJ5_resize_4 (by decide) rfl ?_
  refine ww_aload_n 0 dJ5_resize_5 rfl ?_
  refine ww_ifnonnull 13 dJ5_resize_6 (by decide) ?_
  refine ww_aload_n 0 dJ5_resize_13 rfl ?_
  refine ww_alenR dJ5_resize_14 hr (by decide) ?_
  refine ww_istore_n [(2, _), (1, _), (0, _)] dJ5_resize_15 (by decide) rfl ?_
  refine ww_aload_n 2 dJ5_resize_16 rfl ?_
  refine ww_getf gf_J5_88 rfl dJ5_resize_17 ha rfl ?_
  refine ww_istore_n [(3, _), (2, _), (1, _), (0, _)] dJ5_resize_20 (by decide) rfl ?_
  refine ww_iconst dJ5_resize_21 ?_
  refine ww_istore [(5, _), (3, _), (2, _), (1, _), (0, _)] dJ5_resize_22 (by decide) rfl ?_
  refine ww_iload_n 2 dJ5_resize_24 rfl ?_
  refine ww_if_le 67 dJ5_resize_25 (by decide) (inI.mk (by omega) (by omega)) (fun c_25 => ?_) (fun c_25 => ?_)
  · exact absurd c_25 (by omega)
  · refine ww_iload_n 2 dJ5_resize_28 rfl ?_
    refine ww_ldc q1607 dJ5_resize_29 (z := 1073741824) rfl ?_
    refine ww_icmp_lt 42 dJ5_resize_31 (by decide) (inI.mk (by omega) (by omega)) (inI.mk (by omega) (by omega)) (fun c_31 => ?_) (fun c_31 => ?_)
    · refine ww_iload_n 2 dJ5_resize_42 rfl ?_
      refine ww_iconst dJ5_resize_43 ?_
      refine ww_ishl (a := N) (b := 1) dJ5_resize_44 (by decide) (by omega) ?_
      rw [show N * 2 ^ 1 = 2 * N by omega]
      refine ww_dup dJ5_resize_45 rfl ?_
      refine ww_istore [(4, _), (5, _), (3, _), (2, _), (1, _), (0, _)] dJ5_resize_46 (by decide) rfl ?_
      refine ww_ldc q1607 dJ5_resize_48 (z := 1073741824) rfl ?_
      refine ww_icmp_ge 85 dJ5_resize_50 (by decide) (inI.mk (by omega) (by omega)) (inI.mk (by omega) (by omega)) (fun c_50 => ?_) (fun c_50 => ?_)
      · exact absurd c_50 (by omega)
      · refine ww_iload_n 3 dJ5_resize_53 rfl ?_
        refine ww_bipush dJ5_resize_54 (by decide) ?_
        refine ww_icmp_lt 85 dJ5_resize_56 (by decide) (inI.mk (by omega) (by omega)) (inI.mk (by omega) (by omega)) (fun c_56 => ?_) (fun c_56 => ?_)
        · exact absurd c_56 (by omega)
        · refine ww_iload_n 2 dJ5_resize_59 rfl ?_
          refine ww_iconst dJ5_resize_60 ?_
          refine ww_ishl (a := 3 * N / 4) (b := 1) dJ5_resize_61 (by decide) (by omega) ?_
          rw [show 3 * N / 4 * 2 ^ 1 = 3 * (2 * N) / 4 by rcases hN3 with e | e | e <;> rw [e]]
          refine ww_istore [(5, _), (4, _), (3, _), (2, _), (1, _), (0, _)] dJ5_resize_62 (by decide) rfl ?_
          refine ww_goto 85 dJ5_resize_64 (by decide) ?_
          refine ww_iload 0 dJ5_resize_85 rfl ?_
          refine ww_if_ne 125 dJ5_resize_87 (by decide) (inI.mk (by omega) (by omega)) (fun c_87 => ?_) (fun c_87 => ?_)
          · refine ww_aload_n 5 dJ5_resize_125 rfl ?_
            refine ww_iload 0 dJ5_resize_126 rfl ?_
            refine wx_putf pf_J5_88 rfl dJ5_resize_128 ha ho (Nat.le_of_ble_eq_true rfl) rfl rfl (fun h_128 ha f_128 => ?_)
            have hr := f_128.at hr (by omega)
            skip
            have hF := hF.kt f_128 ⟨rfl, by omega, by omega⟩
            have h3 := h3.kt f_128 ho (by omega)
            refine ww_iload 1 dJ5_resize_131 rfl ?_
            refine wx_newR (N := 2 * N) (j := 5) (fun _ => (o, 10330 + 2 * N)) rfl (by omega) q1546 q1610 rfl rfl dJ5_resize_133 (fun q hq => ⟨ho, Nat.le_of_lt (hq.2 _ _ _ ha).2⟩) (Nat.le_of_ble_eq_true rfl) (by show 0 + 2 * N ≤ 128; omega) (fun q_133 h_133 n_133 e_133 hq => ?_)
            have ha := e_133 _ _ ha
            have hr := e_133 _ _ hr
            have hF := hF.ex e_133
            have h3 := h3.ex e_133
            refine ww_astore [(6, _), (5, _), (4, _), (3, _), (2, _), (1, _), (0, _)] dJ5_resize_136 (by decide) rfl ?_
            refine ww_aload_n 6 dJ5_resize_138 rfl ?_
            refine ww_aload 0 dJ5_resize_139 rfl ?_
            refine wx_putf pf_J5_105 rfl dJ5_resize_141 ha ho (Nat.le_of_ble_eq_true rfl) rfl rfl (fun h_141 ha f_141 => ?_)
            have hr := f_141.at hr (by omega)
            have hq := f_141.at hq (by omega)
            have hF := hF.kt f_141 ⟨rfl, by omega, by omega⟩
            have h3 := h3.kt f_141 ho (by omega)
            clear hM0
            generalize q_133 = q at *
            refine ww_aload_n 5 dJ5_resize_144 rfl ?_
            refine ww_ifnull dJ5_resize_145 ?_
            refine ww_iconst dJ5_resize_148 ?_
            refine ww_istore [(7, _), (6, _), (5, _), (4, _), (3, _), (2, _), (1, _), (0, _)] dJ5_resize_149 (by decide) rfl ?_
            have loop_151 : ∀ (f : Nat) (j : Nat) (hx : AH) (F2 F3 : Int → Option Nat) (X2 tn : Nat → Option Nat), (hx a = some ((o, 10200), ob 11 (hmf (some q) sz mc ((3 * (2 * N) / 4 : Nat) : Int)))) → (hx r = some ((o, 10330 + N), aR G 5 N F2)) → (∀ i : Nat, j ≤ i → i < N → F2 (i : Int) = (tb i).map A) → (hx q = some ((o, 10330 + 2 * N), aR G 5 (2 * N) F3)) → (∀ i : Nat, i < 2 * N → F3 (i : Int) = (tn i).map A) → (HA G hx o A K V X2 of) → (FO o 10200 10459 h hx) → (RBo N bk tb j X2 tn) → (j ≤ N) → (N - j < f) → WW G E (MJ5_resize 0 0 1 128) hx (0 + 1) (0 + 2 * N) 151 [(1, .ref r), (2, .int (iI (N : Int))), (4, .int (iI ((2 * N : Nat) : Int))), (6, .ref q), (7, .int (iI (j : Int)))] [] := by
              intro f
              induction f with
              | zero => intro j hx F2 F3 X2 tn ha hr hF2 hq hF3 h3 hF hR hjN hf; exact absurd hf (by omega)
              | succ f ih =>
                intro j hx F2 F3 X2 tn ha hr hF2 hq hF3 h3 hF hR hjN hf
                refine ww_iload 4 dJ5_resize_151 rfl ?_
                refine ww_iload_n 1 dJ5_resize_153 rfl ?_
                refine ww_icmp_ge 353 dJ5_resize_154 (by decide) (inI.mk (by omega) (by omega)) (inI.mk (by omega) (by omega)) (fun c_154 => ?_) (fun c_154 => ?_)
                · have hjN2 : j = N := by omega
                  rw [hjN2] at hR
                  refine ww_aload 3 dJ5_resize_353 rfl ?_
                  exact ww_aret hQ dJ5_resize_355 rfl rfl (Nat.le_of_ble_eq_true rfl) (by show 0 + 2 * N ≤ 128; omega) ⟨_, rfl, tn, X2, _, ⟨ho, ha, Or.inr ⟨q, F3, rfl, hq, hF3, hcap2, hR.done (by omega) hI⟩, h3⟩, hF⟩
                · have hjl : j < N := by omega
                  refine ww_aload_n 0 dJ5_resize_157 rfl ?_
                  refine ww_iload 4 dJ5_resize_158 rfl ?_
                  refine ww_aald dJ5_resize_160 hr rfl rfl (by omega) (by omega) (by omega) ?_
                  rw [hF2 j (Nat.le_refl _) hjl]
                  have hxx : tb j = none ∨ ∃ y9, tb j = some y9 := by cases tb j with | none => exact Or.inl rfl | some y9 => exact Or.inr ⟨y9, rfl⟩
                  have hpj := hR.2 hjl
                  rcases hxx with e0 | ⟨d, e0⟩
                  · rw [e0] at hpj ⊢
                    have hl0 := hpj.nil
                    refine ww_dup dJ5_resize_161 rfl ?_
                    refine ww_astoreN [(8, _), (1, _), (2, _), (4, _), (6, _), (7, _)] dJ5_resize_162 (by decide) rfl ?_
                    refine ww_ifnullN 347 dJ5_resize_164 (by decide) ?_
                    refine ww_iinc (j := 5) [(7, _), (8, _), (1, _), (2, _), (4, _), (6, _)] dJ5_resize_347 rfl (by decide) rfl ?_
                    refine ww_goto 151 dJ5_resize_350 (by decide) ?_
                    refine ww_sub [2, 3, 4, 5, 0] rfl ?_
                    exact ih (j + 1) _ _ _ X2 tn ha hr (fun i h1 hi => hF2 i (by omega) hi) hq hF3 h3 hF (hR.1.next hjl (by rw [hl0]; exact (hR.1.2.2 j hjl (Nat.le_refl _)).1) (by rw [hl0]; exact (hR.1.2.2 j hjl (Nat.le_refl _)).2) (fun _ _ _ => rfl)) (by omega) (by omega)
                  · rw [e0] at hpj ⊢
                    obtain ⟨l, hl1, hp⟩ := hpj.cons
                    have hdb : d ∈ bk j := by rw [hl1]; exact List.mem_cons_self
                    have hld := ((hI.1 j hjl).2.2 d hdb).1
                    have hdm := ((hI.1 j hjl).2.2 d hdb).2
                    have hd8 := (lvo_lt hld).1
                    have hNd := (h3 d hld).1.1
                    refine ww_dup dJ5_resize_161 rfl ?_
                    refine ww_astore [(8, _), (1, _), (2, _), (4, _), (6, _), (7, _)] dJ5_resize_162 (by decide) rfl ?_
                    refine ww_ifnull dJ5_resize_164 ?_
                    refine ww_aload_n 1 dJ5_resize_167 rfl ?_
                    refine ww_iload 5 dJ5_resize_168 rfl ?_
                    refine ww_null dJ5_resize_170 ?_
                    refine wx_aastN dJ5_resize_171 hr ho rfl (by omega) (by omega) (by omega) (fun h_171 hr f_171 => ?_)
                    have ha := f_171.at ha (by omega)
                    have hq := f_171.at hq (by omega)
                    have hF := hF.kt f_171 ⟨rfl, by omega, by omega⟩
                    have h3 := h3.kt f_171 ho (by omega)
                    have hNd := (h3 d hld).1.1
                    refine ww_aload 0 dJ5_resize_172 rfl ?_
                    refine ww_getf gf_J5_177 rfl dJ5_resize_174 hNd rfl ?_
                    have hxx : X2 d = none ∨ ∃ y9, X2 d = some y9 := by cases X2 d with | none => exact Or.inl rfl | some y9 => exact Or.inr ⟨y9, rfl⟩
                    rcases hxx with hxd | ⟨d2, hxd⟩
                    · rw [hxd] at hp ⊢
                      have hl0 := hp.nil
                      have h2p : 2 ^ (qq + 1) = 2 * N := by rw [Nat.pow_succ, ← hqq]; omega
                      have hlt2 : d % (2 * N) < 2 * N := Nat.mod_lt _ (by omega)
                      have hR9 : RBo N bk tb (j + 1) X2 (ux tn (d % (2 * N)) (some d)) := by
                          have hm2 := mod2 d N
                          rw [hdm] at hm2
                          have hz := hR.1.2.2 j hjl (Nat.le_refl _)
                          rcases Nat.mod_two_eq_zero_or_one (d / N) with c0 | c0
                          · rw [c0, Nat.mul_zero, Nat.add_zero] at hm2
                            rw [hm2]
                            refine hR.1.next hjl ?_ ?_ (fun i h1 h2 => ux_n h1)
                            · rw [ux_s, hl1, hl0, show loL N [d] = [d] by unfold loL; simp [c0]]; exact ⟨rfl, by rw [hxd]; rfl⟩
                            · rw [ux_n (by omega), hl1, hl0]; unfold hiL; rw [List.filter_cons_of_neg (by rw [decide_eq_true_eq]; omega)]; exact hz.2
                          · rw [c0, Nat.mul_one] at hm2
                            rw [hm2]
                            refine hR.1.next hjl ?_ ?_ (fun i h1 h2 => ux_n h2)
                            · rw [ux_n (by omega), hl1, hl0]; unfold loL; rw [List.filter_cons_of_neg (by rw [decide_eq_true_eq]; omega)]; exact hz.1
                            · rw [ux_s, hl1, hl0, show hiL N [d] = [d] by unfold hiL; simp [c0]]; exact ⟨rfl, by rw [hxd]; rfl⟩
                      refine ww_ifnonnullN dJ5_resize_177 ?_
                      refine ww_aload 4 dJ5_resize_180 rfl ?_
                      refine ww_aload 0 dJ5_resize_182 rfl ?_
                      refine ww_getf gf_J5_168 rfl dJ5_resize_184 hNd rfl ?_
                      refine ww_iload 3 dJ5_resize_187 rfl ?_
                      refine ww_iconst dJ5_resize_189 ?_
                      refine ww_isub dJ5_resize_190 ?_
                      refine ww_iand (m := 0) dJ5_resize_191 (qq + 1) (by rw [bt_toNat, h2p]; omega) (by omega) ?_
                      rw [h2p]
                      refine ww_aload 0 dJ5_resize_192 rfl ?_
                      refine wx_aast (Or.inl rfl) dJ5_resize_194 hq ho rfl hNd rfl (by omega) (by omega) (by omega) (fun h_194 hq f_194 => ?_)
                      have ha := f_194.at ha (by omega)
                      have hr := f_194.at hr (by omega)
                      have hF := hF.kt f_194 ⟨rfl, by omega, by omega⟩
                      have h3 := h3.kt f_194 ho (by omega)
                      refine ww_goto 347 dJ5_resize_195 (by decide) ?_
                      refine ww_iinc (j := 5) [(7, _), (8, _), (1, _), (2, _), (4, _), (6, _)] dJ5_resize_347 rfl (by decide) rfl ?_
                      refine ww_goto 151 dJ5_resize_350 (by decide) ?_
                      refine ww_sub [2, 3, 4, 5, 0] rfl ?_
                      exact ih (j + 1) _ _ _ X2 (ux tn (d % (2 * N)) (some d)) ha hr (fun i h1 hi => by rw [iup_n (by omega)]; exact hF2 i (by omega) hi) hq (fun i hi => if e9 : i = d % (2 * N) then (by subst e9; rw [iup_s, ux_s]; rfl) else (by rw [iup_n (by omega), ux_n e9]; exact hF3 i hi)) h3 hF hR9 (by omega) (by omega)
                    · rw [hxd]
                      refine ww_ifnonnull 198 dJ5_resize_177 (by decide) ?_
                      refine ww_aload 0 dJ5_resize_198 rfl ?_
                      refine ww_instNo dJ5_resize_200 hNd rfl q866 no_tn rfl ?_
                      refine ww_if_eq 223 dJ5_resize_203 (by decide) (inI.mk (by decide) (by decide)) (fun c_203 => ?_) (fun c_203 => ?_)
                      · have join_309 : ∀ (lh lt hh ht : Option Nat) (hx : AH) (X2 : Nat → Option Nat), (hx a = some ((o, 10200), ob 11 (hmf (some q) sz mc ((3 * (2 * N) / 4 : Nat) : Int)))) → (hx r = some ((o, 10330 + N), aR G 5 N (iup F2 (j : Int) none))) → (hx q = some ((o, 10330 + 2 * N), aR G 5 (2 * N) F3)) → (HA G hx o A K V X2 of) → (FO o 10200 10459 h hx) → (RB N bk tb j X2 tn) → (lh = (loL N (bk j)).head?) → (lt = (loL N (bk j)).getLast?) → (hh = (hiL N (bk j)).head?) → (ht = (hiL N (bk j)).getLast?) → (Sg X2 (loL N (bk j))) → (Sg X2 (hiL N (bk j))) → WW G E (MJ5_resize 0 0 1 128) hx (0 + 1) (0 + 2 * N) 309 [(1, .ref r), (2, .int (iI (N : Int))), (4, .int (iI ((2 * N : Nat) : Int))), (6, .ref q), (7, .int (iI (j : Int))), (9, va_rf (lh.map A)), (10, va_rf (lt.map A)), (11, va_rf (hh.map A)), (12, va_rf (ht.map A))] [] := by
                          intro lh lt hh ht hx X2 ha hr hq h3 hF hR hlh hlt hhh hht hSl hSh
                          obtain ⟨-, hnb, hbm⟩ := hI.1 j hjl
                          refine ww_aloadq 6 dJ5_resize_309 rfl ?_
                          rcases lst_or hlt with ⟨hz, hl9⟩ | ⟨d, l0, hz, hl9⟩
                          · subst hz
                            have hPl : Pth X2 (tn j) (loL N (bk j)) := by rw [hl9]; exact (hR.2.2 j hjl (Nat.le_refl _)).1
                            have hee : ∀ i, i ≠ j → i ≠ j + N → tn i = tn i := fun _ _ _ => rfl
                            have hz2 := (hR.2.2 j hjl (Nat.le_refl _)).2
                            refine ww_ifnullN 327 dJ5_resize_311 (by decide) ?_
                            refine ww_aloadq 8 dJ5_resize_327 rfl ?_
                            rcases lst_or hht with ⟨hy, hl8⟩ | ⟨d2, l1, hy, hl8⟩
                            · subst hy
                              have hPh : ∀ Y, Pth Y (tn (j + N)) (hiL N (bk j)) := fun Y => by rw [hl8]; exact hz2
                              refine ww_ifnullN 347 dJ5_resize_329 (by decide) ?_
                              refine ww_iinc (j := 4) [(7, _), (1, _), (2, _), (4, _), (6, _), (9, _), (10, _), (11, _), (12, _)] dJ5_resize_347 rfl (by decide) rfl ?_
                              refine ww_goto 151 dJ5_resize_350 (by decide) ?_
                              refine ww_sub [1, 2, 3, 4, 0] rfl ?_
                              exact ih (j + 1) _ _ _ _ _ ha hr (fun i h1 hi => by rw [iup_n (by omega)]; exact hF2 i (by omega) hi) hq hF3 h3 hF (hR.next hjl hPl (hPh _) hee) (by omega) (by omega)
                            · subst hy
                              have hdb2 : d2 ∈ bk j := (hi_sub (N := N) (by rw [hl8]; exact List.mem_append_right _ List.mem_cons_self)).1
                              have hld2 := (hbm d2 hdb2).1
                              have hdm2 := (hbm d2 hdb2).2
                              have hd28 := (lvo_lt hld2).1
                              have hNd2 := (h3 d2 hld2).1.1
                              obtain ⟨c1, hc1, hm1⟩ := hd_in (l := l1) (d := d2)
                              rw [hl8, hc1] at hhh
                              subst hhh
                              have hc1b : c1 ∈ bk j := (hi_sub (N := N) (by rw [hl8]; exact hm1)).1
                              have hlc1 := (hbm c1 hc1b).1
                              have hdl2 : d2 ∉ loL N (bk j) := fun z => by have h8 := (hi_sub (N := N) (c := d2) (l := bk j) (by rw [hl8]; exact List.mem_append_right _ List.mem_cons_self)).2; have h7 := (lo_sub z).2; omega
                              have hPl := hPl.up (v := none) hdl2
                              have hPl : Pth (ux X2 d2 none) (ux tn (j + N) (some c1) j) (loL N (bk j)) := by rw [ux_n (by omega)]; exact hPl
                              have hR := hR.up (v := none) hmd hdm2
                              have hSh9 := Sg.pth (by rw [← hl8]; exact hSh) (by rw [← hl8]; exact (lo_nd hnb).2)
                              rw [hc1, ← hl8] at hSh9
                              have hPh : Pth (ux X2 d2 none) (ux tn (j + N) (some c1) (j + N)) (hiL N (bk j)) := by rw [ux_s]; exact hSh9
                              have hee : ∀ i, i ≠ j → i ≠ j + N → ux tn (j + N) (some c1) i = tn i := fun i h1 h2 => (ux_n h2).trans (hee i h1 h2)
                              refine ww_ifnull dJ5_resize_329 ?_
                              refine ww_aloadq 8 dJ5_resize_332 rfl ?_
                              refine ww_null dJ5_resize_334 ?_
                              refine wx_putf pf_J5_177 rfl dJ5_resize_335 hNd2 ho (Nat.le_of_ble_eq_true rfl) rfl rfl (fun h_335 hNd2 f_335 => ?_)
                              have ha := f_335.at ha (by omega)
                              have hr := f_335.at hr (by omega)
                              have hq := f_335.at hq (by omega)
                              have hF := hF.kt f_335 ⟨rfl, by omega, by omega⟩
                              have h3 := h3.put ho (v := none) hNd2 f_335
                              have hN1 := (h3 c1 hlc1).1.1
                              refine ww_aload 3 dJ5_resize_338 rfl ?_
                              refine ww_iload 4 dJ5_resize_340 rfl ?_
                              refine ww_iload_n 1 dJ5_resize_342 rfl ?_
                              refine ww_iadd dJ5_resize_343 ?_
                              refine ww_aloadq 7 dJ5_resize_344 rfl ?_
                              rw [show (j : Int) + (N : Int) = ((j + N : Nat) : Int) by omega]
                              refine wx_aast (Or.inl rfl) dJ5_resize_346 hq ho rfl hN1 rfl (by omega) (by omega) (by omega) (fun h_346 hq f_346 => ?_)
                              have ha := f_346.at ha (by omega)
                              have hr := f_346.at hr (by omega)
                              have hF := hF.kt f_346 ⟨rfl, by omega, by omega⟩
                              have h3 := h3.kt f_346 ho (by omega)
                              have hF3 : ∀ i : Nat, i < 2 * N → iup F3 ((j + N : Nat) : Int) (some (A c1)) (i : Int) = (ux tn (j + N) (some c1) i).map A := fun i hi => by
                                  by_cases e9 : i = j + N
                                  · subst e9; rw [iup_s, ux_s]; rfl
                                  · rw [iup_n (by omega), ux_n e9]; exact hF3 i hi
                              refine ww_iinc (j := 4) [(7, _), (1, _), (2, _), (4, _), (6, _), (9, _), (10, _), (11, _), (12, _)] dJ5_resize_347 rfl (by decide) rfl ?_
                              refine ww_goto 151 dJ5_resize_350 (by decide) ?_
                              refine ww_sub [1, 2, 3, 4, 0] rfl ?_
                              exact ih (j + 1) _ _ _ _ _ ha hr (fun i h1 hi => by rw [iup_n (by omega)]; exact hF2 i (by omega) hi) hq hF3 h3 hF (hR.next hjl hPl hPh hee) (by omega) (by omega)
                          · subst hz
                            have hdb : d ∈ bk j := (lo_sub (N := N) (by rw [hl9]; exact List.mem_append_right _ List.mem_cons_self)).1
                            have hld := (hbm d hdb).1
                            have hdm := (hbm d hdb).2
                            have hd8 := (lvo_lt hld).1
                            have hNd := (h3 d hld).1.1
                            obtain ⟨c0, hc0, hm0⟩ := hd_in (l := l0) (d := d)
                            rw [hl9, hc0] at hlh
                            subst hlh
                            have hc0b : c0 ∈ bk j := (lo_sub (N := N) (by rw [hl9]; exact hm0)).1
                            have hlc0 := (hbm c0 hc0b).1
                            have hdh : d ∉ hiL N (bk j) := fun z => by have h8 := (lo_sub (N := N) (c := d) (l := bk j) (by rw [hl9]; exact List.mem_append_right _ List.mem_cons_self)).2; have h7 := (hi_sub z).2; omega
                            have hPl : Pth (ux X2 d none) (ux tn j (some c0) j) (loL N (bk j)) := by rw [ux_s, hl9, ← hc0]; exact Sg.pth (by rw [← hl9]; exact hSl) (by rw [← hl9]; exact (lo_nd hnb).1)
                            have hSh := hSh.up (v := none) hdh
                            have hR := hR.up (v := none) hmd hdm
                            have hz2 : ux tn j (some c0) (j + N) = none := by rw [ux_n (by omega)]; exact (hR.2.2 j hjl (Nat.le_refl _)).2
                            have hee : ∀ i, i ≠ j → i ≠ j + N → ux tn j (some c0) i = tn i := fun i h1 _ => ux_n h1
                            refine ww_ifnull dJ5_resize_311 ?_
                            refine ww_aloadq 6 dJ5_resize_314 rfl ?_
                            refine ww_null dJ5_resize_316 ?_
                            refine wx_putf pf_J5_177 rfl dJ5_resize_317 hNd ho (Nat.le_of_ble_eq_true rfl) rfl rfl (fun h_317 hNd f_317 => ?_)
                            have ha := f_317.at ha (by omega)
                            have hr := f_317.at hr (by omega)
                            have hq := f_317.at hq (by omega)
                            have hF := hF.kt f_317 ⟨rfl, by omega, by omega⟩
                            have h3 := h3.put ho (v := none) hNd f_317
                            have hN0 := (h3 c0 hlc0).1.1
                            refine ww_aload 3 dJ5_resize_320 rfl ?_
                            refine ww_iload 4 dJ5_resize_322 rfl ?_
                            refine ww_aloadq 5 dJ5_resize_324 rfl ?_
                            refine wx_aast (Or.inl rfl) dJ5_resize_326 hq ho rfl hN0 rfl (by omega) (by omega) (by omega) (fun h_326 hq f_326 => ?_)
                            have ha := f_326.at ha (by omega)
                            have hr := f_326.at hr (by omega)
                            have hF := hF.kt f_326 ⟨rfl, by omega, by omega⟩
                            have h3 := h3.kt f_326 ho (by omega)
                            have hF3 : ∀ i : Nat, i < 2 * N → iup F3 ((j : Nat) : Int) (some (A c0)) (i : Int) = (ux tn (j) (some c0) i).map A := fun i hi => by
                                by_cases e9 : i = j
                                · subst e9; rw [iup_s, ux_s]; rfl
                                · rw [iup_n (by omega), ux_n e9]; exact hF3 i hi
                            refine ww_aloadq 8 dJ5_resize_327 rfl ?_
                            rcases lst_or hht with ⟨hy, hl8⟩ | ⟨d2, l1, hy, hl8⟩
                            · subst hy
                              have hPh : ∀ Y, Pth Y ((ux tn j (some c0)) (j + N)) (hiL N (bk j)) := fun Y => by rw [hl8]; exact hz2
                              refine ww_ifnullN 347 dJ5_resize_329 (by decide) ?_
                              refine ww_iinc (j := 4) [(7, _), (1, _), (2, _), (4, _), (6, _), (9, _), (10, _), (11, _), (12, _)] dJ5_resize_347 rfl (by decide) rfl ?_
                              refine ww_goto 151 dJ5_resize_350 (by decide) ?_
                              refine ww_sub [1, 2, 3, 4, 0] rfl ?_
                              exact ih (j + 1) _ _ _ _ _ ha hr (fun i h1 hi => by rw [iup_n (by omega)]; exact hF2 i (by omega) hi) hq hF3 h3 hF (hR.next hjl hPl (hPh _) hee) (by omega) (by omega)
                            · subst hy
                              have hdb2 : d2 ∈ bk j := (hi_sub (N := N) (by rw [hl8]; exact List.mem_append_right _ List.mem_cons_self)).1
                              have hld2 := (hbm d2 hdb2).1
                              have hdm2 := (hbm d2 hdb2).2
                              have hd28 := (lvo_lt hld2).1
                              have hNd2 := (h3 d2 hld2).1.1
                              obtain ⟨c1, hc1, hm1⟩ := hd_in (l := l1) (d := d2)
                              rw [hl8, hc1] at hhh
                              subst hhh
                              have hc1b : c1 ∈ bk j := (hi_sub (N := N) (by rw [hl8]; exact hm1)).1
                              have hlc1 := (hbm c1 hc1b).1
                              have hdl2 : d2 ∉ loL N (bk j) := fun z => by have h8 := (hi_sub (N := N) (c := d2) (l := bk j) (by rw [hl8]; exact List.mem_append_right _ List.mem_cons_self)).2; have h7 := (lo_sub z).2; omega
                              have hPl := hPl.up (v := none) hdl2
                              have hPl : Pth (ux (ux X2 d none) d2 none) (ux (ux tn j (some c0)) (j + N) (some c1) j) (loL N (bk j)) := by rw [ux_n (by omega)]; exact hPl
                              have hR := hR.up (v := none) hmd hdm2
                              have hSh9 := Sg.pth (by rw [← hl8]; exact hSh) (by rw [← hl8]; exact (lo_nd hnb).2)
                              rw [hc1, ← hl8] at hSh9
                              have hPh : Pth (ux (ux X2 d none) d2 none) (ux (ux tn j (some c0)) (j + N) (some c1) (j + N)) (hiL N (bk j)) := by rw [ux_s]; exact hSh9
                              have hee : ∀ i, i ≠ j → i ≠ j + N → ux (ux tn j (some c0)) (j + N) (some c1) i = tn i := fun i h1 h2 => (ux_n h2).trans (hee i h1 h2)
                              refine ww_ifnull dJ5_resize_329 ?_
                              refine ww_aloadq 8 dJ5_resize_332 rfl ?_
                              refine ww_null dJ5_resize_334 ?_
                              refine wx_putf pf_J5_177 rfl dJ5_resize_335 hNd2 ho (Nat.le_of_ble_eq_true rfl) rfl rfl (fun h_335 hNd2 f_335 => ?_)
                              have ha := f_335.at ha (by omega)
                              have hr := f_335.at hr (by omega)
                              have hq := f_335.at hq (by omega)
                              have hF := hF.kt f_335 ⟨rfl, by omega, by omega⟩
                              have h3 := h3.put ho (v := none) hNd2 f_335
                              have hN1 := (h3 c1 hlc1).1.1
                              refine ww_aload 3 dJ5_resize_338 rfl ?_
                              refine ww_iload 4 dJ5_resize_340 rfl ?_
                              refine ww_iload_n 1 dJ5_resize_342 rfl ?_
                              refine ww_iadd dJ5_resize_343 ?_
                              refine ww_aloadq 7 dJ5_resize_344 rfl ?_
                              rw [show (j : Int) + (N : Int) = ((j + N : Nat) : Int) by omega]
                              refine wx_aast (Or.inl rfl) dJ5_resize_346 hq ho rfl hN1 rfl (by omega) (by omega) (by omega) (fun h_346 hq f_346 => ?_)
                              have ha := f_346.at ha (by omega)
                              have hr := f_346.at hr (by omega)
                              have hF := hF.kt f_346 ⟨rfl, by omega, by omega⟩
                              have h3 := h3.kt f_346 ho (by omega)
                              have hF3 : ∀ i : Nat, i < 2 * N → iup (iup F3 (j : Int) (some (A c0))) ((j + N : Nat) : Int) (some (A c1)) (i : Int) = (ux (ux tn j (some c0)) (j + N) (some c1) i).map A := fun i hi => by
                                  by_cases e9 : i = j + N
                                  · subst e9; rw [iup_s, ux_s]; rfl
                                  · rw [iup_n (by omega), ux_n e9]; exact hF3 i hi
                              refine ww_iinc (j := 4) [(7, _), (1, _), (2, _), (4, _), (6, _), (9, _), (10, _), (11, _), (12, _)] dJ5_resize_347 rfl (by decide) rfl ?_
                              refine ww_goto 151 dJ5_resize_350 (by decide) ?_
                              refine ww_sub [1, 2, 3, 4, 0] rfl ?_
                              exact ih (j + 1) _ _ _ _ _ ha hr (fun i h1 hi => by rw [iup_n (by omega)]; exact hF2 i (by omega) hi) hq hF3 h3 hF (hR.next hjl hPl hPh hee) (by omega) (by omega)
                        refine ww_null dJ5_resize_223 ?_
                        refine ww_astoreN [(9, _), (8, _), (1, _), (2, _), (4, _), (6, _), (7, _)] dJ5_resize_224 (by decide) rfl ?_
                        refine ww_null dJ5_resize_226 ?_
                        refine ww_astoreN [(10, _), (9, _), (8, _), (1, _), (2, _), (4, _), (6, _), (7, _)] dJ5_resize_227 (by decide) rfl ?_
                        refine ww_null dJ5_resize_229 ?_
                        refine ww_astoreN [(11, _), (10, _), (9, _), (8, _), (1, _), (2, _), (4, _), (6, _), (7, _)] dJ5_resize_230 (by decide) rfl ?_
                        refine ww_null dJ5_resize_232 ?_
                        refine ww_astoreN [(12, _), (11, _), (10, _), (9, _), (8, _), (1, _), (2, _), (4, _), (6, _), (7, _)] dJ5_resize_233 (by decide) rfl ?_
                        have loop_235 : ∀ (e2 : Nat) (e : Nat) (p l : List Nat) (lh lt hh ht : Option Nat) (hx : AH) (X2 : Nat → Option Nat), (hx a = some ((o, 10200), ob 11 (hmf (some q) sz mc ((3 * (2 * N) / 4 : Nat) : Int)))) → (hx r = some ((o, 10330 + N), aR G 5 N (iup F2 (j : Int) none))) → (hx q = some ((o, 10330 + 2 * N), aR G 5 (2 * N) F3)) → (HA G hx o A K V X2 of) → (FO o 10200 10459 h hx) → (RB N bk tb j X2 tn) → (bk j = p ++ e :: l) → (Pth X2 (X2 e) l) → (lh = (loL N p).head?) → (lt = (loL N p).getLast?) → (hh = (hiL N p).head?) → (ht = (hiL N p).getLast?) → (Sg X2 (loL N p)) → (Sg X2 (hiL N p)) → (l.length < e2) → WW G E (MJ5_resize 0 0 1 128) hx (0 + 1) (0 + 2 * N) 235 [(1, .ref r), (2, .int (iI (N : Int))), (4, .int (iI ((2 * N : Nat) : Int))), (6, .ref q), (7, .int (iI (j : Int))), (8, .ref (A e)), (9, va_rf (lh.map A)), (10, va_rf (lt.map A)), (11, va_rf (hh.map A)), (12, va_rf (ht.map A))] [] := by
                          intro e2
                          induction e2 with
                          | zero => intro e p l lh lt hh ht hx X2 ha hr hq h3 hF hR hbl hp hlh hlt hhh hht hSl hSh hf2; exact absurd hf2 (by omega)
                          | succ e2 ie2 =>
                            intro e p l lh lt hh ht hx X2 ha hr hq h3 hF hR hbl hp hlh hlt hhh hht hSl hSh hf2
                            have heb : e ∈ bk j := by rw [hbl]; exact List.mem_append_right _ List.mem_cons_self
                            have hle := ((hI.1 j hjl).2.2 e heb).1
                            have hem := ((hI.1 j hjl).2.2 e heb).2
                            have hNe := (h3 e hle).1.1
                            have he8 := (lvo_lt hle).1
                            have hnd : (p ++ e :: l).Nodup := by rw [← hbl]; exact (hI.1 j hjl).2.1
                            have hpl : ∀ c ∈ p, lvo of c = true ∧ c % N = j := fun c hc => (hI.1 j hjl).2.2 c (by rw [hbl]; exact List.mem_append_left _ hc)
                            have hpe : ∀ c ∈ p, c ≠ e ∧ c ∉ l := fun c hc => by have h9 := (List.nodup_append.mp hnd).2.2 c hc; exact ⟨h9 e List.mem_cons_self, fun z => h9 c (List.mem_cons_of_mem _ z) rfl⟩
                            have hpn : p.Nodup := (List.nodup_append.mp hnd).1
                            refine ww_aload 5 dJ5_resize_235 rfl ?_
                            refine ww_getf gf_J5_177 rfl dJ5_resize_237 hNe rfl ?_
                            refine ww_astoreq [(13, _), (1, _), (2, _), (4, _), (6, _), (7, _), (8, _), (9, _), (10, _), (11, _), (12, _)] dJ5_resize_240 (by decide) (ls1_x (by simp [va_rf_cat]) rfl) ?_
                            refine ww_aload 6 dJ5_resize_242 rfl ?_
                            refine ww_getf gf_J5_168 rfl dJ5_resize_244 hNe rfl ?_
                            refine ww_iload_n 2 dJ5_resize_247 rfl ?_
                            refine ww_iandN dJ5_resize_248 he8 hN3 ?_
                            refine ww_if_ne 278 dJ5_resize_249 (by decide) (inI.mk (by omega) (by have : e / N % 2 * N ≤ 1 * N := Nat.mul_le_mul_right N (by omega); omega)) (fun c_249 => ?_) (fun c_249 => ?_)
                            · have c_1 : e / N % 2 = 1 := (Nat.mod_two_eq_zero_or_one (e / N)).resolve_left (fun z => c_249 (by rw [z, Nat.zero_mul]; rfl))
                              refine ww_aloadq 10 dJ5_resize_278 rfl ?_
                              rcases lst_or hht with ⟨hz, hl9⟩ | ⟨d, l0, hz, hl9⟩
                              · subst hz
                                refine ww_ifnonnullN dJ5_resize_280 ?_
                                refine ww_aload 6 dJ5_resize_283 rfl ?_
                                refine ww_astore [(11, _), (13, _), (1, _), (2, _), (4, _), (6, _), (7, _), (8, _), (9, _), (10, _), (12, _)] dJ5_resize_285 (by decide) (ls1_x (by simp [va_rf_cat]) rfl) ?_
                                refine ww_goto 297 dJ5_resize_287 (by decide) ?_
                                refine ww_aload 7 dJ5_resize_297 rfl ?_
                                refine ww_astore [(12, _), (11, _), (13, _), (1, _), (2, _), (4, _), (6, _), (7, _), (8, _), (9, _), (10, _)] dJ5_resize_299 (by decide) rfl ?_
                                have hq2 := loL_s1 (l := p) c_1
                                have hhh : some e = (hiL N (p ++ [e])).head? := by rw [hq2.2, hl9]; rfl
                                have hht : some e = (hiL N (p ++ [e])).getLast? := by rw [hq2.2]; exact lst_s.symm
                                have hlh := hlh.trans (congrArg List.head? hq2.1.symm)
                                have hlt := hlt.trans (congrArg List.getLast? hq2.1.symm)
                                have hSh : Sg X2 (hiL N (p ++ [e])) := by rw [hq2.2, hl9]; trivial
                                have hSl : Sg X2 (loL N (p ++ [e])) := by rw [hq2.1]; exact hSl
                                refine ww_aloadq 2 dJ5_resize_301 rfl ?_
                                have hxx : X2 e = none ∨ ∃ y9, X2 e = some y9 := by cases X2 e with | none => exact Or.inl rfl | some y9 => exact Or.inr ⟨y9, rfl⟩
                                rcases hxx with hxd | ⟨e3, hxd⟩
                                · rw [hxd] at hp ⊢
                                  have hl0 := hp.nil
                                  refine ww_dup dJ5_resize_303 rfl ?_
                                  refine ww_astoreN [(8, _), (12, _), (11, _), (13, _), (1, _), (2, _), (4, _), (6, _), (7, _), (9, _), (10, _)] dJ5_resize_304 (by decide) rfl ?_
                                  refine ww_ifnonnullN dJ5_resize_306 ?_
                                  refine ww_sub [4, 5, 6, 7, 8, 9, 10, 2, 1] rfl ?_
                                  have hb9 : bk j = p ++ [e] := by rw [hbl, hl0]
                                  rw [← hb9] at hlh hlt hhh hht hSl hSh
                                  exact join_309 _ _ _ _ _ _ ha hr hq h3 hF hR hlh hlt hhh hht hSl hSh
                                · rw [hxd] at hp ⊢
                                  obtain ⟨l2, hl2, hp3⟩ := hp.cons
                                  subst hl2
                                  refine ww_dup dJ5_resize_303 rfl ?_
                                  refine ww_astore [(8, _), (12, _), (11, _), (13, _), (1, _), (2, _), (4, _), (6, _), (7, _), (9, _), (10, _)] dJ5_resize_304 (by decide) rfl ?_
                                  refine ww_ifnonnull 235 dJ5_resize_306 (by decide) ?_
                                  refine ww_sub [4, 5, 6, 7, 8, 0, 9, 10, 2, 1] rfl ?_
                                  exact ie2 e3 (p ++ [e]) l2 _ _ _ _ _ _ ha hr hq h3 hF hR (by rw [hbl, List.append_assoc]; rfl) hp3 hlh hlt hhh hht hSl hSh (by simp only [List.length_cons] at hf2; omega)
                              · subst hz
                                have hdp0 : d ∈ p := (hi_sub (N := N) (by rw [hl9]; exact List.mem_append_right _ List.mem_cons_self)).1
                                have hld9 := (hpl d hdp0).1
                                have hd9 := (lvo_lt hld9).1
                                have hNd := (h3 d hld9).1.1
                                refine ww_ifnonnull 290 dJ5_resize_280 (by decide) ?_
                                refine ww_aloadq 10 dJ5_resize_290 rfl ?_
                                refine ww_aload 6 dJ5_resize_292 rfl ?_
                                refine wx_putf pf_J5_177 rfl dJ5_resize_294 hNd ho (Nat.le_of_ble_eq_true rfl) rfl rfl (fun h_294 hNd f_294 => ?_)
                                have ha := f_294.at ha (by omega)
                                have hr := f_294.at hr (by omega)
                                have hq := f_294.at hq (by omega)
                                have hF := hF.kt f_294 ⟨rfl, by omega, by omega⟩
                                have h3 := h3.put ho (v := some e) hNd f_294
                                refine ww_aload 6 dJ5_resize_297 rfl ?_
                                refine ww_astore [(12, _), (13, _), (1, _), (2, _), (4, _), (6, _), (7, _), (8, _), (9, _), (10, _), (11, _)] dJ5_resize_299 (by decide) (ls1_x (by simp [va_rf_cat]) rfl) ?_
                                have hq2 := loL_s1 (l := p) c_1
                                have hdp : d ∈ p := (hi_sub (N := N) (by rw [hl9]; exact List.mem_append_right _ List.mem_cons_self)).1
                                have hdh : d ∉ loL N p := fun z => by have h8 := (hi_sub (N := N) (c := d) (l := p) (by rw [hl9]; exact List.mem_append_right _ List.mem_cons_self)).2; have h7 := (lo_sub z).2; omega
                                have hR := hR.up (v := some e) hmd (hpl d hdp).2
                                have hhh : hh = (hiL N (p ++ [e])).head? := by rw [hq2.2, hl9]; exact hd_s (by rw [← hl9]; exact hhh)
                                have hht : some e = (hiL N (p ++ [e])).getLast? := by rw [hq2.2]; exact lst_s.symm
                                have hlh := hlh.trans (congrArg List.head? hq2.1.symm)
                                have hlt := hlt.trans (congrArg List.getLast? hq2.1.symm)
                                have hSh : Sg (ux X2 d (some e)) (hiL N (p ++ [e])) := by rw [hq2.2, hl9]; exact Sg.snoc (by rw [← hl9]; exact hSh) (by rw [← hl9]; exact (lo_nd hpn).2)
                                have hSl : Sg (ux X2 d (some e)) (loL N (p ++ [e])) := by rw [hq2.1]; exact hSl.up hdh
                                have hp : Pth (ux X2 d (some e)) (X2 e) l := hp.up (hpe d hdp).2
                                refine ww_aloadq 1 dJ5_resize_301 rfl ?_
                                have hxx : X2 e = none ∨ ∃ y9, X2 e = some y9 := by cases X2 e with | none => exact Or.inl rfl | some y9 => exact Or.inr ⟨y9, rfl⟩
                                rcases hxx with hxd | ⟨e3, hxd⟩
                                · rw [hxd] at hp ⊢
                                  have hl0 := hp.nil
                                  refine ww_dup dJ5_resize_303 rfl ?_
                                  refine ww_astoreN [(8, _), (12, _), (13, _), (1, _), (2, _), (4, _), (6, _), (7, _), (9, _), (10, _), (11, _)] dJ5_resize_304 (by decide) rfl ?_
                                  refine ww_ifnonnullN dJ5_resize_306 ?_
                                  refine ww_sub [3, 4, 5, 6, 7, 8, 9, 10, 1] rfl ?_
                                  have hb9 : bk j = p ++ [e] := by rw [hbl, hl0]
                                  rw [← hb9] at hlh hlt hhh hht hSl hSh
                                  exact join_309 _ _ _ _ _ _ ha hr hq h3 hF hR hlh hlt hhh hht hSl hSh
                                · rw [hxd] at hp ⊢
                                  obtain ⟨l2, hl2, hp3⟩ := hp.cons
                                  subst hl2
                                  refine ww_dup dJ5_resize_303 rfl ?_
                                  refine ww_astore [(8, _), (12, _), (13, _), (1, _), (2, _), (4, _), (6, _), (7, _), (9, _), (10, _), (11, _)] dJ5_resize_304 (by decide) rfl ?_
                                  refine ww_ifnonnull 235 dJ5_resize_306 (by decide) ?_
                                  refine ww_sub [3, 4, 5, 6, 7, 0, 8, 9, 10, 1] rfl ?_
                                  exact ie2 e3 (p ++ [e]) l2 _ _ _ _ _ _ ha hr hq h3 hF hR (by rw [hbl, List.append_assoc]; rfl) hp3 hlh hlt hhh hht hSl hSh (by simp only [List.length_cons] at hf2; omega)
                            · have c_0 : e / N % 2 = 0 := (Nat.mod_two_eq_zero_or_one (e / N)).resolve_right (fun z => by rw [z, Nat.one_mul] at c_249; omega)
                              refine ww_aloadq 8 dJ5_resize_252 rfl ?_
                              rcases lst_or hlt with ⟨hz, hl9⟩ | ⟨d, l0, hz, hl9⟩
                              · subst hz
                                refine ww_ifnonnullN dJ5_resize_254 ?_
                                refine ww_aload 6 dJ5_resize_257 rfl ?_
                                refine ww_astore [(9, _), (13, _), (1, _), (2, _), (4, _), (6, _), (7, _), (8, _), (10, _), (11, _), (12, _)] dJ5_resize_259 (by decide) rfl ?_
                                refine ww_goto 271 dJ5_resize_261 (by decide) ?_
                                refine ww_aload 7 dJ5_resize_271 rfl ?_
                                refine ww_astore [(10, _), (9, _), (13, _), (1, _), (2, _), (4, _), (6, _), (7, _), (8, _), (11, _), (12, _)] dJ5_resize_273 (by decide) rfl ?_
                                refine ww_goto 301 dJ5_resize_275 (by decide) ?_
                                have hq2 := loL_s0 (l := p) c_0
                                have hX3 : X2 e = X2 e := rfl
                                have hlh : some e = (loL N (p ++ [e])).head? := by rw [hq2.1, hl9]; rfl
                                have hlt : some e = (loL N (p ++ [e])).getLast? := by rw [hq2.1]; exact lst_s.symm
                                have hhh := hhh.trans (congrArg List.head? hq2.2.symm)
                                have hht := hht.trans (congrArg List.getLast? hq2.2.symm)
                                have hSl : Sg X2 (loL N (p ++ [e])) := by rw [hq2.1, hl9]; trivial
                                have hSh : Sg X2 (hiL N (p ++ [e])) := by rw [hq2.2]; exact hSh
                                refine ww_aloadq 2 dJ5_resize_301 rfl ?_
                                have hxx : X2 e = none ∨ ∃ y9, X2 e = some y9 := by cases X2 e with | none => exact Or.inl rfl | some y9 => exact Or.inr ⟨y9, rfl⟩
                                rcases hxx with hxd | ⟨e3, hxd⟩
                                · rw [hxd] at hp ⊢
                                  have hl0 := hp.nil
                                  refine ww_dup dJ5_resize_303 rfl ?_
                                  refine ww_astoreN [(8, _), (10, _), (9, _), (13, _), (1, _), (2, _), (4, _), (6, _), (7, _), (11, _), (12, _)] dJ5_resize_304 (by decide) rfl ?_
                                  refine ww_ifnonnullN dJ5_resize_306 ?_
                                  refine ww_sub [4, 5, 6, 7, 8, 2, 1, 9, 10] rfl ?_
                                  have hb9 : bk j = p ++ [e] := by rw [hbl, hl0]
                                  rw [← hb9] at hlh hlt hhh hht hSl hSh
                                  exact join_309 _ _ _ _ _ _ ha hr hq h3 hF hR hlh hlt hhh hht hSl hSh
                                · rw [hxd] at hp ⊢
                                  obtain ⟨l2, hl2, hp3⟩ := hp.cons
                                  subst hl2
                                  refine ww_dup dJ5_resize_303 rfl ?_
                                  refine ww_astore [(8, _), (10, _), (9, _), (13, _), (1, _), (2, _), (4, _), (6, _), (7, _), (11, _), (12, _)] dJ5_resize_304 (by decide) rfl ?_
                                  refine ww_ifnonnull 235 dJ5_resize_306 (by decide) ?_
                                  refine ww_sub [4, 5, 6, 7, 8, 0, 2, 1, 9, 10] rfl ?_
                                  exact ie2 e3 (p ++ [e]) l2 _ _ _ _ _ _ ha hr hq h3 hF hR (by rw [hbl, List.append_assoc]; rfl) hp3 hlh hlt hhh hht hSl hSh (by simp only [List.length_cons] at hf2; omega)
                              · subst hz
                                have hdp0 : d ∈ p := (lo_sub (N := N) (by rw [hl9]; exact List.mem_append_right _ List.mem_cons_self)).1
                                have hld9 := (hpl d hdp0).1
                                have hd9 := (lvo_lt hld9).1
                                have hNd := (h3 d hld9).1.1
                                refine ww_ifnonnull 264 dJ5_resize_254 (by decide) ?_
                                refine ww_aloadq 8 dJ5_resize_264 rfl ?_
                                refine ww_aload 6 dJ5_resize_266 rfl ?_
                                refine wx_putf pf_J5_177 rfl dJ5_resize_268 hNd ho (Nat.le_of_ble_eq_true rfl) rfl rfl (fun h_268 hNd f_268 => ?_)
                                have ha := f_268.at ha (by omega)
                                have hr := f_268.at hr (by omega)
                                have hq := f_268.at hq (by omega)
                                have hF := hF.kt f_268 ⟨rfl, by omega, by omega⟩
                                have h3 := h3.put ho (v := some e) hNd f_268
                                refine ww_aload 6 dJ5_resize_271 rfl ?_
                                refine ww_astore [(10, _), (13, _), (1, _), (2, _), (4, _), (6, _), (7, _), (8, _), (9, _), (11, _), (12, _)] dJ5_resize_273 (by decide) (ls1_x (by simp [va_rf_cat]) rfl) ?_
                                refine ww_goto 301 dJ5_resize_275 (by decide) ?_
                                have hq2 := loL_s0 (l := p) c_0
                                have hdp : d ∈ p := (lo_sub (N := N) (by rw [hl9]; exact List.mem_append_right _ List.mem_cons_self)).1
                                have hdh : d ∉ hiL N p := fun z => by have h8 := (lo_sub (N := N) (c := d) (l := p) (by rw [hl9]; exact List.mem_append_right _ List.mem_cons_self)).2; have h7 := (hi_sub z).2; omega
                                have hR := hR.up (v := some e) hmd (hpl d hdp).2
                                have hlh : lh = (loL N (p ++ [e])).head? := by rw [hq2.1, hl9]; exact hd_s (by rw [← hl9]; exact hlh)
                                have hlt : some e = (loL N (p ++ [e])).getLast? := by rw [hq2.1]; exact lst_s.symm
                                have hhh := hhh.trans (congrArg List.head? hq2.2.symm)
                                have hht := hht.trans (congrArg List.getLast? hq2.2.symm)
                                have hSl : Sg (ux X2 d (some e)) (loL N (p ++ [e])) := by rw [hq2.1, hl9]; exact Sg.snoc (by rw [← hl9]; exact hSl) (by rw [← hl9]; exact (lo_nd hpn).1)
                                have hSh : Sg (ux X2 d (some e)) (hiL N (p ++ [e])) := by rw [hq2.2]; exact hSh.up hdh
                                have hp : Pth (ux X2 d (some e)) (X2 e) l := hp.up (hpe d hdp).2
                                refine ww_aloadq 1 dJ5_resize_301 rfl ?_
                                have hxx : X2 e = none ∨ ∃ y9, X2 e = some y9 := by cases X2 e with | none => exact Or.inl rfl | some y9 => exact Or.inr ⟨y9, rfl⟩
                                rcases hxx with hxd | ⟨e3, hxd⟩
                                · rw [hxd] at hp ⊢
                                  have hl0 := hp.nil
                                  refine ww_dup dJ5_resize_303 rfl ?_
                                  refine ww_astoreN [(8, _), (10, _), (13, _), (1, _), (2, _), (4, _), (6, _), (7, _), (9, _), (11, _), (12, _)] dJ5_resize_304 (by decide) rfl ?_
                                  refine ww_ifnonnullN dJ5_resize_306 ?_
                                  refine ww_sub [3, 4, 5, 6, 7, 8, 1, 9, 10] rfl ?_
                                  have hb9 : bk j = p ++ [e] := by rw [hbl, hl0]
                                  rw [← hb9] at hlh hlt hhh hht hSl hSh
                                  exact join_309 _ _ _ _ _ _ ha hr hq h3 hF hR hlh hlt hhh hht hSl hSh
                                · rw [hxd] at hp ⊢
                                  obtain ⟨l2, hl2, hp3⟩ := hp.cons
                                  subst hl2
                                  refine ww_dup dJ5_resize_303 rfl ?_
                                  refine ww_astore [(8, _), (10, _), (13, _), (1, _), (2, _), (4, _), (6, _), (7, _), (9, _), (11, _), (12, _)] dJ5_resize_304 (by decide) rfl ?_
                                  refine ww_ifnonnull 235 dJ5_resize_306 (by decide) ?_
                                  refine ww_sub [3, 4, 5, 6, 7, 0, 8, 1, 9, 10] rfl ?_
                                  exact ie2 e3 (p ++ [e]) l2 _ _ _ _ _ _ ha hr hq h3 hF hR (by rw [hbl, List.append_assoc]; rfl) hp3 hlh hlt hhh hht hSl hSh (by simp only [List.length_cons] at hf2; omega)
                        refine ww_sub [5, 6, 7, 8, 9, 4, 3, 2, 1, 0] rfl ?_
                        exact loop_235 (l.length + 1) d [] l none none none none _ X2 ha hr hq h3 hF hR.1 hl1 hp rfl rfl rfl rfl trivial trivial (by omega)
                      · exact absurd c_203 (by decide)
            refine ww_sub [6, 5, 3, 1, 0] rfl ?_
            exact loop_151 (N + 1) 0 _ _ _ X (fun _ => none) ha hr (fun i _ hi => hF0 i hi) hq (fun i _ => rfl) h3 hF ⟨⟨fun i _ hi => absurd hi (Nat.not_lt_zero i), fun i hi _ => (hI.1 i hi).1, fun i _ _ => ⟨rfl, rfl⟩⟩, fun h0 => (hI.1 0 h0).1⟩ (by omega) (by omega)
          · exact absurd c_87 (by omega)
    · exact absurd c_31 (by omega)
