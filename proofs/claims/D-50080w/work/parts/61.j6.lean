set_option maxRecDepth 100000
set_option maxHeartbeats 4000000 in
theorem ct_J5_putVal {G : GT} {h : AH} (hG : GOK G) {o a : Nat} {of : Int → Int → Int} (hM : HM G h o a of) (c : Nat) (hc : c < 128) (hc2 : c % 16 < 12) {kx : Nat} (hk : h kx = some ((kx, 10004), ob 6 [.int (iI ((c / 16 : Nat) : Int)), .int (iI ((c % 16 : Nat) : Int))])) {vx : Nat} {v : Int} (hv : IV G h vx v) (hv1 : v ≠ -1) : CT G (MJ5_putVal 3 68 3 148) h [.ref a, .int (iI (c : Int)), .ref kx, .ref vx, .int (iI 0), .int (iI 1)] (pO (fun r h' => HM G h' o a (oup of c v) ∧ FO o 10200 10459 h h' ∧ ∀ x, r = some x → ∃ v2, IV G h' x v2)) := by
  refine CT.of rfl hG (Nat.le_of_ble_eq_true rfl) rfl (fun E hQ => ?_)
  obtain ⟨N, tr, mc, tb, X, A, K, V, bk, hM, hth⟩ := hM
  have hM0 := hM
  obtain ⟨ho, ha, h2, h3⟩ := hM
  have h3 : HA G h o A K V X of := h3
  have hF : FO o 10200 10459 h h := FO.rf
  have join_29 : ∀ (N1 r1 : Nat) (hx : AH) (F1 : Int → Option Nat) (tb1 X1 : Nat → Option Nat) (bk1 : Nat → List Nat), (hx a = some ((o, 10200), ob 11 (hmf (some r1) (cnt of) mc ((3 * N1 / 4 : Nat) : Int)))) → (hx r1 = some ((o, 10330 + N1), aR G 5 N1 F1)) → (∀ i : Nat, i < N1 → F1 (i : Int) = (tb1 i).map A) → (tcap N1) → (HI N1 tb1 X1 of bk1) → (HA G hx o A K V X1 of) → (hx kx = some ((kx, 10004), ob 6 [.int (iI ((c / 16 : Nat) : Int)), .int (iI ((c % 16 : Nat) : Int))])) → (IV G hx vx v) → (FO o 10200 10459 h hx) → (cnt of ≤ 3 * N1 / 4) → WW G E (MJ5_putVal 3 68 3 148) hx 1 16 29 [(0, .ref a), (1, .int (iI (c : Int))), (2, .ref kx), (3, .ref vx), (4, .int (iI 0)), (5, .int (iI 1)), (6, .ref r1), (8, .int (iI (N1 : Int)))] [] := by
    intro N1 r1 hx F1 tb1 X1 bk1 ha hr hF1 hcap hI h3 hk hv hF hth
    obtain ⟨qq, hqq, hq7⟩ := hcap.pow
    have hNp := hcap.pos
    have hjN : c % N1 < N1 := Nat.mod_lt _ (by omega)
    obtain ⟨hch, hnd, hbk⟩ := hI.1 (c % N1) hjN
    have join_259 : ∀ (hx2 : AH) (F2 : Int → Option Nat) (tb2 X2 : Nat → Option Nat) (A2 K2 V2 : Nat → Nat) (bk2 : Nat → List Nat), (hx2 a = some ((o, 10200), ob 11 (hmf (some r1) (cnt of) mc ((3 * N1 / 4 : Nat) : Int)))) → (hx2 r1 = some ((o, 10330 + N1), aR G 5 N1 F2)) → (∀ i : Nat, i < N1 → F2 (i : Int) = (tb2 i).map A2) → (HI N1 tb2 X2 (oup of c v) bk2) → (HA G hx2 o A2 K2 V2 X2 (oup of c v)) → (FO o 10200 10459 h hx2) → (lvo of c = false) → (hx2 kx = some ((kx, 10004), ob 6 [.int (iI ((c / 16 : Nat) : Int)), .int (iI ((c % 16 : Nat) : Int))])) → WW G E (MJ5_putVal 3 68 3 148) hx2 2 20 259 [(0, .ref a), (5, .int (iI 1))] [] := by
      intro hx2 F2 tb2 X2 A2 K2 V2 bk2 ha hr hF2 hI2 h3 hF hnl hk
      have hcn := cnt_ins hc hc2 hv1 hnl
      have hcb := cnt_bd (of := of)
      have hcb2 := cnt_bd (of := oup of c v)
      refine ww_aload_n 0 dJ5_putVal_259 rfl ?_
      refine ww_dup dJ5_putVal_260 rfl ?_
      refine ww_getf gf_J5_202 rfl dJ5_putVal_261 ha rfl ?_
      refine ww_iconst dJ5_putVal_264 ?_
      refine ww_iadd dJ5_putVal_265 ?_
      refine wx_putf pf_J5_202 rfl dJ5_putVal_266 ha ho (Nat.le_of_ble_eq_true rfl) rfl rfl (fun h_266 ha f_266 => ?_)
      have hr := f_266.at hr (by omega)
      have hk := f_266.at hk (by omega)
      have hF := hF.kt f_266 ⟨rfl, by omega, by omega⟩
      have h3 := h3.kt f_266 ho (by omega)
      refine ww_aload_n 0 dJ5_putVal_269 rfl ?_
      refine ww_dup dJ5_putVal_270 rfl ?_
      refine ww_getf gf_J5_156 rfl dJ5_putVal_271 ha rfl ?_
      refine ww_iconst dJ5_putVal_274 ?_
      refine ww_iadd dJ5_putVal_275 ?_
      refine ww_dup_x1 dJ5_putVal_276 rfl rfl ?_
      refine wx_putf pf_J5_156 rfl dJ5_putVal_277 ha ho (Nat.le_of_ble_eq_true rfl) rfl rfl (fun h_277 ha f_277 => ?_)
      have hr := f_277.at hr (by omega)
      have hk := f_277.at hk (by omega)
      have hF := hF.kt f_277 ⟨rfl, by omega, by omega⟩
      have h3 := h3.kt f_277 ho (by omega)
      refine ww_aload_n 0 dJ5_putVal_280 rfl ?_
      refine ww_getf gf_J5_88 rfl dJ5_putVal_281 ha rfl ?_
      refine ww_icmp_le 292 dJ5_putVal_284 (by decide) (inI.mk (by omega) (by omega)) (inI.mk (by omega) (by omega)) (fun c_284 => ?_) (fun c_284 => ?_)
      · refine ww_aload_n 0 dJ5_putVal_292 rfl ?_
        refine ww_iload 1 dJ5_putVal_293 rfl ?_
        refine cr_pv (cr_V (ct_J5_afterNodeInsertion hG _ 0) sv_J5_205 rfl dJ5_putVal_295 ha rfl rfl rfl rfl ⟨by decide, by decide⟩ (Nat.le_of_ble_eq_true rfl) (Nat.le_of_ble_eq_true rfl) (Nat.le_of_ble_eq_true rfl)) ?_
        refine ww_null dJ5_putVal_298 ?_
        exact ww_aretq (a := none) hQ dJ5_putVal_299 rfl rfl (Nat.le_of_ble_eq_true rfl) (Nat.le_of_ble_eq_true rfl) ⟨none, rfl, ⟨N1, some r1, mc + 1, tb2, X2, A2, K2, V2, bk2, ⟨ho, by rw [hcn]; exact ha, Or.inr ⟨r1, F2, rfl, hr, hF2, hcap, hI2⟩, h3⟩, by rw [hcn]; omega⟩, hF, fun x hx => by cases hx⟩
      · have hN64 : N1 ≤ 64 := by rcases hcap with e | e | e | e <;> omega
        refine ww_aload_n 0 dJ5_putVal_287 rfl ?_
        refine cr_r (cr_V (ct_J5_resizeS hG (N := N1) (sz := cnt of + 1) (mc := mc + 1) ⟨ho, ha, Or.inr ⟨r1, F2, rfl, hr, hF2, hcap, hI2⟩, h3⟩ hN64) sv_J5_117 rfl dJ5_putVal_288 ha rfl rfl rfl rfl ⟨by decide, by decide⟩ (Nat.le_of_ble_eq_true rfl) (Nat.le_of_ble_eq_true rfl) (Nat.le_of_ble_eq_true rfl)) (fun r_288 h_288 hp_288 => ?_)
        obtain ⟨tb2_288, X2_288, bk2_288, hM, f_288⟩ := hp_288
        obtain ⟨-, ha, h2, h3⟩ := hM
        have hF := hF.tr f_288
        refine ww_pop dJ5_putVal_291 rfl ?_
        refine ww_aload_n 0 dJ5_putVal_292 rfl ?_
        refine ww_iload 1 dJ5_putVal_293 rfl ?_
        refine cr_pv (cr_V (ct_J5_afterNodeInsertion hG _ 0) sv_J5_205 rfl dJ5_putVal_295 ha rfl rfl rfl rfl ⟨by decide, by decide⟩ (Nat.le_of_ble_eq_true rfl) (Nat.le_of_ble_eq_true rfl) (Nat.le_of_ble_eq_true rfl)) ?_
        refine ww_null dJ5_putVal_298 ?_
        exact ww_aretq (a := none) hQ dJ5_putVal_299 rfl rfl (Nat.le_of_ble_eq_true rfl) (Nat.le_of_ble_eq_true rfl) ⟨none, rfl, ⟨2 * N1, some r_288, mc + 1, tb2_288, X2_288, A2, K2, V2, bk2_288, ⟨ho, by rw [hcn]; exact ha, h2, h3⟩, by rw [hcn]; omega⟩, hF, fun x hx => by cases hx⟩
    refine ww_aload 6 dJ5_putVal_29 rfl ?_
    refine ww_iload 7 dJ5_putVal_31 rfl ?_
    refine ww_iconst dJ5_putVal_33 ?_
    refine ww_isub dJ5_putVal_34 ?_
    refine ww_iload_n 1 dJ5_putVal_35 rfl ?_
    refine ww_iandQ qq dJ5_putVal_36 (by rw [hqq]; have := Nat.two_pow_pos qq; omega) (by omega) (by omega) ?_
    rw [← hqq]
    refine ww_dup dJ5_putVal_37 rfl ?_
    refine ww_istore [(9, _), (0, _), (1, _), (2, _), (3, _), (4, _), (5, _), (6, _), (8, _)] dJ5_putVal_38 (by decide) rfl ?_
    refine ww_aald dJ5_putVal_40 hr rfl rfl (by omega) (by omega) (by omega) ?_
    rw [hF1 _ hjN]
    have hxx : tb1 (c % N1) = none ∨ ∃ y9, tb1 (c % N1) = some y9 := by cases tb1 (c % N1) with | none => exact Or.inl rfl | some y9 => exact Or.inr ⟨y9, rfl⟩
    rcases hxx with e0 | ⟨d, e0⟩
    · rw [e0] at hch ⊢
      have hl0 := hch.nil
      have hnl : lvo of c = false := Bool.eq_false_iff.mpr (fun z => by have h9 := hI.2 c z; rw [hl0] at h9; cases h9)
      refine ww_dup dJ5_putVal_41 rfl ?_
      refine ww_astoreN [(7, _), (9, _), (0, _), (1, _), (2, _), (3, _), (4, _), (5, _), (6, _), (8, _)] dJ5_putVal_42 (by decide) rfl ?_
      refine ww_ifnonnullN dJ5_putVal_44 ?_
      refine ww_aload 8 dJ5_putVal_47 rfl ?_
      refine ww_iload 1 dJ5_putVal_49 rfl ?_
      refine ww_aload_n 2 dJ5_putVal_51 rfl ?_
      refine ww_iload_n 3 dJ5_putVal_52 rfl ?_
      refine ww_aload_n 4 dJ5_putVal_53 rfl ?_
      refine ww_aload_n 5 dJ5_putVal_54 rfl ?_
      refine ww_null dJ5_putVal_55 ?_
      refine cr_r (cr_V (ct_J5_newNode hG ho ha c kx vx) sv_J5_186 rfl dJ5_putVal_56 ha rfl rfl rfl rfl ⟨by decide, by decide⟩ (Nat.le_of_ble_eq_true rfl) (Nat.le_of_ble_eq_true rfl) (Nat.le_of_ble_eq_true rfl)) (fun r_56 h_56 hp_56 => ?_)
      obtain ⟨n_56, e_56, hq⟩ := hp_56
      have ha := e_56 _ _ ha
      have hr := e_56 _ _ hr
      have hk := e_56 _ _ hk
      have hF := hF.ex e_56
      have h3 := h3.ex e_56
      have hv := hv.ex e_56
      refine wx_aast (Or.inl rfl) dJ5_putVal_59 hr ho rfl hq rfl (by omega) (by omega) (by omega) (fun h_59 hr f_59 => ?_)
      have ha := f_59.at ha (by omega)
      have hk := f_59.at hk (by omega)
      have hF := hF.kt f_59 ⟨rfl, by omega, by omega⟩
      have h3 := h3.kt f_59 ho (by omega)
      have hv := hv.kt f_59 ho (by omega)
      have hq := f_59.at hq (by omega)
      refine ww_goto 259 dJ5_putVal_60 (by decide) ?_
      refine ww_sub [2, 7] rfl ?_
      exact join_259 _ _ (ux tb1 (c % N1) (some c)) (ux X1 c none) (ux A c r_56) (ux K c kx) (ux V c vx) (ux bk1 (c % N1) [c]) ha hr (tb_ins hF1 (fun i e hi ht z => by have := hI.hd hi ht; rw [z, hnl] at this; cases this)) (hI.ins (by omega) hc hc2 hv1 hnl (by rw [ux_s]; exact ⟨rfl, by rw [ux_s]; rfl⟩) (by rw [hl0]; rfl) (fun i hi h9 => ux_n h9) (fun d hd h9 => ux_n (fun z => by rw [z, hnl] at hd; cases hd))) (h3.ins hc hc2 hnl (fun d e hd hx => hI.nx (by omega) hd hx) hq hk hv) hF hnl hk
    · have hch0 := hch
      rw [e0] at hch ⊢
      obtain ⟨l, hl1, hp⟩ := hch.cons
      have hdb : d ∈ bk1 (c % N1) := by rw [hl1]; exact List.mem_cons_self
      have hld := (hbk d hdb).1
      have hNd := (h3 d hld).1.1
      have hKd := (h3 d hld).1.2
      have hd8 := (lvo_lt hld).1
      refine ww_dup dJ5_putVal_41 rfl ?_
      refine ww_astore [(7, _), (9, _), (0, _), (1, _), (2, _), (3, _), (4, _), (5, _), (6, _), (8, _)] dJ5_putVal_42 (by decide) rfl ?_
      refine ww_ifnonnull 63 dJ5_putVal_44 (by decide) ?_
      refine ww_aload 0 dJ5_putVal_63 rfl ?_
      refine ww_getf gf_J5_168 rfl dJ5_putVal_65 hNd rfl ?_
      refine ww_iload_n 3 dJ5_putVal_68 rfl ?_
      refine ww_icmp_ne 104 dJ5_putVal_69 (by decide) (inI.mk (by omega) (by omega)) (inI.mk (by omega) (by omega)) (fun c_69 => ?_) (fun c_69 => ?_)
      · have hdc : ¬ d = c := by omega
        refine ww_aload 0 dJ5_putVal_104 rfl ?_
        refine ww_instNo dJ5_putVal_106 hNd rfl q866 no_tn rfl ?_
        refine ww_if_eq 131 dJ5_putVal_109 (by decide) (inI.mk (by decide) (by decide)) (fun c_109 => ?_) (fun c_109 => ?_)
        · refine ww_iconst dJ5_putVal_131 ?_
          refine ww_istore [(12, _), (7, _), (9, _), (0, _), (1, _), (2, _), (3, _), (4, _), (5, _), (6, _), (8, _)] dJ5_putVal_132 (by decide) rfl ?_
          have loop_134 : ∀ (f : Nat) (d : Nat) (l1 l2 : List Nat), (bk1 (c % N1) = l1 ++ d :: l2) → (Pth X1 (X1 d) l2) → (c ∉ l1 ++ [d]) → (l2.length < f) → WW G E (MJ5_putVal 3 68 3 148) hx 1 16 134 [(0, .ref a), (1, .int (iI (c : Int))), (2, .ref kx), (3, .ref vx), (4, .int (iI 0)), (5, .int (iI 1)), (7, .ref (A d)), (12, .int (iI (l1.length : Int)))] [] := by
            intro f
            induction f with
            | zero => intro d l1 l2 hb hp hcn9 hf; exact absurd hf (by omega)
            | succ f ih =>
              intro d l1 l2 hb hp hcn9 hf
              have hdb : d ∈ bk1 (c % N1) := by rw [hb]; exact List.mem_append_right _ List.mem_cons_self
              have hld := (hbk d hdb).1
              have hdm := (hbk d hdb).2
              have hd8 := (lvo_lt hld).1
              have hNd := (h3 d hld).1.1
              have hdc9 : d ≠ c := fun z => hcn9 (by rw [z]; exact List.mem_append_right _ List.mem_cons_self)
              have hln : l1.length ≤ 200 := by have h9 := nd_le 128 _ hnd (fun x hx => (lvo_lt (hbk x hx).1).1); rw [hb] at h9; simp only [List.length_append, List.length_cons] at h9; omega
              refine ww_aload 6 dJ5_putVal_134 rfl ?_
              refine ww_getf gf_J5_177 rfl dJ5_putVal_136 hNd rfl ?_
              have hxx : X1 d = none ∨ ∃ y9, X1 d = some y9 := by cases X1 d with | none => exact Or.inl rfl | some y9 => exact Or.inr ⟨y9, rfl⟩
              rcases hxx with hxd | ⟨e, hxd⟩
              · rw [hxd] at hp ⊢
                have hl0 := hp.nil
                have hb9 : bk1 (c % N1) = l1 ++ [d] := by rw [hb, hl0]
                have hnl : lvo of c = false := Bool.eq_false_iff.mpr (fun z => by have h9 := hI.2 c z; rw [hb9] at h9; exact hcn9 h9)
                refine ww_dup dJ5_putVal_139 rfl ?_
                refine ww_astoreN [(10, _), (0, _), (1, _), (2, _), (3, _), (4, _), (5, _), (7, _), (12, _)] dJ5_putVal_140 (by decide) rfl ?_
                refine ww_ifnonnullN dJ5_putVal_142 ?_
                refine ww_aload 7 dJ5_putVal_145 rfl ?_
                refine ww_aload_n 1 dJ5_putVal_147 rfl ?_
                refine ww_iload_n 2 dJ5_putVal_148 rfl ?_
                refine ww_aload_n 3 dJ5_putVal_149 rfl ?_
                refine ww_aload_n 4 dJ5_putVal_150 rfl ?_
                refine ww_null dJ5_putVal_151 ?_
                refine cr_r (cr_V (ct_J5_newNode hG ho ha c kx vx) sv_J5_186 rfl dJ5_putVal_152 ha rfl rfl rfl rfl ⟨by decide, by decide⟩ (Nat.le_of_ble_eq_true rfl) (Nat.le_of_ble_eq_true rfl) (Nat.le_of_ble_eq_true rfl)) (fun r_152 h_152 hp_152 => ?_)
                obtain ⟨n_152, e_152, hq⟩ := hp_152
                have ha := e_152 _ _ ha
                have hr := e_152 _ _ hr
                have hk := e_152 _ _ hk
                have hF := hF.ex e_152
                have h3 := (h3.ex e_152).ins hc hc2 hnl (fun d e hd hx => hI.nx (by omega) hd hx) hq hk (hv.ex e_152)
                have hNd := e_152 _ _ hNd
                refine wx_putf pf_J5_177 rfl dJ5_putVal_155 hNd ho (Nat.le_of_ble_eq_true rfl) rfl rfl (fun h_155 hNd f_155 => ?_)
                have ha := f_155.at ha (by omega)
                have hr := f_155.at hr (by omega)
                have hk := f_155.at hk (by omega)
                have hF := hF.kt f_155 ⟨rfl, by omega, by omega⟩
                have h3 := h3.put ho (d := d) (v := some c) (by rw [ux_n hdc9, ux_n hdc9, ux_n hdc9]; simp only [Option.map_some]; rw [ux_s]; exact hNd) f_155
                refine ww_iload 8 dJ5_putVal_158 rfl ?_
                refine ww_bipush dJ5_putVal_160 (by decide) ?_
                have hl7 : l1.length < 7 := by have h9 := bk_le hcap hc (fun x hx => by have h8 := hbk x hx; exact h8) hnd (hI.no hjN hnl); rw [hb9] at h9; simp only [List.length_append, List.length_singleton] at h9; omega
                refine ww_icmp_lt 222 dJ5_putVal_162 (by decide) (inI.mk (by omega) (by omega)) (inI.mk (by omega) (by omega)) (fun c_162 => ?_) (fun c_162 => ?_)
                · refine ww_aloadN 0 dJ5_putVal_222 rfl ?_
                  refine ww_ifnullN 259 dJ5_putVal_224 (by decide) ?_
                  refine ww_sub [1, 6] rfl ?_
                  exact join_259 _ _ tb1 (ux (ux X1 c none) d (some c)) (ux A c r_152) (ux K c kx) (ux V c vx) (ux bk1 (c % N1) ((l1 ++ [d]) ++ [c])) ha hr (tb_A hF1 (fun i e hi ht z => by have := hI.hd hi ht; rw [z, hnl] at this; cases this)) (hI.ins (by omega) hc hc2 hv1 hnl (Pth.snoc (by rw [← hb9]; exact hch0) (by rw [← hb9]; exact hnd) hcn9) (by rw [hb9]) (fun i hi h9 => rfl) (fun d2 hd2 h9 => by rw [ux_n (fun z => h9 (by rw [z]; exact hdm)), ux_n (fun z => h9 (by rw [z]))])) h3 hF hnl hk
                · exact absurd c_162 (by omega)
              · rw [hxd] at hp ⊢
                obtain ⟨l3, hl3, hp3⟩ := hp.cons
                subst hl3
                have heb : e ∈ bk1 (c % N1) := by rw [hb]; exact List.mem_append_right _ (List.mem_cons_of_mem _ List.mem_cons_self)
                have hle := (hbk e heb).1
                have he8 := (lvo_lt hle).1
                have hNe := (h3 e hle).1.1
                have hKe := (h3 e hle).1.2
                refine ww_dup dJ5_putVal_139 rfl ?_
                refine ww_astore [(10, _), (0, _), (1, _), (2, _), (3, _), (4, _), (5, _), (7, _), (12, _)] dJ5_putVal_140 (by decide) rfl ?_
                refine ww_ifnonnull 175 dJ5_putVal_142 (by decide) ?_
                refine ww_aload 0 dJ5_putVal_175 rfl ?_
                refine ww_getf gf_J5_168 rfl dJ5_putVal_177 hNe rfl ?_
                refine ww_iload_n 2 dJ5_putVal_180 rfl ?_
                refine ww_icmp_ne 212 dJ5_putVal_181 (by decide) (inI.mk (by omega) (by omega)) (inI.mk (by omega) (by omega)) (fun c_181 => ?_) (fun c_181 => ?_)
                · have hec : ¬ e = c := by omega
                  refine ww_aload 0 dJ5_putVal_212 rfl ?_
                  refine ww_astore [(7, _), (10, _), (0, _), (1, _), (2, _), (3, _), (4, _), (5, _), (12, _)] dJ5_putVal_214 (by decide) rfl ?_
                  refine ww_iinc (j := 8) [(12, _), (7, _), (10, _), (0, _), (1, _), (2, _), (3, _), (4, _), (5, _)] dJ5_putVal_216 rfl (by decide) rfl ?_
                  refine ww_goto 134 dJ5_putVal_219 (by decide) ?_
                  refine ww_sub [3, 4, 5, 6, 7, 8, 1, 0] rfl ?_
                  rw [show (l1.length : Int) + 1 = ((l1 ++ [d]).length : Int) by rw [List.length_append, List.length_singleton]; omega]
                  exact ih e (l1 ++ [d]) l3 (by rw [hb, List.append_assoc]; rfl) hp3 (fun z => by rcases List.mem_append.mp z with z | z; exact hcn9 z; exact hec (List.mem_singleton.mp z).symm) (by simp only [List.length_cons] at hf; omega)
                · have hdc : c = e := by omega
                  subst hdc
                  have hlc := hle
                  have hcs := cnt_set (v := v) hc hc2 hv1 hlc
                  refine ww_aload 0 dJ5_putVal_184 rfl ?_
                  refine ww_getf gf_J5_170 rfl dJ5_putVal_186 hNe rfl ?_
                  refine ww_dup dJ5_putVal_189 rfl ?_
                  refine ww_astore [(11, _), (10, _), (0, _), (1, _), (2, _), (3, _), (4, _), (5, _), (7, _), (12, _)] dJ5_putVal_190 (by decide) rfl ?_
                  refine ww_aload_n 4 dJ5_putVal_192 rfl ?_
                  refine ww_acmp_eqR 222 dJ5_putVal_193 (by decide) (fun c_193 => ?_) (fun c_193 => ?_)
                  · refine ww_aload 1 dJ5_putVal_222 rfl ?_
                    refine ww_ifnull dJ5_putVal_224 ?_
                    refine ww_aload 1 dJ5_putVal_227 rfl ?_
                    refine ww_getf gf_J5_162 rfl dJ5_putVal_229 hNe rfl ?_
                    refine ww_astore [(12, _), (11, _), (10, _), (0, _), (1, _), (2, _), (3, _), (4, _), (5, _), (7, _)] dJ5_putVal_232 (by decide) rfl ?_
                    refine ww_iload 7 dJ5_putVal_234 rfl ?_
                    refine ww_if_eq 244 dJ5_putVal_236 (by decide) (inI.mk (by decide) (by decide)) (fun c_236 => ?_) (fun c_236 => ?_)
                    · refine ww_aload 2 dJ5_putVal_244 rfl ?_
                      refine ww_aload_n 6 dJ5_putVal_246 rfl ?_
                      refine wx_putf pf_J5_162 rfl dJ5_putVal_247 hNe ho (Nat.le_of_ble_eq_true rfl) rfl rfl (fun h_247 hNe f_247 => ?_)
                      have ha := f_247.at ha (by omega)
                      have hr := f_247.at hr (by omega)
                      have hk := f_247.at hk (by omega)
                      have hF := hF.kt f_247 ⟨rfl, by omega, by omega⟩
                      have hiv := ((h3 c hlc).2).kt f_247 ho (by omega)
                      have h3 := h3.set ho hc hc2 hlc hNe f_247 (hv.kt f_247 ho (by omega))
                      refine ww_aload_n 3 dJ5_putVal_250 rfl ?_
                      refine ww_aload 2 dJ5_putVal_251 rfl ?_
                      refine cr_pv (cr_V (ct_J5_afterNodeAccess hG _ _) sv_J5_198 rfl dJ5_putVal_253 ha rfl rfl rfl rfl ⟨by decide, by decide⟩ (Nat.le_of_ble_eq_true rfl) (Nat.le_of_ble_eq_true rfl) (Nat.le_of_ble_eq_true rfl)) ?_
                      refine ww_aload 0 dJ5_putVal_256 rfl ?_
                      exact ww_aret hQ dJ5_putVal_258 rfl rfl (Nat.le_of_ble_eq_true rfl) (Nat.le_of_ble_eq_true rfl) ⟨some _, rfl, ⟨N1, some r1, mc, tb1, X1, A, K, ux V c vx, bk1, ⟨ho, by rw [hcs]; exact ha, Or.inr ⟨r1, F1, rfl, hr, hF1, hcap, hI.set hc hc2 hv1 hlc⟩, h3⟩, by rw [hcs]; exact hth⟩, hF, fun x hx => by cases hx; exact ⟨_, hiv⟩⟩
                    · exact absurd rfl c_236
                  · refine ww_aload_n 4 dJ5_putVal_196 rfl ?_
                    refine ww_ifnull dJ5_putVal_197 ?_
                    refine ww_aload_n 4 dJ5_putVal_200 rfl ?_
                    refine ww_aload 0 dJ5_putVal_201 rfl ?_
                    refine cr_pi (cr_O (ct_X7_equals hG hk hKe (inI.mk (by omega) (by omega)) (inI.mk (by omega) (by omega)) (inI.mk (by omega) (by omega)) (inI.mk (by omega) (by omega))) so_J5_173_X7 rfl dJ5_putVal_203 hk rfl rfl rfl rfl ⟨by decide, by decide⟩ (Nat.le_of_ble_eq_true rfl) (Nat.le_of_ble_eq_true rfl) (Nat.le_of_ble_eq_true rfl)) ?_
                    refine ww_ifb_eq 212 dJ5_putVal_206 (by decide) (fun c_206 => ?_) (fun c_206 => ?_)
                    · exact absurd ⟨rfl, rfl⟩ c_206
                    · refine ww_goto 222 dJ5_putVal_209 (by decide) ?_
                      refine ww_aload 1 dJ5_putVal_222 rfl ?_
                      refine ww_ifnull dJ5_putVal_224 ?_
                      refine ww_aload 1 dJ5_putVal_227 rfl ?_
                      refine ww_getf gf_J5_162 rfl dJ5_putVal_229 hNe rfl ?_
                      refine ww_astore [(12, _), (11, _), (10, _), (0, _), (1, _), (2, _), (3, _), (4, _), (5, _), (7, _)] dJ5_putVal_232 (by decide) rfl ?_
                      refine ww_iload 7 dJ5_putVal_234 rfl ?_
                      refine ww_if_eq 244 dJ5_putVal_236 (by decide) (inI.mk (by decide) (by decide)) (fun c_236 => ?_) (fun c_236 => ?_)
                      · refine ww_aload 2 dJ5_putVal_244 rfl ?_
                        refine ww_aload_n 6 dJ5_putVal_246 rfl ?_
                        refine wx_putf pf_J5_162 rfl dJ5_putVal_247 hNe ho (Nat.le_of_ble_eq_true rfl) rfl rfl (fun h_247 hNe f_247 => ?_)
                        have ha := f_247.at ha (by omega)
                        have hr := f_247.at hr (by omega)
                        have hk := f_247.at hk (by omega)
                        have hF := hF.kt f_247 ⟨rfl, by omega, by omega⟩
                        have hiv := ((h3 c hlc).2).kt f_247 ho (by omega)
                        have h3 := h3.set ho hc hc2 hlc hNe f_247 (hv.kt f_247 ho (by omega))
                        refine ww_aload_n 3 dJ5_putVal_250 rfl ?_
                        refine ww_aload 2 dJ5_putVal_251 rfl ?_
                        refine cr_pv (cr_V (ct_J5_afterNodeAccess hG _ _) sv_J5_198 rfl dJ5_putVal_253 ha rfl rfl rfl rfl ⟨by decide, by decide⟩ (Nat.le_of_ble_eq_true rfl) (Nat.le_of_ble_eq_true rfl) (Nat.le_of_ble_eq_true rfl)) ?_
                        refine ww_aload 0 dJ5_putVal_256 rfl ?_
                        exact ww_aret hQ dJ5_putVal_258 rfl rfl (Nat.le_of_ble_eq_true rfl) (Nat.le_of_ble_eq_true rfl) ⟨some _, rfl, ⟨N1, some r1, mc, tb1, X1, A, K, ux V c vx, bk1, ⟨ho, by rw [hcs]; exact ha, Or.inr ⟨r1, F1, rfl, hr, hF1, hcap, hI.set hc hc2 hv1 hlc⟩, h3⟩, by rw [hcs]; exact hth⟩, hF, fun x hx => by cases hx; exact ⟨_, hiv⟩⟩
                      · exact absurd rfl c_236
          refine ww_sub [3, 4, 5, 6, 7, 8, 1, 0] rfl ?_
          exact loop_134 (l.length + 1) d [] l hl1 hp (fun z => by rcases List.mem_cons.mp z with z | z; exact hdc z.symm; cases z) (by omega)
        · exact absurd c_109 (by decide)
      · have hdc : c = d := by omega
        subst hdc
        have hlc := hld
        have hcs := cnt_set (v := v) hc hc2 hv1 hlc
        refine ww_aload 0 dJ5_putVal_72 rfl ?_
        refine ww_getf gf_J5_170 rfl dJ5_putVal_74 hNd rfl ?_
        refine ww_dup dJ5_putVal_77 rfl ?_
        refine ww_astore [(11, _), (7, _), (9, _), (0, _), (1, _), (2, _), (3, _), (4, _), (5, _), (6, _), (8, _)] dJ5_putVal_78 (by decide) rfl ?_
        refine ww_aload_n 5 dJ5_putVal_80 rfl ?_
        refine ww_acmp_eqR 97 dJ5_putVal_81 (by decide) (fun c_81 => ?_) (fun c_81 => ?_)
        · refine ww_aload 1 dJ5_putVal_97 rfl ?_
          refine ww_astore [(10, _), (11, _), (7, _), (9, _), (0, _), (1, _), (2, _), (3, _), (4, _), (5, _), (6, _), (8, _)] dJ5_putVal_99 (by decide) rfl ?_
          refine ww_goto 222 dJ5_putVal_101 (by decide) ?_
          refine ww_aload 0 dJ5_putVal_222 rfl ?_
          refine ww_ifnull dJ5_putVal_224 ?_
          refine ww_aload 0 dJ5_putVal_227 rfl ?_
          refine ww_getf gf_J5_162 rfl dJ5_putVal_229 hNd rfl ?_
          refine ww_astore [(12, _), (10, _), (11, _), (7, _), (9, _), (0, _), (1, _), (2, _), (3, _), (4, _), (5, _), (6, _), (8, _)] dJ5_putVal_232 (by decide) rfl ?_
          refine ww_iload 9 dJ5_putVal_234 rfl ?_
          refine ww_if_eq 244 dJ5_putVal_236 (by decide) (inI.mk (by decide) (by decide)) (fun c_236 => ?_) (fun c_236 => ?_)
          · refine ww_aload 1 dJ5_putVal_244 rfl ?_
            refine ww_aload_n 8 dJ5_putVal_246 rfl ?_
            refine wx_putf pf_J5_162 rfl dJ5_putVal_247 hNd ho (Nat.le_of_ble_eq_true rfl) rfl rfl (fun h_247 hNd f_247 => ?_)
            have ha := f_247.at ha (by omega)
            have hr := f_247.at hr (by omega)
            have hk := f_247.at hk (by omega)
            have hF := hF.kt f_247 ⟨rfl, by omega, by omega⟩
            have hiv := ((h3 c hlc).2).kt f_247 ho (by omega)
            have h3 := h3.set ho hc hc2 hlc hNd f_247 (hv.kt f_247 ho (by omega))
            refine ww_aload_n 5 dJ5_putVal_250 rfl ?_
            refine ww_aload 1 dJ5_putVal_251 rfl ?_
            refine cr_pv (cr_V (ct_J5_afterNodeAccess hG _ _) sv_J5_198 rfl dJ5_putVal_253 ha rfl rfl rfl rfl ⟨by decide, by decide⟩ (Nat.le_of_ble_eq_true rfl) (Nat.le_of_ble_eq_true rfl) (Nat.le_of_ble_eq_true rfl)) ?_
            refine ww_aload 0 dJ5_putVal_256 rfl ?_
            exact ww_aret hQ dJ5_putVal_258 rfl rfl (Nat.le_of_ble_eq_true rfl) (Nat.le_of_ble_eq_true rfl) ⟨some _, rfl, ⟨N1, some r1, mc, tb1, X1, A, K, ux V c vx, bk1, ⟨ho, by rw [hcs]; exact ha, Or.inr ⟨r1, F1, rfl, hr, hF1, hcap, hI.set hc hc2 hv1 hlc⟩, h3⟩, by rw [hcs]; exact hth⟩, hF, fun x hx => by cases hx; exact ⟨_, hiv⟩⟩
          · exact absurd rfl c_236
        · refine ww_aload_n 5 dJ5_putVal_84 rfl ?_
          refine ww_ifnull dJ5_putVal_85 ?_
          refine ww_aload_n 5 dJ5_putVal_88 rfl ?_
          refine ww_aload 0 dJ5_putVal_89 rfl ?_
          refine cr_pi (cr_O (ct_X7_equals hG hk hKd (inI.mk (by omega) (by omega)) (inI.mk (by omega) (by omega)) (inI.mk (by omega) (by omega)) (inI.mk (by omega) (by omega))) so_J5_173_X7 rfl dJ5_putVal_91 hk rfl rfl rfl rfl ⟨by decide, by decide⟩ (Nat.le_of_ble_eq_true rfl) (Nat.le_of_ble_eq_true rfl) (Nat.le_of_ble_eq_true rfl)) ?_
          refine ww_ifb_eq 104 dJ5_putVal_94 (by decide) (fun c_94 => ?_) (fun c_94 => ?_)
          · exact absurd ⟨rfl, rfl⟩ c_94
          · refine ww_aload 1 dJ5_putVal_97 rfl ?_
            refine ww_astore [(10, _), (11, _), (7, _), (9, _), (0, _), (1, _), (2, _), (3, _), (4, _), (5, _), (6, _), (8, _)] dJ5_putVal_99 (by decide) rfl ?_
            refine ww_goto 222 dJ5_putVal_101 (by decide) ?_
            refine ww_aload 0 dJ5_putVal_222 rfl ?_
            refine ww_ifnull dJ5_putVal_224 ?_
            refine ww_aload 0 dJ5_putVal_227 rfl ?_
            refine ww_getf gf_J5_162 rfl dJ5_putVal_229 hNd rfl ?_
            refine ww_astore [(12, _), (10, _), (11, _), (7, _), (9, _), (0, _), (1, _), (2, _), (3, _), (4, _), (5, _), (6, _), (8, _)] dJ5_putVal_232 (by decide) rfl ?_
            refine ww_iload 9 dJ5_putVal_234 rfl ?_
            refine ww_if_eq 244 dJ5_putVal_236 (by decide) (inI.mk (by decide) (by decide)) (fun c_236 => ?_) (fun c_236 => ?_)
            · refine ww_aload 1 dJ5_putVal_244 rfl ?_
              refine ww_aload_n 8 dJ5_putVal_246 rfl ?_
              refine wx_putf pf_J5_162 rfl dJ5_putVal_247 hNd ho (Nat.le_of_ble_eq_true rfl) rfl rfl (fun h_247 hNd f_247 => ?_)
              have ha := f_247.at ha (by omega)
              have hr := f_247.at hr (by omega)
              have hk := f_247.at hk (by omega)
              have hF := hF.kt f_247 ⟨rfl, by omega, by omega⟩
              have hiv := ((h3 c hlc).2).kt f_247 ho (by omega)
              have h3 := h3.set ho hc hc2 hlc hNd f_247 (hv.kt f_247 ho (by omega))
              refine ww_aload_n 5 dJ5_putVal_250 rfl ?_
              refine ww_aload 1 dJ5_putVal_251 rfl ?_
              refine cr_pv (cr_V (ct_J5_afterNodeAccess hG _ _) sv_J5_198 rfl dJ5_putVal_253 ha rfl rfl rfl rfl ⟨by decide, by decide⟩ (Nat.le_of_ble_eq_true rfl) (Nat.le_of_ble_eq_true rfl) (Nat.le_of_ble_eq_true rfl)) ?_
              refine ww_aload 0 dJ5_putVal_256 rfl ?_
              exact ww_aret hQ dJ5_putVal_258 rfl rfl (Nat.le_of_ble_eq_true rfl) (Nat.le_of_ble_eq_true rfl) ⟨some _, rfl, ⟨N1, some r1, mc, tb1, X1, A, K, ux V c vx, bk1, ⟨ho, by rw [hcs]; exact ha, Or.inr ⟨r1, F1, rfl, hr, hF1, hcap, hI.set hc hc2 hv1 hlc⟩, h3⟩, by rw [hcs]; exact hth⟩, hF, fun x hx => by cases hx; exact ⟨_, hiv⟩⟩
            · exact absurd rfl c_236
  refine ww_aload_n 0 dJ5_putVal_0 rfl ?_
  refine ww_getf gf_J5_105 rfl dJ5_putVal_1 ha rfl ?_
  rcases h2 with ⟨rfl, rfl, hno⟩ | ⟨r, F1, rfl, hr, hF1, hcap, hI⟩
  · refine ww_dup dJ5_putVal_4 rfl ?_
    refine ww_astoreN [(6, _), (0, _), (1, _), (2, _), (3, _), (4, _), (5, _)] dJ5_putVal_5 (by decide) rfl ?_
    refine ww_ifnullN 19 dJ5_putVal_7 (by decide) ?_
    refine ww_aload_n 1 dJ5_putVal_19 rfl ?_
    refine cr_r (cr_V (ct_J5_resize0 hG hM0) sv_J5_117 rfl dJ5_putVal_20 ha rfl rfl rfl rfl ⟨by decide, by decide⟩ (Nat.le_of_ble_eq_true rfl) (Nat.le_of_ble_eq_true rfl) (Nat.le_of_ble_eq_true rfl)) (fun r_20 h_20 hp_20 => ?_)
    obtain ⟨hM, f_20⟩ := hp_20
    obtain ⟨-, ha, h2, h3⟩ := hM
    obtain ⟨F1, hr, hF1, hcap, hI⟩ : ∃ F1, h_20 r_20 = some ((o, 10330 + 16), aR G 5 16 F1) ∧ (∀ j : Nat, j < 16 → F1 (j : Int) = ((fun _ => none : Nat → Option Nat) j).map A) ∧ tcap 16 ∧ HI 16 (fun _ => none : Nat → Option Nat) X of (fun _ => []) := by rcases h2 with ⟨e, -⟩ | ⟨r2, F2, e, q⟩; cases e; cases e; exact ⟨F2, q⟩
    have hk := f_20.at hk (by omega)
    have hv := hv.fo f_20 ho (by omega)
    have hF := hF.tr f_20
    refine ww_dup dJ5_putVal_23 rfl ?_
    refine ww_astore [(6, _), (0, _), (1, _), (2, _), (3, _), (4, _), (5, _)] dJ5_putVal_24 (by decide) rfl ?_
    refine ww_alenR dJ5_putVal_26 hr (by decide) ?_
    refine ww_istore [(8, _), (6, _), (0, _), (1, _), (2, _), (3, _), (4, _), (5, _)] dJ5_putVal_27 (by decide) rfl ?_
    refine ww_sub [2, 3, 4, 5, 6, 7, 1, 0] rfl ?_
    exact join_29 16 _ _ _ _ _ _ ha hr hF1 hcap hI h3 hk hv hF (by omega)
  · refine ww_dup dJ5_putVal_4 rfl ?_
    refine ww_astore [(6, _), (0, _), (1, _), (2, _), (3, _), (4, _), (5, _)] dJ5_putVal_5 (by decide) rfl ?_
    refine ww_ifnull dJ5_putVal_7 ?_
    refine ww_aload 0 dJ5_putVal_10 rfl ?_
    refine ww_alenR dJ5_putVal_12 hr (by decide) ?_
    refine ww_dup dJ5_putVal_13 rfl ?_
    refine ww_istore [(8, _), (6, _), (0, _), (1, _), (2, _), (3, _), (4, _), (5, _)] dJ5_putVal_14 (by decide) rfl ?_
    have hNp := hcap.pos
    refine ww_if_ne 29 dJ5_putVal_16 (by decide) (inI.mk (by omega) (by omega)) (fun c_16 => ?_) (fun c_16 => ?_)
    · refine ww_sub [2, 3, 4, 5, 6, 7, 1, 0] rfl ?_
      refine ww_widen (n' := 1) (k' := 16) (Nat.le_of_ble_eq_true rfl) (Nat.le_of_ble_eq_true rfl) ?_
      exact join_29 N _ _ _ _ _ _ ha hr hF1 hcap hI h3 hk hv hF hth
    · exact absurd c_16 (by omega)

set_option maxHeartbeats 4000000 in
theorem ct_J5_put {G : GT} {h : AH} (hG : GOK G) {o a : Nat} {of : Int → Int → Int} (hM : HM G h o a of) (c : Nat) (hc : c < 128) (hc2 : c % 16 < 12) {kx : Nat} (hk : h kx = some ((kx, 10004), ob 6 [.int (iI ((c / 16 : Nat) : Int)), .int (iI ((c % 16 : Nat) : Int))])) {vx : Nat} {v : Int} (hv : IV G h vx v) (hv1 : v ≠ -1) : CT G (MJ5_put 4 100 3 148) h [.ref a, .ref kx, .ref vx] (pO (fun r h' => HM G h' o a (oup of c v) ∧ FO o 10200 10459 h h' ∧ ∀ x, r = some x → ∃ v2, IV G h' x v2)) := by
  refine CT.of rfl hG (Nat.le_of_ble_eq_true rfl) rfl (fun E hQ => ?_)
  have hM1 := hM
  obtain ⟨N, tr, mc, tb, X, A, K, V, bk, hM, hth⟩ := hM
  have hM0 := hM
  obtain ⟨ho, ha, h2, h3⟩ := hM
  refine ww_aload_n 0 dJ5_put_0 rfl ?_
  refine ww_aload_n 1 dJ5_put_1 rfl ?_
  refine cr_pi (cr_S (ct_J5_hash hG c hc hk) ss_J5_149 rfl dJ5_put_2 rfl rfl ⟨by decide, by decide⟩ (Nat.le_of_ble_eq_true rfl) (Nat.le_of_ble_eq_true rfl) (Nat.le_of_ble_eq_true rfl)) ?_
  refine ww_aload_n 1 dJ5_put_5 rfl ?_
  refine ww_aload_n 2 dJ5_put_6 rfl ?_
  refine ww_iconst dJ5_put_7 ?_
  refine ww_iconst dJ5_put_8 ?_
  refine cr_o (cr_V (ct_J5_putVal hG hM1 c hc hc2 hk hv hv1) sv_J5_152 rfl dJ5_put_9 ha rfl rfl rfl rfl ⟨by decide, by decide⟩ (Nat.le_of_ble_eq_true rfl) (Nat.le_of_ble_eq_true rfl) (Nat.le_of_ble_eq_true rfl)) (fun r_9 h_9 hp_9 => ?_)
  obtain ⟨hM, f_9, hiv_9⟩ := hp_9
  exact ww_aretq hQ dJ5_put_12 rfl rfl (Nat.le_of_ble_eq_true rfl) (Nat.le_of_ble_eq_true rfl) ⟨_, rfl, hM, f_9, hiv_9⟩

set_option maxHeartbeats 4000000 in
theorem ct_J5_removeNode {G : GT} {h : AH} (hG : GOK G) {o a : Nat} {of : Int → Int → Int} (hM : HM G h o a of) (c : Nat) (hc : c < 128) (hc2 : c % 16 < 12) {kx : Nat} (hk : h kx = some ((kx, 10004), ob 6 [.int (iI ((c / 16 : Nat) : Int)), .int (iI ((c % 16 : Nat) : Int))])) : CT G (MJ5_removeNode 1 21 0 0) h [.ref a, .int (iI (c : Int)), .ref kx, .null, .int (iI 0), .int (iI 1)] (pO (fun r h' => HM G h' o a (oup of c (-1)) ∧ FO o 10200 10459 h h' ∧ (r = none ∨ ∃ y u y1 y2 z y4 vz, r = some y ∧ h' y = some (u, ob 12 [y1, y2, .ref z, y4]) ∧ IV G h' z vz))) := by
  refine CT.of rfl hG (Nat.le_of_ble_eq_true rfl) rfl (fun E hQ => ?_)
  obtain ⟨N, tr, mc, tb, X, A, K, V, bk, hM, hth⟩ := hM
  have hM0 := hM
  obtain ⟨ho, ha, h2, h3⟩ := hM
  have h3 : HA G h o A K V X of := h3
  have hF : FO o 10200 10459 h h := FO.rf
  refine ww_aload_n 0 dJ5_removeNode_0 rfl ?_
  refine ww_getf gf_J5_105 rfl dJ5_removeNode_1 ha rfl ?_
  rcases h2 with ⟨rfl, rfl, hno⟩ | ⟨r, F1, rfl, hr, hF1, hcap, hI⟩
  · rw [oup_id hc hc2 (hno c)] at hQ
    refine ww_dup dJ5_removeNode_4 rfl ?_
    refine ww_astoreN [(6, _), (0, _), (1, _), (2, _), (3, _), (4, _), (5, _)] dJ5_removeNode_5 (by decide) rfl ?_
    refine ww_ifnullN 289 dJ5_removeNode_7 (by decide) ?_
    refine ww_null dJ5_removeNode_289 ?_
    exact ww_aretq (a := none) hQ dJ5_removeNode_290 rfl rfl (Nat.le_of_ble_eq_true rfl) (Nat.le_of_ble_eq_true rfl) ⟨none, rfl, ⟨0, none, mc, tb, X, A, K, V, bk, hM0, hth⟩, FO.rf, Or.inl rfl⟩
  · obtain ⟨qq, hqq, hq7⟩ := hcap.pow
    have hNp := hcap.pos
    have hjN : c % N < N := Nat.mod_lt _ (by omega)
    obtain ⟨hch, hnd, hbk⟩ := hI.1 (c % N) hjN
    refine ww_dup dJ5_removeNode_4 rfl ?_
    refine ww_astore [(6, _), (0, _), (1, _), (2, _), (3, _), (4, _), (5, _)] dJ5_removeNode_5 (by decide) rfl ?_
    refine ww_ifnull dJ5_removeNode_7 ?_
    refine ww_aload 0 dJ5_removeNode_10 rfl ?_
    refine ww_alenR dJ5_removeNode_12 hr (by decide) ?_
    refine ww_dup dJ5_removeNode_13 rfl ?_
    refine ww_istore [(8, _), (6, _), (0, _), (1, _), (2, _), (3, _), (4, _), (5, _)] dJ5_removeNode_14 (by decide) rfl ?_
    refine ww_if_le 289 dJ5_removeNode_16 (by decide) (inI.mk (by omega) (by omega)) (fun c_16 => ?_) (fun c_16 => ?_)
    · exact absurd c_16 (by omega)
    · refine ww_aload 1 dJ5_removeNode_19 rfl ?_
      refine ww_iload 0 dJ5_removeNode_21 rfl ?_
      refine ww_iconst dJ5_removeNode_23 ?_
      refine ww_isub dJ5_removeNode_24 ?_
      refine ww_iload_n 3 dJ5_removeNode_25 rfl ?_
      refine ww_iandQ qq dJ5_removeNode_26 (by rw [hqq]; have := Nat.two_pow_pos qq; omega) (by omega) (by omega) ?_
      rw [← hqq]
      refine ww_dup dJ5_removeNode_27 rfl ?_
      refine ww_istore [(9, _), (8, _), (6, _), (0, _), (1, _), (2, _), (3, _), (4, _), (5, _)] dJ5_removeNode_28 (by decide) rfl ?_
      refine ww_aald dJ5_removeNode_30 hr rfl rfl (by omega) (by omega) (by omega) ?_
      rw [hF1 _ hjN]
      have hxx : tb (c % N) = none ∨ ∃ y9, tb (c % N) = some y9 := by cases tb (c % N) with | none => exact Or.inl rfl | some y9 => exact Or.inr ⟨y9, rfl⟩
      rcases hxx with e0 | ⟨d, e0⟩
      · rw [e0] at hch ⊢
        have hl0 := hch.nil
        have hnl : lvo of c = false := Bool.eq_false_iff.mpr (fun z => by have h9 := hI.2 c z; rw [hl0] at h9; cases h9)
        rw [oup_id hc hc2 hnl] at hQ
        refine ww_dup dJ5_removeNode_31 rfl ?_
        refine ww_astoreN [(7, _), (9, _), (8, _), (6, _), (0, _), (1, _), (2, _), (3, _), (4, _), (5, _)] dJ5_removeNode_32 (by decide) rfl ?_
        refine ww_ifnullN 289 dJ5_removeNode_34 (by decide) ?_
        refine ww_null dJ5_removeNode_289 ?_
        exact ww_aretq (a := none) hQ dJ5_removeNode_290 rfl rfl (Nat.le_of_ble_eq_true rfl) (Nat.le_of_ble_eq_true rfl) ⟨none, rfl, ⟨N, some r, mc, tb, X, A, K, V, bk, hM0, hth⟩, FO.rf, Or.inl rfl⟩
      · have hch0 := hch
        rw [e0] at hch ⊢
        obtain ⟨l, hl1, hp⟩ := hch.cons
        have hdb : d ∈ bk (c % N) := by rw [hl1]; exact List.mem_cons_self
        have hld := (hbk d hdb).1
        have hNd := (h3 d hld).1.1
        have hKd := (h3 d hld).1.2
        have hd8 := (lvo_lt hld).1
        refine ww_dup dJ5_removeNode_31 rfl ?_
        refine ww_astore [(7, _), (9, _), (8, _), (6, _), (0, _), (1, _), (2, _), (3, _), (4, _), (5, _)] dJ5_removeNode_32 (by decide) rfl ?_
        refine ww_ifnull dJ5_removeNode_34 ?_
        refine ww_null dJ5_removeNode_37 ?_
        refine ww_astoreN [(10, _), (7, _), (9, _), (8, _), (6, _), (0, _), (1, _), (2, _), (3, _), (4, _), (5, _)] dJ5_removeNode_38 (by decide) rfl ?_
        refine ww_aload 1 dJ5_removeNode_40 rfl ?_
        refine ww_getf gf_J5_168 rfl dJ5_removeNode_42 hNd rfl ?_
        refine ww_iload_n 6 dJ5_removeNode_45 rfl ?_
        refine ww_icmp_ne 81 dJ5_removeNode_46 (by decide) (inI.mk (by omega) (by omega)) (inI.mk (by omega) (by omega)) (fun c_46 => ?_) (fun c_46 => ?_)
        · have hdc : ¬ d = c := by omega
          refine ww_aload 1 dJ5_removeNode_81 rfl ?_
          refine ww_getf gf_J5_177 rfl dJ5_removeNode_83 hNd rfl ?_
          have hxx : X d = none ∨ ∃ y9, X d = some y9 := by cases X d with | none => exact Or.inl rfl | some y9 => exact Or.inr ⟨y9, rfl⟩
          rcases hxx with hxd | ⟨e, hxd⟩
          · rw [hxd] at hp ⊢
            have hl0 := hp.nil
            have hnl : lvo of c = false := Bool.eq_false_iff.mpr (fun z => by have h9 := hI.2 c z; rw [hl1, hl0] at h9; rcases List.mem_cons.mp h9 with h9 | h9; exact hdc h9.symm; cases h9)
            rw [oup_id hc hc2 hnl] at hQ
            refine ww_dup dJ5_removeNode_86 rfl ?_
            refine ww_astoreN [(11, _), (10, _), (7, _), (9, _), (8, _), (6, _), (0, _), (1, _), (2, _), (3, _), (4, _), (5, _)] dJ5_removeNode_87 (by decide) rfl ?_
            refine ww_ifnullN 171 dJ5_removeNode_89 (by decide) ?_
            refine ww_aloadN 1 dJ5_removeNode_171 rfl ?_
            refine ww_ifnullN 289 dJ5_removeNode_173 (by decide) ?_
            refine ww_null dJ5_removeNode_289 ?_
            exact ww_aretq (a := none) hQ dJ5_removeNode_290 rfl rfl (Nat.le_of_ble_eq_true rfl) (Nat.le_of_ble_eq_true rfl) ⟨none, rfl, ⟨N, some r, mc, tb, X, A, K, V, bk, hM0, hth⟩, FO.rf, Or.inl rfl⟩
          · rw [hxd] at hp ⊢
            obtain ⟨l2, hl2, hp2⟩ := hp.cons
            subst hl2
            refine ww_dup dJ5_removeNode_86 rfl ?_
            refine ww_astore [(11, _), (10, _), (7, _), (9, _), (8, _), (6, _), (0, _), (1, _), (2, _), (3, _), (4, _), (5, _)] dJ5_removeNode_87 (by decide) rfl ?_
            refine ww_ifnull dJ5_removeNode_89 ?_
            refine ww_aload 2 dJ5_removeNode_92 rfl ?_
            refine ww_instNo dJ5_removeNode_94 hNd rfl q866 no_tn rfl ?_
            refine ww_if_eq 115 dJ5_removeNode_97 (by decide) (inI.mk (by decide) (by decide)) (fun c_97 => ?_) (fun c_97 => ?_)
            · have loop_115 : ∀ (f : Nat) (d e : Nat) (l1 l2 : List Nat), (bk (c % N) = l1 ++ d :: e :: l2) → (X d = some e) → (Pth X (X e) l2) → (c ∉ l1 ++ [d]) → (l2.length < f) → WW G E (MJ5_removeNode 1 21 0 0) h 0 0 115 [(0, .ref a), (1, .int (iI (c : Int))), (2, .ref kx), (4, .int (iI 0)), (6, .ref r), (7, .ref (A d)), (9, .int (iI ((c % N : Nat) : Int))), (10, .null), (11, .ref (A e))] [] := by
                intro f
                induction f with
                | zero => intro d e l1 l2 hb hxd hp hcn9 hf; exact absurd hf (by omega)
                | succ f ih =>
                  intro d e l1 l2 hb hxd hp hcn9 hf
                  have hdb : d ∈ bk (c % N) := by rw [hb]; exact List.mem_append_right _ List.mem_cons_self
                  have heb : e ∈ bk (c % N) := by rw [hb]; exact List.mem_append_right _ (List.mem_cons_of_mem _ List.mem_cons_self)
                  have hld := (hbk d hdb).1
                  have hle := (hbk e heb).1
                  have hdm := (hbk d hdb).2
                  have hd8 := (lvo_lt hld).1
                  have he8 := (lvo_lt hle).1
                  have hNd := (h3 d hld).1.1
                  have hNe := (h3 e hle).1.1
                  have hKe := (h3 e hle).1.2
                  refine ww_aload 8 dJ5_removeNode_115 rfl ?_
                  refine ww_getf gf_J5_168 rfl dJ5_removeNode_117 hNe rfl ?_
                  refine ww_iload_n 1 dJ5_removeNode_120 rfl ?_
                  refine ww_icmp_ne 156 dJ5_removeNode_121 (by decide) (inI.mk (by omega) (by omega)) (inI.mk (by omega) (by omega)) (fun c_121 => ?_) (fun c_121 => ?_)
                  · have hec : ¬ e = c := by omega
                    refine ww_aload 8 dJ5_removeNode_156 rfl ?_
                    refine ww_astore [(7, _), (0, _), (1, _), (2, _), (4, _), (6, _), (9, _), (10, _), (11, _)] dJ5_removeNode_158 (by decide) rfl ?_
                    refine ww_aload 8 dJ5_removeNode_160 rfl ?_
                    refine ww_getf gf_J5_177 rfl dJ5_removeNode_162 hNe rfl ?_
                    have hxx : X e = none ∨ ∃ y9, X e = some y9 := by cases X e with | none => exact Or.inl rfl | some y9 => exact Or.inr ⟨y9, rfl⟩
                    rcases hxx with hxe | ⟨e3, hxe⟩
                    · rw [hxe] at hp ⊢
                      have hl0 := hp.nil
                      have hnl : lvo of c = false := Bool.eq_false_iff.mpr (fun z => by have h9 := hI.2 c z; rw [hb, hl0, List.append_cons] at h9; rcases List.mem_append.mp h9 with h9 | h9; exact hcn9 h9; exact hec (List.mem_singleton.mp h9).symm)
                      rw [oup_id hc hc2 hnl] at hQ
                      refine ww_dup dJ5_removeNode_165 rfl ?_
                      refine ww_astoreN [(11, _), (7, _), (0, _), (1, _), (2, _), (4, _), (6, _), (9, _), (10, _)] dJ5_removeNode_166 (by decide) rfl ?_
                      refine ww_ifnonnullN dJ5_removeNode_168 ?_
                      refine ww_aloadN 8 dJ5_removeNode_171 rfl ?_
                      refine ww_ifnullN 289 dJ5_removeNode_173 (by decide) ?_
                      refine ww_null dJ5_removeNode_289 ?_
                      exact ww_aretq (a := none) hQ dJ5_removeNode_290 rfl rfl (Nat.le_of_ble_eq_true rfl) (Nat.le_of_ble_eq_true rfl) ⟨none, rfl, ⟨N, some r, mc, tb, X, A, K, V, bk, hM0, hth⟩, FO.rf, Or.inl rfl⟩
                    · rw [hxe] at hp ⊢
                      obtain ⟨l3, hl3, hp3⟩ := hp.cons
                      subst hl3
                      refine ww_dup dJ5_removeNode_165 rfl ?_
                      refine ww_astore [(11, _), (7, _), (0, _), (1, _), (2, _), (4, _), (6, _), (9, _), (10, _)] dJ5_removeNode_166 (by decide) rfl ?_
                      refine ww_ifnonnull 115 dJ5_removeNode_168 (by decide) ?_
                      refine ww_sub [2, 3, 4, 5, 6, 1, 7, 8, 0] rfl ?_
                      exact ih e e3 (l1 ++ [d]) l3 (by rw [hb, List.append_assoc]; rfl) hxe hp3 (fun z => by rcases List.mem_append.mp z with z | z; exact hcn9 z; exact hec (List.mem_singleton.mp z).symm) (by simp only [List.length_cons] at hf; omega)
                  · have hdc : c = e := by omega
                    subst hdc
                    have hcd := cnt_del hc hc2 hle
                    have hcb := cnt_bd (of := of)
                    have hdc9 : d ≠ c := fun z => hcn9 (by rw [z]; exact List.mem_append_right _ List.mem_cons_self)
                    refine ww_aload 8 dJ5_removeNode_124 rfl ?_
                    refine ww_getf gf_J5_170 rfl dJ5_removeNode_126 hNe rfl ?_
                    refine ww_dup dJ5_removeNode_129 rfl ?_
                    refine ww_astore [(12, _), (0, _), (1, _), (2, _), (4, _), (6, _), (7, _), (9, _), (10, _), (11, _)] dJ5_removeNode_130 (by decide) rfl ?_
                    refine ww_aload_n 3 dJ5_removeNode_132 rfl ?_
                    refine ww_acmp_eqR 149 dJ5_removeNode_133 (by decide) (fun c_133 => ?_) (fun c_133 => ?_)
                    · refine ww_aload 9 dJ5_removeNode_149 rfl ?_
                      refine ww_astore [(10, _), (12, _), (0, _), (1, _), (2, _), (4, _), (6, _), (7, _), (9, _), (11, _)] dJ5_removeNode_151 (by decide) rfl ?_
                      refine ww_goto 171 dJ5_removeNode_153 (by decide) ?_
                      refine ww_aload 0 dJ5_removeNode_171 rfl ?_
                      refine ww_ifnull dJ5_removeNode_173 ?_
                      refine ww_iload 5 dJ5_removeNode_176 rfl ?_
                      refine ww_if_eq 206 dJ5_removeNode_178 (by decide) (inI.mk (by decide) (by decide)) (fun c_178 => ?_) (fun c_178 => ?_)
                      · refine ww_aload 0 dJ5_removeNode_206 rfl ?_
                        refine ww_instNo dJ5_removeNode_208 hNe rfl q866 no_tn rfl ?_
                        refine ww_if_eq 230 dJ5_removeNode_211 (by decide) (inI.mk (by decide) (by decide)) (fun c_211 => ?_) (fun c_211 => ?_)
                        · refine ww_aload 0 dJ5_removeNode_230 rfl ?_
                          refine ww_aload 7 dJ5_removeNode_232 rfl ?_
                          refine ww_acmp_neR 250 dJ5_removeNode_234 (by decide) (fun c_234 => ?_) (fun c_234 => ?_)
                          · refine ww_aload 7 dJ5_removeNode_250 rfl ?_
                            refine ww_aload 0 dJ5_removeNode_252 rfl ?_
                            refine ww_getf gf_J5_177 rfl dJ5_removeNode_254 hNe rfl ?_
                            refine wx_putf pf_J5_177 rfl dJ5_removeNode_257 hNd ho (Nat.le_of_ble_eq_true rfl) nar_rf.1 nar_rf.2 (fun h_257 hNd f_257 => ?_)
                            have ha := f_257.at ha (by omega)
                            have hr := f_257.at hr (by omega)
                            have hk := f_257.at hk (by omega)
                            have hF := hF.kt f_257 ⟨rfl, by omega, by omega⟩
                            have h3 := h3.put ho (d := d) (v := X c) hNd f_257
                            refine ww_aload_n 2 dJ5_removeNode_260 rfl ?_
                            refine ww_dup dJ5_removeNode_261 rfl ?_
                            refine ww_getf gf_J5_202 rfl dJ5_removeNode_262 ha rfl ?_
                            refine ww_iconst dJ5_removeNode_265 ?_
                            refine ww_iadd dJ5_removeNode_266 ?_
                            refine wx_putf pf_J5_202 rfl dJ5_removeNode_267 ha ho (Nat.le_of_ble_eq_true rfl) rfl rfl (fun h_267 ha f_267 => ?_)
                            have hr := f_267.at hr (by omega)
                            have hk := f_267.at hk (by omega)
                            have hF := hF.kt f_267 ⟨rfl, by omega, by omega⟩
                            have h3 := h3.kt f_267 ho (by omega)
                            refine ww_aload_n 2 dJ5_removeNode_270 rfl ?_
                            refine ww_dup dJ5_removeNode_271 rfl ?_
                            refine ww_getf gf_J5_156 rfl dJ5_removeNode_272 ha rfl ?_
                            refine ww_iconst dJ5_removeNode_275 ?_
                            refine ww_isub dJ5_removeNode_276 ?_
                            refine wx_putf pf_J5_156 rfl dJ5_removeNode_277 ha ho (Nat.le_of_ble_eq_true rfl) rfl rfl (fun h_277 ha f_277 => ?_)
                            have hr := f_277.at hr (by omega)
                            have hk := f_277.at hk (by omega)
                            have hF := hF.kt f_277 ⟨rfl, by omega, by omega⟩
                            have h3 := h3.kt f_277 ho (by omega)
                            refine ww_aload_n 2 dJ5_removeNode_280 rfl ?_
                            refine ww_aload 0 dJ5_removeNode_281 rfl ?_
                            refine cr_pv (cr_V (ct_J5_afterNodeRemoval hG _ _) sv_J5_236 rfl dJ5_removeNode_283 ha rfl rfl rfl rfl ⟨by decide, by decide⟩ (Nat.le_of_ble_eq_true rfl) (Nat.le_of_ble_eq_true rfl) (Nat.le_of_ble_eq_true rfl)) ?_
                            refine ww_aload 0 dJ5_removeNode_286 rfl ?_
                            exact ww_aret hQ dJ5_removeNode_288 rfl rfl (Nat.le_of_ble_eq_true rfl) (Nat.le_of_ble_eq_true rfl) ⟨some _, rfl, ⟨N, some r, mc + 1, tb, ux X d (X c), A, K, V, ux bk (c % N) (l1 ++ d :: l2), ⟨ho, by rw [hcd]; exact ha, Or.inr ⟨r, _, rfl, hr, hF1, hcap, hI.del (by omega) hc hc2 (Pth.del (by rw [← hb]; exact hch0) (by rw [← hb]; exact hnd)) (by rw [hb]; exact mem_del1 (by rw [← hb]; exact hnd)) (nd_del1 (by rw [← hb]; exact hnd)) (fun _ _ _ => rfl) (fun d2 hd2 h9 => ux_n (fun z => h9 (by rw [z]; exact hdm)))⟩, h3.del hc hc2⟩, by rw [hcd]; omega⟩, hF, Or.inr ⟨_, _, _, _, _, _, _, rfl, (h3 c hle).1.1, (h3 c hle).2⟩⟩
                          · exact absurd c_234 (fun z => by rw [z, hNd] at hNe; simp only [Option.some.injEq, Prod.mk.injEq] at hNe; omega)
                        · exact absurd c_211 (by decide)
                      · exact absurd rfl c_178
                    · refine ww_aload_n 3 dJ5_removeNode_136 rfl ?_
                      refine ww_ifnull dJ5_removeNode_137 ?_
                      refine ww_aload_n 3 dJ5_removeNode_140 rfl ?_
                      refine ww_aload 0 dJ5_removeNode_141 rfl ?_
                      refine cr_pi (cr_O (ct_X7_equals hG hk hKe (inI.mk (by omega) (by omega)) (inI.mk (by omega) (by omega)) (inI.mk (by omega) (by omega)) (inI.mk (by omega) (by omega))) so_J5_173_X7 rfl dJ5_removeNode_143 hk rfl rfl rfl rfl ⟨by decide, by decide⟩ (Nat.le_of_ble_eq_true rfl) (Nat.le_of_ble_eq_true rfl) (Nat.le_of_ble_eq_true rfl)) ?_
                      refine ww_ifb_eq 156 dJ5_removeNode_146 (by decide) (fun c_146 => ?_) (fun c_146 => ?_)
                      · exact absurd ⟨rfl, rfl⟩ c_146
                      · refine ww_aload 9 dJ5_removeNode_149 rfl ?_
                        refine ww_astore [(10, _), (12, _), (0, _), (1, _), (2, _), (4, _), (6, _), (7, _), (9, _), (11, _)] dJ5_removeNode_151 (by decide) rfl ?_
                        refine ww_goto 171 dJ5_removeNode_153 (by decide) ?_
                        refine ww_aload 0 dJ5_removeNode_171 rfl ?_
                        refine ww_ifnull dJ5_removeNode_173 ?_
                        refine ww_iload 5 dJ5_removeNode_176 rfl ?_
                        refine ww_if_eq 206 dJ5_removeNode_178 (by decide) (inI.mk (by decide) (by decide)) (fun c_178 => ?_) (fun c_178 => ?_)
                        · refine ww_aload 0 dJ5_removeNode_206 rfl ?_
                          refine ww_instNo dJ5_removeNode_208 hNe rfl q866 no_tn rfl ?_
                          refine ww_if_eq 230 dJ5_removeNode_211 (by decide) (inI.mk (by decide) (by decide)) (fun c_211 => ?_) (fun c_211 => ?_)
                          · refine ww_aload 0 dJ5_removeNode_230 rfl ?_
                            refine ww_aload 7 dJ5_removeNode_232 rfl ?_
                            refine ww_acmp_neR 250 dJ5_removeNode_234 (by decide) (fun c_234 => ?_) (fun c_234 => ?_)
                            · refine ww_aload 7 dJ5_removeNode_250 rfl ?_
                              refine ww_aload 0 dJ5_removeNode_252 rfl ?_
                              refine ww_getf gf_J5_177 rfl dJ5_removeNode_254 hNe rfl ?_
                              refine wx_putf pf_J5_177 rfl dJ5_removeNode_257 hNd ho (Nat.le_of_ble_eq_true rfl) nar_rf.1 nar_rf.2 (fun h_257 hNd f_257 => ?_)
                              have ha := f_257.at ha (by omega)
                              have hr := f_257.at hr (by omega)
                              have hk := f_257.at hk (by omega)
                              have hF := hF.kt f_257 ⟨rfl, by omega, by omega⟩
                              have h3 := h3.put ho (d := d) (v := X c) hNd f_257
                              refine ww_aload_n 2 dJ5_removeNode_260 rfl ?_
                              refine ww_dup dJ5_removeNode_261 rfl ?_
                              refine ww_getf gf_J5_202 rfl dJ5_removeNode_262 ha rfl ?_
                              refine ww_iconst dJ5_removeNode_265 ?_
                              refine ww_iadd dJ5_removeNode_266 ?_
                              refine wx_putf pf_J5_202 rfl dJ5_removeNode_267 ha ho (Nat.le_of_ble_eq_true rfl) rfl rfl (fun h_267 ha f_267 => ?_)
                              have hr := f_267.at hr (by omega)
                              have hk := f_267.at hk (by omega)
                              have hF := hF.kt f_267 ⟨rfl, by omega, by omega⟩
                              have h3 := h3.kt f_267 ho (by omega)
                              refine ww_aload_n 2 dJ5_removeNode_270 rfl ?_
                              refine ww_dup dJ5_removeNode_271 rfl ?_
                              refine ww_getf gf_J5_156 rfl dJ5_removeNode_272 ha rfl ?_
                              refine ww_iconst dJ5_removeNode_275 ?_
                              refine ww_isub dJ5_removeNode_276 ?_
                              refine wx_putf pf_J5_156 rfl dJ5_removeNode_277 ha ho (Nat.le_of_ble_eq_true rfl) rfl rfl (fun h_277 ha f_277 => ?_)
                              have hr := f_277.at hr (by omega)
                              have hk := f_277.at hk (by omega)
                              have hF := hF.kt f_277 ⟨rfl, by omega, by omega⟩
                              have h3 := h3.kt f_277 ho (by omega)
                              refine ww_aload_n 2 dJ5_removeNode_280 rfl ?_
                              refine ww_aload 0 dJ5_removeNode_281 rfl ?_
                              refine cr_pv (cr_V (ct_J5_afterNodeRemoval hG _ _) sv_J5_236 rfl dJ5_removeNode_283 ha rfl rfl rfl rfl ⟨by decide, by decide⟩ (Nat.le_of_ble_eq_true rfl) (Nat.le_of_ble_eq_true rfl) (Nat.le_of_ble_eq_true rfl)) ?_
                              refine ww_aload 0 dJ5_removeNode_286 rfl ?_
                              exact ww_aret hQ dJ5_removeNode_288 rfl rfl (Nat.le_of_ble_eq_true rfl) (Nat.le_of_ble_eq_true rfl) ⟨some _, rfl, ⟨N, some r, mc + 1, tb, ux X d (X c), A, K, V, ux bk (c % N) (l1 ++ d :: l2), ⟨ho, by rw [hcd]; exact ha, Or.inr ⟨r, _, rfl, hr, hF1, hcap, hI.del (by omega) hc hc2 (Pth.del (by rw [← hb]; exact hch0) (by rw [← hb]; exact hnd)) (by rw [hb]; exact mem_del1 (by rw [← hb]; exact hnd)) (nd_del1 (by rw [← hb]; exact hnd)) (fun _ _ _ => rfl) (fun d2 hd2 h9 => ux_n (fun z => h9 (by rw [z]; exact hdm)))⟩, h3.del hc hc2⟩, by rw [hcd]; omega⟩, hF, Or.inr ⟨_, _, _, _, _, _, _, rfl, (h3 c hle).1.1, (h3 c hle).2⟩⟩
                            · exact absurd c_234 (fun z => by rw [z, hNd] at hNe; simp only [Option.some.injEq, Prod.mk.injEq] at hNe; omega)
                          · exact absurd c_211 (by decide)
                        · exact absurd rfl c_178
              refine ww_sub [6, 7, 8, 10, 5, 2, 3, 1, 0] rfl ?_
              exact loop_115 (l2.length + 1) d e [] l2 hl1 hxd hp2 (fun z => by rcases List.mem_cons.mp z with z | z; exact hdc z.symm; cases z) (by omega)
            · exact absurd c_97 (by decide)
        · have hdc : c = d := by omega
          subst hdc
          have hcd := cnt_del hc hc2 hld
          have hcb := cnt_bd (of := of)
          refine ww_aload 1 dJ5_removeNode_49 rfl ?_
          refine ww_getf gf_J5_170 rfl dJ5_removeNode_51 hNd rfl ?_
          refine ww_dup dJ5_removeNode_54 rfl ?_
          refine ww_astore [(12, _), (10, _), (7, _), (9, _), (8, _), (6, _), (0, _), (1, _), (2, _), (3, _), (4, _), (5, _)] dJ5_removeNode_55 (by decide) rfl ?_
          refine ww_aload_n 8 dJ5_removeNode_57 rfl ?_
          refine ww_acmp_eqR 74 dJ5_removeNode_58 (by decide) (fun c_58 => ?_) (fun c_58 => ?_)
          · refine ww_aload 2 dJ5_removeNode_74 rfl ?_
            refine ww_astore [(10, _), (12, _), (7, _), (9, _), (8, _), (6, _), (0, _), (1, _), (2, _), (3, _), (4, _), (5, _)] dJ5_removeNode_76 (by decide) rfl ?_
            refine ww_goto 171 dJ5_removeNode_78 (by decide) ?_
            refine ww_aload 0 dJ5_removeNode_171 rfl ?_
            refine ww_ifnull dJ5_removeNode_173 ?_
            refine ww_iload 10 dJ5_removeNode_176 rfl ?_
            refine ww_if_eq 206 dJ5_removeNode_178 (by decide) (inI.mk (by decide) (by decide)) (fun c_178 => ?_) (fun c_178 => ?_)
            · refine ww_aload 0 dJ5_removeNode_206 rfl ?_
              refine ww_instNo dJ5_removeNode_208 hNd rfl q866 no_tn rfl ?_
              refine ww_if_eq 230 dJ5_removeNode_211 (by decide) (inI.mk (by decide) (by decide)) (fun c_211 => ?_) (fun c_211 => ?_)
              · refine ww_aload 0 dJ5_removeNode_230 rfl ?_
                refine ww_aload 2 dJ5_removeNode_232 rfl ?_
                refine ww_acmp_neR 250 dJ5_removeNode_234 (by decide) (fun c_234 => ?_) (fun c_234 => ?_)
                · exact absurd rfl c_234
                · refine ww_aload 5 dJ5_removeNode_237 rfl ?_
                  refine ww_iload 3 dJ5_removeNode_239 rfl ?_
                  refine ww_aload 0 dJ5_removeNode_241 rfl ?_
                  refine ww_getf gf_J5_177 rfl dJ5_removeNode_243 hNd rfl ?_
                  refine wx_aastq (ci := 12) (Or.inl rfl) dJ5_removeNode_246 hr ho rfl (fun x hx => ?_) rfl (by omega) (by omega) (by omega) (fun h_246 hr f_246 => ?_)
                  · cases hy : X c with
                    | none => rw [hy] at hx; cases hx
                    | some y => rw [hy] at hx; cases hx; exact ⟨_, _, (h3 y (hI.nx (by omega) hld hy)).1.1⟩
                  have ha := f_246.at ha (by omega)
                  have h3 := h3.kt f_246 ho (by omega)
                  have hF := hF.kt f_246 ⟨rfl, by omega, by omega⟩
                  have hk := f_246.at hk (by omega)
                  refine ww_goto 260 dJ5_removeNode_247 (by decide) ?_
                  refine ww_aload_n 6 dJ5_removeNode_260 rfl ?_
                  refine ww_dup dJ5_removeNode_261 rfl ?_
                  refine ww_getf gf_J5_202 rfl dJ5_removeNode_262 ha rfl ?_
                  refine ww_iconst dJ5_removeNode_265 ?_
                  refine ww_iadd dJ5_removeNode_266 ?_
                  refine wx_putf pf_J5_202 rfl dJ5_removeNode_267 ha ho (Nat.le_of_ble_eq_true rfl) rfl rfl (fun h_267 ha f_267 => ?_)
                  have hr := f_267.at hr (by omega)
                  have hk := f_267.at hk (by omega)
                  have hF := hF.kt f_267 ⟨rfl, by omega, by omega⟩
                  have h3 := h3.kt f_267 ho (by omega)
                  refine ww_aload_n 6 dJ5_removeNode_270 rfl ?_
                  refine ww_dup dJ5_removeNode_271 rfl ?_
                  refine ww_getf gf_J5_156 rfl dJ5_removeNode_272 ha rfl ?_
                  refine ww_iconst dJ5_removeNode_275 ?_
                  refine ww_isub dJ5_removeNode_276 ?_
                  refine wx_putf pf_J5_156 rfl dJ5_removeNode_277 ha ho (Nat.le_of_ble_eq_true rfl) rfl rfl (fun h_277 ha f_277 => ?_)
                  have hr := f_277.at hr (by omega)
                  have hk := f_277.at hk (by omega)
                  have hF := hF.kt f_277 ⟨rfl, by omega, by omega⟩
                  have h3 := h3.kt f_277 ho (by omega)
                  refine ww_aload_n 6 dJ5_removeNode_280 rfl ?_
                  refine ww_aload 0 dJ5_removeNode_281 rfl ?_
                  refine cr_pv (cr_V (ct_J5_afterNodeRemoval hG _ _) sv_J5_236 rfl dJ5_removeNode_283 ha rfl rfl rfl rfl ⟨by decide, by decide⟩ (Nat.le_of_ble_eq_true rfl) (Nat.le_of_ble_eq_true rfl) (Nat.le_of_ble_eq_true rfl)) ?_
                  refine ww_aload 0 dJ5_removeNode_286 rfl ?_
                  exact ww_aret hQ dJ5_removeNode_288 rfl rfl (Nat.le_of_ble_eq_true rfl) (Nat.le_of_ble_eq_true rfl) ⟨some _, rfl, ⟨N, some r, mc + 1, ux tb (c % N) (X c), X, A, K, V, ux bk (c % N) l, ⟨ho, by rw [hcd]; exact ha, Or.inr ⟨r, _, rfl, hr, tb_set hF1, hcap, hI.del (by omega) hc hc2 (by rw [ux_s]; exact hp) (by rw [hl1]; exact mem_del0 (by rw [← hl1]; exact hnd)) (by rw [hl1] at hnd; exact (List.nodup_cons.mp hnd).2) (fun i hi h9 => ux_n h9) (fun _ _ _ => rfl)⟩, h3.del hc hc2⟩, by rw [hcd]; omega⟩, hF, Or.inr ⟨_, _, _, _, _, _, _, rfl, (h3 c hld).1.1, (h3 c hld).2⟩⟩
              · exact absurd c_211 (by decide)
            · exact absurd rfl c_178
          · refine ww_aload_n 8 dJ5_removeNode_61 rfl ?_
            refine ww_ifnull dJ5_removeNode_62 ?_
            refine ww_aload_n 8 dJ5_removeNode_65 rfl ?_
            refine ww_aload 0 dJ5_removeNode_66 rfl ?_
            refine cr_pi (cr_O (ct_X7_equals hG hk hKd (inI.mk (by omega) (by omega)) (inI.mk (by omega) (by omega)) (inI.mk (by omega) (by omega)) (inI.mk (by omega) (by omega))) so_J5_173_X7 rfl dJ5_removeNode_68 hk rfl rfl rfl rfl ⟨by decide, by decide⟩ (Nat.le_of_ble_eq_true rfl) (Nat.le_of_ble_eq_true rfl) (Nat.le_of_ble_eq_true rfl)) ?_
            refine ww_ifb_eq 81 dJ5_removeNode_71 (by decide) (fun c_71 => ?_) (fun c_71 => ?_)
            · exact absurd ⟨rfl, rfl⟩ c_71
            · refine ww_aload 2 dJ5_removeNode_74 rfl ?_
              refine ww_astore [(10, _), (12, _), (7, _), (9, _), (8, _), (6, _), (0, _), (1, _), (2, _), (3, _), (4, _), (5, _)] dJ5_removeNode_76 (by decide) rfl ?_
              refine ww_goto 171 dJ5_removeNode_78 (by decide) ?_
              refine ww_aload 0 dJ5_removeNode_171 rfl ?_
              refine ww_ifnull dJ5_removeNode_173 ?_
              refine ww_iload 10 dJ5_removeNode_176 rfl ?_
              refine ww_if_eq 206 dJ5_removeNode_178 (by decide) (inI.mk (by decide) (by decide)) (fun c_178 => ?_) (fun c_178 => ?_)
              · refine ww_aload 0 dJ5_removeNode_206 rfl ?_
                refine ww_instNo dJ5_removeNode_208 hNd rfl q866 no_tn rfl ?_
                refine ww_if_eq 230 dJ5_removeNode_211 (by decide) (inI.mk (by decide) (by decide)) (fun c_211 => ?_) (fun c_211 => ?_)
                · refine ww_aload 0 dJ5_removeNode_230 rfl ?_
                  refine ww_aload 2 dJ5_removeNode_232 rfl ?_
                  refine ww_acmp_neR 250 dJ5_removeNode_234 (by decide) (fun c_234 => ?_) (fun c_234 => ?_)
                  · exact absurd rfl c_234
                  · refine ww_aload 5 dJ5_removeNode_237 rfl ?_
                    refine ww_iload 3 dJ5_removeNode_239 rfl ?_
                    refine ww_aload 0 dJ5_removeNode_241 rfl ?_
                    refine ww_getf gf_J5_177 rfl dJ5_removeNode_243 hNd rfl ?_
                    refine wx_aastq (ci := 12) (Or.inl rfl) dJ5_removeNode_246 hr ho rfl (fun x hx => ?_) rfl (by omega) (by omega) (by omega) (fun h_246 hr f_246 => ?_)
                    · cases hy : X c with
                      | none => rw [hy] at hx; cases hx
                      | some y => rw [hy] at hx; cases hx; exact ⟨_, _, (h3 y (hI.nx (by omega) hld hy)).1.1⟩
                    have ha := f_246.at ha (by omega)
                    have h3 := h3.kt f_246 ho (by omega)
                    have hF := hF.kt f_246 ⟨rfl, by omega, by omega⟩
                    have hk := f_246.at hk (by omega)
                    refine ww_goto 260 dJ5_removeNode_247 (by decide) ?_
                    refine ww_aload_n 6 dJ5_removeNode_260 rfl ?_
                    refine ww_dup dJ5_removeNode_261 rfl ?_
                    refine ww_getf gf_J5_202 rfl dJ5_removeNode_262 ha rfl ?_
                    refine ww_iconst dJ5_removeNode_265 ?_
                    refine ww_iadd dJ5_removeNode_266 ?_
                    refine wx_putf pf_J5_202 rfl dJ5_removeNode_267 ha ho (Nat.le_of_ble_eq_true rfl) rfl rfl (fun h_267 ha f_267 => ?_)
                    have hr := f_267.at hr (by omega)
                    have hk := f_267.at hk (by omega)
                    have hF := hF.kt f_267 ⟨rfl, by omega, by omega⟩
                    have h3 := h3.kt f_267 ho (by omega)
                    refine ww_aload_n 6 dJ5_removeNode_270 rfl ?_
                    refine ww_dup dJ5_removeNode_271 rfl ?_
                    refine ww_getf gf_J5_156 rfl dJ5_removeNode_272 ha rfl ?_
                    refine ww_iconst dJ5_removeNode_275 ?_
                    refine ww_isub dJ5_removeNode_276 ?_
                    refine wx_putf pf_J5_156 rfl dJ5_removeNode_277 ha ho (Nat.le_of_ble_eq_true rfl) rfl rfl (fun h_277 ha f_277 => ?_)
                    have hr := f_277.at hr (by omega)
                    have hk := f_277.at hk (by omega)
                    have hF := hF.kt f_277 ⟨rfl, by omega, by omega⟩
                    have h3 := h3.kt f_277 ho (by omega)
                    refine ww_aload_n 6 dJ5_removeNode_280 rfl ?_
                    refine ww_aload 0 dJ5_removeNode_281 rfl ?_
                    refine cr_pv (cr_V (ct_J5_afterNodeRemoval hG _ _) sv_J5_236 rfl dJ5_removeNode_283 ha rfl rfl rfl rfl ⟨by decide, by decide⟩ (Nat.le_of_ble_eq_true rfl) (Nat.le_of_ble_eq_true rfl) (Nat.le_of_ble_eq_true rfl)) ?_
                    refine ww_aload 0 dJ5_removeNode_286 rfl ?_
                    exact ww_aret hQ dJ5_removeNode_288 rfl rfl (Nat.le_of_ble_eq_true rfl) (Nat.le_of_ble_eq_true rfl) ⟨some _, rfl, ⟨N, some r, mc + 1, ux tb (c % N) (X c), X, A, K, V, ux bk (c % N) l, ⟨ho, by rw [hcd]; exact ha, Or.inr ⟨r, _, rfl, hr, tb_set hF1, hcap, hI.del (by omega) hc hc2 (by rw [ux_s]; exact hp) (by rw [hl1]; exact mem_del0 (by rw [← hl1]; exact hnd)) (by rw [hl1] at hnd; exact (List.nodup_cons.mp hnd).2) (fun i hi h9 => ux_n h9) (fun _ _ _ => rfl)⟩, h3.del hc hc2⟩, by rw [hcd]; omega⟩, hF, Or.inr ⟨_, _, _, _, _, _, _, rfl, (h3 c hld).1.1, (h3 c hld).2⟩⟩
                · exact absurd c_211 (by decide)
              · exact absurd rfl c_178

set_option maxHeartbeats 4000000 in
theorem ct_J5_remove {G : GT} {h : AH} (hG : GOK G) {o a : Nat} {of : Int → Int → Int} (hM : HM G h o a of) (c : Nat) (hc : c < 128) (hc2 : c % 16 < 12) {kx : Nat} (hk : h kx = some ((kx, 10004), ob 6 [.int (iI ((c / 16 : Nat) : Int)), .int (iI ((c % 16 : Nat) : Int))])) : CT G (MJ5_remove 2 54 0 0) h [.ref a, .ref kx] (pO (fun r h' => HM G h' o a (oup of c (-1)) ∧ FO o 10200 10459 h h' ∧ ∀ x, r = some x → ∃ v2, IV G h' x v2)) := by
  refine CT.of rfl hG (Nat.le_of_ble_eq_true rfl) rfl (fun E hQ => ?_)
  have hM1 := hM
  obtain ⟨N, tr, mc, tb, X, A, K, V, bk, hM, hth⟩ := hM
  have hM0 := hM
  obtain ⟨ho, ha, h2, h3⟩ := hM
  refine ww_aload_n 0 dJ5_remove_0 rfl ?_
  refine ww_aload_n 1 dJ5_remove_1 rfl ?_
  refine cr_pi (cr_S (ct_J5_hash hG c hc hk) ss_J5_149 rfl dJ5_remove_2 rfl rfl ⟨by decide, by decide⟩ (Nat.le_of_ble_eq_true rfl) (Nat.le_of_ble_eq_true rfl) (Nat.le_of_ble_eq_true rfl)) ?_
  refine ww_aload_n 1 dJ5_remove_5 rfl ?_
  refine ww_null dJ5_remove_6 ?_
  refine ww_iconst dJ5_remove_7 ?_
  refine ww_iconst dJ5_remove_8 ?_
  refine cr_o (cr_V (ct_J5_removeNode hG hM1 c hc hc2 hk) sv_J5_228 rfl dJ5_remove_9 ha rfl rfl rfl rfl ⟨by decide, by decide⟩ (Nat.le_of_ble_eq_true rfl) (Nat.le_of_ble_eq_true rfl) (Nat.le_of_ble_eq_true rfl)) (fun r_9 h_9 hp_9 => ?_)
  obtain ⟨hM, f_9, hnd_9⟩ := hp_9
  rcases hnd_9 with hr9 | ⟨y, u, y1, y2, z, y4, vz, hr9, hy, hz⟩
  · subst hr9
    refine ww_dup dJ5_remove_12 rfl ?_
    refine ww_astore_nN [(2, _), (0, _), (1, _)] dJ5_remove_13 (by decide) rfl ?_
    refine ww_ifnonnullN dJ5_remove_14 ?_
    refine ww_null dJ5_remove_17 ?_
    refine ww_goto 25 dJ5_remove_18 (by decide) ?_
    exact ww_aretq (a := none) hQ dJ5_remove_25 rfl rfl (Nat.le_of_ble_eq_true rfl) (Nat.le_of_ble_eq_true rfl) ⟨none, rfl, hM, f_9, fun x hx => by cases hx⟩
  · subst hr9
    refine ww_dup dJ5_remove_12 rfl ?_
    refine ww_astore_n [(2, _), (0, _), (1, _)] dJ5_remove_13 (by decide) rfl ?_
    refine ww_ifnonnull 21 dJ5_remove_14 (by decide) ?_
    refine ww_aload_n 0 dJ5_remove_21 rfl ?_
    refine ww_getf gf_J5_162 rfl dJ5_remove_22 hy rfl ?_
    exact ww_aret hQ dJ5_remove_25 rfl rfl (Nat.le_of_ble_eq_true rfl) (Nat.le_of_ble_eq_true rfl) ⟨some _, rfl, hM, f_9, fun x hx => by cases hx; exact ⟨_, hz⟩⟩

set_option maxHeartbeats 4000000 in
theorem ct_J5_init {G : GT} {h : AH} (hG : GOK G) {o a : Nat} (ho : o ≠ 0) (ha : h a = some ((o, 10200), ob 11 [.null, .null, .null, .null, .int 0, .int 0, .int 0, .float 0])) : CT G (MJ5_init 2 40 0 0) h [.ref a] (pV (fun h' => HM G h' o a (fun _ _ => -1) ∧ KT a (o, 10200) h h')) := by
  refine CT.of rfl hG (Nat.le_of_ble_eq_true rfl) rfl (fun E hQ => ?_)
  refine ww_aload_n 0 dJ5_init_0 rfl ?_
  refine cr_pv (cr_I (ct_J4_init hG _) si_J5_43 rfl rfl dJ5_init_1 rfl rfl ⟨by decide, by decide⟩ (Nat.le_of_ble_eq_true rfl) (Nat.le_of_ble_eq_true rfl) (Nat.le_of_ble_eq_true rfl)) ?_
  refine ww_aload_n 0 dJ5_init_4 rfl ?_
  refine ww_ldcf q192 rfl dJ5_init_5 ?_
  refine wx_putF pf_J5_81 rfl rfl dJ5_init_7 ha ho (Nat.le_of_ble_eq_true rfl) rfl rfl (fun h_7 ha f_7 => ?_)
  exact ww_vret hQ dJ5_init_10 rfl (Nat.le_of_ble_eq_true rfl) (Nat.le_of_ble_eq_true rfl) ⟨rfl, ⟨0, none, 0, fun _ => none, fun _ => none, fun _ => 0, fun _ => 0, fun _ => 0, fun _ => [], ⟨ho, ha, Or.inl ⟨rfl, rfl, fun c => lvo_0⟩, fun c hc => by rw [lvo_0] at hc; cases hc⟩, by rw [cnt_0]; decide⟩, f_7⟩
