set_option maxRecDepth 100000
set_option maxHeartbeats 4000000 in
theorem ct_X3_layName {G : GT} {h0 h : AH} {m : Nat} {A : Nat → Nat} {B : Nat → Int → Nat} {D : Int → Int} {σ : MS} (hG : GOK G) (hM : MWF G h0 h m A B D σ) (hl1 : 0 ≤ D 1) (hl2 : D 1 ≤ 8) (hpf : ∀ k : Int, 0 ≤ k → k < 8 → D (6 + 24 * k + 3) ≤ 8) (hpr : ∀ k i : Int, 0 ≤ k → k < 8 → 0 ≤ i → i < D (6 + 24 * k + 3) → 0 ≤ D (6 + 24 * k + 4 + i) ∧ D (6 + 24 * k + 4 + i) < D 1) (hw : ∀ k : Int, 0 ≤ k → k < D 1 → -1 ≤ σ 19 0 k ∧ σ 19 0 k ≤ 9999) (hs1 : 0 ≤ D 0) (hs2 : D 0 ≤ 100) (n : Int) (h3 : 0 ≤ n) (h4 : n < 12) : CSv G (MX3_layName 4 87 0 0) h m A B D [.ref m, .int (iI n)] (fun σ' => ∃ S Wn Bn, σ' = sj (sj (sj σ 22 S) 21 Wn) 23 Bn ∧ (∀ k c : Int, c ≠ n → S k c = σ 22 k c) ∧ (∀ c : Int, 0 ≤ c → c < D 1 → S c n = (eSup (D 1) (fun k => dVt D k n) (σ 19 0)) c) ∧ (∀ c : Int, c ≠ n → Wn 0 c = σ 21 0 c) ∧ Wn 0 n = (eBsI (D 1) (fun k => dCd D k n) (eSup (D 1) (fun k => dVt D k n) (σ 19 0)) (σ 20 0)) ∧ (∀ k c : Int, c ≠ n → Bn k c = σ 23 k c) ∧ ∀ k : Int, 0 ≤ k → k < D 1 → Bn k n = dBd D (fun k => dVt D k n) (eSup (D 1) (fun k => dVt D k n) (σ 19 0)) (eTot (D 1) (fun k => dVt D k n) (σ 19 0)) (eBsI (D 1) (fun k => dCd D k n) (eSup (D 1) (fun k => dVt D k n) (σ 19 0)) (σ 20 0)) k) := by
  refine CT.of rfl hG (Nat.le_of_ble_eq_true rfl) rfl (fun E hQ => ?_)
  have hM := hM.1.f
  refine ww_iconst dX3_layName_0 ?_
  refine ww_istore_n [(2, _), (0, _), (1, _)] dX3_layName_1 (by decide) rfl ?_
  refine ww_iconst dX3_layName_2 ?_
  refine ww_istore_n [(3, _), (2, _), (0, _), (1, _)] dX3_layName_3 (by decide) rfl ?_
  refine ww_iconst dX3_layName_4 ?_
  refine ww_istore [(4, _), (3, _), (2, _), (0, _), (1, _)] dX3_layName_5 (by decide) rfl ?_
  have loop_7 : ∀ (f : Nat) (i : Int) (S : Int → Int → Int) (hx : AH), (0 ≤ i) → (i ≤ D 1) → (MWF G h hx m A B D (sj σ 22 S)) → (∀ k c : Int, c ≠ n → S k c = σ 22 k c) → (∀ c : Int, 0 ≤ c → c < i → S c n = 0) → (D 1 - i < f) → WW G E (MX3_layName 4 87 0 0) hx 0 0 7 [(4, .int (iI i)), (3, .int (iI (-1))), (2, .int (iI 0)), (0, .ref m), (1, .int (iI n))] [] := by
    intro f
    induction f with
    | zero => intro i S hx hi0 hi1 hM hS hz hf; exact absurd hf (by omega)
    | succ f ih =>
      intro i S hx hi0 hi1 hM hS hz hf
      refine ww_iload 0 dX3_layName_7 rfl ?_
      refine ww_aload_n 3 dX3_layName_9 rfl ?_
      refine ww_getf gf_X3_17 rfl dX3_layName_10 hM.obj rfl ?_
      refine ww_iconst dX3_layName_13 ?_
      refine mw_ldD dX3_layName_14 hM (by omega) (by omega) ?_
      refine ww_icmp_ge 34 dX3_layName_15 (by decide) (by first | exact hM.rd _ | exact hM.ri rfl _ _ | exact ⟨by omega, by omega⟩ | assumption | exact bI_in _ | exact inI.mk (by omega) (by omega)) (by first | exact hM.rd _ | exact hM.ri rfl _ _ | exact ⟨by omega, by omega⟩ | assumption | exact bI_in _ | exact inI.mk (by omega) (by omega)) (fun c_15 => ?_) (fun c_15 => ?_)
      · refine ww_iconst dX3_layName_34 ?_
        refine ww_istore [(4, _), (3, _), (2, _), (0, _), (1, _)] dX3_layName_35 (by decide) rfl ?_
        have loop_37 : ∀ (f : Nat) (i tot : Int) (S : Int → Int → Int) (hx : AH), (0 ≤ i) → (i ≤ D 1) → (MWF G h hx m A B D (sj σ 22 S)) → (∀ k c : Int, c ≠ n → S k c = σ 22 k c) → (∀ c : Int, 0 ≤ c → c < D 1 → S c n = smI i (fun k => if dVt D k n = c then σ 19 0 k else 0)) → (tot = smI i (fun k => if dVt D k n = -1 then 0 else σ 19 0 k)) → (D 1 - i < f) → WW G E (MX3_layName 4 87 0 0) hx 0 0 37 [(4, .int (iI i)), (3, .int (iI (-1))), (2, .int (iI tot)), (0, .ref m), (1, .int (iI n))] [] := by
          intro f
          induction f with
          | zero => intro i tot S hx hi0 hi1 hM hS hs ht hf; exact absurd hf (by omega)
          | succ f ih =>
            intro i tot S hx hi0 hi1 hM hS hs ht hf
            refine ww_iload 0 dX3_layName_37 rfl ?_
            refine ww_aload_n 3 dX3_layName_39 rfl ?_
            refine ww_getf gf_X3_17 rfl dX3_layName_40 hM.obj rfl ?_
            refine ww_iconst dX3_layName_43 ?_
            refine mw_ldD dX3_layName_44 hM (by omega) (by omega) ?_
            refine ww_icmp_ge 101 dX3_layName_45 (by decide) (by first | exact hM.rd _ | exact hM.ri rfl _ _ | exact ⟨by omega, by omega⟩ | assumption | exact bI_in _ | exact inI.mk (by omega) (by omega)) (by first | exact hM.rd _ | exact hM.ri rfl _ _ | exact ⟨by omega, by omega⟩ | assumption | exact bI_in _ | exact inI.mk (by omega) (by omega)) (fun c_45 => ?_) (fun c_45 => ?_)
            · refine ww_iconst dX3_layName_101 ?_
              refine ww_istore [(4, _), (3, _), (2, _), (0, _), (1, _)] dX3_layName_102 (by decide) rfl ?_
              have hs : ∀ c : Int, 0 ≤ c → c < D 1 → S c n = (eSup (D 1) (fun k => dVt D k n) (σ 19 0)) c := fun c a b => by rw [hs c a b, show i = D 1 by omega]; rfl
              have ht : tot = (eTot (D 1) (fun k => dVt D k n) (σ 19 0)) := by rw [ht, show i = D 1 by omega]; rfl
              have htb : -(9999 * D 1) ≤ (eTot (D 1) (fun k => dVt D k n) (σ 19 0)) ∧ (eTot (D 1) (fun k => dVt D k n) (σ 19 0)) ≤ 9999 * D 1 := smI_bd2 hl1 (fun q a b => by have := hw q a (by omega); (try simp only); split <;> omega)
              have htb2 : -80000 ≤ tot ∧ tot ≤ 80000 := by rw [ht]; omega
              have hsb : ∀ c : Int, 0 ≤ c → c < D 1 → -80000 ≤ S c n ∧ S c n ≤ 80000 := fun c a b => by have h3 : -(9999 * D 1) ≤ (eSup (D 1) (fun k => dVt D k n) (σ 19 0)) c ∧ (eSup (D 1) (fun k => dVt D k n) (σ 19 0)) c ≤ 9999 * D 1 := smI_bd2 hl1 (fun q a b => by have := hw q a (by omega); (try simp only); split <;> omega); rw [hs c a b]; omega
              have loop_104 : ∀ (f : Nat) (i b : Int), (0 ≤ i) → (i ≤ D 1) → (-1 ≤ b) → (b < i ∨ b = -1) → (b = eBsI i (fun k => dCd D k n) (eSup (D 1) (fun k => dVt D k n) (σ 19 0)) (σ 20 0)) → (D 1 - i < f) → WW G E (MX3_layName 4 87 0 0) hx 0 0 104 [(4, .int (iI i)), (3, .int (iI b)), (2, .int (iI tot)), (0, .ref m), (1, .int (iI n))] [] := by
                intro f
                induction f with
                | zero => intro i b hi0 hi1 hb0 hb1 hb hf; exact absurd hf (by omega)
                | succ f ih =>
                  intro i b hi0 hi1 hb0 hb1 hb hf
                  refine ww_iload 0 dX3_layName_104 rfl ?_
                  refine ww_aload_n 3 dX3_layName_106 rfl ?_
                  refine ww_getf gf_X3_17 rfl dX3_layName_107 hM.obj rfl ?_
                  refine ww_iconst dX3_layName_110 ?_
                  refine mw_ldD dX3_layName_111 hM (by omega) (by omega) ?_
                  refine ww_icmp_ge 192 dX3_layName_112 (by decide) (by first | exact hM.rd _ | exact hM.ri rfl _ _ | exact ⟨by omega, by omega⟩ | assumption | exact bI_in _ | exact inI.mk (by omega) (by omega)) (by first | exact hM.rd _ | exact hM.ri rfl _ _ | exact ⟨by omega, by omega⟩ | assumption | exact bI_in _ | exact inI.mk (by omega) (by omega)) (fun c_112 => ?_) (fun c_112 => ?_)
                  · have hie2 : i = D 1 := by omega
                    rw [hie2] at hb
                    refine ww_aload_n 3 dX3_layName_192 rfl ?_
                    refine ww_getf gf_X3_44 rfl dX3_layName_193 hM.obj rfl ?_
                    refine ww_iload_n 4 dX3_layName_196 rfl ?_
                    refine ww_iload_n 1 dX3_layName_197 rfl ?_
                    refine mw_st dX3_layName_198 hM rfl (by omega) (by omega) (inI.mk (by omega) (by omega)) (fun hh hM => ?_)
                    rw [su_sj'] at hM
                    refine ww_iconst dX3_layName_199 ?_
                    refine ww_istore [(4, _), (3, _), (2, _), (0, _), (1, _)] dX3_layName_200 (by decide) rfl ?_
                    have loop_202 : ∀ (f : Nat) (i : Int) (Bn : Int → Int → Int) (hy : AH), (0 ≤ i) → (i ≤ D 1) → (MWF G h hy m A B D (sj (sj (sj σ 22 S) 21 (s2 (σ 21) 0 n b)) 23 Bn)) → (∀ k c : Int, c ≠ n → Bn k c = σ 23 k c) → (∀ k : Int, 0 ≤ k → k < i → Bn k n = dBd D (fun k => dVt D k n) (eSup (D 1) (fun k => dVt D k n) (σ 19 0)) tot b k) → (D 1 - i < f) → WW G E (MX3_layName 4 87 0 0) hy 0 0 202 [(4, .int (iI i)), (3, .int (iI b)), (2, .int (iI tot)), (0, .ref m), (1, .int (iI n))] [] := by
                      intro f
                      induction f with
                      | zero => intro i Bn hy hi0 hi1 hM hB hbn hf; exact absurd hf (by omega)
                      | succ f ih =>
                        intro i Bn hy hi0 hi1 hM hB hbn hf
                        refine ww_iload 0 dX3_layName_202 rfl ?_
                        refine ww_aload_n 3 dX3_layName_204 rfl ?_
                        refine ww_getf gf_X3_17 rfl dX3_layName_205 hM.obj rfl ?_
                        refine ww_iconst dX3_layName_208 ?_
                        refine mw_ldD dX3_layName_209 hM (by omega) (by omega) ?_
                        refine ww_icmp_ge 313 dX3_layName_210 (by decide) (by first | exact hM.rd _ | exact hM.ri rfl _ _ | exact ⟨by omega, by omega⟩ | assumption | exact bI_in _ | exact inI.mk (by omega) (by omega)) (by first | exact hM.rd _ | exact hM.ri rfl _ _ | exact ⟨by omega, by omega⟩ | assumption | exact bI_in _ | exact inI.mk (by omega) (by omega)) (fun c_210 => ?_) (fun c_210 => ?_)
                        · exact ww_vret hQ dX3_layName_313 rfl (Nat.le_of_ble_eq_true rfl) (Nat.le_of_ble_eq_true rfl) ⟨rfl, _, hM, S, _, Bn, rfl, hS, hs, fun c hc => s2_n (by omega), by rw [s2_s, hb], hB, fun k a q => by rw [hbn k a (by omega), ht, hb]⟩
                        · refine ww_aload_n 3 dX3_layName_213 rfl ?_
                          refine ww_iload 0 dX3_layName_214 rfl ?_
                          refine ww_iload_n 4 dX3_layName_216 rfl ?_
                          refine cr_pi (cr_V (ct_X3_voteOf hG hM hpf (fun k i a b c d => by have := hpr k i a b c d; omega) _ _ (by omega) (by omega) (by omega) (by omega)) sv_X3_262 rfl dX3_layName_217 hM.obj rfl rfl rfl rfl ⟨by decide, by decide⟩ (Nat.le_of_ble_eq_true rfl) (Nat.le_of_ble_eq_true rfl) (Nat.le_of_ble_eq_true rfl)) ?_
                          have hv := dVt_bd (n := n) hi0 (show i < D 1 by omega) (fun q a b => hpr i q (by omega) (by omega) a b)
                          refine ww_istore [(5, _), (4, _), (3, _), (2, _), (0, _), (1, _)] dX3_layName_220 (by decide) rfl ?_
                          refine ww_aload_n 4 dX3_layName_222 rfl ?_
                          refine ww_getf gf_X3_17 rfl dX3_layName_223 hM.obj rfl ?_
                          refine ww_iload 1 dX3_layName_226 rfl ?_
                          refine cr_pi (cr_S (ct_X3_at hG _) ss_X3_174 rfl dX3_layName_228 rfl rfl ⟨by decide, by decide⟩ (Nat.le_of_ble_eq_true rfl) (Nat.le_of_ble_eq_true rfl) (Nat.le_of_ble_eq_true rfl)) ?_
                          refine ww_iconst dX3_layName_231 ?_
                          refine ww_iadd dX3_layName_232 ?_
                          refine mw_ldD dX3_layName_233 hM (by omega) (by omega) ?_
                          refine ww_iconst dX3_layName_234 ?_
                          refine ww_icmp_ne 271 dX3_layName_235 (by decide) (by first | exact hM.rd _ | exact hM.ri rfl _ _ | exact ⟨by omega, by omega⟩ | assumption | exact bI_in _ | exact inI.mk (by omega) (by omega)) (by first | exact hM.rd _ | exact hM.ri rfl _ _ | exact ⟨by omega, by omega⟩ | assumption | exact bI_in _ | exact inI.mk (by omega) (by omega)) (fun c_235 => ?_) (fun c_235 => ?_)
                          · refine ww_iconst dX3_layName_271 ?_
                            refine ww_istore [(6, _), (5, _), (4, _), (3, _), (2, _), (0, _), (1, _)] dX3_layName_272 (by decide) rfl ?_
                            refine ww_aload_n 5 dX3_layName_274 rfl ?_
                            refine ww_getf gf_X3_50 rfl dX3_layName_275 hM.obj rfl ?_
                            refine ww_iload 2 dX3_layName_278 rfl ?_
                            refine mw_gld dX3_layName_280 hM rfl (by omega) (by omega) ?_
                            refine ww_iload_n 6 dX3_layName_281 rfl ?_
                            refine ww_aload_n 5 dX3_layName_282 rfl ?_
                            refine ww_iload 2 dX3_layName_283 rfl ?_
                            refine cr_pi (cr_V (ct_X3_isLoaded hG hM _ (by omega) (by omega)) sv_X3_232 rfl dX3_layName_285 hM.obj rfl rfl rfl rfl ⟨by decide, by decide⟩ (Nat.le_of_ble_eq_true rfl) (Nat.le_of_ble_eq_true rfl) (Nat.le_of_ble_eq_true rfl)) ?_
                            refine ww_ifb_ne 295 dX3_layName_288 (by decide) (fun c_288 => ?_) (fun c_288 => ?_)
                            · refine ww_iload 0 dX3_layName_295 rfl ?_
                              refine ww_if_eq 305 dX3_layName_297 (by decide) (by first | exact inI.mk (by omega) (by omega) | exact inI.mk (by decide) (by decide)) (fun c_297 => ?_) (fun c_297 => ?_)
                              · refine ww_iload_n 3 dX3_layName_305 rfl ?_
                                refine mw_rst dX3_layName_306 hM rfl (by omega) (by omega) (by omega) (by omega) (inI.mk (by omega) (by omega)) (fun hh hM => ?_)
                                rw [su_sj] at hM
                                refine ww_iinc (j := 2) [(4, _), (6, _), (5, _), (3, _), (2, _), (0, _), (1, _)] dX3_layName_307 rfl (by decide) rfl ?_
                                refine ww_goto 202 dX3_layName_310 (by decide) ?_
                                refine ww_sub [0, 3, 4, 5, 6] rfl ?_
                                exact ih (i + 1) _ _ (by omega) (by omega) hM (fun k c hc => by rw [s2_n (by omega)]; exact hB k c hc) (fun k a q => if e : k = i then by (subst e; rw [s2_s]; unfold dBd; (first | (exfalso; omega) | rw [if_neg (by omega)] | rw [if_pos (by omega), if_pos ⟨by omega, by (try simp only); omega, by (try simp only); omega⟩] | rw [if_pos (by omega), if_neg (fun q3 => by (try simp only at q3); omega)])) else by (rw [s2_n (by omega)]; exact hbn k a (by omega))) (by omega)
                              · refine ww_iload 1 dX3_layName_300 rfl ?_
                                refine ww_goto 306 dX3_layName_302 (by decide) ?_
                                refine mw_rst dX3_layName_306 hM rfl (by omega) (by omega) (by omega) (by omega) (inI.mk (by omega) (by omega)) (fun hh hM => ?_)
                                rw [su_sj] at hM
                                refine ww_iinc (j := 2) [(4, _), (6, _), (5, _), (3, _), (2, _), (0, _), (1, _)] dX3_layName_307 rfl (by decide) rfl ?_
                                refine ww_goto 202 dX3_layName_310 (by decide) ?_
                                refine ww_sub [0, 3, 4, 5, 6] rfl ?_
                                exact ih (i + 1) _ _ (by omega) (by omega) hM (fun k c hc => by rw [s2_n (by omega)]; exact hB k c hc) (fun k a q => if e : k = i then by (subst e; rw [s2_s]; unfold dBd; (first | (exfalso; omega) | rw [if_neg (by omega)] | rw [if_pos (by omega), if_pos ⟨by omega, by (try simp only); omega, by (try simp only); omega⟩] | rw [if_pos (by omega), if_neg (fun q3 => by (try simp only at q3); omega)])) else by (rw [s2_n (by omega)]; exact hbn k a (by omega))) (by omega)
                            · refine ww_iconst dX3_layName_291 ?_
                              refine ww_goto 306 dX3_layName_292 (by decide) ?_
                              refine mw_rst dX3_layName_306 hM rfl (by omega) (by omega) (by omega) (by omega) (inI.mk (by omega) (by omega)) (fun hh hM => ?_)
                              rw [su_sj] at hM
                              refine ww_iinc (j := 2) [(4, _), (6, _), (5, _), (3, _), (2, _), (0, _), (1, _)] dX3_layName_307 rfl (by decide) rfl ?_
                              refine ww_goto 202 dX3_layName_310 (by decide) ?_
                              refine ww_sub [0, 3, 4, 5, 6] rfl ?_
                              exact ih (i + 1) _ _ (by omega) (by omega) hM (fun k c hc => by rw [s2_n (by omega)]; exact hB k c hc) (fun k a q => if e : k = i then by (subst e; rw [s2_s]; unfold dBd; (first | (exfalso; omega) | rw [if_neg (by omega)] | rw [if_pos (by omega), if_pos ⟨by omega, by (try simp only); omega, by (try simp only); omega⟩] | rw [if_pos (by omega), if_neg (fun q3 => by (try simp only at q3); omega)])) else by (rw [s2_n (by omega)]; exact hbn k a (by omega))) (by omega)
                          · refine ww_iload 0 dX3_layName_238 rfl ?_
                            refine ww_iconst dX3_layName_240 ?_
                            refine ww_icmp_eq 271 dX3_layName_241 (by decide) (inI.mk (by omega) (by omega)) (by first | exact hM.rd _ | exact hM.ri rfl _ _ | exact ⟨by omega, by omega⟩ | assumption | exact bI_in _ | exact inI.mk (by omega) (by omega)) (fun c_241 => ?_) (fun c_241 => ?_)
                            · refine ww_iconst dX3_layName_271 ?_
                              refine ww_istore [(6, _), (5, _), (4, _), (3, _), (2, _), (0, _), (1, _)] dX3_layName_272 (by decide) rfl ?_
                              refine ww_aload_n 5 dX3_layName_274 rfl ?_
                              refine ww_getf gf_X3_50 rfl dX3_layName_275 hM.obj rfl ?_
                              refine ww_iload 2 dX3_layName_278 rfl ?_
                              refine mw_gld dX3_layName_280 hM rfl (by omega) (by omega) ?_
                              refine ww_iload_n 6 dX3_layName_281 rfl ?_
                              refine ww_aload_n 5 dX3_layName_282 rfl ?_
                              refine ww_iload 2 dX3_layName_283 rfl ?_
                              refine cr_pi (cr_V (ct_X3_isLoaded hG hM _ (by omega) (by omega)) sv_X3_232 rfl dX3_layName_285 hM.obj rfl rfl rfl rfl ⟨by decide, by decide⟩ (Nat.le_of_ble_eq_true rfl) (Nat.le_of_ble_eq_true rfl) (Nat.le_of_ble_eq_true rfl)) ?_
                              refine ww_ifb_ne 295 dX3_layName_288 (by decide) (fun c_288 => ?_) (fun c_288 => ?_)
                              · refine ww_iload 0 dX3_layName_295 rfl ?_
                                refine ww_if_eq 305 dX3_layName_297 (by decide) (by first | exact inI.mk (by omega) (by omega) | exact inI.mk (by decide) (by decide)) (fun c_297 => ?_) (fun c_297 => ?_)
                                · refine ww_iload_n 3 dX3_layName_305 rfl ?_
                                  refine mw_rst dX3_layName_306 hM rfl (by omega) (by omega) (by omega) (by omega) (inI.mk (by omega) (by omega)) (fun hh hM => ?_)
                                  rw [su_sj] at hM
                                  refine ww_iinc (j := 2) [(4, _), (6, _), (5, _), (3, _), (2, _), (0, _), (1, _)] dX3_layName_307 rfl (by decide) rfl ?_
                                  refine ww_goto 202 dX3_layName_310 (by decide) ?_
                                  refine ww_sub [0, 3, 4, 5, 6] rfl ?_
                                  exact ih (i + 1) _ _ (by omega) (by omega) hM (fun k c hc => by rw [s2_n (by omega)]; exact hB k c hc) (fun k a q => if e : k = i then by (subst e; rw [s2_s]; unfold dBd; (first | (exfalso; omega) | rw [if_neg (by omega)] | rw [if_pos (by omega), if_pos ⟨by omega, by (try simp only); omega, by (try simp only); omega⟩] | rw [if_pos (by omega), if_neg (fun q3 => by (try simp only at q3); omega)])) else by (rw [s2_n (by omega)]; exact hbn k a (by omega))) (by omega)
                                · refine ww_iload 1 dX3_layName_300 rfl ?_
                                  refine ww_goto 306 dX3_layName_302 (by decide) ?_
                                  refine mw_rst dX3_layName_306 hM rfl (by omega) (by omega) (by omega) (by omega) (inI.mk (by omega) (by omega)) (fun hh hM => ?_)
                                  rw [su_sj] at hM
                                  refine ww_iinc (j := 2) [(4, _), (6, _), (5, _), (3, _), (2, _), (0, _), (1, _)] dX3_layName_307 rfl (by decide) rfl ?_
                                  refine ww_goto 202 dX3_layName_310 (by decide) ?_
                                  refine ww_sub [0, 3, 4, 5, 6] rfl ?_
                                  exact ih (i + 1) _ _ (by omega) (by omega) hM (fun k c hc => by rw [s2_n (by omega)]; exact hB k c hc) (fun k a q => if e : k = i then by (subst e; rw [s2_s]; unfold dBd; (first | (exfalso; omega) | rw [if_neg (by omega)] | rw [if_pos (by omega), if_pos ⟨by omega, by (try simp only); omega, by (try simp only); omega⟩] | rw [if_pos (by omega), if_neg (fun q3 => by (try simp only at q3); omega)])) else by (rw [s2_n (by omega)]; exact hbn k a (by omega))) (by omega)
                              · refine ww_iconst dX3_layName_291 ?_
                                refine ww_goto 306 dX3_layName_292 (by decide) ?_
                                refine mw_rst dX3_layName_306 hM rfl (by omega) (by omega) (by omega) (by omega) (inI.mk (by omega) (by omega)) (fun hh hM => ?_)
                                rw [su_sj] at hM
                                refine ww_iinc (j := 2) [(4, _), (6, _), (5, _), (3, _), (2, _), (0, _), (1, _)] dX3_layName_307 rfl (by decide) rfl ?_
                                refine ww_goto 202 dX3_layName_310 (by decide) ?_
                                refine ww_sub [0, 3, 4, 5, 6] rfl ?_
                                exact ih (i + 1) _ _ (by omega) (by omega) hM (fun k c hc => by rw [s2_n (by omega)]; exact hB k c hc) (fun k a q => if e : k = i then by (subst e; rw [s2_s]; unfold dBd; (first | (exfalso; omega) | rw [if_neg (by omega)] | rw [if_pos (by omega), if_pos ⟨by omega, by (try simp only); omega, by (try simp only); omega⟩] | rw [if_pos (by omega), if_neg (fun q3 => by (try simp only at q3); omega)])) else by (rw [s2_n (by omega)]; exact hbn k a (by omega))) (by omega)
                            · have hsv := hs (dVt D i n) (by omega) (by omega)
                              have hsvb := hsb (dVt D i n) (by omega) (by omega)
                              have hmul := mul_bd2 (A := 100) (C := 80000) hs1 hs2 (show -((80000 : Nat) : Int) ≤ tot by omega) (show tot ≤ ((80000 : Nat) : Int) by omega)
                              refine ww_bipush dX3_layName_244 (by decide) ?_
                              refine ww_aload_n 4 dX3_layName_246 rfl ?_
                              refine ww_getf gf_X3_47 rfl dX3_layName_247 hM.obj rfl ?_
                              refine ww_iload 0 dX3_layName_250 rfl ?_
                              refine mw_gld dX3_layName_252 hM rfl (by omega) (by omega) ?_
                              refine ww_iload_n 5 dX3_layName_253 rfl ?_
                              refine mw_rlde (T := S) dX3_layName_254 hM rfl rfl (by omega) (by omega) (by omega) (by omega) ?_
                              refine ww_imul dX3_layName_255 ?_
                              refine ww_aload_n 4 dX3_layName_256 rfl ?_
                              refine ww_getf gf_X3_17 rfl dX3_layName_257 hM.obj rfl ?_
                              refine ww_iconst dX3_layName_260 ?_
                              refine mw_ldD dX3_layName_261 hM (by omega) (by omega) ?_
                              refine ww_iload_n 3 dX3_layName_262 rfl ?_
                              refine ww_imul dX3_layName_263 ?_
                              refine ww_icmp_lt 271 dX3_layName_264 (by decide) (inI.mk (by omega) (by omega)) (inI.mk (by omega) (by omega)) (fun c_264 => ?_) (fun c_264 => ?_)
                              · refine ww_iconst dX3_layName_271 ?_
                                refine ww_istore [(6, _), (5, _), (4, _), (3, _), (2, _), (0, _), (1, _)] dX3_layName_272 (by decide) rfl ?_
                                refine ww_aload_n 5 dX3_layName_274 rfl ?_
                                refine ww_getf gf_X3_50 rfl dX3_layName_275 hM.obj rfl ?_
                                refine ww_iload 2 dX3_layName_278 rfl ?_
                                refine mw_gld dX3_layName_280 hM rfl (by omega) (by omega) ?_
                                refine ww_iload_n 6 dX3_layName_281 rfl ?_
                                refine ww_aload_n 5 dX3_layName_282 rfl ?_
                                refine ww_iload 2 dX3_layName_283 rfl ?_
                                refine cr_pi (cr_V (ct_X3_isLoaded hG hM _ (by omega) (by omega)) sv_X3_232 rfl dX3_layName_285 hM.obj rfl rfl rfl rfl ⟨by decide, by decide⟩ (Nat.le_of_ble_eq_true rfl) (Nat.le_of_ble_eq_true rfl) (Nat.le_of_ble_eq_true rfl)) ?_
                                refine ww_ifb_ne 295 dX3_layName_288 (by decide) (fun c_288 => ?_) (fun c_288 => ?_)
                                · refine ww_iload 0 dX3_layName_295 rfl ?_
                                  refine ww_if_eq 305 dX3_layName_297 (by decide) (by first | exact inI.mk (by omega) (by omega) | exact inI.mk (by decide) (by decide)) (fun c_297 => ?_) (fun c_297 => ?_)
                                  · refine ww_iload_n 3 dX3_layName_305 rfl ?_
                                    refine mw_rst dX3_layName_306 hM rfl (by omega) (by omega) (by omega) (by omega) (inI.mk (by omega) (by omega)) (fun hh hM => ?_)
                                    rw [su_sj] at hM
                                    refine ww_iinc (j := 2) [(4, _), (6, _), (5, _), (3, _), (2, _), (0, _), (1, _)] dX3_layName_307 rfl (by decide) rfl ?_
                                    refine ww_goto 202 dX3_layName_310 (by decide) ?_
                                    refine ww_sub [0, 3, 4, 5, 6] rfl ?_
                                    exact ih (i + 1) _ _ (by omega) (by omega) hM (fun k c hc => by rw [s2_n (by omega)]; exact hB k c hc) (fun k a q => if e : k = i then by (subst e; rw [s2_s]; unfold dBd; (first | (exfalso; omega) | rw [if_neg (by omega)] | rw [if_pos (by omega), if_pos ⟨by omega, by (try simp only); omega, by (try simp only); omega⟩] | rw [if_pos (by omega), if_neg (fun q3 => by (try simp only at q3); omega)])) else by (rw [s2_n (by omega)]; exact hbn k a (by omega))) (by omega)
                                  · refine ww_iload 1 dX3_layName_300 rfl ?_
                                    refine ww_goto 306 dX3_layName_302 (by decide) ?_
                                    refine mw_rst dX3_layName_306 hM rfl (by omega) (by omega) (by omega) (by omega) (inI.mk (by omega) (by omega)) (fun hh hM => ?_)
                                    rw [su_sj] at hM
                                    refine ww_iinc (j := 2) [(4, _), (6, _), (5, _), (3, _), (2, _), (0, _), (1, _)] dX3_layName_307 rfl (by decide) rfl ?_
                                    refine ww_goto 202 dX3_layName_310 (by decide) ?_
                                    refine ww_sub [0, 3, 4, 5, 6] rfl ?_
                                    exact ih (i + 1) _ _ (by omega) (by omega) hM (fun k c hc => by rw [s2_n (by omega)]; exact hB k c hc) (fun k a q => if e : k = i then by (subst e; rw [s2_s]; unfold dBd; (first | (exfalso; omega) | rw [if_neg (by omega)] | rw [if_pos (by omega), if_pos ⟨by omega, by (try simp only); omega, by (try simp only); omega⟩] | rw [if_pos (by omega), if_neg (fun q3 => by (try simp only at q3); omega)])) else by (rw [s2_n (by omega)]; exact hbn k a (by omega))) (by omega)
                                · refine ww_iconst dX3_layName_291 ?_
                                  refine ww_goto 306 dX3_layName_292 (by decide) ?_
                                  refine mw_rst dX3_layName_306 hM rfl (by omega) (by omega) (by omega) (by omega) (inI.mk (by omega) (by omega)) (fun hh hM => ?_)
                                  rw [su_sj] at hM
                                  refine ww_iinc (j := 2) [(4, _), (6, _), (5, _), (3, _), (2, _), (0, _), (1, _)] dX3_layName_307 rfl (by decide) rfl ?_
                                  refine ww_goto 202 dX3_layName_310 (by decide) ?_
                                  refine ww_sub [0, 3, 4, 5, 6] rfl ?_
                                  exact ih (i + 1) _ _ (by omega) (by omega) hM (fun k c hc => by rw [s2_n (by omega)]; exact hB k c hc) (fun k a q => if e : k = i then by (subst e; rw [s2_s]; unfold dBd; (first | (exfalso; omega) | rw [if_neg (by omega)] | rw [if_pos (by omega), if_pos ⟨by omega, by (try simp only); omega, by (try simp only); omega⟩] | rw [if_pos (by omega), if_neg (fun q3 => by (try simp only at q3); omega)])) else by (rw [s2_n (by omega)]; exact hbn k a (by omega))) (by omega)
                              · refine ww_iconst dX3_layName_267 ?_
                                refine ww_goto 272 dX3_layName_268 (by decide) ?_
                                refine ww_istore [(6, _), (5, _), (4, _), (3, _), (2, _), (0, _), (1, _)] dX3_layName_272 (by decide) rfl ?_
                                refine ww_aload_n 5 dX3_layName_274 rfl ?_
                                refine ww_getf gf_X3_50 rfl dX3_layName_275 hM.obj rfl ?_
                                refine ww_iload 2 dX3_layName_278 rfl ?_
                                refine mw_gld dX3_layName_280 hM rfl (by omega) (by omega) ?_
                                refine ww_iload_n 6 dX3_layName_281 rfl ?_
                                refine ww_aload_n 5 dX3_layName_282 rfl ?_
                                refine ww_iload 2 dX3_layName_283 rfl ?_
                                refine cr_pi (cr_V (ct_X3_isLoaded hG hM _ (by omega) (by omega)) sv_X3_232 rfl dX3_layName_285 hM.obj rfl rfl rfl rfl ⟨by decide, by decide⟩ (Nat.le_of_ble_eq_true rfl) (Nat.le_of_ble_eq_true rfl) (Nat.le_of_ble_eq_true rfl)) ?_
                                refine ww_ifb_ne 295 dX3_layName_288 (by decide) (fun c_288 => ?_) (fun c_288 => ?_)
                                · refine ww_iload 0 dX3_layName_295 rfl ?_
                                  refine ww_if_eq 305 dX3_layName_297 (by decide) (by first | exact inI.mk (by omega) (by omega) | exact inI.mk (by decide) (by decide)) (fun c_297 => ?_) (fun c_297 => ?_)
                                  · refine ww_iload_n 3 dX3_layName_305 rfl ?_
                                    refine mw_rst dX3_layName_306 hM rfl (by omega) (by omega) (by omega) (by omega) (inI.mk (by omega) (by omega)) (fun hh hM => ?_)
                                    rw [su_sj] at hM
                                    refine ww_iinc (j := 2) [(4, _), (6, _), (5, _), (3, _), (2, _), (0, _), (1, _)] dX3_layName_307 rfl (by decide) rfl ?_
                                    refine ww_goto 202 dX3_layName_310 (by decide) ?_
                                    refine ww_sub [0, 3, 4, 5, 6] rfl ?_
                                    exact ih (i + 1) _ _ (by omega) (by omega) hM (fun k c hc => by rw [s2_n (by omega)]; exact hB k c hc) (fun k a q => if e : k = i then by (subst e; rw [s2_s]; unfold dBd; (first | (exfalso; omega) | rw [if_neg (by omega)] | rw [if_pos (by omega), if_pos ⟨by omega, by (try simp only); omega, by (try simp only); omega⟩] | rw [if_pos (by omega), if_neg (fun q3 => by (try simp only at q3); omega)])) else by (rw [s2_n (by omega)]; exact hbn k a (by omega))) (by omega)
                                  · refine ww_iload 1 dX3_layName_300 rfl ?_
                                    refine ww_goto 306 dX3_layName_302 (by decide) ?_
                                    refine mw_rst dX3_layName_306 hM rfl (by omega) (by omega) (by omega) (by omega) (inI.mk (by omega) (by omega)) (fun hh hM => ?_)
                                    rw [su_sj] at hM
                                    refine ww_iinc (j := 2) [(4, _), (6, _), (5, _), (3, _), (2, _), (0, _), (1, _)] dX3_layName_307 rfl (by decide) rfl ?_
                                    refine ww_goto 202 dX3_layName_310 (by decide) ?_
                                    refine ww_sub [0, 3, 4, 5, 6] rfl ?_
                                    exact ih (i + 1) _ _ (by omega) (by omega) hM (fun k c hc => by rw [s2_n (by omega)]; exact hB k c hc) (fun k a q => if e : k = i then by (subst e; rw [s2_s]; unfold dBd; (first | (exfalso; omega) | rw [if_neg (by omega)] | rw [if_pos (by omega), if_pos ⟨by omega, by (try simp only); omega, by (try simp only); omega⟩] | rw [if_pos (by omega), if_neg (fun q3 => by (try simp only at q3); omega)])) else by (rw [s2_n (by omega)]; exact hbn k a (by omega))) (by omega)
                                · refine ww_iconst dX3_layName_291 ?_
                                  refine ww_goto 306 dX3_layName_292 (by decide) ?_
                                  refine mw_rst dX3_layName_306 hM rfl (by omega) (by omega) (by omega) (by omega) (inI.mk (by omega) (by omega)) (fun hh hM => ?_)
                                  rw [su_sj] at hM
                                  refine ww_iinc (j := 2) [(4, _), (6, _), (5, _), (3, _), (2, _), (0, _), (1, _)] dX3_layName_307 rfl (by decide) rfl ?_
                                  refine ww_goto 202 dX3_layName_310 (by decide) ?_
                                  refine ww_sub [0, 3, 4, 5, 6] rfl ?_
                                  exact ih (i + 1) _ _ (by omega) (by omega) hM (fun k c hc => by rw [s2_n (by omega)]; exact hB k c hc) (fun k a q => if e : k = i then by (subst e; rw [s2_s]; unfold dBd; (first | (exfalso; omega) | rw [if_neg (by omega)] | rw [if_pos (by omega), if_pos ⟨by omega, by (try simp only); omega, by (try simp only); omega⟩] | rw [if_pos (by omega), if_neg (fun q3 => by (try simp only at q3); omega)])) else by (rw [s2_n (by omega)]; exact hbn k a (by omega))) (by omega)
                    refine ww_sub [0, 1, 2, 3, 4] rfl ?_
                    exact loop_202 9 0 (σ 23) _ (by omega) (by omega) (by rw [show sj (sj (sj σ 22 S) 21 (s2 (σ 21) 0 n b)) 23 (σ 23) = sj (sj σ 22 S) 21 (s2 (σ 21) 0 n b) from sj_id (σ := sj (sj σ 22 S) 21 (s2 (σ 21) 0 n b)) (j := 23)]; exact hM) (fun _ _ _ => rfl) (fun k a b => by omega) (by omega)
                  · refine ww_aload_n 3 dX3_layName_115 rfl ?_
                    refine ww_iload 0 dX3_layName_116 rfl ?_
                    refine ww_iload_n 4 dX3_layName_118 rfl ?_
                    refine cr_pi (cr_V (ct_X3_isCandidate hG hM _ _ (by omega) (by omega) (by omega) (by omega)) sv_X3_258 rfl dX3_layName_119 hM.obj rfl rfl rfl rfl ⟨by decide, by decide⟩ (Nat.le_of_ble_eq_true rfl) (Nat.le_of_ble_eq_true rfl) (Nat.le_of_ble_eq_true rfl)) ?_
                    refine ww_ifb_ne 128 dX3_layName_122 (by decide) (fun c_122 => ?_) (fun c_122 => ?_)
                    · have hsi := hs i (by omega) (by omega)
                      have hbi := hsb i (by omega) (by omega)
                      refine ww_iload_n 1 dX3_layName_128 rfl ?_
                      refine ww_iconst dX3_layName_129 ?_
                      refine ww_icmp_ne 137 dX3_layName_130 (by decide) (inI.mk (by omega) (by omega)) (by first | exact hM.rd _ | exact hM.ri rfl _ _ | exact ⟨by omega, by omega⟩ | assumption | exact bI_in _ | exact inI.mk (by omega) (by omega)) (fun c_130 => ?_) (fun c_130 => ?_)
                      · have hs2b := hs b (by omega) (by omega)
                        have hb2 := hsb b (by omega) (by omega)
                        refine ww_aload_n 3 dX3_layName_137 rfl ?_
                        refine ww_getf gf_X3_47 rfl dX3_layName_138 hM.obj rfl ?_
                        refine ww_iload 0 dX3_layName_141 rfl ?_
                        refine mw_gld dX3_layName_143 hM rfl (by omega) (by omega) ?_
                        refine ww_iload_n 4 dX3_layName_144 rfl ?_
                        refine mw_rlde (T := S) dX3_layName_145 hM rfl rfl (by omega) (by omega) (by omega) (by omega) ?_
                        refine ww_aload_n 3 dX3_layName_146 rfl ?_
                        refine ww_getf gf_X3_47 rfl dX3_layName_147 hM.obj rfl ?_
                        refine ww_iload_n 1 dX3_layName_150 rfl ?_
                        refine mw_gld dX3_layName_151 hM rfl (by omega) (by omega) ?_
                        refine ww_iload_n 4 dX3_layName_152 rfl ?_
                        refine mw_rlde (T := S) dX3_layName_153 hM rfl rfl (by omega) (by omega) (by omega) (by omega) ?_
                        refine ww_isub dX3_layName_154 ?_
                        refine ww_istore [(5, _), (4, _), (3, _), (2, _), (0, _), (1, _)] dX3_layName_155 (by decide) rfl ?_
                        refine ww_iload 0 dX3_layName_157 rfl ?_
                        refine ww_if_gt 183 dX3_layName_159 (by decide) (inI.mk (by omega) (by omega)) (fun c_159 => ?_) (fun c_159 => ?_)
                        · refine ww_iload 1 dX3_layName_183 rfl ?_
                          refine ww_istore_n [(3, _), (5, _), (4, _), (2, _), (0, _), (1, _)] dX3_layName_185 (by decide) rfl ?_
                          refine ww_iinc (j := 2) [(4, _), (3, _), (5, _), (2, _), (0, _), (1, _)] dX3_layName_186 rfl (by decide) rfl ?_
                          refine ww_goto 104 dX3_layName_189 (by decide) ?_
                          refine ww_sub [0, 1, 3, 4, 5] rfl ?_
                          exact ih (i + 1) _ (by omega) (by omega) (by omega) (by omega) (by rw [eBsI_s hi0, ← hb]; first | (exfalso; omega) | rw [if_pos ⟨by simp only [dCd, decide_eq_true_eq]; assumption, by omega⟩] | rw [if_neg (fun q => by have q1 := q.1; simp only [dCd, decide_eq_true_eq] at q1; first | exact absurd q1 (by assumption) | (have q2 := q.2; omega))]) (by omega)
                        · refine ww_iload 0 dX3_layName_162 rfl ?_
                          refine ww_if_ne 186 dX3_layName_164 (by decide) (inI.mk (by omega) (by omega)) (fun c_164 => ?_) (fun c_164 => ?_)
                          · refine ww_iinc (j := 1) [(4, _), (5, _), (3, _), (2, _), (0, _), (1, _)] dX3_layName_186 rfl (by decide) rfl ?_
                            refine ww_goto 104 dX3_layName_189 (by decide) ?_
                            refine ww_sub [0, 2, 3, 4, 5] rfl ?_
                            exact ih (i + 1) _ (by omega) (by omega) (by omega) (by omega) (by rw [eBsI_s hi0, ← hb]; first | (exfalso; omega) | rw [if_pos ⟨by simp only [dCd, decide_eq_true_eq]; assumption, by omega⟩] | rw [if_neg (fun q => by have q1 := q.1; simp only [dCd, decide_eq_true_eq] at q1; first | exact absurd q1 (by assumption) | (have q2 := q.2; omega))]) (by omega)
                          · refine ww_aload_n 4 dX3_layName_167 rfl ?_
                            refine ww_getf gf_X3_41 rfl dX3_layName_168 hM.obj rfl ?_
                            refine ww_iload 1 dX3_layName_171 rfl ?_
                            refine mw_lde (T := σ 20) dX3_layName_173 hM rfl rfl (by omega) (by omega) ?_
                            refine ww_aload_n 4 dX3_layName_174 rfl ?_
                            refine ww_getf gf_X3_41 rfl dX3_layName_175 hM.obj rfl ?_
                            refine ww_iload_n 2 dX3_layName_178 rfl ?_
                            refine mw_lde (T := σ 20) dX3_layName_179 hM rfl rfl (by omega) (by omega) ?_
                            refine ww_icmp_ge 186 dX3_layName_180 (by decide) (hM.ri (j := 20) rfl _ _) (hM.ri (j := 20) rfl _ _) (fun c_180 => ?_) (fun c_180 => ?_)
                            · refine ww_iinc (j := 1) [(4, _), (5, _), (3, _), (2, _), (0, _), (1, _)] dX3_layName_186 rfl (by decide) rfl ?_
                              refine ww_goto 104 dX3_layName_189 (by decide) ?_
                              refine ww_sub [0, 2, 3, 4, 5] rfl ?_
                              exact ih (i + 1) _ (by omega) (by omega) (by omega) (by omega) (by rw [eBsI_s hi0, ← hb]; first | (exfalso; omega) | rw [if_pos ⟨by simp only [dCd, decide_eq_true_eq]; assumption, by omega⟩] | rw [if_neg (fun q => by have q1 := q.1; simp only [dCd, decide_eq_true_eq] at q1; first | exact absurd q1 (by assumption) | (have q2 := q.2; omega))]) (by omega)
                            · refine ww_iload 1 dX3_layName_183 rfl ?_
                              refine ww_istore_n [(3, _), (5, _), (4, _), (2, _), (0, _), (1, _)] dX3_layName_185 (by decide) rfl ?_
                              refine ww_iinc (j := 2) [(4, _), (3, _), (5, _), (2, _), (0, _), (1, _)] dX3_layName_186 rfl (by decide) rfl ?_
                              refine ww_goto 104 dX3_layName_189 (by decide) ?_
                              refine ww_sub [0, 1, 3, 4, 5] rfl ?_
                              exact ih (i + 1) _ (by omega) (by omega) (by omega) (by omega) (by rw [eBsI_s hi0, ← hb]; first | (exfalso; omega) | rw [if_pos ⟨by simp only [dCd, decide_eq_true_eq]; assumption, by omega⟩] | rw [if_neg (fun q => by have q1 := q.1; simp only [dCd, decide_eq_true_eq] at q1; first | exact absurd q1 (by assumption) | (have q2 := q.2; omega))]) (by omega)
                      · refine ww_iconst dX3_layName_133 ?_
                        refine ww_goto 155 dX3_layName_134 (by decide) ?_
                        refine ww_istore [(5, _), (4, _), (3, _), (2, _), (0, _), (1, _)] dX3_layName_155 (by decide) rfl ?_
                        refine ww_iload 0 dX3_layName_157 rfl ?_
                        refine ww_if_gt 183 dX3_layName_159 (by decide) (inI.mk (by omega) (by omega)) (fun c_159 => ?_) (fun c_159 => ?_)
                        · refine ww_iload 1 dX3_layName_183 rfl ?_
                          refine ww_istore_n [(3, _), (5, _), (4, _), (2, _), (0, _), (1, _)] dX3_layName_185 (by decide) rfl ?_
                          refine ww_iinc (j := 2) [(4, _), (3, _), (5, _), (2, _), (0, _), (1, _)] dX3_layName_186 rfl (by decide) rfl ?_
                          refine ww_goto 104 dX3_layName_189 (by decide) ?_
                          refine ww_sub [0, 1, 3, 4, 5] rfl ?_
                          exact ih (i + 1) _ (by omega) (by omega) (by omega) (by omega) (by rw [eBsI_s hi0, ← hb]; first | (exfalso; omega) | rw [if_pos ⟨by simp only [dCd, decide_eq_true_eq]; assumption, by omega⟩] | rw [if_neg (fun q => by have q1 := q.1; simp only [dCd, decide_eq_true_eq] at q1; first | exact absurd q1 (by assumption) | (have q2 := q.2; omega))]) (by omega)
                        · refine ww_iload 0 dX3_layName_162 rfl ?_
                          refine ww_if_ne 186 dX3_layName_164 (by decide) (inI.mk (by omega) (by omega)) (fun c_164 => ?_) (fun c_164 => ?_)
                          · refine ww_iinc (j := 1) [(4, _), (5, _), (3, _), (2, _), (0, _), (1, _)] dX3_layName_186 rfl (by decide) rfl ?_
                            refine ww_goto 104 dX3_layName_189 (by decide) ?_
                            refine ww_sub [0, 2, 3, 4, 5] rfl ?_
                            exact ih (i + 1) _ (by omega) (by omega) (by omega) (by omega) (by rw [eBsI_s hi0, ← hb]; first | (exfalso; omega) | rw [if_pos ⟨by simp only [dCd, decide_eq_true_eq]; assumption, by omega⟩] | rw [if_neg (fun q => by have q1 := q.1; simp only [dCd, decide_eq_true_eq] at q1; first | exact absurd q1 (by assumption) | (have q2 := q.2; omega))]) (by omega)
                          · refine ww_aload_n 4 dX3_layName_167 rfl ?_
                            refine ww_getf gf_X3_41 rfl dX3_layName_168 hM.obj rfl ?_
                            refine ww_iload 1 dX3_layName_171 rfl ?_
                            refine mw_lde (T := σ 20) dX3_layName_173 hM rfl rfl (by omega) (by omega) ?_
                            refine ww_aload_n 4 dX3_layName_174 rfl ?_
                            refine ww_getf gf_X3_41 rfl dX3_layName_175 hM.obj rfl ?_
                            refine ww_iload_n 2 dX3_layName_178 rfl ?_
                            refine mw_lde (T := σ 20) dX3_layName_179 hM rfl rfl (by omega) (by omega) ?_
                            refine ww_icmp_ge 186 dX3_layName_180 (by decide) (hM.ri (j := 20) rfl _ _) (hM.ri (j := 20) rfl _ _) (fun c_180 => ?_) (fun c_180 => ?_)
                            · refine ww_iinc (j := 1) [(4, _), (5, _), (3, _), (2, _), (0, _), (1, _)] dX3_layName_186 rfl (by decide) rfl ?_
                              refine ww_goto 104 dX3_layName_189 (by decide) ?_
                              refine ww_sub [0, 2, 3, 4, 5] rfl ?_
                              exact ih (i + 1) _ (by omega) (by omega) (by omega) (by omega) (by rw [eBsI_s hi0, ← hb]; first | (exfalso; omega) | rw [if_pos ⟨by simp only [dCd, decide_eq_true_eq]; assumption, by omega⟩] | rw [if_neg (fun q => by have q1 := q.1; simp only [dCd, decide_eq_true_eq] at q1; first | exact absurd q1 (by assumption) | (have q2 := q.2; omega))]) (by omega)
                            · refine ww_iload 1 dX3_layName_183 rfl ?_
                              refine ww_istore_n [(3, _), (5, _), (4, _), (2, _), (0, _), (1, _)] dX3_layName_185 (by decide) rfl ?_
                              refine ww_iinc (j := 2) [(4, _), (3, _), (5, _), (2, _), (0, _), (1, _)] dX3_layName_186 rfl (by decide) rfl ?_
                              refine ww_goto 104 dX3_layName_189 (by decide) ?_
                              refine ww_sub [0, 1, 3, 4, 5] rfl ?_
                              exact ih (i + 1) _ (by omega) (by omega) (by omega) (by omega) (by rw [eBsI_s hi0, ← hb]; first | (exfalso; omega) | rw [if_pos ⟨by simp only [dCd, decide_eq_true_eq]; assumption, by omega⟩] | rw [if_neg (fun q => by have q1 := q.1; simp only [dCd, decide_eq_true_eq] at q1; first | exact absurd q1 (by assumption) | (have q2 := q.2; omega))]) (by omega)
                    · refine ww_goto 186 dX3_layName_125 (by decide) ?_
                      refine ww_iinc (j := 0) [(4, _), (3, _), (2, _), (0, _), (1, _)] dX3_layName_186 rfl (by decide) rfl ?_
                      refine ww_goto 104 dX3_layName_189 (by decide) ?_
                      refine ww_sub [0, 1, 2, 3, 4] rfl ?_
                      exact ih (i + 1) _ (by omega) (by omega) (by omega) (by omega) (by rw [eBsI_s hi0, ← hb]; first | (exfalso; omega) | rw [if_pos ⟨by simp only [dCd, decide_eq_true_eq]; assumption, by omega⟩] | rw [if_neg (fun q => by have q1 := q.1; simp only [dCd, decide_eq_true_eq] at q1; first | exact absurd q1 (by assumption) | (have q2 := q.2; omega))]) (by omega)
              refine ww_sub [0, 1, 2, 3, 4] rfl ?_
              exact loop_104 9 0 (-1) (by omega) (by omega) (by omega) (by omega) rfl (by omega)
            · refine ww_aload_n 3 dX3_layName_48 rfl ?_
              refine ww_iload 0 dX3_layName_49 rfl ?_
              refine ww_iload_n 4 dX3_layName_51 rfl ?_
              refine cr_pi (cr_V (ct_X3_voteOf hG hM hpf (fun k i a b c d => by have := hpr k i a b c d; omega) _ _ (by omega) (by omega) (by omega) (by omega)) sv_X3_262 rfl dX3_layName_52 hM.obj rfl rfl rfl rfl ⟨by decide, by decide⟩ (Nat.le_of_ble_eq_true rfl) (Nat.le_of_ble_eq_true rfl) (Nat.le_of_ble_eq_true rfl)) ?_
              have hv := dVt_bd (n := n) hi0 (show i < D 1 by omega) (fun q a b => hpr i q (by omega) (by omega) a b)
              refine ww_istore [(5, _), (4, _), (3, _), (2, _), (0, _), (1, _)] dX3_layName_55 (by decide) rfl ?_
              refine ww_iload 0 dX3_layName_57 rfl ?_
              refine ww_iconst dX3_layName_59 ?_
              refine ww_icmp_ne 66 dX3_layName_60 (by decide) (inI.mk (by omega) (by omega)) (by first | exact hM.rd _ | exact hM.ri rfl _ _ | exact ⟨by omega, by omega⟩ | assumption | exact bI_in _ | exact inI.mk (by omega) (by omega)) (fun c_60 => ?_) (fun c_60 => ?_)
              · have hwi := hw i (by omega) (by omega)
                have hsv := hs (dVt D i n) (by omega) (by omega)
                have hbb := smI_bd2 (z := i) (c := 9999) (f := fun k => if dVt D k n = dVt D i n then σ 19 0 k else 0) hi0 (fun q a b => by have := hw q a (by omega); (try simp only); split <;> omega)
                refine ww_aload_n 4 dX3_layName_66 rfl ?_
                refine ww_getf gf_X3_47 rfl dX3_layName_67 hM.obj rfl ?_
                refine ww_iload 0 dX3_layName_70 rfl ?_
                refine mw_gld dX3_layName_72 hM rfl (by omega) (by omega) ?_
                refine ww_iload_n 5 dX3_layName_73 rfl ?_
                refine ww_dup2 dX3_layName_74 rfl rfl ?_
                refine mw_rlde (T := S) dX3_layName_75 hM rfl rfl (by omega) (by omega) (by omega) (by omega) ?_
                refine ww_aload_n 4 dX3_layName_76 rfl ?_
                refine ww_getf gf_X3_38 rfl dX3_layName_77 hM.obj rfl ?_
                refine ww_iload 1 dX3_layName_80 rfl ?_
                refine mw_lde (T := σ 19) dX3_layName_82 hM rfl rfl (by omega) (by omega) ?_
                refine ww_iadd dX3_layName_83 ?_
                refine mw_rst dX3_layName_84 hM rfl (by omega) (by omega) (by omega) (by omega) (inI.mk (by omega) (by omega)) (fun hh hM => ?_)
                rw [su_sj] at hM
                refine ww_iload_n 3 dX3_layName_85 rfl ?_
                refine ww_aload_n 4 dX3_layName_86 rfl ?_
                refine ww_getf gf_X3_38 rfl dX3_layName_87 hM.obj rfl ?_
                refine ww_iload 1 dX3_layName_90 rfl ?_
                refine mw_lde (T := σ 19) dX3_layName_92 hM rfl rfl (by omega) (by omega) ?_
                refine ww_iadd dX3_layName_93 ?_
                refine ww_istore_n [(2, _), (5, _), (4, _), (3, _), (0, _), (1, _)] dX3_layName_94 (by decide) rfl ?_
                refine ww_iinc (j := 2) [(4, _), (2, _), (5, _), (3, _), (0, _), (1, _)] dX3_layName_95 rfl (by decide) rfl ?_
                refine ww_goto 37 dX3_layName_98 (by decide) ?_
                refine ww_sub [0, 3, 1, 4, 5] rfl ?_
                first | exact ih (i + 1) _ _ _ (by omega) (by omega) hM hS (fun c a b => by rw [smI_s hi0, if_neg (by omega), Int.add_zero]; exact hs c a b) (by rw [smI_s hi0, if_pos (by omega), Int.add_zero]; exact ht) (by omega) | exact ih (i + 1) _ _ _ (by omega) (by omega) hM (fun k c hc => by rw [s2_n (by omega)]; exact hS k c hc) (fun c a b => if e : dVt D i n = c then by (rw [smI_s hi0]; subst e; rw [s2_s, if_pos rfl, hsv]) else by (rw [smI_s hi0, if_neg e, s2_n (by omega), Int.add_zero]; exact hs c a b)) (by rw [smI_s hi0, if_neg (by omega), ht]) (by omega)
              · refine ww_goto 95 dX3_layName_63 (by decide) ?_
                refine ww_iinc (j := 1) [(4, _), (5, _), (3, _), (2, _), (0, _), (1, _)] dX3_layName_95 rfl (by decide) rfl ?_
                refine ww_goto 37 dX3_layName_98 (by decide) ?_
                refine ww_sub [0, 2, 3, 4, 5] rfl ?_
                first | exact ih (i + 1) _ _ _ (by omega) (by omega) hM hS (fun c a b => by rw [smI_s hi0, if_neg (by omega), Int.add_zero]; exact hs c a b) (by rw [smI_s hi0, if_pos (by omega), Int.add_zero]; exact ht) (by omega) | exact ih (i + 1) _ _ _ (by omega) (by omega) hM (fun k c hc => by rw [s2_n (by omega)]; exact hS k c hc) (fun c a b => if e : dVt D i n = c then by (rw [smI_s hi0]; subst e; rw [s2_s, if_pos rfl, hsv]) else by (rw [smI_s hi0, if_neg e, s2_n (by omega), Int.add_zero]; exact hs c a b)) (by rw [smI_s hi0, if_neg (by omega), ht]) (by omega)
        refine ww_sub [0, 1, 2, 3, 4] rfl ?_
        exact loop_37 9 0 0 S _ (by omega) (by omega) hM hS (fun c a b => by rw [smI_0]; exact hz c a (by omega)) smI_0.symm (by omega)
      · refine ww_aload_n 3 dX3_layName_18 rfl ?_
        refine ww_getf gf_X3_47 rfl dX3_layName_19 hM.obj rfl ?_
        refine ww_iload 0 dX3_layName_22 rfl ?_
        refine mw_gld dX3_layName_24 hM rfl (by omega) (by omega) ?_
        refine ww_iload_n 4 dX3_layName_25 rfl ?_
        refine ww_iconst dX3_layName_26 ?_
        refine mw_rst dX3_layName_27 hM rfl (by omega) (by omega) (by omega) (by omega) (inI.mk (by omega) (by omega)) (fun hh hM => ?_)
        rw [su_sj] at hM
        refine ww_iinc (j := 0) [(4, _), (3, _), (2, _), (0, _), (1, _)] dX3_layName_28 rfl (by decide) rfl ?_
        refine ww_goto 7 dX3_layName_31 (by decide) ?_
        refine ww_sub [0, 1, 2, 3, 4] rfl ?_
        exact ih (i + 1) _ _ (by omega) (by omega) hM (fun k c hc => by rw [s2_n (by omega)]; exact hS k c hc) (fun c a b => if e : c = i then by (subst e; exact s2_s) else by (rw [s2_n (by omega)]; exact hz c a (by omega))) (by omega)
  refine ww_sub [0, 1, 2, 3, 4] rfl ?_
  exact loop_7 9 0 (σ 22) h (by omega) (by omega) (by rw [sj_id]; exact hM) (fun _ _ _ => rfl) (fun c a b => by omega) (by omega)
