set_option maxRecDepth 100000
set_option maxHeartbeats 1000000 in
/-- case 2: errorOffset -/
theorem lc_2 {G : GT} {E : ET} {h : AH} {n k x m o N : Nat} {xs : Nat → Int32} {i c0 : Int} (hG : GOK G) (hLE : LE G E) (hX : va_X (gb G) N xs (g0 G) (g0 G).heap) (hN : N ≤ 384) (i0 : 0 ≤ i) (i1 : i + 6 ≤ N) (hc8 : 8 ≤ c0) (hc9 : c0 ≤ 1000) (hI : LI G h x m o c0) (hn : n + 10000 ≤ 659399) (hk : k + 100000 ≤ 6988884) (kk : ∀ h2, LI G h2 x m o (c0 + 1) → WW G E ML h2 (n + 10000) (k + 100000) 1692 (LL G x m o i) []) : WW G E ML h n k 297 (LL G x m o i) [] := by
  obtain ⟨A, Bg, f0, D, σ, Bf, bl, eo, cur, hist, hCw, hM, hL, ⟨ho0, ho⟩, hR, hH, hB⟩ := hI
  obtain ⟨bf, hd, a, r, ys, hC⟩ := id hCw
  have hb : gb G < gz G := hG.2.2.2.2
  have hMf := hM.f
  have hu1 : 0 ≤ σ 11 0 0 := by rw [hH.1]; omega
  have hu2 : σ 11 0 0 ≤ 8 := by have := hH.1; have := hH.2.1; omega
  have hD := hR.2.1
  have e1 := hR.1.1.2.1
  have e2 := hR.1.1.2.2.1
  have hx0 := hC.1.1
  refine ww_aload_n 2 dL_law_297 rfl ?_
  refine cr_pi (cr_V (ct_X1_errorOffset hG hC) sv_L_101 rfl dL_law_298 hC.1.2 rfl rfl rfl rfl ⟨Nat.le_of_ble_eq_true rfl, Nat.le_of_ble_eq_true rfl⟩ (Nat.le_of_ble_eq_true rfl) (by show n + 0 ≤ 659399; omega) (by show k + 0 ≤ 6988884; omega)) ?_
  refine ww_aload_n 3 dL_law_301 rfl ?_
  refine cr_si hMf (cr_V (ct_X3_errorOffset hG hMf) sv_L_104 rfl dL_law_302 hMf.obj rfl rfl rfl rfl ⟨Nat.le_of_ble_eq_true rfl, Nat.le_of_ble_eq_true rfl⟩ (Nat.le_of_ble_eq_true rfl) (by show n + 0 ≤ 659399; omega) (by show k + 0 ≤ 6988884; omega)) (fun r9 σ2 h2 hM2 hp2 => ?_)
  obtain ⟨hkp, hr9⟩ := hp2
  have ez := hr9.trans (hB.2.2.1)
  rw [ez]
  refine ww_icmp_eq 1692 dL_law_305 (by decide) hC.2.2.2.2.2.2.2.1 hC.2.2.2.2.2.2.2.1 (fun _ => ?_) (fun w => absurd rfl w)
  exact ww_widen (n' := n + 10000) (k' := k + 100000) (by show n + 0 ≤ n + 10000; omega) (by show k + 0 ≤ k + 100000; omega) (kk _ (LI.fin hCw hL ho0 ho hM2 (hR.w (by omega)) ((hH.of hkp.2.2.2.1 hkp.2.2.2.2).w (by omega)) (hB.of hkp.1 hkp.2.1 hkp.2.2.1)))
set_option maxHeartbeats 1000000 in
/-- case 3: libraries -/
theorem lc_3 {G : GT} {E : ET} {h : AH} {n k x m o N : Nat} {xs : Nat → Int32} {i c0 : Int} (hG : GOK G) (hLE : LE G E) (hX : va_X (gb G) N xs (g0 G) (g0 G).heap) (hN : N ≤ 384) (i0 : 0 ≤ i) (i1 : i + 6 ≤ N) (hc8 : 8 ≤ c0) (hc9 : c0 ≤ 1000) (hI : LI G h x m o c0) (hn : n + 10000 ≤ 659399) (hk : k + 100000 ≤ 6988884) (kk : ∀ h2, LI G h2 x m o (c0 + 1) → WW G E ML h2 (n + 10000) (k + 100000) 1692 (LL G x m o i) []) : WW G E ML h n k 310 (LL G x m o i) [] := by
  obtain ⟨A, Bg, f0, D, σ, Bf, bl, eo, cur, hist, hCw, hM, hL, ⟨ho0, ho⟩, hR, hH, hB⟩ := hI
  obtain ⟨bf, hd, a, r, ys, hC⟩ := id hCw
  have hb : gb G < gz G := hG.2.2.2.2
  have hMf := hM.f
  have hu1 : 0 ≤ σ 11 0 0 := by rw [hH.1]; omega
  have hu2 : σ 11 0 0 ≤ 8 := by have := hH.1; have := hH.2.1; omega
  have hD := hR.2.1
  have e1 := hR.1.1.2.1
  have e2 := hR.1.1.2.2.1
  have hx0 := hC.1.1
  refine ww_aload_n 2 dL_law_310 rfl ?_
  refine cr_pi (cr_V (ct_X1_libraries hG hC) sv_L_105 rfl dL_law_311 hC.1.2 rfl rfl rfl rfl ⟨Nat.le_of_ble_eq_true rfl, Nat.le_of_ble_eq_true rfl⟩ (Nat.le_of_ble_eq_true rfl) (by show n + 0 ≤ 659399; omega) (by show k + 0 ≤ 6988884; omega)) ?_
  refine ww_aload_n 3 dL_law_314 rfl ?_
  refine cr_si hMf (cr_V (ct_X3_libraries hG hMf) sv_L_108 rfl dL_law_315 hMf.obj rfl rfl rfl rfl ⟨Nat.le_of_ble_eq_true rfl, Nat.le_of_ble_eq_true rfl⟩ (Nat.le_of_ble_eq_true rfl) (by show n + 0 ≤ 659399; omega) (by show k + 0 ≤ 6988884; omega)) (fun r9 σ2 h2 hM2 hp2 => ?_)
  obtain ⟨hkp, hr9⟩ := hp2
  have ez := hr9.trans (e1)
  rw [ez]
  refine ww_icmp_eq 1692 dL_law_318 (by decide) (inI.mk (by omega) (by have := hR.2.2.1.2.1; omega)) (inI.mk (by omega) (by have := hR.2.2.1.2.1; omega)) (fun _ => ?_) (fun w => absurd rfl w)
  exact ww_widen (n' := n + 10000) (k' := k + 100000) (by show n + 0 ≤ n + 10000; omega) (by show k + 0 ≤ k + 100000; omega) (kk _ (LI.fin hCw hL ho0 ho hM2 (hR.w (by omega)) ((hH.of hkp.2.2.2.1 hkp.2.2.2.2).w (by omega)) (hB.of hkp.1 hkp.2.1 hkp.2.2.1)))
set_option maxHeartbeats 1000000 in
/-- case 4: names -/
theorem lc_4 {G : GT} {E : ET} {h : AH} {n k x m o N : Nat} {xs : Nat → Int32} {i c0 : Int} (hG : GOK G) (hLE : LE G E) (hX : va_X (gb G) N xs (g0 G) (g0 G).heap) (hN : N ≤ 384) (i0 : 0 ≤ i) (i1 : i + 6 ≤ N) (hc8 : 8 ≤ c0) (hc9 : c0 ≤ 1000) (hI : LI G h x m o c0) (hn : n + 10000 ≤ 659399) (hk : k + 100000 ≤ 6988884) (kk : ∀ h2, LI G h2 x m o (c0 + 1) → WW G E ML h2 (n + 10000) (k + 100000) 1692 (LL G x m o i) []) : WW G E ML h n k 323 (LL G x m o i) [] := by
  obtain ⟨A, Bg, f0, D, σ, Bf, bl, eo, cur, hist, hCw, hM, hL, ⟨ho0, ho⟩, hR, hH, hB⟩ := hI
  obtain ⟨bf, hd, a, r, ys, hC⟩ := id hCw
  have hb : gb G < gz G := hG.2.2.2.2
  have hMf := hM.f
  have hu1 : 0 ≤ σ 11 0 0 := by rw [hH.1]; omega
  have hu2 : σ 11 0 0 ≤ 8 := by have := hH.1; have := hH.2.1; omega
  have hD := hR.2.1
  have e1 := hR.1.1.2.1
  have e2 := hR.1.1.2.2.1
  have hx0 := hC.1.1
  refine ww_aload_n 2 dL_law_323 rfl ?_
  refine cr_pi (cr_V (ct_X1_names hG hC) sv_L_109 rfl dL_law_324 hC.1.2 rfl rfl rfl rfl ⟨Nat.le_of_ble_eq_true rfl, Nat.le_of_ble_eq_true rfl⟩ (Nat.le_of_ble_eq_true rfl) (by show n + 0 ≤ 659399; omega) (by show k + 0 ≤ 6988884; omega)) ?_
  refine ww_aload_n 3 dL_law_327 rfl ?_
  refine cr_si hMf (cr_V (ct_X3_names hG hMf) sv_L_112 rfl dL_law_328 hMf.obj rfl rfl rfl rfl ⟨Nat.le_of_ble_eq_true rfl, Nat.le_of_ble_eq_true rfl⟩ (Nat.le_of_ble_eq_true rfl) (by show n + 0 ≤ 659399; omega) (by show k + 0 ≤ 6988884; omega)) (fun r9 σ2 h2 hM2 hp2 => ?_)
  obtain ⟨hkp, hr9⟩ := hp2
  have ez := hr9.trans (e2)
  rw [ez]
  refine ww_icmp_eq 1692 dL_law_331 (by decide) (inI.mk (by omega) (by have := hR.2.2.1.1; omega)) (inI.mk (by omega) (by have := hR.2.2.1.1; omega)) (fun _ => ?_) (fun w => absurd rfl w)
  exact ww_widen (n' := n + 10000) (k' := k + 100000) (by show n + 0 ≤ n + 10000; omega) (by show k + 0 ≤ k + 100000; omega) (kk _ (LI.fin hCw hL ho0 ho hM2 (hR.w (by omega)) ((hH.of hkp.2.2.2.1 hkp.2.2.2.2).w (by omega)) (hB.of hkp.1 hkp.2.1 hkp.2.2.1)))
set_option maxHeartbeats 1000000 in
/-- case 5: share -/
theorem lc_5 {G : GT} {E : ET} {h : AH} {n k x m o N : Nat} {xs : Nat → Int32} {i c0 : Int} (hG : GOK G) (hLE : LE G E) (hX : va_X (gb G) N xs (g0 G) (g0 G).heap) (hN : N ≤ 384) (i0 : 0 ≤ i) (i1 : i + 6 ≤ N) (hc8 : 8 ≤ c0) (hc9 : c0 ≤ 1000) (hI : LI G h x m o c0) (hn : n + 10000 ≤ 659399) (hk : k + 100000 ≤ 6988884) (kk : ∀ h2, LI G h2 x m o (c0 + 1) → WW G E ML h2 (n + 10000) (k + 100000) 1692 (LL G x m o i) []) : WW G E ML h n k 336 (LL G x m o i) [] := by
  obtain ⟨A, Bg, f0, D, σ, Bf, bl, eo, cur, hist, hCw, hM, hL, ⟨ho0, ho⟩, hR, hH, hB⟩ := hI
  obtain ⟨bf, hd, a, r, ys, hC⟩ := id hCw
  have hb : gb G < gz G := hG.2.2.2.2
  have hMf := hM.f
  have hu1 : 0 ≤ σ 11 0 0 := by rw [hH.1]; omega
  have hu2 : σ 11 0 0 ≤ 8 := by have := hH.1; have := hH.2.1; omega
  have hD := hR.2.1
  have e1 := hR.1.1.2.1
  have e2 := hR.1.1.2.2.1
  have hx0 := hC.1.1
  refine ww_aload_n 2 dL_law_336 rfl ?_
  refine cr_pi (cr_V (ct_X1_share hG hC) sv_L_113 rfl dL_law_337 hC.1.2 rfl rfl rfl rfl ⟨Nat.le_of_ble_eq_true rfl, Nat.le_of_ble_eq_true rfl⟩ (Nat.le_of_ble_eq_true rfl) (by show n + 0 ≤ 659399; omega) (by show k + 0 ≤ 6988884; omega)) ?_
  refine ww_aload_n 3 dL_law_340 rfl ?_
  refine cr_si hMf (cr_V (ct_X3_share hG hMf) sv_L_116 rfl dL_law_341 hMf.obj rfl rfl rfl rfl ⟨Nat.le_of_ble_eq_true rfl, Nat.le_of_ble_eq_true rfl⟩ (Nat.le_of_ble_eq_true rfl) (by show n + 0 ≤ 659399; omega) (by show k + 0 ≤ 6988884; omega)) (fun r9 σ2 h2 hM2 hp2 => ?_)
  obtain ⟨hkp, hr9⟩ := hp2
  have ez := hr9.trans (hR.1.1.1)
  rw [ez]
  refine ww_icmp_eq 1692 dL_law_344 (by decide) (by have := hR.2.2.1.2.2.2.2.2.2.2.2.2; exact inI.mk (by omega) (by omega)) (by have := hR.2.2.1.2.2.2.2.2.2.2.2.2; exact inI.mk (by omega) (by omega)) (fun _ => ?_) (fun w => absurd rfl w)
  exact ww_widen (n' := n + 10000) (k' := k + 100000) (by show n + 0 ≤ n + 10000; omega) (by show k + 0 ≤ k + 100000; omega) (kk _ (LI.fin hCw hL ho0 ho hM2 (hR.w (by omega)) ((hH.of hkp.2.2.2.1 hkp.2.2.2.2).w (by omega)) (hB.of hkp.1 hkp.2.1 hkp.2.2.1)))
set_option maxHeartbeats 1000000 in
/-- case 7: offer -/
theorem lc_7 {G : GT} {E : ET} {h : AH} {n k x m o N : Nat} {xs : Nat → Int32} {i c0 : Int} (hG : GOK G) (hLE : LE G E) (hX : va_X (gb G) N xs (g0 G) (g0 G).heap) (hN : N ≤ 384) (i0 : 0 ≤ i) (i1 : i + 6 ≤ N) (hc8 : 8 ≤ c0) (hc9 : c0 ≤ 1000) (hI : LI G h x m o c0) (hn : n + 10000 ≤ 659399) (hk : k + 100000 ≤ 6988884) (kk : ∀ h2, LI G h2 x m o (c0 + 1) → WW G E ML h2 (n + 10000) (k + 100000) 1692 (LL G x m o i) []) : WW G E ML h n k 417 (LL G x m o i) [] := by
  obtain ⟨A, Bg, f0, D, σ, Bf, bl, eo, cur, hist, hCw, hM, hL, ⟨ho0, ho⟩, hR, hH, hB⟩ := hI
  obtain ⟨bf, hd, a, r, ys, hC⟩ := id hCw
  have hb : gb G < gz G := hG.2.2.2.2
  have hMf := hM.f
  have hu1 : 0 ≤ σ 11 0 0 := by rw [hH.1]; omega
  have hu2 : σ 11 0 0 ≤ 8 := by have := hH.1; have := hH.2.1; omega
  have hD := hR.2.1
  have e1 := hR.1.1.2.1
  have e2 := hR.1.1.2.2.1
  have hx0 := hC.1.1
  refine ww_aload_n 2 dL_law_417 rfl ?_
  refine ww_aload_n 1 dL_law_418 rfl ?_
  refine ww_iload 0 dL_law_419 rfl ?_
  refine ww_iconst dL_law_421 ?_
  refine ww_iadd dL_law_422 ?_
  refine ww_sld hX hLE hb (by omega) (by omega) hN dL_law_423 ?_
  refine ww_aload_n 1 dL_law_424 rfl ?_
  refine ww_iload 0 dL_law_425 rfl ?_
  refine ww_iconst dL_law_427 ?_
  refine ww_iadd dL_law_428 ?_
  refine ww_sld hX hLE hb (by omega) (by omega) hN dL_law_429 ?_
  refine ww_aload_n 4 dL_law_430 rfl ?_
  refine cx_i (cx_SH (ct_X0_offer hG hC.1.2 ho0 _ _ (ct_X1_offer hG hC _ scr_in _ scr_in) (fun z g w => ⟨(v_offer hR w.1 w.2.1).2, w.2.2 _ _ ho⟩) (fun X q g w => w.1.1)) ssh_L_121 rfl dL_law_431 rfl rfl ⟨Nat.le_of_ble_eq_true rfl, Nat.le_of_ble_eq_true rfl⟩ (Nat.le_of_ble_eq_true rfl) (by show n + 1 ≤ 659399; omega) (by show k + 6 ≤ 6988884; omega)) (fun _ _ _ w => w.elim) (fun c h1 hp => ?_)
  obtain ⟨F1, f, ho1, hcc⟩ := hp.q ho
  have hL1 := hL.fo F1 ho0
  have hCw1 := hCw.fr F1 ho0 (by omega)
  have hMf1 := (hM.fo F1 (by omega)).f
  refine ww_istore [(5, _), (4, _), (0, _), (1, _), (2, _), (3, _)] dL_law_434 (Nat.le_of_ble_eq_true rfl) rfl ?_
  refine ww_aload_n 4 dL_law_436 rfl ?_
  refine ww_aload_n 2 dL_law_437 rfl ?_
  refine ww_iload 1 dL_law_438 rfl ?_
  refine ww_iconst dL_law_440 ?_
  refine ww_iadd dL_law_441 ?_
  refine ww_sld hX hLE hb (by omega) (by omega) hN dL_law_442 ?_
  refine ww_aload_n 2 dL_law_443 rfl ?_
  refine ww_iload 1 dL_law_444 rfl ?_
  refine ww_iconst dL_law_446 ?_
  refine ww_iadd dL_law_447 ?_
  refine ww_sld hX hLE hb (by omega) (by omega) hN dL_law_448 ?_
  refine cr_si hMf1 (cr_V (ct_X3_offer hG hMf1 hD _ _ scr_in scr_in) sv_L_123 rfl dL_law_449 hMf1.obj rfl rfl rfl rfl ⟨Nat.le_of_ble_eq_true rfl, Nat.le_of_ble_eq_true rfl⟩ (Nat.le_of_ble_eq_true rfl) (by show n + 1 + 0 ≤ 659399; omega) (by show k + 6 + 0 ≤ 6988884; omega)) (fun r9 σ2 h2 hM2 hp2 => ?_)
  refine ww_istore [(6, _), (5, _), (4, _), (0, _), (1, _), (2, _), (3, _)] dL_law_452 (Nat.le_of_ble_eq_true rfl) rfl ?_
  obtain ⟨hkp, hp2⟩ := hp2
  obtain ⟨j1, j2, j3⟩ := j_q (z := f 0) hcc hp2 (by omega) (fun a b => v_offer hR a b)
  refine lw_tail hG hM2 j1 j2 (fun _ => hM2.2.fo.at ho1 (by omega)) j3 (by show n + 1 ≤ 659399; omega) (by show k + 6 ≤ 6988884; omega) dL_law_454 dL_law_455 dL_law_458 dL_law_460 dL_law_465 dL_law_467 dL_law_470 dL_law_471 dL_law_472 dL_law_473 dL_law_475 dL_law_476 dL_law_477 dL_law_482 (by decide) ?_
  exact ww_widen (n' := n + 10000) (k' := k + 100000) (by show n + 1 ≤ n + 10000; omega) (by show k + 6 ≤ k + 100000; omega) (kk _ (LI.fin hCw1 hL1 ho0 ho1 hM2 (hR.w (by omega)) ((hH.of hkp.2.2.2.1 hkp.2.2.2.2).w (by omega)) (hB.of hkp.1 hkp.2.1 hkp.2.2.1)))
set_option maxHeartbeats 1000000 in
/-- case 8: candidates -/
theorem lc_8 {G : GT} {E : ET} {h : AH} {n k x m o N : Nat} {xs : Nat → Int32} {i c0 : Int} (hG : GOK G) (hLE : LE G E) (hX : va_X (gb G) N xs (g0 G) (g0 G).heap) (hN : N ≤ 384) (i0 : 0 ≤ i) (i1 : i + 6 ≤ N) (hc8 : 8 ≤ c0) (hc9 : c0 ≤ 1000) (hI : LI G h x m o c0) (hn : n + 10000 ≤ 659399) (hk : k + 100000 ≤ 6988884) (kk : ∀ h2, LI G h2 x m o (c0 + 1) → WW G E ML h2 (n + 10000) (k + 100000) 1692 (LL G x m o i) []) : WW G E ML h n k 485 (LL G x m o i) [] := by
  obtain ⟨A, Bg, f0, D, σ, Bf, bl, eo, cur, hist, hCw, hM, hL, ⟨ho0, ho⟩, hR, hH, hB⟩ := hI
  obtain ⟨bf, hd, a, r, ys, hC⟩ := id hCw
  have hb : gb G < gz G := hG.2.2.2.2
  have hMf := hM.f
  have hu1 : 0 ≤ σ 11 0 0 := by rw [hH.1]; omega
  have hu2 : σ 11 0 0 ≤ 8 := by have := hH.1; have := hH.2.1; omega
  have hD := hR.2.1
  have e1 := hR.1.1.2.1
  have e2 := hR.1.1.2.2.1
  have hx0 := hC.1.1
  refine ww_aload_n 2 dL_law_485 rfl ?_
  refine ww_aload_n 1 dL_law_486 rfl ?_
  refine ww_iload 0 dL_law_487 rfl ?_
  refine ww_iconst dL_law_489 ?_
  refine ww_iadd dL_law_490 ?_
  refine ww_sld hX hLE hb (by omega) (by omega) hN dL_law_491 ?_
  refine ww_aload_n 4 dL_law_492 rfl ?_
  refine cx_i (cx_SH (ct_X0_candidates hG hC.1.2 ho0 _ (ct_X1_candidates hG hC _ scr_in) (fun z g w => ⟨(v_candidates hR w.1 w.2.1).2, w.2.2 _ _ ho⟩) (fun X q g w => w.1.1)) ssh_L_124 rfl dL_law_493 rfl rfl ⟨Nat.le_of_ble_eq_true rfl, Nat.le_of_ble_eq_true rfl⟩ (Nat.le_of_ble_eq_true rfl) (by show n + 241 ≤ 659399; omega) (by show k + 848 ≤ 6988884; omega)) (fun _ _ _ w => w.elim) (fun c h1 hp => ?_)
  obtain ⟨F1, f, ho1, hcc⟩ := hp.q ho
  have hL1 := hL.fo F1 ho0
  have hCw1 := hCw.fr F1 ho0 (by omega)
  have hMf1 := (hM.fo F1 (by omega)).f
  refine ww_istore [(5, _), (4, _), (0, _), (1, _), (2, _), (3, _)] dL_law_496 (Nat.le_of_ble_eq_true rfl) rfl ?_
  refine ww_aload_n 4 dL_law_498 rfl ?_
  refine ww_aload_n 2 dL_law_499 rfl ?_
  refine ww_iload 1 dL_law_500 rfl ?_
  refine ww_iconst dL_law_502 ?_
  refine ww_iadd dL_law_503 ?_
  refine ww_sld hX hLE hb (by omega) (by omega) hN dL_law_504 ?_
  refine cr_si hMf1 (cr_V (ct_X3_candidates hG hMf1 hD _ scr_in) sv_L_126 rfl dL_law_505 hMf1.obj rfl rfl rfl rfl ⟨Nat.le_of_ble_eq_true rfl, Nat.le_of_ble_eq_true rfl⟩ (Nat.le_of_ble_eq_true rfl) (by show n + 241 + 0 ≤ 659399; omega) (by show k + 848 + 0 ≤ 6988884; omega)) (fun r9 σ2 h2 hM2 hp2 => ?_)
  refine ww_istore [(6, _), (5, _), (4, _), (0, _), (1, _), (2, _), (3, _)] dL_law_508 (Nat.le_of_ble_eq_true rfl) rfl ?_
  obtain ⟨hkp, hp2⟩ := hp2
  obtain ⟨j1, j2, j3⟩ := j_q (z := f 0) hcc hp2 (by omega) (fun a b => v_candidates hR a b)
  refine lw_tail hG hM2 j1 j2 (fun _ => hM2.2.fo.at ho1 (by omega)) j3 (by show n + 241 ≤ 659399; omega) (by show k + 848 ≤ 6988884; omega) dL_law_510 dL_law_511 dL_law_514 dL_law_516 dL_law_521 dL_law_523 dL_law_526 dL_law_527 dL_law_528 dL_law_529 dL_law_531 dL_law_532 dL_law_533 dL_law_538 (by decide) ?_
  exact ww_widen (n' := n + 10000) (k' := k + 100000) (by show n + 241 ≤ n + 10000; omega) (by show k + 848 ≤ k + 100000; omega) (kk _ (LI.fin hCw1 hL1 ho0 ho1 hM2 (hR.w (by omega)) ((hH.of hkp.2.2.2.1 hkp.2.2.2.2).w (by omega)) (hB.of hkp.1 hkp.2.1 hkp.2.2.1)))
set_option maxHeartbeats 1000000 in
/-- case 9: vote -/
theorem lc_9 {G : GT} {E : ET} {h : AH} {n k x m o N : Nat} {xs : Nat → Int32} {i c0 : Int} (hG : GOK G) (hLE : LE G E) (hX : va_X (gb G) N xs (g0 G) (g0 G).heap) (hN : N ≤ 384) (i0 : 0 ≤ i) (i1 : i + 6 ≤ N) (hc8 : 8 ≤ c0) (hc9 : c0 ≤ 1000) (hI : LI G h x m o c0) (hn : n + 10000 ≤ 659399) (hk : k + 100000 ≤ 6988884) (kk : ∀ h2, LI G h2 x m o (c0 + 1) → WW G E ML h2 (n + 10000) (k + 100000) 1692 (LL G x m o i) []) : WW G E ML h n k 541 (LL G x m o i) [] := by
  obtain ⟨A, Bg, f0, D, σ, Bf, bl, eo, cur, hist, hCw, hM, hL, ⟨ho0, ho⟩, hR, hH, hB⟩ := hI
  obtain ⟨bf, hd, a, r, ys, hC⟩ := id hCw
  have hb : gb G < gz G := hG.2.2.2.2
  have hMf := hM.f
  have hu1 : 0 ≤ σ 11 0 0 := by rw [hH.1]; omega
  have hu2 : σ 11 0 0 ≤ 8 := by have := hH.1; have := hH.2.1; omega
  have hD := hR.2.1
  have e1 := hR.1.1.2.1
  have e2 := hR.1.1.2.2.1
  have hx0 := hC.1.1
  refine ww_aload_n 2 dL_law_541 rfl ?_
  refine ww_aload_n 1 dL_law_542 rfl ?_
  refine ww_iload 0 dL_law_543 rfl ?_
  refine ww_iconst dL_law_545 ?_
  refine ww_iadd dL_law_546 ?_
  refine ww_sld hX hLE hb (by omega) (by omega) hN dL_law_547 ?_
  refine ww_aload_n 1 dL_law_548 rfl ?_
  refine ww_iload 0 dL_law_549 rfl ?_
  refine ww_iconst dL_law_551 ?_
  refine ww_iadd dL_law_552 ?_
  refine ww_sld hX hLE hb (by omega) (by omega) hN dL_law_553 ?_
  refine ww_aload_n 4 dL_law_554 rfl ?_
  refine cx_i (cx_SH (ct_X0_vote hG hC.1.2 ho0 _ _ (ct_X1_vote hG hC _ scr_in _ scr_in) (fun z g w => ⟨(v_vote hR w.1 w.2.1).2, w.2.2 _ _ ho⟩) (fun X q g w => w.1.1)) ssh_L_127 rfl dL_law_555 rfl rfl ⟨Nat.le_of_ble_eq_true rfl, Nat.le_of_ble_eq_true rfl⟩ (Nat.le_of_ble_eq_true rfl) (by show n + 241 ≤ 659399; omega) (by show k + 848 ≤ 6988884; omega)) (fun _ _ _ w => w.elim) (fun c h1 hp => ?_)
  obtain ⟨F1, f, ho1, hcc⟩ := hp.q ho
  have hL1 := hL.fo F1 ho0
  have hCw1 := hCw.fr F1 ho0 (by omega)
  have hMf1 := (hM.fo F1 (by omega)).f
  refine ww_istore [(5, _), (4, _), (0, _), (1, _), (2, _), (3, _)] dL_law_558 (Nat.le_of_ble_eq_true rfl) rfl ?_
  refine ww_aload_n 4 dL_law_560 rfl ?_
  refine ww_aload_n 2 dL_law_561 rfl ?_
  refine ww_iload 1 dL_law_562 rfl ?_
  refine ww_iconst dL_law_564 ?_
  refine ww_iadd dL_law_565 ?_
  refine ww_sld hX hLE hb (by omega) (by omega) hN dL_law_566 ?_
  refine ww_aload_n 2 dL_law_567 rfl ?_
  refine ww_iload 1 dL_law_568 rfl ?_
  refine ww_iconst dL_law_570 ?_
  refine ww_iadd dL_law_571 ?_
  refine ww_sld hX hLE hb (by omega) (by omega) hN dL_law_572 ?_
  refine cr_si hMf1 (cr_V (ct_X3_vote hG hMf1 hD _ _ scr_in scr_in) sv_L_129 rfl dL_law_573 hMf1.obj rfl rfl rfl rfl ⟨Nat.le_of_ble_eq_true rfl, Nat.le_of_ble_eq_true rfl⟩ (Nat.le_of_ble_eq_true rfl) (by show n + 241 + 0 ≤ 659399; omega) (by show k + 848 + 0 ≤ 6988884; omega)) (fun r9 σ2 h2 hM2 hp2 => ?_)
  refine ww_istore [(6, _), (5, _), (4, _), (0, _), (1, _), (2, _), (3, _)] dL_law_576 (Nat.le_of_ble_eq_true rfl) rfl ?_
  obtain ⟨hkp, hp2⟩ := hp2
  obtain ⟨j1, j2, j3⟩ := j_q (z := f 0) hcc hp2 (by omega) (fun a b => v_vote hR a b)
  refine lw_tail hG hM2 j1 j2 (fun _ => hM2.2.fo.at ho1 (by omega)) j3 (by show n + 241 ≤ 659399; omega) (by show k + 848 ≤ 6988884; omega) dL_law_578 dL_law_579 dL_law_582 dL_law_584 dL_law_589 dL_law_591 dL_law_594 dL_law_595 dL_law_596 dL_law_597 dL_law_599 dL_law_600 dL_law_601 dL_law_606 (by decide) ?_
  exact ww_widen (n' := n + 10000) (k' := k + 100000) (by show n + 241 ≤ n + 10000; omega) (by show k + 848 ≤ k + 100000; omega) (kk _ (LI.fin hCw1 hL1 ho0 ho1 hM2 (hR.w (by omega)) ((hH.of hkp.2.2.2.1 hkp.2.2.2.2).w (by omega)) (hB.of hkp.1 hkp.2.1 hkp.2.2.1)))
set_option maxHeartbeats 1000000 in
/-- case 10: support -/
theorem lc_10 {G : GT} {E : ET} {h : AH} {n k x m o N : Nat} {xs : Nat → Int32} {i c0 : Int} (hG : GOK G) (hLE : LE G E) (hX : va_X (gb G) N xs (g0 G) (g0 G).heap) (hN : N ≤ 384) (i0 : 0 ≤ i) (i1 : i + 6 ≤ N) (hc8 : 8 ≤ c0) (hc9 : c0 ≤ 1000) (hI : LI G h x m o c0) (hn : n + 10000 ≤ 659399) (hk : k + 100000 ≤ 6988884) (kk : ∀ h2, LI G h2 x m o (c0 + 1) → WW G E ML h2 (n + 10000) (k + 100000) 1692 (LL G x m o i) []) : WW G E ML h n k 609 (LL G x m o i) [] := by
  obtain ⟨A, Bg, f0, D, σ, Bf, bl, eo, cur, hist, hCw, hM, hL, ⟨ho0, ho⟩, hR, hH, hB⟩ := hI
  obtain ⟨bf, hd, a, r, ys, hC⟩ := id hCw
  have hb : gb G < gz G := hG.2.2.2.2
  have hMf := hM.f
  have hu1 : 0 ≤ σ 11 0 0 := by rw [hH.1]; omega
  have hu2 : σ 11 0 0 ≤ 8 := by have := hH.1; have := hH.2.1; omega
  have hD := hR.2.1
  have e1 := hR.1.1.2.1
  have e2 := hR.1.1.2.2.1
  have hx0 := hC.1.1
  refine ww_aload_n 2 dL_law_609 rfl ?_
  refine ww_aload_n 1 dL_law_610 rfl ?_
  refine ww_iload 0 dL_law_611 rfl ?_
  refine ww_iconst dL_law_613 ?_
  refine ww_iadd dL_law_614 ?_
  refine ww_sld hX hLE hb (by omega) (by omega) hN dL_law_615 ?_
  refine ww_aload_n 1 dL_law_616 rfl ?_
  refine ww_iload 0 dL_law_617 rfl ?_
  refine ww_iconst dL_law_619 ?_
  refine ww_iadd dL_law_620 ?_
  refine ww_sld hX hLE hb (by omega) (by omega) hN dL_law_621 ?_
  refine ww_aload_n 4 dL_law_622 rfl ?_
  refine cx_i (cx_SH (ct_X0_support hG hC.1.2 ho0 _ _ (ct_X1_support hG hC _ scr_in _ scr_in) (fun z g w => ⟨(v_support hR w.1 w.2.1).2, w.2.2 _ _ ho⟩) (fun X q g w => w.1.1)) ssh_L_130 rfl dL_law_623 rfl rfl ⟨Nat.le_of_ble_eq_true rfl, Nat.le_of_ble_eq_true rfl⟩ (Nat.le_of_ble_eq_true rfl) (by show n + 241 ≤ 659399; omega) (by show k + 848 ≤ 6988884; omega)) (fun _ _ _ w => w.elim) (fun c h1 hp => ?_)
  obtain ⟨F1, f, ho1, hcc⟩ := hp.q ho
  have hL1 := hL.fo F1 ho0
  have hCw1 := hCw.fr F1 ho0 (by omega)
  have hMf1 := (hM.fo F1 (by omega)).f
  refine ww_istore [(5, _), (4, _), (0, _), (1, _), (2, _), (3, _)] dL_law_626 (Nat.le_of_ble_eq_true rfl) rfl ?_
  refine ww_aload_n 4 dL_law_628 rfl ?_
  refine ww_aload_n 2 dL_law_629 rfl ?_
  refine ww_iload 1 dL_law_630 rfl ?_
  refine ww_iconst dL_law_632 ?_
  refine ww_iadd dL_law_633 ?_
  refine ww_sld hX hLE hb (by omega) (by omega) hN dL_law_634 ?_
  refine ww_aload_n 2 dL_law_635 rfl ?_
  refine ww_iload 1 dL_law_636 rfl ?_
  refine ww_iconst dL_law_638 ?_
  refine ww_iadd dL_law_639 ?_
  refine ww_sld hX hLE hb (by omega) (by omega) hN dL_law_640 ?_
  refine cr_si hMf1 (cr_V (ct_X3_support hG hMf1 hD _ _ scr_in scr_in) sv_L_132 rfl dL_law_641 hMf1.obj rfl rfl rfl rfl ⟨Nat.le_of_ble_eq_true rfl, Nat.le_of_ble_eq_true rfl⟩ (Nat.le_of_ble_eq_true rfl) (by show n + 241 + 0 ≤ 659399; omega) (by show k + 848 + 0 ≤ 6988884; omega)) (fun r9 σ2 h2 hM2 hp2 => ?_)
  refine ww_istore [(6, _), (5, _), (4, _), (0, _), (1, _), (2, _), (3, _)] dL_law_644 (Nat.le_of_ble_eq_true rfl) rfl ?_
  obtain ⟨hkp, hp2⟩ := hp2
  obtain ⟨j1, j2, j3⟩ := j_q (z := f 0) hcc hp2 (by omega) (fun a b => v_support hR a b)
  refine lw_tail hG hM2 j1 j2 (fun _ => hM2.2.fo.at ho1 (by omega)) j3 (by show n + 241 ≤ 659399; omega) (by show k + 848 ≤ 6988884; omega) dL_law_646 dL_law_647 dL_law_650 dL_law_652 dL_law_657 dL_law_659 dL_law_662 dL_law_663 dL_law_664 dL_law_665 dL_law_667 dL_law_668 dL_law_669 dL_law_674 (by decide) ?_
  exact ww_widen (n' := n + 10000) (k' := k + 100000) (by show n + 241 ≤ n + 10000; omega) (by show k + 848 ≤ k + 100000; omega) (kk _ (LI.fin hCw1 hL1 ho0 ho1 hM2 (hR.w (by omega)) ((hH.of hkp.2.2.2.1 hkp.2.2.2.2).w (by omega)) (hB.of hkp.1 hkp.2.1 hkp.2.2.1)))
set_option maxHeartbeats 1000000 in
/-- case 11: winner -/
theorem lc_11 {G : GT} {E : ET} {h : AH} {n k x m o N : Nat} {xs : Nat → Int32} {i c0 : Int} (hG : GOK G) (hLE : LE G E) (hX : va_X (gb G) N xs (g0 G) (g0 G).heap) (hN : N ≤ 384) (i0 : 0 ≤ i) (i1 : i + 6 ≤ N) (hc8 : 8 ≤ c0) (hc9 : c0 ≤ 1000) (hI : LI G h x m o c0) (hn : n + 10000 ≤ 659399) (hk : k + 100000 ≤ 6988884) (kk : ∀ h2, LI G h2 x m o (c0 + 1) → WW G E ML h2 (n + 10000) (k + 100000) 1692 (LL G x m o i) []) : WW G E ML h n k 677 (LL G x m o i) [] := by
  obtain ⟨A, Bg, f0, D, σ, Bf, bl, eo, cur, hist, hCw, hM, hL, ⟨ho0, ho⟩, hR, hH, hB⟩ := hI
  obtain ⟨bf, hd, a, r, ys, hC⟩ := id hCw
  have hb : gb G < gz G := hG.2.2.2.2
  have hMf := hM.f
  have hu1 : 0 ≤ σ 11 0 0 := by rw [hH.1]; omega
  have hu2 : σ 11 0 0 ≤ 8 := by have := hH.1; have := hH.2.1; omega
  have hD := hR.2.1
  have e1 := hR.1.1.2.1
  have e2 := hR.1.1.2.2.1
  have hx0 := hC.1.1
  refine ww_aload_n 2 dL_law_677 rfl ?_
  refine ww_aload_n 1 dL_law_678 rfl ?_
  refine ww_iload 0 dL_law_679 rfl ?_
  refine ww_iconst dL_law_681 ?_
  refine ww_iadd dL_law_682 ?_
  refine ww_sld hX hLE hb (by omega) (by omega) hN dL_law_683 ?_
  refine ww_aload_n 4 dL_law_684 rfl ?_
  refine cx_i (cx_SH (ct_X0_winner hG hC.1.2 ho0 _ (ct_X1_winner hG hC _ scr_in) (fun z g w => ⟨(v_winner hR w.1 w.2.1).2, w.2.2 _ _ ho⟩) (fun X q g w => w.1.1)) ssh_L_133 rfl dL_law_685 rfl rfl ⟨Nat.le_of_ble_eq_true rfl, Nat.le_of_ble_eq_true rfl⟩ (Nat.le_of_ble_eq_true rfl) (by show n + 241 ≤ 659399; omega) (by show k + 848 ≤ 6988884; omega)) (fun _ _ _ w => w.elim) (fun c h1 hp => ?_)
  obtain ⟨F1, f, ho1, hcc⟩ := hp.q ho
  have hL1 := hL.fo F1 ho0
  have hCw1 := hCw.fr F1 ho0 (by omega)
  have hMf1 := (hM.fo F1 (by omega)).f
  refine ww_istore [(5, _), (4, _), (0, _), (1, _), (2, _), (3, _)] dL_law_688 (Nat.le_of_ble_eq_true rfl) rfl ?_
  refine ww_aload_n 4 dL_law_690 rfl ?_
  refine ww_aload_n 2 dL_law_691 rfl ?_
  refine ww_iload 1 dL_law_692 rfl ?_
  refine ww_iconst dL_law_694 ?_
  refine ww_iadd dL_law_695 ?_
  refine ww_sld hX hLE hb (by omega) (by omega) hN dL_law_696 ?_
  refine cr_si hMf1 (cr_V (ct_X3_winner hG hMf1 hD _ scr_in) sv_L_135 rfl dL_law_697 hMf1.obj rfl rfl rfl rfl ⟨Nat.le_of_ble_eq_true rfl, Nat.le_of_ble_eq_true rfl⟩ (Nat.le_of_ble_eq_true rfl) (by show n + 241 + 0 ≤ 659399; omega) (by show k + 848 + 0 ≤ 6988884; omega)) (fun r9 σ2 h2 hM2 hp2 => ?_)
  refine ww_istore [(6, _), (5, _), (4, _), (0, _), (1, _), (2, _), (3, _)] dL_law_700 (Nat.le_of_ble_eq_true rfl) rfl ?_
  obtain ⟨hkp, hp2⟩ := hp2
  obtain ⟨j1, j2, j3⟩ := j_q (z := f 0) hcc hp2 (by omega) (fun a b => v_winner hR a b)
  refine lw_tail hG hM2 j1 j2 (fun _ => hM2.2.fo.at ho1 (by omega)) j3 (by show n + 241 ≤ 659399; omega) (by show k + 848 ≤ 6988884; omega) dL_law_702 dL_law_703 dL_law_706 dL_law_708 dL_law_713 dL_law_715 dL_law_718 dL_law_719 dL_law_720 dL_law_721 dL_law_723 dL_law_724 dL_law_725 dL_law_730 (by decide) ?_
  exact ww_widen (n' := n + 10000) (k' := k + 100000) (by show n + 241 ≤ n + 10000; omega) (by show k + 848 ≤ k + 100000; omega) (kk _ (LI.fin hCw1 hL1 ho0 ho1 hM2 (hR.w (by omega)) ((hH.of hkp.2.2.2.1 hkp.2.2.2.2).w (by omega)) (hB.of hkp.1 hkp.2.1 hkp.2.2.1)))
set_option maxHeartbeats 1000000 in
/-- case 12: margin -/
theorem lc_12 {G : GT} {E : ET} {h : AH} {n k x m o N : Nat} {xs : Nat → Int32} {i c0 : Int} (hG : GOK G) (hLE : LE G E) (hX : va_X (gb G) N xs (g0 G) (g0 G).heap) (hN : N ≤ 384) (i0 : 0 ≤ i) (i1 : i + 6 ≤ N) (hc8 : 8 ≤ c0) (hc9 : c0 ≤ 1000) (hI : LI G h x m o c0) (hn : n + 10000 ≤ 659399) (hk : k + 100000 ≤ 6988884) (kk : ∀ h2, LI G h2 x m o (c0 + 1) → WW G E ML h2 (n + 10000) (k + 100000) 1692 (LL G x m o i) []) : WW G E ML h n k 733 (LL G x m o i) [] := by
  obtain ⟨A, Bg, f0, D, σ, Bf, bl, eo, cur, hist, hCw, hM, hL, ⟨ho0, ho⟩, hR, hH, hB⟩ := hI
  obtain ⟨bf, hd, a, r, ys, hC⟩ := id hCw
  have hb : gb G < gz G := hG.2.2.2.2
  have hMf := hM.f
  have hu1 : 0 ≤ σ 11 0 0 := by rw [hH.1]; omega
  have hu2 : σ 11 0 0 ≤ 8 := by have := hH.1; have := hH.2.1; omega
  have hD := hR.2.1
  have e1 := hR.1.1.2.1
  have e2 := hR.1.1.2.2.1
  have hx0 := hC.1.1
  refine ww_aload_n 2 dL_law_733 rfl ?_
  refine ww_aload_n 1 dL_law_734 rfl ?_
  refine ww_iload 0 dL_law_735 rfl ?_
  refine ww_iconst dL_law_737 ?_
  refine ww_iadd dL_law_738 ?_
  refine ww_sld hX hLE hb (by omega) (by omega) hN dL_law_739 ?_
  refine ww_aload_n 4 dL_law_740 rfl ?_
  refine cx_i (cx_SH (ct_X0_margin hG hC.1.2 ho0 _ (ct_X1_margin hG hC _ scr_in) (fun z g w => ⟨(v_margin hR w.1 w.2.1).2, w.2.2 _ _ ho⟩) (fun X q g w => w.1.1)) ssh_L_136 rfl dL_law_741 rfl rfl ⟨Nat.le_of_ble_eq_true rfl, Nat.le_of_ble_eq_true rfl⟩ (Nat.le_of_ble_eq_true rfl) (by show n + 241 ≤ 659399; omega) (by show k + 848 ≤ 6988884; omega)) (fun _ _ _ w => w.elim) (fun c h1 hp => ?_)
  obtain ⟨F1, f, ho1, hcc⟩ := hp.q ho
  have hL1 := hL.fo F1 ho0
  have hCw1 := hCw.fr F1 ho0 (by omega)
  have hMf1 := (hM.fo F1 (by omega)).f
  refine ww_istore [(5, _), (4, _), (0, _), (1, _), (2, _), (3, _)] dL_law_744 (Nat.le_of_ble_eq_true rfl) rfl ?_
  refine ww_aload_n 4 dL_law_746 rfl ?_
  refine ww_aload_n 2 dL_law_747 rfl ?_
  refine ww_iload 1 dL_law_748 rfl ?_
  refine ww_iconst dL_law_750 ?_
  refine ww_iadd dL_law_751 ?_
  refine ww_sld hX hLE hb (by omega) (by omega) hN dL_law_752 ?_
  refine cr_si hMf1 (cr_V (ct_X3_margin hG hMf1 hD _ scr_in) sv_L_138 rfl dL_law_753 hMf1.obj rfl rfl rfl rfl ⟨Nat.le_of_ble_eq_true rfl, Nat.le_of_ble_eq_true rfl⟩ (Nat.le_of_ble_eq_true rfl) (by show n + 241 + 0 ≤ 659399; omega) (by show k + 848 + 0 ≤ 6988884; omega)) (fun r9 σ2 h2 hM2 hp2 => ?_)
  refine ww_istore [(6, _), (5, _), (4, _), (0, _), (1, _), (2, _), (3, _)] dL_law_756 (Nat.le_of_ble_eq_true rfl) rfl ?_
  obtain ⟨hkp, hp2⟩ := hp2
  obtain ⟨j1, j2, j3⟩ := j_q (z := f 0) hcc hp2 (by omega) (fun a b => v_margin hR a b)
  refine lw_tail hG hM2 j1 j2 (fun _ => hM2.2.fo.at ho1 (by omega)) j3 (by show n + 241 ≤ 659399; omega) (by show k + 848 ≤ 6988884; omega) dL_law_758 dL_law_759 dL_law_762 dL_law_764 dL_law_769 dL_law_771 dL_law_774 dL_law_775 dL_law_776 dL_law_777 dL_law_779 dL_law_780 dL_law_781 dL_law_786 (by decide) ?_
  exact ww_widen (n' := n + 10000) (k' := k + 100000) (by show n + 241 ≤ n + 10000; omega) (by show k + 848 ≤ k + 100000; omega) (kk _ (LI.fin hCw1 hL1 ho0 ho1 hM2 (hR.w (by omega)) ((hH.of hkp.2.2.2.1 hkp.2.2.2.2).w (by omega)) (hB.of hkp.1 hkp.2.1 hkp.2.2.1)))
set_option maxHeartbeats 1000000 in
/-- case 13: binding -/
theorem lc_13 {G : GT} {E : ET} {h : AH} {n k x m o N : Nat} {xs : Nat → Int32} {i c0 : Int} (hG : GOK G) (hLE : LE G E) (hX : va_X (gb G) N xs (g0 G) (g0 G).heap) (hN : N ≤ 384) (i0 : 0 ≤ i) (i1 : i + 6 ≤ N) (hc8 : 8 ≤ c0) (hc9 : c0 ≤ 1000) (hI : LI G h x m o c0) (hn : n + 10000 ≤ 659399) (hk : k + 100000 ≤ 6988884) (kk : ∀ h2, LI G h2 x m o (c0 + 1) → WW G E ML h2 (n + 10000) (k + 100000) 1692 (LL G x m o i) []) : WW G E ML h n k 789 (LL G x m o i) [] := by
  obtain ⟨A, Bg, f0, D, σ, Bf, bl, eo, cur, hist, hCw, hM, hL, ⟨ho0, ho⟩, hR, hH, hB⟩ := hI
  obtain ⟨bf, hd, a, r, ys, hC⟩ := id hCw
  have hb : gb G < gz G := hG.2.2.2.2
  have hMf := hM.f
  have hu1 : 0 ≤ σ 11 0 0 := by rw [hH.1]; omega
  have hu2 : σ 11 0 0 ≤ 8 := by have := hH.1; have := hH.2.1; omega
  have hD := hR.2.1
  have e1 := hR.1.1.2.1
  have e2 := hR.1.1.2.2.1
  have hx0 := hC.1.1
  refine ww_aload_n 2 dL_law_789 rfl ?_
  refine ww_aload_n 1 dL_law_790 rfl ?_
  refine ww_iload 0 dL_law_791 rfl ?_
  refine ww_iconst dL_law_793 ?_
  refine ww_iadd dL_law_794 ?_
  refine ww_sld hX hLE hb (by omega) (by omega) hN dL_law_795 ?_
  refine ww_aload_n 1 dL_law_796 rfl ?_
  refine ww_iload 0 dL_law_797 rfl ?_
  refine ww_iconst dL_law_799 ?_
  refine ww_iadd dL_law_800 ?_
  refine ww_sld hX hLE hb (by omega) (by omega) hN dL_law_801 ?_
  refine ww_aload_n 4 dL_law_802 rfl ?_
  refine cx_i (cx_SH (ct_X0_binding hG hC.1.2 ho0 _ _ (ct_X1_binding hG hC _ scr_in _ scr_in) (fun z g w => ⟨(v_binding hR w.1 w.2.1).2, w.2.2 _ _ ho⟩) (fun X q g w => w.1.1)) ssh_L_139 rfl dL_law_803 rfl rfl ⟨Nat.le_of_ble_eq_true rfl, Nat.le_of_ble_eq_true rfl⟩ (Nat.le_of_ble_eq_true rfl) (by show n + 241 ≤ 659399; omega) (by show k + 848 ≤ 6988884; omega)) (fun _ _ _ w => w.elim) (fun c h1 hp => ?_)
  obtain ⟨F1, f, ho1, hcc⟩ := hp.q ho
  have hL1 := hL.fo F1 ho0
  have hCw1 := hCw.fr F1 ho0 (by omega)
  have hMf1 := (hM.fo F1 (by omega)).f
  refine ww_istore [(5, _), (4, _), (0, _), (1, _), (2, _), (3, _)] dL_law_806 (Nat.le_of_ble_eq_true rfl) rfl ?_
  refine ww_aload_n 4 dL_law_808 rfl ?_
  refine ww_aload_n 2 dL_law_809 rfl ?_
  refine ww_iload 1 dL_law_810 rfl ?_
  refine ww_iconst dL_law_812 ?_
  refine ww_iadd dL_law_813 ?_
  refine ww_sld hX hLE hb (by omega) (by omega) hN dL_law_814 ?_
  refine ww_aload_n 2 dL_law_815 rfl ?_
  refine ww_iload 1 dL_law_816 rfl ?_
  refine ww_iconst dL_law_818 ?_
  refine ww_iadd dL_law_819 ?_
  refine ww_sld hX hLE hb (by omega) (by omega) hN dL_law_820 ?_
  refine cr_si hMf1 (cr_V (ct_X3_binding hG hMf1 hD _ _ scr_in scr_in) sv_L_141 rfl dL_law_821 hMf1.obj rfl rfl rfl rfl ⟨Nat.le_of_ble_eq_true rfl, Nat.le_of_ble_eq_true rfl⟩ (Nat.le_of_ble_eq_true rfl) (by show n + 241 + 0 ≤ 659399; omega) (by show k + 848 + 0 ≤ 6988884; omega)) (fun r9 σ2 h2 hM2 hp2 => ?_)
  refine ww_istore [(6, _), (5, _), (4, _), (0, _), (1, _), (2, _), (3, _)] dL_law_824 (Nat.le_of_ble_eq_true rfl) rfl ?_
  obtain ⟨hkp, hp2⟩ := hp2
  obtain ⟨j1, j2, j3⟩ := j_q (z := f 0) hcc hp2 (by omega) (fun a b => v_binding hR a b)
  refine lw_tail hG hM2 j1 j2 (fun _ => hM2.2.fo.at ho1 (by omega)) j3 (by show n + 241 ≤ 659399; omega) (by show k + 848 ≤ 6988884; omega) dL_law_826 dL_law_827 dL_law_830 dL_law_832 dL_law_837 dL_law_839 dL_law_842 dL_law_843 dL_law_844 dL_law_845 dL_law_847 dL_law_848 dL_law_849 dL_law_854 (by decide) ?_
  exact ww_widen (n' := n + 10000) (k' := k + 100000) (by show n + 241 ≤ n + 10000; omega) (by show k + 848 ≤ k + 100000; omega) (kk _ (LI.fin hCw1 hL1 ho0 ho1 hM2 (hR.w (by omega)) ((hH.of hkp.2.2.2.1 hkp.2.2.2.2).w (by omega)) (hB.of hkp.1 hkp.2.1 hkp.2.2.1)))
set_option maxHeartbeats 1000000 in
/-- case 14: minority -/
theorem lc_14 {G : GT} {E : ET} {h : AH} {n k x m o N : Nat} {xs : Nat → Int32} {i c0 : Int} (hG : GOK G) (hLE : LE G E) (hX : va_X (gb G) N xs (g0 G) (g0 G).heap) (hN : N ≤ 384) (i0 : 0 ≤ i) (i1 : i + 6 ≤ N) (hc8 : 8 ≤ c0) (hc9 : c0 ≤ 1000) (hI : LI G h x m o c0) (hn : n + 10000 ≤ 659399) (hk : k + 100000 ≤ 6988884) (kk : ∀ h2, LI G h2 x m o (c0 + 1) → WW G E ML h2 (n + 10000) (k + 100000) 1692 (LL G x m o i) []) : WW G E ML h n k 857 (LL G x m o i) [] := by
  obtain ⟨A, Bg, f0, D, σ, Bf, bl, eo, cur, hist, hCw, hM, hL, ⟨ho0, ho⟩, hR, hH, hB⟩ := hI
  obtain ⟨bf, hd, a, r, ys, hC⟩ := id hCw
  have hb : gb G < gz G := hG.2.2.2.2
  have hMf := hM.f
  have hu1 : 0 ≤ σ 11 0 0 := by rw [hH.1]; omega
  have hu2 : σ 11 0 0 ≤ 8 := by have := hH.1; have := hH.2.1; omega
  have hD := hR.2.1
  have e1 := hR.1.1.2.1
  have e2 := hR.1.1.2.2.1
  have hx0 := hC.1.1
  refine ww_aload_n 2 dL_law_857 rfl ?_
  refine ww_aload_n 1 dL_law_858 rfl ?_
  refine ww_iload 0 dL_law_859 rfl ?_
  refine ww_iconst dL_law_861 ?_
  refine ww_iadd dL_law_862 ?_
  refine ww_sld hX hLE hb (by omega) (by omega) hN dL_law_863 ?_
  refine ww_aload_n 4 dL_law_864 rfl ?_
  refine cx_i (cx_SH (ct_X0_minority hG hC.1.2 ho0 _ (ct_X1_minority hG hC _ scr_in) (fun z g w => ⟨(v_minority hR w.1 w.2.1).2, w.2.2 _ _ ho⟩) (fun X q g w => w.1.1)) ssh_L_142 rfl dL_law_865 rfl rfl ⟨Nat.le_of_ble_eq_true rfl, Nat.le_of_ble_eq_true rfl⟩ (Nat.le_of_ble_eq_true rfl) (by show n + 241 ≤ 659399; omega) (by show k + 848 ≤ 6988884; omega)) (fun _ _ _ w => w.elim) (fun c h1 hp => ?_)
  obtain ⟨F1, f, ho1, hcc⟩ := hp.q ho
  have hL1 := hL.fo F1 ho0
  have hCw1 := hCw.fr F1 ho0 (by omega)
  have hMf1 := (hM.fo F1 (by omega)).f
  refine ww_istore [(5, _), (4, _), (0, _), (1, _), (2, _), (3, _)] dL_law_868 (Nat.le_of_ble_eq_true rfl) rfl ?_
  refine ww_aload_n 4 dL_law_870 rfl ?_
  refine ww_aload_n 2 dL_law_871 rfl ?_
  refine ww_iload 1 dL_law_872 rfl ?_
  refine ww_iconst dL_law_874 ?_
  refine ww_iadd dL_law_875 ?_
  refine ww_sld hX hLE hb (by omega) (by omega) hN dL_law_876 ?_
  refine cr_si hMf1 (cr_V (ct_X3_minority hG hMf1 hD _ scr_in) sv_L_144 rfl dL_law_877 hMf1.obj rfl rfl rfl rfl ⟨Nat.le_of_ble_eq_true rfl, Nat.le_of_ble_eq_true rfl⟩ (Nat.le_of_ble_eq_true rfl) (by show n + 241 + 0 ≤ 659399; omega) (by show k + 848 + 0 ≤ 6988884; omega)) (fun r9 σ2 h2 hM2 hp2 => ?_)
  refine ww_istore [(6, _), (5, _), (4, _), (0, _), (1, _), (2, _), (3, _)] dL_law_880 (Nat.le_of_ble_eq_true rfl) rfl ?_
  obtain ⟨hkp, hp2⟩ := hp2
  obtain ⟨j1, j2, j3⟩ := j_q (z := f 0) hcc hp2 (by omega) (fun a b => v_minority hR a b)
  refine lw_tail hG hM2 j1 j2 (fun _ => hM2.2.fo.at ho1 (by omega)) j3 (by show n + 241 ≤ 659399; omega) (by show k + 848 ≤ 6988884; omega) dL_law_882 dL_law_883 dL_law_886 dL_law_888 dL_law_893 dL_law_895 dL_law_898 dL_law_899 dL_law_900 dL_law_901 dL_law_903 dL_law_904 dL_law_905 dL_law_910 (by decide) ?_
  exact ww_widen (n' := n + 10000) (k' := k + 100000) (by show n + 241 ≤ n + 10000; omega) (by show k + 848 ≤ k + 100000; omega) (kk _ (LI.fin hCw1 hL1 ho0 ho1 hM2 (hR.w (by omega)) ((hH.of hkp.2.2.2.1 hkp.2.2.2.2).w (by omega)) (hB.of hkp.1 hkp.2.1 hkp.2.2.1)))
set_option maxHeartbeats 1000000 in
/-- case 15: call -/
theorem lc_15 {G : GT} {E : ET} {h : AH} {n k x m o N : Nat} {xs : Nat → Int32} {i c0 : Int} (hG : GOK G) (hLE : LE G E) (hX : va_X (gb G) N xs (g0 G) (g0 G).heap) (hN : N ≤ 384) (i0 : 0 ≤ i) (i1 : i + 6 ≤ N) (hc8 : 8 ≤ c0) (hc9 : c0 ≤ 1000) (hI : LI G h x m o c0) (hn : n + 10000 ≤ 659399) (hk : k + 100000 ≤ 6988884) (kk : ∀ h2, LI G h2 x m o (c0 + 1) → WW G E ML h2 (n + 10000) (k + 100000) 1692 (LL G x m o i) []) : WW G E ML h n k 913 (LL G x m o i) [] := by
  obtain ⟨A, Bg, f0, D, σ, Bf, bl, eo, cur, hist, hCw, hM, hL, ⟨ho0, ho⟩, hR, hH, hB⟩ := hI
  obtain ⟨bf, hd, a, r, ys, hC⟩ := id hCw
  have hb : gb G < gz G := hG.2.2.2.2
  have hMf := hM.f
  have hu1 : 0 ≤ σ 11 0 0 := by rw [hH.1]; omega
  have hu2 : σ 11 0 0 ≤ 8 := by have := hH.1; have := hH.2.1; omega
  have hD := hR.2.1
  have e1 := hR.1.1.2.1
  have e2 := hR.1.1.2.2.1
  have hx0 := hC.1.1
  refine ww_aload_n 2 dL_law_913 rfl ?_
  refine ww_aload_n 1 dL_law_914 rfl ?_
  refine ww_iload 0 dL_law_915 rfl ?_
  refine ww_iconst dL_law_917 ?_
  refine ww_iadd dL_law_918 ?_
  refine ww_sld hX hLE hb (by omega) (by omega) hN dL_law_919 ?_
  refine ww_aload_n 1 dL_law_920 rfl ?_
  refine ww_iload 0 dL_law_921 rfl ?_
  refine ww_iconst dL_law_923 ?_
  refine ww_iadd dL_law_924 ?_
  refine ww_sld hX hLE hb (by omega) (by omega) hN dL_law_925 ?_
  refine ww_aload_n 4 dL_law_926 rfl ?_
  refine cx_i (cx_SH (ct_X0_call hG hC.1.2 ho0 _ _ (ct_X1_call hG hC _ scr_in _ scr_in) (fun z g w => ⟨(v_call hR w.1 w.2.1).2, w.2.2 _ _ ho⟩) (fun X q g w => w.1.1)) ssh_L_145 rfl dL_law_927 rfl rfl ⟨Nat.le_of_ble_eq_true rfl, Nat.le_of_ble_eq_true rfl⟩ (Nat.le_of_ble_eq_true rfl) (by show n + 251 ≤ 659399; omega) (by show k + 955 ≤ 6988884; omega)) (fun _ _ _ w => w.elim) (fun c h1 hp => ?_)
  obtain ⟨F1, f, ho1, hcc⟩ := hp.q ho
  have hL1 := hL.fo F1 ho0
  have hCw1 := hCw.fr F1 ho0 (by omega)
  have hMf1 := (hM.fo F1 (by omega)).f
  refine ww_istore [(5, _), (4, _), (0, _), (1, _), (2, _), (3, _)] dL_law_930 (Nat.le_of_ble_eq_true rfl) rfl ?_
  refine ww_aload_n 4 dL_law_932 rfl ?_
  refine ww_aload_n 2 dL_law_933 rfl ?_
  refine ww_iload 1 dL_law_934 rfl ?_
  refine ww_iconst dL_law_936 ?_
  refine ww_iadd dL_law_937 ?_
  refine ww_sld hX hLE hb (by omega) (by omega) hN dL_law_938 ?_
  refine ww_aload_n 2 dL_law_939 rfl ?_
  refine ww_iload 1 dL_law_940 rfl ?_
  refine ww_iconst dL_law_942 ?_
  refine ww_iadd dL_law_943 ?_
  refine ww_sld hX hLE hb (by omega) (by omega) hN dL_law_944 ?_
  refine cr_si hMf1 (cr_V (ct_X3_call hG hMf1 hD _ _ scr_in scr_in) sv_L_147 rfl dL_law_945 hMf1.obj rfl rfl rfl rfl ⟨Nat.le_of_ble_eq_true rfl, Nat.le_of_ble_eq_true rfl⟩ (Nat.le_of_ble_eq_true rfl) (by show n + 251 + 0 ≤ 659399; omega) (by show k + 955 + 0 ≤ 6988884; omega)) (fun r9 σ2 h2 hM2 hp2 => ?_)
  refine ww_istore [(6, _), (5, _), (4, _), (0, _), (1, _), (2, _), (3, _)] dL_law_948 (Nat.le_of_ble_eq_true rfl) rfl ?_
  obtain ⟨hkp, hp2⟩ := hp2
  obtain ⟨j1, j2, j3⟩ := j_q (z := f 0) hcc hp2 (by omega) (fun a b => v_call hR a b)
  refine lw_tail hG hM2 j1 j2 (fun _ => hM2.2.fo.at ho1 (by omega)) j3 (by show n + 251 ≤ 659399; omega) (by show k + 955 ≤ 6988884; omega) dL_law_950 dL_law_951 dL_law_954 dL_law_956 dL_law_961 dL_law_963 dL_law_966 dL_law_967 dL_law_968 dL_law_969 dL_law_971 dL_law_972 dL_law_973 dL_law_978 (by decide) ?_
  exact ww_widen (n' := n + 10000) (k' := k + 100000) (by show n + 251 ≤ n + 10000; omega) (by show k + 955 ≤ k + 100000; omega) (kk _ (LI.fin hCw1 hL1 ho0 ho1 hM2 (hR.w (by omega)) ((hH.of hkp.2.2.2.1 hkp.2.2.2.2).w (by omega)) (hB.of hkp.1 hkp.2.1 hkp.2.2.1)))
set_option maxHeartbeats 1000000 in
/-- case 16: steps -/
theorem lc_16 {G : GT} {E : ET} {h : AH} {n k x m o N : Nat} {xs : Nat → Int32} {i c0 : Int} (hG : GOK G) (hLE : LE G E) (hX : va_X (gb G) N xs (g0 G) (g0 G).heap) (hN : N ≤ 384) (i0 : 0 ≤ i) (i1 : i + 6 ≤ N) (hc8 : 8 ≤ c0) (hc9 : c0 ≤ 1000) (hI : LI G h x m o c0) (hn : n + 10000 ≤ 659399) (hk : k + 100000 ≤ 6988884) (kk : ∀ h2, LI G h2 x m o (c0 + 1) → WW G E ML h2 (n + 10000) (k + 100000) 1692 (LL G x m o i) []) : WW G E ML h n k 981 (LL G x m o i) [] := by
  obtain ⟨A, Bg, f0, D, σ, Bf, bl, eo, cur, hist, hCw, hM, hL, ⟨ho0, ho⟩, hR, hH, hB⟩ := hI
  obtain ⟨bf, hd, a, r, ys, hC⟩ := id hCw
  have hb : gb G < gz G := hG.2.2.2.2
  have hMf := hM.f
  have hu1 : 0 ≤ σ 11 0 0 := by rw [hH.1]; omega
  have hu2 : σ 11 0 0 ≤ 8 := by have := hH.1; have := hH.2.1; omega
  have hD := hR.2.1
  have e1 := hR.1.1.2.1
  have e2 := hR.1.1.2.2.1
  have hx0 := hC.1.1
  refine ww_aload_n 2 dL_law_981 rfl ?_
  refine ww_aload_n 1 dL_law_982 rfl ?_
  refine ww_iload 0 dL_law_983 rfl ?_
  refine ww_iconst dL_law_985 ?_
  refine ww_iadd dL_law_986 ?_
  refine ww_sld hX hLE hb (by omega) (by omega) hN dL_law_987 ?_
  refine ww_aload_n 1 dL_law_988 rfl ?_
  refine ww_iload 0 dL_law_989 rfl ?_
  refine ww_iconst dL_law_991 ?_
  refine ww_iadd dL_law_992 ?_
  refine ww_sld hX hLE hb (by omega) (by omega) hN dL_law_993 ?_
  refine ww_aload_n 4 dL_law_994 rfl ?_
  refine cx_i (cx_SH (ct_X0_steps hG hC.1.2 ho0 _ _ (ct_X1_steps hG hC _ scr_in _ scr_in) (fun z g w => ⟨(v_steps hR w.1 w.2.1).2, w.2.2 _ _ ho⟩) (fun X q g w => w.1.1)) ssh_L_148 rfl dL_law_995 rfl rfl ⟨Nat.le_of_ble_eq_true rfl, Nat.le_of_ble_eq_true rfl⟩ (Nat.le_of_ble_eq_true rfl) (by show n + 251 ≤ 659399; omega) (by show k + 955 ≤ 6988884; omega)) (fun _ _ _ w => w.elim) (fun c h1 hp => ?_)
  obtain ⟨F1, f, ho1, hcc⟩ := hp.q ho
  have hL1 := hL.fo F1 ho0
  have hCw1 := hCw.fr F1 ho0 (by omega)
  have hMf1 := (hM.fo F1 (by omega)).f
  refine ww_istore [(5, _), (4, _), (0, _), (1, _), (2, _), (3, _)] dL_law_998 (Nat.le_of_ble_eq_true rfl) rfl ?_
  refine ww_aload_n 4 dL_law_1000 rfl ?_
  refine ww_aload_n 2 dL_law_1001 rfl ?_
  refine ww_iload 1 dL_law_1002 rfl ?_
  refine ww_iconst dL_law_1004 ?_
  refine ww_iadd dL_law_1005 ?_
  refine ww_sld hX hLE hb (by omega) (by omega) hN dL_law_1006 ?_
  refine ww_aload_n 2 dL_law_1007 rfl ?_
  refine ww_iload 1 dL_law_1008 rfl ?_
  refine ww_iconst dL_law_1010 ?_
  refine ww_iadd dL_law_1011 ?_
  refine ww_sld hX hLE hb (by omega) (by omega) hN dL_law_1012 ?_
  refine cr_si hMf1 (cr_V (ct_X3_steps hG hMf1 hD _ _ scr_in scr_in) sv_L_150 rfl dL_law_1013 hMf1.obj rfl rfl rfl rfl ⟨Nat.le_of_ble_eq_true rfl, Nat.le_of_ble_eq_true rfl⟩ (Nat.le_of_ble_eq_true rfl) (by show n + 251 + 0 ≤ 659399; omega) (by show k + 955 + 0 ≤ 6988884; omega)) (fun r9 σ2 h2 hM2 hp2 => ?_)
  refine ww_istore [(6, _), (5, _), (4, _), (0, _), (1, _), (2, _), (3, _)] dL_law_1016 (Nat.le_of_ble_eq_true rfl) rfl ?_
  obtain ⟨hkp, hp2⟩ := hp2
  obtain ⟨j1, j2, j3⟩ := j_q (z := f 0) hcc hp2 (by omega) (fun a b => v_steps hR a b)
  refine lw_tail hG hM2 j1 j2 (fun _ => hM2.2.fo.at ho1 (by omega)) j3 (by show n + 251 ≤ 659399; omega) (by show k + 955 ≤ 6988884; omega) dL_law_1018 dL_law_1019 dL_law_1022 dL_law_1024 dL_law_1029 dL_law_1031 dL_law_1034 dL_law_1035 dL_law_1036 dL_law_1037 dL_law_1039 dL_law_1040 dL_law_1041 dL_law_1046 (by decide) ?_
  exact ww_widen (n' := n + 10000) (k' := k + 100000) (by show n + 251 ≤ n + 10000; omega) (by show k + 955 ≤ k + 100000; omega) (kk _ (LI.fin hCw1 hL1 ho0 ho1 hM2 (hR.w (by omega)) ((hH.of hkp.2.2.2.1 hkp.2.2.2.2).w (by omega)) (hB.of hkp.1 hkp.2.1 hkp.2.2.1)))
set_option maxHeartbeats 1000000 in
/-- case 17: users -/
theorem lc_17 {G : GT} {E : ET} {h : AH} {n k x m o N : Nat} {xs : Nat → Int32} {i c0 : Int} (hG : GOK G) (hLE : LE G E) (hX : va_X (gb G) N xs (g0 G) (g0 G).heap) (hN : N ≤ 384) (i0 : 0 ≤ i) (i1 : i + 6 ≤ N) (hc8 : 8 ≤ c0) (hc9 : c0 ≤ 1000) (hI : LI G h x m o c0) (hn : n + 10000 ≤ 659399) (hk : k + 100000 ≤ 6988884) (kk : ∀ h2, LI G h2 x m o (c0 + 1) → WW G E ML h2 (n + 10000) (k + 100000) 1692 (LL G x m o i) []) : WW G E ML h n k 1049 (LL G x m o i) [] := by
  obtain ⟨A, Bg, f0, D, σ, Bf, bl, eo, cur, hist, hCw, hM, hL, ⟨ho0, ho⟩, hR, hH, hB⟩ := hI
  obtain ⟨bf, hd, a, r, ys, hC⟩ := id hCw
  have hb : gb G < gz G := hG.2.2.2.2
  have hMf := hM.f
  have hu1 : 0 ≤ σ 11 0 0 := by rw [hH.1]; omega
  have hu2 : σ 11 0 0 ≤ 8 := by have := hH.1; have := hH.2.1; omega
  have hD := hR.2.1
  have e1 := hR.1.1.2.1
  have e2 := hR.1.1.2.2.1
  have hx0 := hC.1.1
  refine ww_aload_n 2 dL_law_1049 rfl ?_
  refine ww_aload_n 1 dL_law_1050 rfl ?_
  refine ww_iload 0 dL_law_1051 rfl ?_
  refine ww_iconst dL_law_1053 ?_
  refine ww_iadd dL_law_1054 ?_
  refine ww_sld hX hLE hb (by omega) (by omega) hN dL_law_1055 ?_
  refine ww_aload_n 1 dL_law_1056 rfl ?_
  refine ww_iload 0 dL_law_1057 rfl ?_
  refine ww_iconst dL_law_1059 ?_
  refine ww_iadd dL_law_1060 ?_
  refine ww_sld hX hLE hb (by omega) (by omega) hN dL_law_1061 ?_
  refine ww_aload_n 4 dL_law_1062 rfl ?_
  refine cx_i (cx_SH (ct_X0_users hG hC.1.2 ho0 _ _ (ct_X1_users hG hC _ scr_in _ scr_in) (fun z g w => ⟨(v_users hR w.1 w.2.1).2, w.2.2 _ _ ho⟩) (fun X q g w => w.1.1)) ssh_L_151 rfl dL_law_1063 rfl rfl ⟨Nat.le_of_ble_eq_true rfl, Nat.le_of_ble_eq_true rfl⟩ (Nat.le_of_ble_eq_true rfl) (by show n + 241 ≤ 659399; omega) (by show k + 848 ≤ 6988884; omega)) (fun _ _ _ w => w.elim) (fun c h1 hp => ?_)
  obtain ⟨F1, f, ho1, hcc⟩ := hp.q ho
  have hL1 := hL.fo F1 ho0
  have hCw1 := hCw.fr F1 ho0 (by omega)
  have hMf1 := (hM.fo F1 (by omega)).f
  refine ww_istore [(5, _), (4, _), (0, _), (1, _), (2, _), (3, _)] dL_law_1066 (Nat.le_of_ble_eq_true rfl) rfl ?_
  refine ww_aload_n 4 dL_law_1068 rfl ?_
  refine ww_aload_n 2 dL_law_1069 rfl ?_
  refine ww_iload 1 dL_law_1070 rfl ?_
  refine ww_iconst dL_law_1072 ?_
  refine ww_iadd dL_law_1073 ?_
  refine ww_sld hX hLE hb (by omega) (by omega) hN dL_law_1074 ?_
  refine ww_aload_n 2 dL_law_1075 rfl ?_
  refine ww_iload 1 dL_law_1076 rfl ?_
  refine ww_iconst dL_law_1078 ?_
  refine ww_iadd dL_law_1079 ?_
  refine ww_sld hX hLE hb (by omega) (by omega) hN dL_law_1080 ?_
  refine cr_si hMf1 (cr_V (ct_X3_users hG hMf1 hD _ _ scr_in scr_in) sv_L_153 rfl dL_law_1081 hMf1.obj rfl rfl rfl rfl ⟨Nat.le_of_ble_eq_true rfl, Nat.le_of_ble_eq_true rfl⟩ (Nat.le_of_ble_eq_true rfl) (by show n + 241 + 0 ≤ 659399; omega) (by show k + 848 + 0 ≤ 6988884; omega)) (fun r9 σ2 h2 hM2 hp2 => ?_)
  refine ww_istore [(6, _), (5, _), (4, _), (0, _), (1, _), (2, _), (3, _)] dL_law_1084 (Nat.le_of_ble_eq_true rfl) rfl ?_
  obtain ⟨hkp, hp2⟩ := hp2
  obtain ⟨j1, j2, j3⟩ := j_q (z := f 0) hcc hp2 (by omega) (fun a b => v_users hR a b)
  refine lw_tail hG hM2 j1 j2 (fun _ => hM2.2.fo.at ho1 (by omega)) j3 (by show n + 241 ≤ 659399; omega) (by show k + 848 ≤ 6988884; omega) dL_law_1086 dL_law_1087 dL_law_1090 dL_law_1092 dL_law_1097 dL_law_1099 dL_law_1102 dL_law_1103 dL_law_1104 dL_law_1105 dL_law_1107 dL_law_1108 dL_law_1109 dL_law_1114 (by decide) ?_
  exact ww_widen (n' := n + 10000) (k' := k + 100000) (by show n + 241 ≤ n + 10000; omega) (by show k + 848 ≤ k + 100000; omega) (kk _ (LI.fin hCw1 hL1 ho0 ho1 hM2 (hR.w (by omega)) ((hH.of hkp.2.2.2.1 hkp.2.2.2.2).w (by omega)) (hB.of hkp.1 hkp.2.1 hkp.2.2.1)))
