set_option maxRecDepth 100000
theorem CW.ok {G : GT} {h : AH} {x : Nat} {B : Int → Int} {bl eo : Int} {cur : HV} {hist : List HV} (hC : CW G h x B bl eo cur hist) : HVok cur := by
  obtain ⟨bf, hd, a, r, ys, h1⟩ := hC
  exact h1.2.2.2.2.1
theorem MRc.tr {D : Int → Int} {cur : HV} {c0 k z : Int} (hR : MRc D cur c0) (hr : RK cur k) (hz : z = hTr cur.lb k) : inI z := by
  have hv := (hR.1.2.1 k hr.1 hr.2).1
  have hb := hR.2.1.2.2.2.2.2.1 k hr.1 (by rw [hR.1.1.2.1]; exact hr.2)
  rw [hz, ← hv]
  exact inI.mk (by omega) (by omega)
set_option maxHeartbeats 1000000 in
/-- case 6: library -/
theorem lc_6 {G : GT} {E : ET} {h : AH} {n k x m o N : Nat} {xs : Nat → Int32} {i c0 : Int} (hG : GOK G) (hLE : LE G E) (hX : va_X (gb G) N xs (g0 G) (g0 G).heap) (hN : N ≤ 384) (i0 : 0 ≤ i) (i1 : i + 6 ≤ N) (hc8 : 8 ≤ c0) (hc9 : c0 ≤ 1000) (hI : LI G h x m o c0) (hn : n + 10000 ≤ 659399) (hk : k + 100000 ≤ 6988884) (kk : ∀ h2, LI G h2 x m o (c0 + 1) → WW G E ML h2 (n + 10000) (k + 100000) 1692 (LL G x m o i) []) : WW G E ML h n k 349 (LL G x m o i) [] := by
  obtain ⟨A, Bg, f0, D, σ, Bf, bl, eo, cur, hist, hCw, hM, hL, ⟨ho0, ho⟩, hR, hH, hB⟩ := hI
  obtain ⟨bf, hd, a, r, ys, hC⟩ := id hCw
  have hb : gb G < gz G := hG.2.2.2.2
  have hMf := hM.f
  have hu1 : 0 ≤ σ 11 0 0 := by rw [hH.1]; omega
  have hu2 : σ 11 0 0 ≤ 8 := by have := hH.1; have := hH.2.1; omega
  have hD := hR.2.1
  have e1 := hR.1.1.2.1
  have e2 := hR.1.1.2.2.1
  have hx0 := hC.1.1
  refine ww_aload_n 2 dL_law_349 rfl ?_
  refine ww_aload_n 1 dL_law_350 rfl ?_
  refine ww_iload 0 dL_law_351 rfl ?_
  refine ww_iconst dL_law_353 ?_
  refine ww_iadd dL_law_354 ?_
  refine ww_sld hX hLE hb (by omega) (by omega) hN dL_law_355 ?_
  refine ww_aload_n 1 dL_law_356 rfl ?_
  refine ww_iload 0 dL_law_357 rfl ?_
  refine ww_iconst dL_law_359 ?_
  refine ww_iadd dL_law_360 ?_
  refine ww_sld hX hLE hb (by omega) (by omega) hN dL_law_361 ?_
  refine ww_aload_n 4 dL_law_362 rfl ?_
  refine cx_i (cx_SH (ct_X0_library hG hC.1.2 ho0 _ _ (ct_X1_library hG hC _ scr_in _ scr_in) (fun z g w => ⟨(v_library hR hMf.rd w.1 w.2.1 w.2.2.1).2, w.2.2.2 _ _ ho⟩) (fun X q g w => by rcases w.1 with w | w; exact Or.inl w.1; exact Or.inr w.1)) ssh_L_117 rfl dL_law_363 rfl rfl ⟨Nat.le_of_ble_eq_true rfl, Nat.le_of_ble_eq_true rfl⟩ (Nat.le_of_ble_eq_true rfl) (by show n + 242 ≤ 659399; omega) (by show k + 860 ≤ 6988884; omega)) (fun _ _ _ w => w.elim) (fun c h1 hp => ?_)
  obtain ⟨hM1, hL1, f, ho1, hcc⟩ := HPo.g hCw hM hL ho0 ho hp (fun z g w => w.2.2.2.fo)
  have hCw1 : CW G h1 x Bf bl eo cur hist := by
    rcases hcc with ⟨-, g, w, F⟩ | ⟨-, -, w⟩ | ⟨-, -, w⟩
    · exact (hCw.ex w.2.2.2).fr F ho0 (by omega)
    · exact w
    · exact w
  have hMf1 := hM1.f
  refine ww_istore [(5, _), (4, _), (0, _), (1, _), (2, _), (3, _)] dL_law_366 (Nat.le_of_ble_eq_true rfl) rfl ?_
  refine ww_aload_n 4 dL_law_368 rfl ?_
  refine ww_aload_n 2 dL_law_369 rfl ?_
  refine ww_iload 1 dL_law_370 rfl ?_
  refine ww_iconst dL_law_372 ?_
  refine ww_iadd dL_law_373 ?_
  refine ww_sld hX hLE hb (by omega) (by omega) hN dL_law_374 ?_
  refine ww_aload_n 2 dL_law_375 rfl ?_
  refine ww_iload 1 dL_law_376 rfl ?_
  refine ww_iconst dL_law_378 ?_
  refine ww_iadd dL_law_379 ?_
  refine ww_sld hX hLE hb (by omega) (by omega) hN dL_law_380 ?_
  refine cr_si hMf1 (cr_V (ct_X3_library hG hMf1 hD _ _ scr_in scr_in) sv_L_120 rfl dL_law_381 hMf1.obj rfl rfl rfl rfl ⟨Nat.le_of_ble_eq_true rfl, Nat.le_of_ble_eq_true rfl⟩ (Nat.le_of_ble_eq_true rfl) (by show n + 242 + 0 ≤ 659399; omega) (by show k + 860 + 0 ≤ 6988884; omega)) (fun r9 σ2 h2 hM2 hp2 => ?_)
  refine ww_istore [(6, _), (5, _), (4, _), (0, _), (1, _), (2, _), (3, _)] dL_law_384 (Nat.le_of_ble_eq_true rfl) rfl ?_
  obtain ⟨hkp, hp2⟩ := hp2
  have J : σ2 0 0 0 = c ∧ (c = 0 ∨ c = 1 ∨ c = 2) ∧ (c = 0 → f 0 = r9 ∧ inI r9) := by
    rcases hcc with ⟨hc, g, ⟨w1, w2, w3, -⟩, -⟩ | ⟨hc, w, -⟩ | ⟨hc, w, -⟩
    · have v := v_library hR hMf.rd w1 w2 w3
      rcases hp2 with ⟨-, -, g1, g2⟩ | ⟨g1, -⟩ | ⟨-, g1, -⟩
      · exact ⟨by omega, Or.inl hc, fun _ => ⟨by rw [g2]; exact v.1, by rw [g2, ← v.1]; exact v.2⟩⟩
      · exact absurd ⟨w1.1, by rw [e1]; exact w1.2⟩ g1
      · exact absurd w2 g1
    · have w : ¬ RK cur (scr xs (i + 1)) := by rcases w with w | w; exact w.2; exact absurd w.1 (by decide)
      rcases hp2 with ⟨g1, -⟩ | ⟨-, g1⟩ | ⟨g1, -⟩
      · exact absurd ⟨g1.1, by rw [← e1]; exact g1.2⟩ w
      · exact ⟨by omega, Or.inr (Or.inl hc), fun q => by omega⟩
      · exact absurd ⟨g1.1, by rw [← e1]; exact g1.2⟩ w
    · have w : RK cur (scr xs (i + 1)) ∧ ¬ (0 ≤ scr xs (i + 2) ∧ scr xs (i + 2) ≤ 5) := by rcases w with w | w; exact absurd w.1 (by decide); exact w.2
      rcases hp2 with ⟨-, g1, -⟩ | ⟨g1, -⟩ | ⟨-, -, g1⟩
      · exact absurd g1 w.2
      · exact absurd ⟨w.1.1, by rw [e1]; exact w.1.2⟩ g1
      · exact ⟨by omega, Or.inr (Or.inr hc), fun q => by omega⟩
  refine lw_tail hG hM2 J.1 J.2.1 (fun _ => hM2.2.fo.at ho1 (by omega)) J.2.2 (by show n + 242 ≤ 659399; omega) (by show k + 860 ≤ 6988884; omega) dL_law_386 dL_law_387 dL_law_390 dL_law_392 dL_law_397 dL_law_399 dL_law_402 dL_law_403 dL_law_404 dL_law_405 dL_law_407 dL_law_408 dL_law_409 dL_law_414 (by decide) ?_
  exact ww_widen (n' := n + 10000) (k' := k + 100000) (by show n + 242 ≤ n + 10000; omega) (by show k + 860 ≤ k + 100000; omega) (kk _ (LI.fin hCw1 hL1 ho0 ho1 hM2 (hR.w (by omega)) ((hH.of hkp.2.2.2.1 hkp.2.2.2.2).w (by omega)) (hB.of hkp.1 hkp.2.1 hkp.2.2.1)))
set_option maxHeartbeats 1000000 in
/-- case 1: load -/
theorem lc_1 {G : GT} {E : ET} {h : AH} {n k x m o N : Nat} {xs : Nat → Int32} {i c0 : Int} (hG : GOK G) (hLE : LE G E) (hX : va_X (gb G) N xs (g0 G) (g0 G).heap) (hN : N ≤ 384) (i0 : 0 ≤ i) (i1 : i + 6 ≤ N) (hc8 : 8 ≤ c0) (hc9 : c0 ≤ 1000) (hI : LI G h x m o c0) (hn : n + 10000 ≤ 659399) (hk : k + 100000 ≤ 6988884) (kk : ∀ h2, LI G h2 x m o (c0 + 1) → WW G E ML h2 (n + 10000) (k + 100000) 1692 (LL G x m o i) []) : WW G E ML h n k 241 (LL G x m o i) [] := by
  obtain ⟨A, Bg, f0, D, σ, Bf, bl, eo, cur, hist, hCw, hM, hL, ⟨ho0, ho⟩, hR, hH, hB⟩ := hI
  obtain ⟨bf, hd, a, r, ys, hC⟩ := id hCw
  have hb : gb G < gz G := hG.2.2.2.2
  have hMf := hM.f
  have hu1 : 0 ≤ σ 11 0 0 := by rw [hH.1]; omega
  have hu2 : σ 11 0 0 ≤ 8 := by have := hH.1; have := hH.2.1; omega
  have hD := hR.2.1
  have e1 := hR.1.1.2.1
  have e2 := hR.1.1.2.2.1
  have hx0 := hC.1.1
  refine ww_aload_n 2 dL_law_241 rfl ?_
  refine ww_aload_n 1 dL_law_242 rfl ?_
  refine ww_iload 0 dL_law_243 rfl ?_
  refine ww_iconst dL_law_245 ?_
  refine ww_iadd dL_law_246 ?_
  refine ww_sld hX hLE hb (by omega) (by omega) hN dL_law_247 ?_
  refine ww_aload_n 4 dL_law_248 rfl ?_
  refine cx_i (cx_SH (ct_X0_load hG hC.1.2 ho0 _ (ct_X1_load hG hC _ scr_in) (fun z g w => ⟨by rcases w.2.1 with ⟨a, b, -, q, rfl, -⟩ | ⟨s, -, q, rfl, -⟩; exact inI.mk (by omega) (by omega); have q8 : s.lb.length ≤ 8 := q.2.1; exact inI.mk (by omega) (by omega), w.2.2.at ho (by omega)⟩) (fun X q g w => w.1.1)) ssh_L_91 rfl dL_law_249 rfl rfl ⟨Nat.le_of_ble_eq_true rfl, Nat.le_of_ble_eq_true rfl⟩ (Nat.le_of_ble_eq_true rfl) (by show n + 6700 ≤ 659399; omega) (by show k + 33100 ≤ 6988884; omega)) (fun _ _ _ w => w.elim) (fun c h1 hp => ?_)
  obtain ⟨hM1, hL1, f, ho1, hcc⟩ := HPo.g hCw hM hL ho0 ho hp (fun z g w => w.2.2)
  have hMf1 := hM1.f
  refine ww_istore [(5, _), (4, _), (0, _), (1, _), (2, _), (3, _)] dL_law_252 (Nat.le_of_ble_eq_true rfl) rfl ?_
  refine ww_aload_n 4 dL_law_254 rfl ?_
  refine ww_aload_n 2 dL_law_255 rfl ?_
  refine ww_iload 1 dL_law_256 rfl ?_
  refine ww_iconst dL_law_258 ?_
  refine ww_iadd dL_law_259 ?_
  refine ww_sld hX hLE hb (by omega) (by omega) hN dL_law_260 ?_
  refine cr_mi hMf1 (cr_V (ct_X3_load hG hMf1 hu1 hu2 hL1 _ scr_in (by have := hB.1; have := hB.2.1; omega) (by have := hB.1; have := hB.2.1; omega) (fun q q0 q1 => by rw [hB.2.2.2 q (by rw [← hB.1]; exact q1)]; omega)) sv_L_96 rfl dL_law_261 hMf1.obj rfl rfl rfl rfl ⟨Nat.le_of_ble_eq_true rfl, Nat.le_of_ble_eq_true rfl⟩ (Nat.le_of_ble_eq_true rfl) (by show n + 6700 + 0 ≤ 659399; omega) (by show k + 33100 + 0 ≤ 6988884; omega)) (fun r9 D2 σ2 h2 hM2 hp2 => ?_)
  refine ww_istore [(6, _), (5, _), (4, _), (0, _), (1, _), (2, _), (3, _)] dL_law_264 (Nat.le_of_ble_eq_true rfl) rfl ?_
  obtain ⟨j1, j2, j3, Bf2, bl2, eo2, cur2, hist2, k1, k2, k3, k4⟩ := m_load (z := f 0) ho0 hR hc8 hH hB hcc hp2
  refine lw_tail hG hM2 j1 j2 (fun _ => hM2.2.fo.at ho1 (by omega)) j3 (by show n + 6700 ≤ 659399; omega) (by show k + 33100 ≤ 6988884; omega) dL_law_266 dL_law_267 dL_law_270 dL_law_272 dL_law_277 dL_law_279 dL_law_282 dL_law_283 dL_law_284 dL_law_285 dL_law_287 dL_law_288 dL_law_289 dL_law_294 (by decide) ?_
  exact ww_widen (n' := n + 10000) (k' := k + 100000) (by show n + 6700 ≤ n + 10000; omega) (by show k + 33100 ≤ k + 100000; omega) (kk _ (LI.fin k1 hL1 ho0 ho1 hM2 k2 k3 k4))
set_option maxHeartbeats 1000000 in
/-- case 18: unload -/
theorem lc_18 {G : GT} {E : ET} {h : AH} {n k x m o N : Nat} {xs : Nat → Int32} {i c0 : Int} (hG : GOK G) (hLE : LE G E) (hX : va_X (gb G) N xs (g0 G) (g0 G).heap) (hN : N ≤ 384) (i0 : 0 ≤ i) (i1 : i + 6 ≤ N) (hc8 : 8 ≤ c0) (hc9 : c0 ≤ 1000) (hI : LI G h x m o c0) (hn : n + 10000 ≤ 659399) (hk : k + 100000 ≤ 6988884) (kk : ∀ h2, LI G h2 x m o (c0 + 1) → WW G E ML h2 (n + 10000) (k + 100000) 1692 (LL G x m o i) []) : WW G E ML h n k 1117 (LL G x m o i) [] := by
  obtain ⟨A, Bg, f0, D, σ, Bf, bl, eo, cur, hist, hCw, hM, hL, ⟨ho0, ho⟩, hR, hH, hB⟩ := hI
  obtain ⟨bf, hd, a, r, ys, hC⟩ := id hCw
  have hb : gb G < gz G := hG.2.2.2.2
  have hMf := hM.f
  have hu1 : 0 ≤ σ 11 0 0 := by rw [hH.1]; omega
  have hu2 : σ 11 0 0 ≤ 8 := by have := hH.1; have := hH.2.1; omega
  have hD := hR.2.1
  have e1 := hR.1.1.2.1
  have e2 := hR.1.1.2.2.1
  have hx0 := hC.1.1
  refine ww_aload_n 2 dL_law_1117 rfl ?_
  refine ww_aload_n 1 dL_law_1118 rfl ?_
  refine ww_iload 0 dL_law_1119 rfl ?_
  refine ww_iconst dL_law_1121 ?_
  refine ww_iadd dL_law_1122 ?_
  refine ww_sld hX hLE hb (by omega) (by omega) hN dL_law_1123 ?_
  refine ww_aload_n 4 dL_law_1124 rfl ?_
  refine cx_i (cx_SH (ct_X0_unload hG hC.1.2 ho0 _ (ct_X1_unload hG hC _ scr_in) (fun z g w => ⟨w.2.1.in hR.2.2.1.2.1 hR.2.2.1.1, w.2.2.2.at ho (by omega)⟩) (fun X q g w => by rcases w.1 with w | w; exact Or.inl w.1; exact Or.inr w.1)) ssh_L_154 rfl dL_law_1125 rfl rfl ⟨Nat.le_of_ble_eq_true rfl, Nat.le_of_ble_eq_true rfl⟩ (Nat.le_of_ble_eq_true rfl) (by show n + 1100 ≤ 659399; omega) (by show k + 17000 ≤ 6988884; omega)) (fun _ _ _ w => w.elim) (fun c h1 hp => ?_)
  obtain ⟨hM1, hL1, f, ho1, hcc⟩ := HPo.g hCw hM hL ho0 ho hp (fun z g w => w.2.2.2)
  have hMf1 := hM1.f
  refine ww_istore [(5, _), (4, _), (0, _), (1, _), (2, _), (3, _)] dL_law_1128 (Nat.le_of_ble_eq_true rfl) rfl ?_
  refine ww_aload_n 4 dL_law_1130 rfl ?_
  refine ww_aload_n 2 dL_law_1131 rfl ?_
  refine ww_iload 1 dL_law_1132 rfl ?_
  refine ww_iconst dL_law_1134 ?_
  refine ww_iadd dL_law_1135 ?_
  refine ww_sld hX hLE hb (by omega) (by omega) hN dL_law_1136 ?_
  refine cr_mi hMf1 (cr_V (ct_X3_unload hG hMf1 hD hu1 hu2 _ scr_in) sv_L_156 rfl dL_law_1137 hMf1.obj rfl rfl rfl rfl ⟨Nat.le_of_ble_eq_true rfl, Nat.le_of_ble_eq_true rfl⟩ (Nat.le_of_ble_eq_true rfl) (by show n + 1100 + 0 ≤ 659399; omega) (by show k + 17000 + 0 ≤ 6988884; omega)) (fun r9 D2 σ2 h2 hM2 hp2 => ?_)
  refine ww_istore [(6, _), (5, _), (4, _), (0, _), (1, _), (2, _), (3, _)] dL_law_1140 (Nat.le_of_ble_eq_true rfl) rfl ?_
  obtain ⟨j1, j2, j3, Bf2, bl2, eo2, cur2, hist2, k1, k2, k3, k4⟩ : JC G h1 x c0 c (σ2 0 0 0) (f 0) r9 D2 σ2 := j_c hcc hp2 hR hH hB (fun g w => w.1) (fun w => by rcases w with w | w; exact w.2; exact absurd w.1 (by decide)) (fun w => by rcases w with w | w; exact absurd w.1 (by decide); exact w.2) (by rw [e1]) (fun q => fi_mem.trans (hR.1.ld q.1 q.2).symm) (fun g hc w F q => m_unload hR hH hB w.1.1 w.1.2 w.2.1 (w.2.2.1.fr F ho0 (by omega)) q.1 q.2.1 q.2.2.1 q.2.2.2 hc)
  refine lw_tail hG hM2 j1 j2 (fun _ => hM2.2.fo.at ho1 (by omega)) j3 (by show n + 1100 ≤ 659399; omega) (by show k + 17000 ≤ 6988884; omega) dL_law_1142 dL_law_1143 dL_law_1146 dL_law_1148 dL_law_1153 dL_law_1155 dL_law_1158 dL_law_1159 dL_law_1160 dL_law_1161 dL_law_1163 dL_law_1164 dL_law_1165 dL_law_1170 (by decide) ?_
  exact ww_widen (n' := n + 10000) (k' := k + 100000) (by show n + 1100 ≤ n + 10000; omega) (by show k + 17000 ≤ k + 100000; omega) (kk _ (LI.fin k1 hL1 ho0 ho1 hM2 k2 k3 k4))
set_option maxHeartbeats 1000000 in
/-- case 19: reload -/
theorem lc_19 {G : GT} {E : ET} {h : AH} {n k x m o N : Nat} {xs : Nat → Int32} {i c0 : Int} (hG : GOK G) (hLE : LE G E) (hX : va_X (gb G) N xs (g0 G) (g0 G).heap) (hN : N ≤ 384) (i0 : 0 ≤ i) (i1 : i + 6 ≤ N) (hc8 : 8 ≤ c0) (hc9 : c0 ≤ 1000) (hI : LI G h x m o c0) (hn : n + 10000 ≤ 659399) (hk : k + 100000 ≤ 6988884) (kk : ∀ h2, LI G h2 x m o (c0 + 1) → WW G E ML h2 (n + 10000) (k + 100000) 1692 (LL G x m o i) []) : WW G E ML h n k 1173 (LL G x m o i) [] := by
  obtain ⟨A, Bg, f0, D, σ, Bf, bl, eo, cur, hist, hCw, hM, hL, ⟨ho0, ho⟩, hR, hH, hB⟩ := hI
  obtain ⟨bf, hd, a, r, ys, hC⟩ := id hCw
  have hb : gb G < gz G := hG.2.2.2.2
  have hMf := hM.f
  have hu1 : 0 ≤ σ 11 0 0 := by rw [hH.1]; omega
  have hu2 : σ 11 0 0 ≤ 8 := by have := hH.1; have := hH.2.1; omega
  have hD := hR.2.1
  have e1 := hR.1.1.2.1
  have e2 := hR.1.1.2.2.1
  have hx0 := hC.1.1
  refine ww_aload_n 2 dL_law_1173 rfl ?_
  refine ww_aload_n 1 dL_law_1174 rfl ?_
  refine ww_iload 0 dL_law_1175 rfl ?_
  refine ww_iconst dL_law_1177 ?_
  refine ww_iadd dL_law_1178 ?_
  refine ww_sld hX hLE hb (by omega) (by omega) hN dL_law_1179 ?_
  refine ww_aload_n 4 dL_law_1180 rfl ?_
  refine cx_i (cx_SH (ct_X0_reload hG hC.1.2 ho0 _ (ct_X1_reload hG hC _ scr_in) (fun z g w => ⟨w.2.1.in hR.2.2.1.2.1 hR.2.2.1.1, w.2.2.2.at ho (by omega)⟩) (fun X q g w => by rcases w.1 with w | w; exact Or.inl w.1; exact Or.inr w.1)) ssh_L_157 rfl dL_law_1181 rfl rfl ⟨Nat.le_of_ble_eq_true rfl, Nat.le_of_ble_eq_true rfl⟩ (Nat.le_of_ble_eq_true rfl) (by show n + 1100 ≤ 659399; omega) (by show k + 17000 ≤ 6988884; omega)) (fun _ _ _ w => w.elim) (fun c h1 hp => ?_)
  obtain ⟨hM1, hL1, f, ho1, hcc⟩ := HPo.g hCw hM hL ho0 ho hp (fun z g w => w.2.2.2)
  have hMf1 := hM1.f
  refine ww_istore [(5, _), (4, _), (0, _), (1, _), (2, _), (3, _)] dL_law_1184 (Nat.le_of_ble_eq_true rfl) rfl ?_
  refine ww_aload_n 4 dL_law_1186 rfl ?_
  refine ww_aload_n 2 dL_law_1187 rfl ?_
  refine ww_iload 1 dL_law_1188 rfl ?_
  refine ww_iconst dL_law_1190 ?_
  refine ww_iadd dL_law_1191 ?_
  refine ww_sld hX hLE hb (by omega) (by omega) hN dL_law_1192 ?_
  refine cr_mi hMf1 (cr_V (ct_X3_reload hG hMf1 hD hu1 hu2 (hR.1.1.2.2.2) (by have := hR.2.2.2; omega) _ scr_in) sv_L_159 rfl dL_law_1193 hMf1.obj rfl rfl rfl rfl ⟨Nat.le_of_ble_eq_true rfl, Nat.le_of_ble_eq_true rfl⟩ (Nat.le_of_ble_eq_true rfl) (by show n + 1100 + 0 ≤ 659399; omega) (by show k + 17000 + 0 ≤ 6988884; omega)) (fun r9 D2 σ2 h2 hM2 hp2 => ?_)
  refine ww_istore [(6, _), (5, _), (4, _), (0, _), (1, _), (2, _), (3, _)] dL_law_1196 (Nat.le_of_ble_eq_true rfl) rfl ?_
  obtain ⟨j1, j2, j3, Bf2, bl2, eo2, cur2, hist2, k1, k2, k3, k4⟩ : JC G h1 x c0 c (σ2 0 0 0) (f 0) r9 D2 σ2 := j_c (C2' := ¬ D (6 + 24 * scr xs (i + 1) + 2) > 0) hcc (hp2.imp id (Or.imp id (fun q => ⟨⟨q.1.1, fun w => w q.1.2⟩, q.2⟩))) hR hH hB (fun g w => w.1) (fun w => by rcases w with w | w; exact w.2; exact absurd w.1 (by decide)) (fun w => by rcases w with w | w; exact absurd w.1 (by decide); exact w.2) (by rw [e1]) (fun q => ⟨fun a b => fi_neg a ((hR.1.ld q.1 q.2).mp b), fun a => Classical.byContradiction (fun b => a ((hR.1.ld q.1 q.2).mpr (fi_mem.mp b)))⟩) (fun g hc w F q => m_reload hR hH hB w.1.1 w.1.2 w.2.1 (w.2.2.1.fr F ho0 (by omega)) q.1 q.2.1 q.2.2.1 q.2.2.2 hc)
  refine lw_tail hG hM2 j1 j2 (fun _ => hM2.2.fo.at ho1 (by omega)) j3 (by show n + 1100 ≤ 659399; omega) (by show k + 17000 ≤ 6988884; omega) dL_law_1198 dL_law_1199 dL_law_1202 dL_law_1204 dL_law_1209 dL_law_1211 dL_law_1214 dL_law_1215 dL_law_1216 dL_law_1217 dL_law_1219 dL_law_1220 dL_law_1221 dL_law_1226 (by decide) ?_
  exact ww_widen (n' := n + 10000) (k' := k + 100000) (by show n + 1100 ≤ n + 10000; omega) (by show k + 17000 ≤ k + 100000; omega) (kk _ (LI.fin k1 hL1 ho0 ho1 hM2 k2 k3 k4))
set_option maxHeartbeats 1000000 in
/-- case 20: offerValue -/
theorem lc_20 {G : GT} {E : ET} {h : AH} {n k x m o N : Nat} {xs : Nat → Int32} {i c0 : Int} (hG : GOK G) (hLE : LE G E) (hX : va_X (gb G) N xs (g0 G) (g0 G).heap) (hN : N ≤ 384) (i0 : 0 ≤ i) (i1 : i + 6 ≤ N) (hc8 : 8 ≤ c0) (hc9 : c0 ≤ 1000) (hI : LI G h x m o c0) (hn : n + 10000 ≤ 659399) (hk : k + 100000 ≤ 6988884) (kk : ∀ h2, LI G h2 x m o (c0 + 1) → WW G E ML h2 (n + 10000) (k + 100000) 1692 (LL G x m o i) []) : WW G E ML h n k 1229 (LL G x m o i) [] := by
  obtain ⟨A, Bg, f0, D, σ, Bf, bl, eo, cur, hist, hCw, hM, hL, ⟨ho0, ho⟩, hR, hH, hB⟩ := hI
  obtain ⟨bf, hd, a, r, ys, hC⟩ := id hCw
  have hb : gb G < gz G := hG.2.2.2.2
  have hMf := hM.f
  have hu1 : 0 ≤ σ 11 0 0 := by rw [hH.1]; omega
  have hu2 : σ 11 0 0 ≤ 8 := by have := hH.1; have := hH.2.1; omega
  have hD := hR.2.1
  have e1 := hR.1.1.2.1
  have e2 := hR.1.1.2.2.1
  have hx0 := hC.1.1
  refine ww_aload_n 2 dL_law_1229 rfl ?_
  refine ww_aload_n 1 dL_law_1230 rfl ?_
  refine ww_iload 0 dL_law_1231 rfl ?_
  refine ww_iconst dL_law_1233 ?_
  refine ww_iadd dL_law_1234 ?_
  refine ww_sld hX hLE hb (by omega) (by omega) hN dL_law_1235 ?_
  refine ww_aload_n 1 dL_law_1236 rfl ?_
  refine ww_iload 0 dL_law_1237 rfl ?_
  refine ww_iconst dL_law_1239 ?_
  refine ww_iadd dL_law_1240 ?_
  refine ww_sld hX hLE hb (by omega) (by omega) hN dL_law_1241 ?_
  refine ww_aload_n 1 dL_law_1242 rfl ?_
  refine ww_iload 0 dL_law_1243 rfl ?_
  refine ww_iconst dL_law_1245 ?_
  refine ww_iadd dL_law_1246 ?_
  refine ww_sld hX hLE hb (by omega) (by omega) hN dL_law_1247 ?_
  refine ww_aload_n 4 dL_law_1248 rfl ?_
  refine cx_i (cx_SH (ct_X0_offerValue hG hC.1.2 ho0 _ _ _ (ct_X1_offerValue hG hC _ scr_in _ scr_in _ scr_in) (fun z g w => ⟨QE.wii w.2.2.1.ok w.1.1.2.1 w.1.1.2.2 w.2.1, w.2.2.2.at ho (by omega)⟩) (fun X q g w => by rcases w.1 with w | w; exact Or.inl w.1; exact Or.inr w.1)) ssh_L_160 rfl dL_law_1249 rfl rfl ⟨Nat.le_of_ble_eq_true rfl, Nat.le_of_ble_eq_true rfl⟩ (Nat.le_of_ble_eq_true rfl) (by show n + 901 ≤ 659399; omega) (by show k + 16206 ≤ 6988884; omega)) (fun _ _ _ w => w.elim) (fun c h1 hp => ?_)
  obtain ⟨hM1, hL1, f, ho1, hcc⟩ := HPo.g hCw hM hL ho0 ho hp (fun z g w => w.2.2.2)
  have hMf1 := hM1.f
  refine ww_istore [(5, _), (4, _), (0, _), (1, _), (2, _), (3, _)] dL_law_1252 (Nat.le_of_ble_eq_true rfl) rfl ?_
  refine ww_aload_n 4 dL_law_1254 rfl ?_
  refine ww_aload_n 2 dL_law_1255 rfl ?_
  refine ww_iload 1 dL_law_1256 rfl ?_
  refine ww_iconst dL_law_1258 ?_
  refine ww_iadd dL_law_1259 ?_
  refine ww_sld hX hLE hb (by omega) (by omega) hN dL_law_1260 ?_
  refine ww_aload_n 2 dL_law_1261 rfl ?_
  refine ww_iload 1 dL_law_1262 rfl ?_
  refine ww_iconst dL_law_1264 ?_
  refine ww_iadd dL_law_1265 ?_
  refine ww_sld hX hLE hb (by omega) (by omega) hN dL_law_1266 ?_
  refine ww_aload_n 2 dL_law_1267 rfl ?_
  refine ww_iload 1 dL_law_1268 rfl ?_
  refine ww_iconst dL_law_1270 ?_
  refine ww_iadd dL_law_1271 ?_
  refine ww_sld hX hLE hb (by omega) (by omega) hN dL_law_1272 ?_
  refine cr_mi hMf1 (cr_V (ct_X3_offerValue hG hMf1 hD hu1 hu2 _ _ _ scr_in scr_in scr_in) sv_L_163 rfl dL_law_1273 hMf1.obj rfl rfl rfl rfl ⟨Nat.le_of_ble_eq_true rfl, Nat.le_of_ble_eq_true rfl⟩ (Nat.le_of_ble_eq_true rfl) (by show n + 901 + 0 ≤ 659399; omega) (by show k + 16206 + 0 ≤ 6988884; omega)) (fun r9 D2 σ2 h2 hM2 hp2 => ?_)
  refine ww_istore [(6, _), (5, _), (4, _), (0, _), (1, _), (2, _), (3, _)] dL_law_1276 (Nat.le_of_ble_eq_true rfl) rfl ?_
  obtain ⟨j1, j2, j3, Bf2, bl2, eo2, cur2, hist2, k1, k2, k3, k4⟩ : JC G h1 x c0 c (σ2 0 0 0) (f 0) r9 D2 σ2 := j_c hcc (hp2.imp (fun q => ⟨⟨⟨q.1.1, q.1.2.1⟩, q.1.2.2⟩, q.2⟩) (Or.imp id (fun q => ⟨⟨⟨q.1.1, q.1.2.1⟩, q.1.2.2⟩, q.2⟩))) hR hH hB (fun g w => w.1) (fun w => by rcases w with w | w; exact w.2; exact absurd w.1 (by decide)) (fun w => by rcases w with w | w; exact absurd w.1 (by decide); exact w.2) (by rw [e1, e2]) (fun _ => Iff.rfl) (fun g hc w F q => m_offers hR hH hB w.1.1 (by have := w.1.2; omega) w.2.1 (w.2.2.1.fr F ho0 (by omega)) q.1 q.2.1 q.2.2.1 q.2.2.2 hc)
  refine lw_tail hG hM2 j1 j2 (fun _ => hM2.2.fo.at ho1 (by omega)) j3 (by show n + 901 ≤ 659399; omega) (by show k + 16206 ≤ 6988884; omega) dL_law_1278 dL_law_1279 dL_law_1282 dL_law_1284 dL_law_1289 dL_law_1291 dL_law_1294 dL_law_1295 dL_law_1296 dL_law_1297 dL_law_1299 dL_law_1300 dL_law_1301 dL_law_1306 (by decide) ?_
  exact ww_widen (n' := n + 10000) (k' := k + 100000) (by show n + 901 ≤ n + 10000; omega) (by show k + 16206 ≤ k + 100000; omega) (kk _ (LI.fin k1 hL1 ho0 ho1 hM2 k2 k3 k4))
set_option maxHeartbeats 1000000 in
/-- case 21: offerForward -/
theorem lc_21 {G : GT} {E : ET} {h : AH} {n k x m o N : Nat} {xs : Nat → Int32} {i c0 : Int} (hG : GOK G) (hLE : LE G E) (hX : va_X (gb G) N xs (g0 G) (g0 G).heap) (hN : N ≤ 384) (i0 : 0 ≤ i) (i1 : i + 6 ≤ N) (hc8 : 8 ≤ c0) (hc9 : c0 ≤ 1000) (hI : LI G h x m o c0) (hn : n + 10000 ≤ 659399) (hk : k + 100000 ≤ 6988884) (kk : ∀ h2, LI G h2 x m o (c0 + 1) → WW G E ML h2 (n + 10000) (k + 100000) 1692 (LL G x m o i) []) : WW G E ML h n k 1309 (LL G x m o i) [] := by
  obtain ⟨A, Bg, f0, D, σ, Bf, bl, eo, cur, hist, hCw, hM, hL, ⟨ho0, ho⟩, hR, hH, hB⟩ := hI
  obtain ⟨bf, hd, a, r, ys, hC⟩ := id hCw
  have hb : gb G < gz G := hG.2.2.2.2
  have hMf := hM.f
  have hu1 : 0 ≤ σ 11 0 0 := by rw [hH.1]; omega
  have hu2 : σ 11 0 0 ≤ 8 := by have := hH.1; have := hH.2.1; omega
  have hD := hR.2.1
  have e1 := hR.1.1.2.1
  have e2 := hR.1.1.2.2.1
  have hx0 := hC.1.1
  refine ww_aload_n 2 dL_law_1309 rfl ?_
  refine ww_aload_n 1 dL_law_1310 rfl ?_
  refine ww_iload 0 dL_law_1311 rfl ?_
  refine ww_iconst dL_law_1313 ?_
  refine ww_iadd dL_law_1314 ?_
  refine ww_sld hX hLE hb (by omega) (by omega) hN dL_law_1315 ?_
  refine ww_aload_n 1 dL_law_1316 rfl ?_
  refine ww_iload 0 dL_law_1317 rfl ?_
  refine ww_iconst dL_law_1319 ?_
  refine ww_iadd dL_law_1320 ?_
  refine ww_sld hX hLE hb (by omega) (by omega) hN dL_law_1321 ?_
  refine ww_aload_n 1 dL_law_1322 rfl ?_
  refine ww_iload 0 dL_law_1323 rfl ?_
  refine ww_iconst dL_law_1325 ?_
  refine ww_iadd dL_law_1326 ?_
  refine ww_sld hX hLE hb (by omega) (by omega) hN dL_law_1327 ?_
  refine ww_aload_n 4 dL_law_1328 rfl ?_
  refine cx_i (cx_SH (ct_X0_offerForward hG hC.1.2 ho0 _ _ _ (ct_X1_offerForward hG hC _ scr_in _ scr_in _ scr_in) (fun z g w => ⟨QE.wii w.2.2.1.ok w.1.1.2.1 w.1.1.2.2 w.2.1, w.2.2.2.at ho (by omega)⟩) (fun X q g w => w.1.1)) ssh_L_164 rfl dL_law_1329 rfl rfl ⟨Nat.le_of_ble_eq_true rfl, Nat.le_of_ble_eq_true rfl⟩ (Nat.le_of_ble_eq_true rfl) (by show n + 901 ≤ 659399; omega) (by show k + 16206 ≤ 6988884; omega)) (fun _ _ _ w => w.elim) (fun c h1 hp => ?_)
  obtain ⟨hM1, hL1, f, ho1, hcc⟩ := HPo.g hCw hM hL ho0 ho hp (fun z g w => w.2.2.2)
  have hMf1 := hM1.f
  refine ww_istore [(5, _), (4, _), (0, _), (1, _), (2, _), (3, _)] dL_law_1332 (Nat.le_of_ble_eq_true rfl) rfl ?_
  refine ww_aload_n 4 dL_law_1334 rfl ?_
  refine ww_aload_n 2 dL_law_1335 rfl ?_
  refine ww_iload 1 dL_law_1336 rfl ?_
  refine ww_iconst dL_law_1338 ?_
  refine ww_iadd dL_law_1339 ?_
  refine ww_sld hX hLE hb (by omega) (by omega) hN dL_law_1340 ?_
  refine ww_aload_n 2 dL_law_1341 rfl ?_
  refine ww_iload 1 dL_law_1342 rfl ?_
  refine ww_iconst dL_law_1344 ?_
  refine ww_iadd dL_law_1345 ?_
  refine ww_sld hX hLE hb (by omega) (by omega) hN dL_law_1346 ?_
  refine ww_aload_n 2 dL_law_1347 rfl ?_
  refine ww_iload 1 dL_law_1348 rfl ?_
  refine ww_iconst dL_law_1350 ?_
  refine ww_iadd dL_law_1351 ?_
  refine ww_sld hX hLE hb (by omega) (by omega) hN dL_law_1352 ?_
  refine cr_mi hMf1 (cr_V (ct_X3_offerForward hG hMf1 hD hu1 hu2 _ _ _ scr_in scr_in scr_in) sv_L_166 rfl dL_law_1353 hMf1.obj rfl rfl rfl rfl ⟨Nat.le_of_ble_eq_true rfl, Nat.le_of_ble_eq_true rfl⟩ (Nat.le_of_ble_eq_true rfl) (by show n + 901 + 0 ≤ 659399; omega) (by show k + 16206 + 0 ≤ 6988884; omega)) (fun r9 D2 σ2 h2 hM2 hp2 => ?_)
  refine ww_istore [(6, _), (5, _), (4, _), (0, _), (1, _), (2, _), (3, _)] dL_law_1356 (Nat.le_of_ble_eq_true rfl) rfl ?_
  obtain ⟨j1, j2, j3, Bf2, bl2, eo2, cur2, hist2, k1, k2, k3, k4⟩ : JC G h1 x c0 c (σ2 0 0 0) (f 0) r9 D2 σ2 := j_c1 hcc hp2 hR hH hB (fun g w => w.1) (fun w => w.2) (fun w => absurd w.1 (by decide)) (by rw [e1, e2]; exact ⟨fun q => ⟨q.1.1, q.1.2, q.2⟩, fun q => ⟨⟨q.1, q.2.1⟩, q.2.2⟩⟩) (fun g hc w F q => m_offers hR hH hB w.1.1 (by have := w.1.2; omega) w.2.1 (w.2.2.1.fr F ho0 (by omega)) q.1 q.2.1 q.2.2.1 q.2.2.2 hc)
  refine lw_tail hG hM2 j1 j2 (fun _ => hM2.2.fo.at ho1 (by omega)) j3 (by show n + 901 ≤ 659399; omega) (by show k + 16206 ≤ 6988884; omega) dL_law_1358 dL_law_1359 dL_law_1362 dL_law_1364 dL_law_1369 dL_law_1371 dL_law_1374 dL_law_1375 dL_law_1376 dL_law_1377 dL_law_1379 dL_law_1380 dL_law_1381 dL_law_1386 (by decide) ?_
  exact ww_widen (n' := n + 10000) (k' := k + 100000) (by show n + 901 ≤ n + 10000; omega) (by show k + 16206 ≤ k + 100000; omega) (kk _ (LI.fin k1 hL1 ho0 ho1 hM2 k2 k3 k4))
set_option maxHeartbeats 1000000 in
/-- case 22: withdraw -/
theorem lc_22 {G : GT} {E : ET} {h : AH} {n k x m o N : Nat} {xs : Nat → Int32} {i c0 : Int} (hG : GOK G) (hLE : LE G E) (hX : va_X (gb G) N xs (g0 G) (g0 G).heap) (hN : N ≤ 384) (i0 : 0 ≤ i) (i1 : i + 6 ≤ N) (hc8 : 8 ≤ c0) (hc9 : c0 ≤ 1000) (hI : LI G h x m o c0) (hn : n + 10000 ≤ 659399) (hk : k + 100000 ≤ 6988884) (kk : ∀ h2, LI G h2 x m o (c0 + 1) → WW G E ML h2 (n + 10000) (k + 100000) 1692 (LL G x m o i) []) : WW G E ML h n k 1389 (LL G x m o i) [] := by
  obtain ⟨A, Bg, f0, D, σ, Bf, bl, eo, cur, hist, hCw, hM, hL, ⟨ho0, ho⟩, hR, hH, hB⟩ := hI
  obtain ⟨bf, hd, a, r, ys, hC⟩ := id hCw
  have hb : gb G < gz G := hG.2.2.2.2
  have hMf := hM.f
  have hu1 : 0 ≤ σ 11 0 0 := by rw [hH.1]; omega
  have hu2 : σ 11 0 0 ≤ 8 := by have := hH.1; have := hH.2.1; omega
  have hD := hR.2.1
  have e1 := hR.1.1.2.1
  have e2 := hR.1.1.2.2.1
  have hx0 := hC.1.1
  refine ww_aload_n 2 dL_law_1389 rfl ?_
  refine ww_aload_n 1 dL_law_1390 rfl ?_
  refine ww_iload 0 dL_law_1391 rfl ?_
  refine ww_iconst dL_law_1393 ?_
  refine ww_iadd dL_law_1394 ?_
  refine ww_sld hX hLE hb (by omega) (by omega) hN dL_law_1395 ?_
  refine ww_aload_n 1 dL_law_1396 rfl ?_
  refine ww_iload 0 dL_law_1397 rfl ?_
  refine ww_iconst dL_law_1399 ?_
  refine ww_iadd dL_law_1400 ?_
  refine ww_sld hX hLE hb (by omega) (by omega) hN dL_law_1401 ?_
  refine ww_aload_n 4 dL_law_1402 rfl ?_
  refine cx_i (cx_SH (ct_X0_withdraw hG hC.1.2 ho0 _ _ (ct_X1_withdraw hG hC _ scr_in _ scr_in) (fun z g w => ⟨QE.wii w.2.2.1.ok w.1.1.2.1 w.1.1.2.2 w.2.1, w.2.2.2.at ho (by omega)⟩) (fun X q g w => by rcases w.1 with w | w; exact Or.inl w.1; exact Or.inr w.1)) ssh_L_167 rfl dL_law_1403 rfl rfl ⟨Nat.le_of_ble_eq_true rfl, Nat.le_of_ble_eq_true rfl⟩ (Nat.le_of_ble_eq_true rfl) (by show n + 903 ≤ 659399; omega) (by show k + 16220 ≤ 6988884; omega)) (fun _ _ _ w => w.elim) (fun c h1 hp => ?_)
  obtain ⟨hM1, hL1, f, ho1, hcc⟩ := HPo.g hCw hM hL ho0 ho hp (fun z g w => w.2.2.2)
  have hMf1 := hM1.f
  refine ww_istore [(5, _), (4, _), (0, _), (1, _), (2, _), (3, _)] dL_law_1406 (Nat.le_of_ble_eq_true rfl) rfl ?_
  refine ww_aload_n 4 dL_law_1408 rfl ?_
  refine ww_aload_n 2 dL_law_1409 rfl ?_
  refine ww_iload 1 dL_law_1410 rfl ?_
  refine ww_iconst dL_law_1412 ?_
  refine ww_iadd dL_law_1413 ?_
  refine ww_sld hX hLE hb (by omega) (by omega) hN dL_law_1414 ?_
  refine ww_aload_n 2 dL_law_1415 rfl ?_
  refine ww_iload 1 dL_law_1416 rfl ?_
  refine ww_iconst dL_law_1418 ?_
  refine ww_iadd dL_law_1419 ?_
  refine ww_sld hX hLE hb (by omega) (by omega) hN dL_law_1420 ?_
  refine cr_mi hMf1 (cr_V (ct_X3_withdraw hG hMf1 hD hu1 hu2 _ _ scr_in scr_in) sv_L_169 rfl dL_law_1421 hMf1.obj rfl rfl rfl rfl ⟨Nat.le_of_ble_eq_true rfl, Nat.le_of_ble_eq_true rfl⟩ (Nat.le_of_ble_eq_true rfl) (by show n + 903 + 0 ≤ 659399; omega) (by show k + 16220 + 0 ≤ 6988884; omega)) (fun r9 D2 σ2 h2 hM2 hp2 => ?_)
  refine ww_istore [(6, _), (5, _), (4, _), (0, _), (1, _), (2, _), (3, _)] dL_law_1424 (Nat.le_of_ble_eq_true rfl) rfl ?_
  obtain ⟨j1, j2, j3, Bf2, bl2, eo2, cur2, hist2, k1, k2, k3, k4⟩ : JC G h1 x c0 c (σ2 0 0 0) (f 0) r9 D2 σ2 := j_c (C2' := D (6 + 24 * scr xs (i + 1) + 12 + scr xs (i + 2)) ≠ -1) hcc (hp2.imp (fun q => ⟨⟨⟨q.1.1, q.1.2.1⟩, q.1.2.2⟩, q.2⟩) (Or.imp id (fun q => ⟨⟨⟨q.1.1, q.1.2.1⟩, fun w => w q.1.2.2⟩, q.2⟩))) hR hH hB (fun g w => w.1) (fun w => by rcases w with w | w; exact w.2; exact absurd w.1 (by decide)) (fun w => by rcases w with w | w; exact absurd w.1 (by decide); exact w.2) (by rw [e1, e2]) (fun q => by rw [hR.1.2.2.1 _ _ q.1.1 q.1.2 q.2.1 q.2.2]) (fun g hc w F q => m_offers hR hH hB w.1.1 (by omega) w.2.1 (w.2.2.1.fr F ho0 (by omega)) q.1 q.2.1 q.2.2.1 q.2.2.2 hc)
  refine lw_tail hG hM2 j1 j2 (fun _ => hM2.2.fo.at ho1 (by omega)) j3 (by show n + 903 ≤ 659399; omega) (by show k + 16220 ≤ 6988884; omega) dL_law_1426 dL_law_1427 dL_law_1430 dL_law_1432 dL_law_1437 dL_law_1439 dL_law_1442 dL_law_1443 dL_law_1444 dL_law_1445 dL_law_1447 dL_law_1448 dL_law_1449 dL_law_1454 (by decide) ?_
  exact ww_widen (n' := n + 10000) (k' := k + 100000) (by show n + 903 ≤ n + 10000; omega) (by show k + 16220 ≤ k + 100000; omega) (kk _ (LI.fin k1 hL1 ho0 ho1 hM2 k2 k3 k4))
set_option maxHeartbeats 1000000 in
/-- case 23: setTrust -/
theorem lc_23 {G : GT} {E : ET} {h : AH} {n k x m o N : Nat} {xs : Nat → Int32} {i c0 : Int} (hG : GOK G) (hLE : LE G E) (hX : va_X (gb G) N xs (g0 G) (g0 G).heap) (hN : N ≤ 384) (i0 : 0 ≤ i) (i1 : i + 6 ≤ N) (hc8 : 8 ≤ c0) (hc9 : c0 ≤ 1000) (hI : LI G h x m o c0) (hn : n + 10000 ≤ 659399) (hk : k + 100000 ≤ 6988884) (kk : ∀ h2, LI G h2 x m o (c0 + 1) → WW G E ML h2 (n + 10000) (k + 100000) 1692 (LL G x m o i) []) : WW G E ML h n k 1457 (LL G x m o i) [] := by
  obtain ⟨A, Bg, f0, D, σ, Bf, bl, eo, cur, hist, hCw, hM, hL, ⟨ho0, ho⟩, hR, hH, hB⟩ := hI
  obtain ⟨bf, hd, a, r, ys, hC⟩ := id hCw
  have hb : gb G < gz G := hG.2.2.2.2
  have hMf := hM.f
  have hu1 : 0 ≤ σ 11 0 0 := by rw [hH.1]; omega
  have hu2 : σ 11 0 0 ≤ 8 := by have := hH.1; have := hH.2.1; omega
  have hD := hR.2.1
  have e1 := hR.1.1.2.1
  have e2 := hR.1.1.2.2.1
  have hx0 := hC.1.1
  refine ww_aload_n 2 dL_law_1457 rfl ?_
  refine ww_aload_n 1 dL_law_1458 rfl ?_
  refine ww_iload 0 dL_law_1459 rfl ?_
  refine ww_iconst dL_law_1461 ?_
  refine ww_iadd dL_law_1462 ?_
  refine ww_sld hX hLE hb (by omega) (by omega) hN dL_law_1463 ?_
  refine ww_aload_n 1 dL_law_1464 rfl ?_
  refine ww_iload 0 dL_law_1465 rfl ?_
  refine ww_iconst dL_law_1467 ?_
  refine ww_iadd dL_law_1468 ?_
  refine ww_sld hX hLE hb (by omega) (by omega) hN dL_law_1469 ?_
  refine ww_aload_n 4 dL_law_1470 rfl ?_
  refine cx_i (cx_SH (ct_X0_setTrust hG hC.1.2 ho0 _ _ (ct_X1_setTrust hG hC _ scr_in _ scr_in) (fun z g w => ⟨hR.tr w.1.1 w.2.1, w.2.2.2.at ho (by omega)⟩) (fun X q g w => by rcases w.1 with w | w; exact Or.inl w.1; exact Or.inr w.1)) ssh_L_170 rfl dL_law_1471 rfl rfl ⟨Nat.le_of_ble_eq_true rfl, Nat.le_of_ble_eq_true rfl⟩ (Nat.le_of_ble_eq_true rfl) (by show n + 605 ≤ 659399; omega) (by show k + 14986 ≤ 6988884; omega)) (fun _ _ _ w => w.elim) (fun c h1 hp => ?_)
  obtain ⟨hM1, hL1, f, ho1, hcc⟩ := HPo.g hCw hM hL ho0 ho hp (fun z g w => w.2.2.2)
  have hMf1 := hM1.f
  refine ww_istore [(5, _), (4, _), (0, _), (1, _), (2, _), (3, _)] dL_law_1474 (Nat.le_of_ble_eq_true rfl) rfl ?_
  refine ww_aload_n 4 dL_law_1476 rfl ?_
  refine ww_aload_n 2 dL_law_1477 rfl ?_
  refine ww_iload 1 dL_law_1478 rfl ?_
  refine ww_iconst dL_law_1480 ?_
  refine ww_iadd dL_law_1481 ?_
  refine ww_sld hX hLE hb (by omega) (by omega) hN dL_law_1482 ?_
  refine ww_aload_n 2 dL_law_1483 rfl ?_
  refine ww_iload 1 dL_law_1484 rfl ?_
  refine ww_iconst dL_law_1486 ?_
  refine ww_iadd dL_law_1487 ?_
  refine ww_sld hX hLE hb (by omega) (by omega) hN dL_law_1488 ?_
  refine cr_mi hMf1 (cr_V (ct_X3_setTrust hG hMf1 hD hu1 hu2 _ _ scr_in scr_in) sv_L_172 rfl dL_law_1489 hMf1.obj rfl rfl rfl rfl ⟨Nat.le_of_ble_eq_true rfl, Nat.le_of_ble_eq_true rfl⟩ (Nat.le_of_ble_eq_true rfl) (by show n + 605 + 0 ≤ 659399; omega) (by show k + 14986 + 0 ≤ 6988884; omega)) (fun r9 D2 σ2 h2 hM2 hp2 => ?_)
  refine ww_istore [(6, _), (5, _), (4, _), (0, _), (1, _), (2, _), (3, _)] dL_law_1492 (Nat.le_of_ble_eq_true rfl) rfl ?_
  obtain ⟨j1, j2, j3, Bf2, bl2, eo2, cur2, hist2, k1, k2, k3, k4⟩ : JC G h1 x c0 c (σ2 0 0 0) (f 0) r9 D2 σ2 := j_c hcc hp2 hR hH hB (fun g w => w.1) (fun w => by rcases w with w | w; exact w.2; exact absurd w.1 (by decide)) (fun w => by rcases w with w | w; exact absurd w.1 (by decide); exact w.2) (by rw [e1]) (fun _ => Iff.rfl) (fun g hc w F q => m_trust hR hH hB w.1.1 w.1.2 w.2.1 (w.2.2.1.fr F ho0 (by omega)) q.1 q.2.1 q.2.2.1 q.2.2.2 hc)
  refine lw_tail hG hM2 j1 j2 (fun _ => hM2.2.fo.at ho1 (by omega)) j3 (by show n + 605 ≤ 659399; omega) (by show k + 14986 ≤ 6988884; omega) dL_law_1494 dL_law_1495 dL_law_1498 dL_law_1500 dL_law_1505 dL_law_1507 dL_law_1510 dL_law_1511 dL_law_1512 dL_law_1513 dL_law_1515 dL_law_1516 dL_law_1517 dL_law_1522 (by decide) ?_
  exact ww_widen (n' := n + 10000) (k' := k + 100000) (by show n + 605 ≤ n + 10000; omega) (by show k + 14986 ≤ k + 100000; omega) (kk _ (LI.fin k1 hL1 ho0 ho1 hM2 k2 k3 k4))
set_option maxHeartbeats 1000000 in
/-- case 25: setShare -/
theorem lc_25 {G : GT} {E : ET} {h : AH} {n k x m o N : Nat} {xs : Nat → Int32} {i c0 : Int} (hG : GOK G) (hLE : LE G E) (hX : va_X (gb G) N xs (g0 G) (g0 G).heap) (hN : N ≤ 384) (i0 : 0 ≤ i) (i1 : i + 6 ≤ N) (hc8 : 8 ≤ c0) (hc9 : c0 ≤ 1000) (hI : LI G h x m o c0) (hn : n + 10000 ≤ 659399) (hk : k + 100000 ≤ 6988884) (kk : ∀ h2, LI G h2 x m o (c0 + 1) → WW G E ML h2 (n + 10000) (k + 100000) 1692 (LL G x m o i) []) : WW G E ML h n k 1609 (LL G x m o i) [] := by
  obtain ⟨A, Bg, f0, D, σ, Bf, bl, eo, cur, hist, hCw, hM, hL, ⟨ho0, ho⟩, hR, hH, hB⟩ := hI
  obtain ⟨bf, hd, a, r, ys, hC⟩ := id hCw
  have hb : gb G < gz G := hG.2.2.2.2
  have hMf := hM.f
  have hu1 : 0 ≤ σ 11 0 0 := by rw [hH.1]; omega
  have hu2 : σ 11 0 0 ≤ 8 := by have := hH.1; have := hH.2.1; omega
  have hD := hR.2.1
  have e1 := hR.1.1.2.1
  have e2 := hR.1.1.2.2.1
  have hx0 := hC.1.1
  refine ww_aload_n 2 dL_law_1609 rfl ?_
  refine ww_aload_n 1 dL_law_1610 rfl ?_
  refine ww_iload 0 dL_law_1611 rfl ?_
  refine ww_iconst dL_law_1613 ?_
  refine ww_iadd dL_law_1614 ?_
  refine ww_sld hX hLE hb (by omega) (by omega) hN dL_law_1615 ?_
  refine ww_aload_n 4 dL_law_1616 rfl ?_
  refine cx_i (cx_SH (ct_X0_setShare hG hC.1.2 ho0 _ (ct_X1_setShare hG hC _ scr_in) (fun z g w => ⟨w.2.1.in hR.2.2.1.2.1 hR.2.2.1.1, w.2.2.2.at ho (by omega)⟩) (fun X q g w => w.1.1)) ssh_L_177 rfl dL_law_1617 rfl rfl ⟨Nat.le_of_ble_eq_true rfl, Nat.le_of_ble_eq_true rfl⟩ (Nat.le_of_ble_eq_true rfl) (by show n + 1100 ≤ 659399; omega) (by show k + 17000 ≤ 6988884; omega)) (fun _ _ _ w => w.elim) (fun c h1 hp => ?_)
  obtain ⟨hM1, hL1, f, ho1, hcc⟩ := HPo.g hCw hM hL ho0 ho hp (fun z g w => w.2.2.2)
  have hMf1 := hM1.f
  refine ww_istore [(5, _), (4, _), (0, _), (1, _), (2, _), (3, _)] dL_law_1620 (Nat.le_of_ble_eq_true rfl) rfl ?_
  refine ww_aload_n 4 dL_law_1622 rfl ?_
  refine ww_aload_n 2 dL_law_1623 rfl ?_
  refine ww_iload 1 dL_law_1624 rfl ?_
  refine ww_iconst dL_law_1626 ?_
  refine ww_iadd dL_law_1627 ?_
  refine ww_sld hX hLE hb (by omega) (by omega) hN dL_law_1628 ?_
  refine cr_mi hMf1 (cr_V (ct_X3_setShare hG hMf1 hD hu1 hu2 _ scr_in) sv_L_179 rfl dL_law_1629 hMf1.obj rfl rfl rfl rfl ⟨Nat.le_of_ble_eq_true rfl, Nat.le_of_ble_eq_true rfl⟩ (Nat.le_of_ble_eq_true rfl) (by show n + 1100 + 0 ≤ 659399; omega) (by show k + 17000 + 0 ≤ 6988884; omega)) (fun r9 D2 σ2 h2 hM2 hp2 => ?_)
  refine ww_istore [(6, _), (5, _), (4, _), (0, _), (1, _), (2, _), (3, _)] dL_law_1632 (Nat.le_of_ble_eq_true rfl) rfl ?_
  obtain ⟨j1, j2, j3, Bf2, bl2, eo2, cur2, hist2, k1, k2, k3, k4⟩ : JC G h1 x c0 c (σ2 0 0 0) (f 0) r9 D2 σ2 := j_c1 hcc hp2 hR hH hB (fun g w => w.1) (fun w => w.2) (fun w => absurd w.1 (by decide)) Iff.rfl (fun g hc w F q => m_share hR hH hB w.1 w.2.1 (w.2.2.1.fr F ho0 (by omega)) q.1 q.2.1 q.2.2.1 q.2.2.2 hc)
  refine lw_tail hG hM2 j1 j2 (fun _ => hM2.2.fo.at ho1 (by omega)) j3 (by show n + 1100 ≤ 659399; omega) (by show k + 17000 ≤ 6988884; omega) dL_law_1634 dL_law_1635 dL_law_1638 dL_law_1640 dL_law_1645 dL_law_1647 dL_law_1650 dL_law_1651 dL_law_1652 dL_law_1653 dL_law_1655 dL_law_1656 dL_law_1657 dL_law_1662 (by decide) ?_
  exact ww_widen (n' := n + 10000) (k' := k + 100000) (by show n + 1100 ≤ n + 10000; omega) (by show k + 17000 ≤ k + 100000; omega) (kk _ (LI.fin k1 hL1 ho0 ho1 hM2 k2 k3 k4))
set_option maxHeartbeats 1000000 in
/-- case 24: setKeeps -/
theorem lc_24 {G : GT} {E : ET} {h : AH} {n k x m o N : Nat} {xs : Nat → Int32} {i c0 : Int} (hG : GOK G) (hLE : LE G E) (hX : va_X (gb G) N xs (g0 G) (g0 G).heap) (hN : N ≤ 384) (i0 : 0 ≤ i) (i1 : i + 6 ≤ N) (hc8 : 8 ≤ c0) (hc9 : c0 ≤ 1000) (hI : LI G h x m o c0) (hn : n + 10000 ≤ 659399) (hk : k + 100000 ≤ 6988884) (kk : ∀ h2, LI G h2 x m o (c0 + 1) → WW G E ML h2 (n + 10000) (k + 100000) 1692 (LL G x m o i) []) : WW G E ML h n k 1525 (LL G x m o i) [] := by
  obtain ⟨A, Bg, f0, D, σ, Bf, bl, eo, cur, hist, hCw, hM, hL, ⟨ho0, ho⟩, hR, hH, hB⟩ := hI
  obtain ⟨bf, hd, a, r, ys, hC⟩ := id hCw
  have hb : gb G < gz G := hG.2.2.2.2
  have hMf := hM.f
  have hu1 : 0 ≤ σ 11 0 0 := by rw [hH.1]; omega
  have hu2 : σ 11 0 0 ≤ 8 := by have := hH.1; have := hH.2.1; omega
  have hD := hR.2.1
  have e1 := hR.1.1.2.1
  have e2 := hR.1.1.2.2.1
  have hx0 := hC.1.1
  refine ww_aload_n 2 dL_law_1525 rfl ?_
  refine ww_aload_n 1 dL_law_1526 rfl ?_
  refine ww_iload 0 dL_law_1527 rfl ?_
  refine ww_iconst dL_law_1529 ?_
  refine ww_iadd dL_law_1530 ?_
  refine ww_sld hX hLE hb (by omega) (by omega) hN dL_law_1531 ?_
  refine ww_aload_n 1 dL_law_1532 rfl ?_
  refine ww_iload 0 dL_law_1533 rfl ?_
  refine ww_iconst dL_law_1535 ?_
  refine ww_iadd dL_law_1536 ?_
  refine ww_sld hX hLE hb (by omega) (by omega) hN dL_law_1537 ?_
  refine ww_if_eq 1545 dL_law_1538 (by decide) scr_in (fun hz => ?_) (fun hz => ?_)
  · skip
    refine ww_iconst dL_law_1545 ?_
    refine ww_aload_n 4 dL_law_1546 rfl ?_
    refine cx_i (cx_SH (ct_X0_setKeeps hG hC.1.2 ho0 _ 0 (ct_X1_setKeeps hG hC _ scr_in 0 (by decide)) (fun z g w => ⟨w.2.1.in hR.2.2.1.2.1 hR.2.2.1.1, w.2.2.2.at ho (by omega)⟩) (fun X q g w => w.1.1)) ssh_L_173 rfl dL_law_1547 rfl rfl ⟨Nat.le_of_ble_eq_true rfl, Nat.le_of_ble_eq_true rfl⟩ (Nat.le_of_ble_eq_true rfl) (by show n + 1100 ≤ 659399; omega) (by show k + 17000 ≤ 6988884; omega)) (fun _ _ _ w => w.elim) (fun c h1 hp => ?_)
    obtain ⟨hM1, hL1, f, ho1, hcc⟩ := HPo.g hCw hM hL ho0 ho hp (fun z g w => w.2.2.2)
    have hMf1 := hM1.f
    refine ww_istore [(5, _), (4, _), (0, _), (1, _), (2, _), (3, _)] dL_law_1550 (Nat.le_of_ble_eq_true rfl) rfl ?_
    refine ww_aload_n 4 dL_law_1552 rfl ?_
    refine ww_aload_n 2 dL_law_1553 rfl ?_
    refine ww_iload 1 dL_law_1554 rfl ?_
    refine ww_iconst dL_law_1556 ?_
    refine ww_iadd dL_law_1557 ?_
    refine ww_sld hX hLE hb (by omega) (by omega) hN dL_law_1558 ?_
    refine ww_aload_n 2 dL_law_1559 rfl ?_
    refine ww_iload 1 dL_law_1560 rfl ?_
    refine ww_iconst dL_law_1562 ?_
    refine ww_iadd dL_law_1563 ?_
    refine ww_sld hX hLE hb (by omega) (by omega) hN dL_law_1564 ?_
    refine ww_if_eq 1572 dL_law_1565 (by decide) scr_in (fun _ => ?_) (fun w => absurd hz w)
    refine ww_iconst dL_law_1572 ?_
    refine cr_mi hMf1 (cr_V (ct_X3_setKeeps hG hMf1 hD hu1 hu2 _ 0 scr_in (inI.mk (by decide) (by decide))) sv_L_176 rfl dL_law_1573 hMf1.obj rfl rfl rfl rfl ⟨Nat.le_of_ble_eq_true rfl, Nat.le_of_ble_eq_true rfl⟩ (Nat.le_of_ble_eq_true rfl) (by show n + 1100 + 0 ≤ 659399; omega) (by show k + 17000 + 0 ≤ 6988884; omega)) (fun r9 D2 σ2 h2 hM2 hp2 => ?_)
    refine ww_istore [(6, _), (5, _), (4, _), (0, _), (1, _), (2, _), (3, _)] dL_law_1576 (Nat.le_of_ble_eq_true rfl) rfl ?_
    obtain ⟨j1, j2, j3, Bf2, bl2, eo2, cur2, hist2, k1, k2, k3, k4⟩ : JC G h1 x c0 c (σ2 0 0 0) (f 0) r9 D2 σ2 := j_c1 hcc hp2 hR hH hB (fun g w => w.1) (fun w => w.2) (fun w => absurd w.1 (by decide)) (by rw [e1]) (fun g hc w F q => m_keeps (w := 0) hR hH hB w.1 w.2.1 (w.2.2.1.fr F ho0 (by omega)) q.1 q.2.1 q.2.2.1 q.2.2.2 hc)
    refine lw_tail hG hM2 j1 j2 (fun _ => hM2.2.fo.at ho1 (by omega)) j3 (by show n + 1100 ≤ 659399; omega) (by show k + 17000 ≤ 6988884; omega) dL_law_1578 dL_law_1579 dL_law_1582 dL_law_1584 dL_law_1589 dL_law_1591 dL_law_1594 dL_law_1595 dL_law_1596 dL_law_1597 dL_law_1599 dL_law_1600 dL_law_1601 dL_law_1606 (by decide) ?_
    exact ww_widen (n' := n + 10000) (k' := k + 100000) (by show n + 1100 ≤ n + 10000; omega) (by show k + 17000 ≤ k + 100000; omega) (kk _ (LI.fin k1 hL1 ho0 ho1 hM2 k2 k3 k4))
  · skip
    refine ww_iconst dL_law_1541 ?_
    refine ww_goto 1546 dL_law_1542 (by decide) ?_
    refine ww_aload_n 4 dL_law_1546 rfl ?_
    refine cx_i (cx_SH (ct_X0_setKeeps hG hC.1.2 ho0 _ 1 (ct_X1_setKeeps hG hC _ scr_in 1 (by decide)) (fun z g w => ⟨w.2.1.in hR.2.2.1.2.1 hR.2.2.1.1, w.2.2.2.at ho (by omega)⟩) (fun X q g w => w.1.1)) ssh_L_173 rfl dL_law_1547 rfl rfl ⟨Nat.le_of_ble_eq_true rfl, Nat.le_of_ble_eq_true rfl⟩ (Nat.le_of_ble_eq_true rfl) (by show n + 1100 ≤ 659399; omega) (by show k + 17000 ≤ 6988884; omega)) (fun _ _ _ w => w.elim) (fun c h1 hp => ?_)
    obtain ⟨hM1, hL1, f, ho1, hcc⟩ := HPo.g hCw hM hL ho0 ho hp (fun z g w => w.2.2.2)
    have hMf1 := hM1.f
    refine ww_istore [(5, _), (4, _), (0, _), (1, _), (2, _), (3, _)] dL_law_1550 (Nat.le_of_ble_eq_true rfl) rfl ?_
    refine ww_aload_n 4 dL_law_1552 rfl ?_
    refine ww_aload_n 2 dL_law_1553 rfl ?_
    refine ww_iload 1 dL_law_1554 rfl ?_
    refine ww_iconst dL_law_1556 ?_
    refine ww_iadd dL_law_1557 ?_
    refine ww_sld hX hLE hb (by omega) (by omega) hN dL_law_1558 ?_
    refine ww_aload_n 2 dL_law_1559 rfl ?_
    refine ww_iload 1 dL_law_1560 rfl ?_
    refine ww_iconst dL_law_1562 ?_
    refine ww_iadd dL_law_1563 ?_
    refine ww_sld hX hLE hb (by omega) (by omega) hN dL_law_1564 ?_
    refine ww_if_eq 1572 dL_law_1565 (by decide) scr_in (fun w => absurd w hz) (fun _ => ?_)
    refine ww_iconst dL_law_1568 ?_
    refine ww_goto 1573 dL_law_1569 (by decide) ?_
    refine cr_mi hMf1 (cr_V (ct_X3_setKeeps hG hMf1 hD hu1 hu2 _ 1 scr_in (inI.mk (by decide) (by decide))) sv_L_176 rfl dL_law_1573 hMf1.obj rfl rfl rfl rfl ⟨Nat.le_of_ble_eq_true rfl, Nat.le_of_ble_eq_true rfl⟩ (Nat.le_of_ble_eq_true rfl) (by show n + 1100 + 0 ≤ 659399; omega) (by show k + 17000 + 0 ≤ 6988884; omega)) (fun r9 D2 σ2 h2 hM2 hp2 => ?_)
    refine ww_istore [(6, _), (5, _), (4, _), (0, _), (1, _), (2, _), (3, _)] dL_law_1576 (Nat.le_of_ble_eq_true rfl) rfl ?_
    obtain ⟨j1, j2, j3, Bf2, bl2, eo2, cur2, hist2, k1, k2, k3, k4⟩ : JC G h1 x c0 c (σ2 0 0 0) (f 0) r9 D2 σ2 := j_c1 hcc hp2 hR hH hB (fun g w => w.1) (fun w => w.2) (fun w => absurd w.1 (by decide)) (by rw [e1]) (fun g hc w F q => m_keeps (w := 1) hR hH hB w.1 w.2.1 (w.2.2.1.fr F ho0 (by omega)) q.1 q.2.1 q.2.2.1 q.2.2.2 hc)
    refine lw_tail hG hM2 j1 j2 (fun _ => hM2.2.fo.at ho1 (by omega)) j3 (by show n + 1100 ≤ 659399; omega) (by show k + 17000 ≤ 6988884; omega) dL_law_1578 dL_law_1579 dL_law_1582 dL_law_1584 dL_law_1589 dL_law_1591 dL_law_1594 dL_law_1595 dL_law_1596 dL_law_1597 dL_law_1599 dL_law_1600 dL_law_1601 dL_law_1606 (by decide) ?_
    exact ww_widen (n' := n + 10000) (k' := k + 100000) (by show n + 1100 ≤ n + 10000; omega) (by show k + 17000 ≤ k + 100000; omega) (kk _ (LI.fin k1 hL1 ho0 ho1 hM2 k2 k3 k4))
set_option maxHeartbeats 1000000 in
/-- case 26: undo -/
theorem lc_26 {G : GT} {E : ET} {h : AH} {n k x m o N : Nat} {xs : Nat → Int32} {i c0 : Int} (hG : GOK G) (hLE : LE G E) (hX : va_X (gb G) N xs (g0 G) (g0 G).heap) (hN : N ≤ 384) (i0 : 0 ≤ i) (i1 : i + 6 ≤ N) (hc8 : 8 ≤ c0) (hc9 : c0 ≤ 1000) (hI : LI G h x m o c0) (hn : n + 10000 ≤ 659399) (hk : k + 100000 ≤ 6988884) (kk : ∀ h2, LI G h2 x m o (c0 + 1) → WW G E ML h2 (n + 10000) (k + 100000) 1692 (LL G x m o i) []) : WW G E ML h n k 1665 (LL G x m o i) [] := by
  obtain ⟨A, Bg, f0, D, σ, Bf, bl, eo, cur, hist, hCw, hM, hL, ⟨ho0, ho⟩, hR, hH, hB⟩ := hI
  obtain ⟨bf, hd, a, r, ys, hC⟩ := id hCw
  have hb : gb G < gz G := hG.2.2.2.2
  have hMf := hM.f
  have hu1 : 0 ≤ σ 11 0 0 := by rw [hH.1]; omega
  have hu2 : σ 11 0 0 ≤ 8 := by have := hH.1; have := hH.2.1; omega
  have hD := hR.2.1
  have e1 := hR.1.1.2.1
  have e2 := hR.1.1.2.2.1
  have hx0 := hC.1.1
  refine ww_aload_n 2 dL_law_1665 rfl ?_
  refine cr_i (cr_V (ct_X1_undo hG hC) sv_L_180 rfl dL_law_1666 hC.1.2 rfl rfl rfl rfl ⟨Nat.le_of_ble_eq_true rfl, Nat.le_of_ble_eq_true rfl⟩ (Nat.le_of_ble_eq_true rfl) (by show n + 0 ≤ 659399; omega) (by show k + 0 ≤ 6988884; omega)) (fun z h1 hp => ?_)
  rcases hp with ⟨hh, rfl, rfl⟩ | ⟨hs, v, hh, rfl, hC1, F⟩
  · skip
    refine ww_aload_n 3 dL_law_1669 rfl ?_
    refine cr_mi hMf (cr_V (ct_X3_undo hG hMf hu1 hu2) sv_L_183 rfl dL_law_1670 hMf.obj rfl rfl rfl rfl ⟨Nat.le_of_ble_eq_true rfl, Nat.le_of_ble_eq_true rfl⟩ (Nat.le_of_ble_eq_true rfl) (by show n + 0 ≤ 659399; omega) (by show k + 0 ≤ 6988884; omega)) (fun r9 D2 σ2 h2 hM2 hp2 => ?_)
    obtain ⟨⟨s1, s2, s7, s10⟩, hp2⟩ := hp2
    have hl := hH.1
    rcases hp2 with ⟨u0, rfl, s11, rfl⟩ | ⟨u0, hq, s11, rfl⟩
    · refine ww_icmp_eq 1692 dL_law_1673 (by decide) (inI.mk (by decide) (by decide)) (inI.mk (by decide) (by decide)) (fun _ => ?_) (fun w => absurd rfl w)
      exact ww_widen (n' := n + 10000) (k' := k + 100000) (by show n + 0 ≤ n + 10000; omega) (by show k + 0 ≤ k + 100000; omega) (kk _ (LI.fin hCw hL ho0 ho hM2 (hR.w (by omega)) ((hH.of s10 s11).w (by omega)) (hB.of s1 s2 s7)))
    · rw [hh] at hl; exact absurd hl (by simp; omega)
  · skip
    have hMf1 := (hM.fo F (by omega)).f
    have hL1 := hL.fo F hx0
    have ho1 := F.at ho (by omega)
    have hlen : (hist.length : Int) = (hs.length : Int) + 1 := by rw [hh, List.length_append]; simp
    refine ww_aload_n 3 dL_law_1669 rfl ?_
    refine cr_mi hMf1 (cr_V (ct_X3_undo hG hMf1 hu1 hu2) sv_L_183 rfl dL_law_1670 hMf1.obj rfl rfl rfl rfl ⟨Nat.le_of_ble_eq_true rfl, Nat.le_of_ble_eq_true rfl⟩ (Nat.le_of_ble_eq_true rfl) (by show n + 0 ≤ 659399; omega) (by show k + 0 ≤ 6988884; omega)) (fun r9 D2 σ2 h2 hM2 hp2 => ?_)
    obtain ⟨⟨s1, s2, s7, s10⟩, hp2⟩ := hp2
    have hl := hH.1
    rcases hp2 with ⟨u0, rfl, s11, rfl⟩ | ⟨u0, hq, s11, rfl⟩
    · exact absurd u0 (by omega)
    · have ez : σ 11 0 0 - 1 = (hs.length : Int) := by omega
      obtain ⟨k3, k2⟩ := HsR.pop (S' := σ2) (by rw [← hh]; exact hH) s10 s11 hq
      rw [ez]
      refine ww_icmp_eq 1692 dL_law_1673 (by decide) (inI.mk (by omega) (by omega)) (inI.mk (by omega) (by omega)) (fun _ => ?_) (fun w => absurd rfl w)
      exact ww_widen (n' := n + 10000) (k' := k + 100000) (by show n + 0 ≤ n + 10000; omega) (by show k + 0 ≤ k + 100000; omega) (kk _ (LI.fin hC1 hL1 ho0 ho1 hM2 (k2.w (by omega)) (k3.w (by omega)) (hB.of s1 s2 s7)))
set_option maxHeartbeats 1000000 in
/-- case 27: checksum -/
theorem lc_27 {G : GT} {E : ET} {h : AH} {n k x m o N : Nat} {xs : Nat → Int32} {i c0 : Int} (hG : GOK G) (hLE : LE G E) (hX : va_X (gb G) N xs (g0 G) (g0 G).heap) (hN : N ≤ 384) (i0 : 0 ≤ i) (i1 : i + 6 ≤ N) (hc8 : 8 ≤ c0) (hc9 : c0 ≤ 1000) (hI : LI G h x m o c0) (hn : n + 10000 ≤ 659399) (hk : k + 100000 ≤ 6988884) (kk : ∀ h2, LI G h2 x m o (c0 + 1) → WW G E ML h2 (n + 10000) (k + 100000) 1692 (LL G x m o i) []) : WW G E ML h n k 1678 (LL G x m o i) [] := by
  obtain ⟨A, Bg, f0, D, σ, Bf, bl, eo, cur, hist, hCw, hM, hL, ⟨ho0, ho⟩, hR, hH, hB⟩ := hI
  obtain ⟨bf, hd, a, r, ys, hC⟩ := id hCw
  have hb : gb G < gz G := hG.2.2.2.2
  have hMf := hM.f
  have hu1 : 0 ≤ σ 11 0 0 := by rw [hH.1]; omega
  have hu2 : σ 11 0 0 ≤ 8 := by have := hH.1; have := hH.2.1; omega
  have hD := hR.2.1
  have e1 := hR.1.1.2.1
  have e2 := hR.1.1.2.2.1
  have hx0 := hC.1.1
  refine ww_aload_n 2 dL_law_1678 rfl ?_
  refine cr_l (cr_V (ct_X1_checksum hG hC) sv_L_184 rfl dL_law_1679 hC.1.2 rfl rfl rfl rfl ⟨Nat.le_of_ble_eq_true rfl, Nat.le_of_ble_eq_true rfl⟩ (Nat.le_of_ble_eq_true rfl) (by show n + 1300 ≤ 659399; omega) (by show k + 11400 ≤ 6988884; omega)) (fun z h1 hp => ?_)
  obtain ⟨⟨W, Wi, T, O, V, S, B, hq, rfl⟩, e⟩ := hp
  have F := e.fo (o := x) (k1 := 10570) (k2 := 10575)
  have hMf1 := (hM.fo F (by omega)).f
  have hL1 := hL.fo F hx0
  have ho1 := F.at ho (by omega)
  have hCw1 := hCw.ex e
  refine ww_aload_n 3 dL_law_1682 rfl ?_
  refine cr_sl hMf1 (cr_V (ct_X3_checksum hG hMf1 hD) sv_L_188 rfl dL_law_1683 hMf1.obj rfl rfl rfl rfl ⟨Nat.le_of_ble_eq_true rfl, Nat.le_of_ble_eq_true rfl⟩ (Nat.le_of_ble_eq_true rfl) (by show n + 1300 + 0 ≤ 659399; omega) (by show k + 11400 + 0 ≤ 6988884; omega)) (fun r9 σ2 h2 hM2 hp2 => ?_)
  obtain ⟨hkp, rfl⟩ := hp2
  rw [← (hR.1.q hR.2.2.1 hq).ck hR.1 hR.2.2.1 (QE.rg hq hR.2.2.1)]
  refine ww_lcmpE dL_law_1686 ?_
  refine ww_if_eq 1692 dL_law_1687 (by decide) (inI.mk (by decide) (by decide)) (fun _ => ?_) (fun w => absurd rfl w)
  exact ww_widen (n' := n + 10000) (k' := k + 100000) (by show n + 1300 ≤ n + 10000; omega) (by show k + 11400 ≤ k + 100000; omega) (kk _ (LI.fin hCw1 hL1 ho0 ho1 hM2 (hR.w (by omega)) ((hH.of hkp.2.2.2.1 hkp.2.2.2.2).w (by omega)) (hB.of hkp.1 hkp.2.1 hkp.2.2.1)))
set_option maxHeartbeats 1000000 in
/-- case 0: append -/
theorem lc_0 {G : GT} {E : ET} {h : AH} {n k x m o N : Nat} {xs : Nat → Int32} {i c0 : Int} (hG : GOK G) (hLE : LE G E) (hX : va_X (gb G) N xs (g0 G) (g0 G).heap) (hN : N ≤ 384) (i0 : 0 ≤ i) (i1 : i + 6 ≤ N) (hc8 : 8 ≤ c0) (hc9 : c0 ≤ 1000) (hI : LI G h x m o c0) (hn : n + 10000 ≤ 659399) (hk : k + 100000 ≤ 6988884) (kk : ∀ h2, LI G h2 x m o (c0 + 1) → WW G E ML h2 (n + 10000) (k + 100000) 1692 (LL G x m o i) []) : WW G E ML h n k 168 (LL G x m o i) [] := by
  obtain ⟨A, Bg, f0, D, σ, Bf, bl, eo, cur, hist, hCw, hM, hL, ⟨ho0, ho⟩, hR, hH, hB⟩ := hI
  obtain ⟨bf, hd, a, r, ys, hC⟩ := id hCw
  have hb : gb G < gz G := hG.2.2.2.2
  have hMf := hM.f
  have hu1 : 0 ≤ σ 11 0 0 := by rw [hH.1]; omega
  have hu2 : σ 11 0 0 ≤ 8 := by have := hH.1; have := hH.2.1; omega
  have hD := hR.2.1
  have e1 := hR.1.1.2.1
  have e2 := hR.1.1.2.2.1
  have hx0 := hC.1.1
  refine ww_aload_n 2 dL_law_168 rfl ?_
  refine ww_aload_n 1 dL_law_169 rfl ?_
  refine ww_iload 0 dL_law_170 rfl ?_
  refine ww_iconst dL_law_172 ?_
  refine ww_iadd dL_law_173 ?_
  refine ww_sld hX hLE hb (by omega) (by omega) hN dL_law_174 ?_
  refine ww_aload_n 1 dL_law_175 rfl ?_
  refine ww_iload 0 dL_law_176 rfl ?_
  refine ww_iconst dL_law_178 ?_
  refine ww_iadd dL_law_179 ?_
  refine ww_sld hX hLE hb (by omega) (by omega) hN dL_law_180 ?_
  refine ww_aload_n 1 dL_law_181 rfl ?_
  refine ww_iload 0 dL_law_182 rfl ?_
  refine ww_iconst dL_law_184 ?_
  refine ww_iadd dL_law_185 ?_
  refine ww_sld hX hLE hb (by omega) (by omega) hN dL_law_186 ?_
  refine ww_aload_n 1 dL_law_187 rfl ?_
  refine ww_iload 0 dL_law_188 rfl ?_
  refine ww_iconst dL_law_190 ?_
  refine ww_iadd dL_law_191 ?_
  refine ww_sld hX hLE hb (by omega) (by omega) hN dL_law_192 ?_
  refine ww_aload_n 1 dL_law_193 rfl ?_
  refine ww_iload 0 dL_law_194 rfl ?_
  refine ww_iconst dL_law_196 ?_
  refine ww_iadd dL_law_197 ?_
  refine ww_sld hX hLE hb (by omega) (by omega) hN dL_law_198 ?_
  refine cr_i (cr_V (ct_X1_append hG hC _ _ _ _ _ scr_in scr_in scr_in scr_in scr_in) sv_L_86 rfl dL_law_199 hC.1.2 rfl rfl rfl rfl ⟨Nat.le_of_ble_eq_true rfl, Nat.le_of_ble_eq_true rfl⟩ (Nat.le_of_ble_eq_true rfl) (by show n + 0 ≤ 659399; omega) (by show k + 0 ≤ 6988884; omega)) (fun z h1 hp => ?_)
  rcases hp with ⟨hbl, rfl, rfl⟩ | ⟨hbl, rfl, B2, hC1, hb1, hb2, F⟩
  · skip
    refine ww_aload_n 3 dL_law_202 rfl ?_
    refine ww_aload_n 1 dL_law_203 rfl ?_
    refine ww_iload 0 dL_law_204 rfl ?_
    refine ww_iconst dL_law_206 ?_
    refine ww_iadd dL_law_207 ?_
    refine ww_sld hX hLE hb (by omega) (by omega) hN dL_law_208 ?_
    refine ww_aload_n 1 dL_law_209 rfl ?_
    refine ww_iload 0 dL_law_210 rfl ?_
    refine ww_iconst dL_law_212 ?_
    refine ww_iadd dL_law_213 ?_
    refine ww_sld hX hLE hb (by omega) (by omega) hN dL_law_214 ?_
    refine ww_aload_n 1 dL_law_215 rfl ?_
    refine ww_iload 0 dL_law_216 rfl ?_
    refine ww_iconst dL_law_218 ?_
    refine ww_iadd dL_law_219 ?_
    refine ww_sld hX hLE hb (by omega) (by omega) hN dL_law_220 ?_
    refine ww_aload_n 1 dL_law_221 rfl ?_
    refine ww_iload 0 dL_law_222 rfl ?_
    refine ww_iconst dL_law_224 ?_
    refine ww_iadd dL_law_225 ?_
    refine ww_sld hX hLE hb (by omega) (by omega) hN dL_law_226 ?_
    refine ww_aload_n 1 dL_law_227 rfl ?_
    refine ww_iload 0 dL_law_228 rfl ?_
    refine ww_iconst dL_law_230 ?_
    refine ww_iadd dL_law_231 ?_
    refine ww_sld hX hLE hb (by omega) (by omega) hN dL_law_232 ?_
    refine cr_si hMf (cr_V (ct_X3_append hG hMf (by have := hB.1; have := hB.2.1; omega) (by have := hB.1; have := hB.2.1; omega) _ _ _ _ _ scr_in scr_in scr_in scr_in scr_in) sv_L_90 rfl dL_law_233 hMf.obj rfl rfl rfl rfl ⟨Nat.le_of_ble_eq_true rfl, Nat.le_of_ble_eq_true rfl⟩ (Nat.le_of_ble_eq_true rfl) (by show n + 0 ≤ 659399; omega) (by show k + 0 ≤ 6988884; omega)) (fun r9 σ2 h2 hM2 hp2 => ?_)
    obtain ⟨hs, hp2⟩ := hp2
    have hl := hB.1
    have hl2 := hB.2.1
    rcases hp2 with ⟨u0, s1, s2, rfl⟩ | ⟨u0, s2, s3, s4, rfl⟩
    · refine ww_icmp_eq 1692 dL_law_236 (by decide) (inI.mk (by decide) (by decide)) (inI.mk (by decide) (by decide)) (fun _ => ?_) (fun w => absurd rfl w)
      exact ww_widen (n' := n + 10000) (k' := k + 100000) (by show n + 0 ≤ n + 10000; omega) (by show k + 0 ≤ k + 100000; omega) (kk _ (LI.fin hCw hL ho0 ho hM2 (hR.w (by omega)) ((hH.of (hs 10 (by decide) (by decide) (by decide)) (hs 11 (by decide) (by decide) (by decide))).w (by omega)) (hB.of s1 s2 (hs 7 (by decide) (by decide) (by decide)))))
    · exact absurd u0 (by omega)
  · skip
    have hMf1 := (hM.fo F (by omega)).f
    have hL1 := hL.fo F hx0
    have ho1 := F.at ho (by omega)
    refine ww_aload_n 3 dL_law_202 rfl ?_
    refine ww_aload_n 1 dL_law_203 rfl ?_
    refine ww_iload 0 dL_law_204 rfl ?_
    refine ww_iconst dL_law_206 ?_
    refine ww_iadd dL_law_207 ?_
    refine ww_sld hX hLE hb (by omega) (by omega) hN dL_law_208 ?_
    refine ww_aload_n 1 dL_law_209 rfl ?_
    refine ww_iload 0 dL_law_210 rfl ?_
    refine ww_iconst dL_law_212 ?_
    refine ww_iadd dL_law_213 ?_
    refine ww_sld hX hLE hb (by omega) (by omega) hN dL_law_214 ?_
    refine ww_aload_n 1 dL_law_215 rfl ?_
    refine ww_iload 0 dL_law_216 rfl ?_
    refine ww_iconst dL_law_218 ?_
    refine ww_iadd dL_law_219 ?_
    refine ww_sld hX hLE hb (by omega) (by omega) hN dL_law_220 ?_
    refine ww_aload_n 1 dL_law_221 rfl ?_
    refine ww_iload 0 dL_law_222 rfl ?_
    refine ww_iconst dL_law_224 ?_
    refine ww_iadd dL_law_225 ?_
    refine ww_sld hX hLE hb (by omega) (by omega) hN dL_law_226 ?_
    refine ww_aload_n 1 dL_law_227 rfl ?_
    refine ww_iload 0 dL_law_228 rfl ?_
    refine ww_iconst dL_law_230 ?_
    refine ww_iadd dL_law_231 ?_
    refine ww_sld hX hLE hb (by omega) (by omega) hN dL_law_232 ?_
    refine cr_si hMf1 (cr_V (ct_X3_append hG hMf1 (by have := hB.1; have := hB.2.1; omega) (by have := hB.1; have := hB.2.1; omega) _ _ _ _ _ scr_in scr_in scr_in scr_in scr_in) sv_L_90 rfl dL_law_233 hMf1.obj rfl rfl rfl rfl ⟨Nat.le_of_ble_eq_true rfl, Nat.le_of_ble_eq_true rfl⟩ (Nat.le_of_ble_eq_true rfl) (by show n + 0 ≤ 659399; omega) (by show k + 0 ≤ 6988884; omega)) (fun r9 σ2 h2 hM2 hp2 => ?_)
    obtain ⟨hs, hp2⟩ := hp2
    have hl := hB.1
    have hl2 := hB.2.1
    rcases hp2 with ⟨u0, s1, s2, rfl⟩ | ⟨u0, s2, s3, s4, rfl⟩
    · exact absurd u0 (by omega)
    · rw [hl]
      refine ww_icmp_eq 1692 dL_law_236 (by decide) (inI.mk (by omega) (by omega)) (inI.mk (by omega) (by omega)) (fun _ => ?_) (fun w => absurd rfl w)
      exact ww_widen (n' := n + 10000) (k' := k + 100000) (by show n + 0 ≤ n + 10000; omega) (by show k + 0 ≤ k + 100000; omega) (kk _ (LI.fin hC1.cw hL1 ho0 ho1 hM2 (hR.w (by omega)) ((hH.of (hs 10 (by decide) (by decide) (by decide)) (hs 11 (by decide) (by decide) (by decide))).w (by omega)) (HsR.app hB hbl (hs 7 (by decide) (by decide) (by decide)) s2 s3 s4 hb1 hb2)))
