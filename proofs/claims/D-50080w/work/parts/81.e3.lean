set_option maxRecDepth 100000
set_option maxHeartbeats 4000000 in
theorem ct_X8_init {G : GT} {h : AH} (hG : GOK G) {a r : Nat} {nm : List (List Int)} {lb : List LV} {of : Int → Int → Int} {ld : List Int} {sh : Int} {fn : EF} (hS : HS G h a r nm lb of ld sh fn) {e : Nat} (he0 : e ≠ 0) (he : h e = some ((e, 10600), ob 7 [.null, .null, .null, .null, .null, .null, .null, .null])) (hN12 : nm.length ≤ 12) (hld : ∀ x ∈ ld, 0 ≤ x ∧ x < lb.length) (hpf : ∀ v ∈ lb, ∀ x ∈ v.2.2.2, 0 ≤ x ∧ x < lb.length) (htr : ∀ v ∈ lb, 0 ≤ v.2.1 ∧ v.2.1 ≤ 999) (hof : ∀ k n : Int, inI (of k n)) (hsh : 0 ≤ sh ∧ sh ≤ 100) : CT G (MX8_init 1603 51400 240 840) h [.ref e, .ref a] (pV (fun h' => EL G h' e a nm.length lb of ld sh fn ∧ FO e 10600 10690 h h')) := by
  refine CT.of rfl hG (Nat.le_of_ble_eq_true rfl) rfl (fun E hQ => ?_)
  have hFx : FO e 10600 10690 h h := FO.rf
  obtain ⟨nl, al, am, ll, w, nx, lx, dx, ha0, hr0, ha, hR, hM, h8⟩ := id hS
  have hL8 := h8
  have hLN : lb.length * nm.length ≤ 96 := Nat.mul_le_mul hL8 hN12
  have hlx := hR.2.1.2.1
  have hnx := hR.1.2.len
  obtain ⟨fsA, hao⟩ := hR.2.1.1.obj
  obtain ⟨fsN, hno⟩ := hR.1.1.obj
  refine ww_aload_n 0 dX8_init_0 rfl ?_
  refine ww_objInit q730 q128 q129 rfl dX8_init_1 (Nat.le_of_ble_eq_true rfl) (Nat.le_of_ble_eq_true rfl) ?_
  refine ww_aload_n 0 dX8_init_4 rfl ?_
  refine ww_aload_n 1 dX8_init_5 rfl ?_
  refine wx_putF pf_X8_9 rfl rfl dX8_init_6 he he0 (Nat.le_of_ble_eq_true rfl) rfl rfl (fun h_6 he f_6 => ?_)
  have ha := f_6.at ha (by omega)
  have hao := f_6.at hao (by omega)
  have hno := f_6.at hno (by omega)
  have hFx := hFx.kt f_6 ⟨rfl, by omega, by omega⟩
  have hS := hS.fo (KT.fo f_6) he0 (by omega)
  have hR := hR.fo (KT.fo f_6) he0 h8 (by omega)
  refine ww_aload_n 1 dX8_init_9 rfl ?_
  refine ww_getf gf_X8_15 rfl dX8_init_10 ha rfl ?_
  refine cr5_pi (cr_F (ct_J3_size hG hR.2.1.1) sf_X8_21 rfl dX8_init_13 hao rfl rfl rfl rfl ⟨by decide, by decide⟩ (Nat.le_of_ble_eq_true rfl) (Nat.le_of_ble_eq_true rfl) (Nat.le_of_ble_eq_true rfl)) ?_
  rw [hlx]
  refine ww_istore_n [(2, _), (0, _), (1, _)] dX8_init_18 (by decide) rfl ?_
  refine ww_aload_n 2 dX8_init_19 rfl ?_
  refine ww_getf gf_X8_27 rfl dX8_init_20 ha rfl ?_
  refine cr5_pi (cr_F (ct_J3_size hG hR.1.1) sf_X8_21 rfl dX8_init_23 hno rfl rfl rfl rfl ⟨by decide, by decide⟩ (Nat.le_of_ble_eq_true rfl) (Nat.le_of_ble_eq_true rfl) (Nat.le_of_ble_eq_true rfl)) ?_
  rw [hnx]
  refine ww_widen (n' := 0) (k' := 0) (Nat.le_of_ble_eq_true rfl) (Nat.le_of_ble_eq_true rfl) ?_
  refine ww_istore_n [(3, _), (2, _), (0, _), (1, _)] dX8_init_28 (by decide) rfl ?_
  refine ww_aload_n 2 dX8_init_29 rfl ?_
  refine ww_iload_n 1 dX8_init_30 rfl ?_
  refine wx_newA (N := lb.length) (j := 0) (atype := .int) (fun _ => (e, 10601)) rfl (by omega) q794 rfl (fun _ x => x) rfl (by decide) dX8_init_31 (fun q hq => ⟨he0, Nat.le_of_lt (hq.2 _ _ _ he).1⟩) (by show 0 + 1 ≤ 240; omega) (by show 0 + lb.length ≤ 840; omega) (fun q_31 h_31 n_31 e_31 h1 => ?_)
  have he := e_31 _ _ he
  have ha := e_31 _ _ ha
  have hao := e_31 _ _ hao
  have hno := e_31 _ _ hno
  have hFx := hFx.ex e_31
  have hS := hS.ex e_31
  have hR := hR.ex e_31
  refine wx_putF pf_X8_30 rfl rfl dX8_init_33 he he0 (Nat.le_of_ble_eq_true rfl) rfl rfl (fun h_33 he f_33 => ?_)
  have ha := f_33.at ha (by omega)
  have hao := f_33.at hao (by omega)
  have hno := f_33.at hno (by omega)
  have h1 := f_33.at h1 (by omega)
  have hFx := hFx.kt f_33 ⟨rfl, by omega, by omega⟩
  have hS := hS.fo (KT.fo f_33) he0 (by omega)
  have hR := hR.fo (KT.fo f_33) he0 h8 (by omega)
  refine ww_aload_n 2 dX8_init_36 rfl ?_
  refine ww_iload_n 0 dX8_init_37 rfl ?_
  refine wx_newA (N := nm.length) (j := 0) (atype := .int) (fun _ => (e, 10602)) rfl (by omega) q794 rfl (fun _ x => x) rfl (by decide) dX8_init_38 (fun q hq => ⟨he0, Nat.le_of_lt (hq.2 _ _ _ he).1⟩) (by show 0 + 1 + 1 ≤ 240; omega) (by show 0 + lb.length + nm.length ≤ 840; omega) (fun q_38 h_38 n_38 e_38 h2 => ?_)
  have he := e_38 _ _ he
  have ha := e_38 _ _ ha
  have hao := e_38 _ _ hao
  have hno := e_38 _ _ hno
  have h1 := e_38 _ _ h1
  have hFx := hFx.ex e_38
  have hS := hS.ex e_38
  have hR := hR.ex e_38
  refine wx_putF pf_X8_34 rfl rfl dX8_init_40 he he0 (Nat.le_of_ble_eq_true rfl) rfl rfl (fun h_40 he f_40 => ?_)
  have ha := f_40.at ha (by omega)
  have hao := f_40.at hao (by omega)
  have hno := f_40.at hno (by omega)
  have h1 := f_40.at h1 (by omega)
  have h2 := f_40.at h2 (by omega)
  have hFx := hFx.kt f_40 ⟨rfl, by omega, by omega⟩
  have hS := hS.fo (KT.fo f_40) he0 (by omega)
  have hR := hR.fo (KT.fo f_40) he0 h8 (by omega)
  refine ww_aload_n 2 dX8_init_43 rfl ?_
  refine ww_iload_n 0 dX8_init_44 rfl ?_
  refine wx_newA (N := nm.length) (j := 0) (atype := .int) (fun _ => (e, 10603)) rfl (by omega) q794 rfl (fun _ x => x) rfl (by decide) dX8_init_45 (fun q hq => ⟨he0, Nat.le_of_lt (hq.2 _ _ _ he).1⟩) (by show 0 + 1 + 1 + 1 ≤ 240; omega) (by show 0 + lb.length + nm.length + nm.length ≤ 840; omega) (fun q_45 h_45 n_45 e_45 h3 => ?_)
  have he := e_45 _ _ he
  have ha := e_45 _ _ ha
  have hao := e_45 _ _ hao
  have hno := e_45 _ _ hno
  have h1 := e_45 _ _ h1
  have h2 := e_45 _ _ h2
  have hFx := hFx.ex e_45
  have hS := hS.ex e_45
  have hR := hR.ex e_45
  refine wx_putF pf_X8_37 rfl rfl dX8_init_47 he he0 (Nat.le_of_ble_eq_true rfl) rfl rfl (fun h_47 he f_47 => ?_)
  have ha := f_47.at ha (by omega)
  have hao := f_47.at hao (by omega)
  have hno := f_47.at hno (by omega)
  have h1 := f_47.at h1 (by omega)
  have h2 := f_47.at h2 (by omega)
  have h3 := f_47.at h3 (by omega)
  have hFx := hFx.kt f_47 ⟨rfl, by omega, by omega⟩
  have hS := hS.fo (KT.fo f_47) he0 (by omega)
  have hR := hR.fo (KT.fo f_47) he0 h8 (by omega)
  refine ww_widen (n' := 3) (k' := 32) (by omega) (by omega) ?_
  refine ww_aload_n 2 dX8_init_50 rfl ?_
  refine ww_iload_n 1 dX8_init_51 rfl ?_
  refine ww_iload_n 0 dX8_init_52 rfl ?_
  refine wx_multi (kk0 := 10610) rfl rfl hL8 hN12 q733 q734 q794 rfl dX8_init_53 he0 he (by show 3 + (1 + lb.length) ≤ 240; omega) (by show 32 + (lb.length + lb.length * nm.length) ≤ 840; omega) (fun y4 RO h_53 e_53 hO => ?_)
  have he := e_53 _ _ he
  have ha := e_53 _ _ ha
  have hao := e_53 _ _ hao
  have hno := e_53 _ _ hno
  have h1 := e_53 _ _ h1
  have h2 := e_53 _ _ h2
  have h3 := e_53 _ _ h3
  have hFx := hFx.ex e_53
  have hS := hS.ex e_53
  have hR := hR.ex e_53
  refine wx_putF pf_X8_42 rfl rfl dX8_init_57 he he0 (Nat.le_of_ble_eq_true rfl) rfl rfl (fun h_57 he f_57 => ?_)
  have ha := f_57.at ha (by omega)
  have hao := f_57.at hao (by omega)
  have hno := f_57.at hno (by omega)
  have h1 := f_57.at h1 (by omega)
  have h2 := f_57.at h2 (by omega)
  have h3 := f_57.at h3 (by omega)
  have hFx := hFx.kt f_57 ⟨rfl, by omega, by omega⟩
  have hS := hS.fo (KT.fo f_57) he0 (by omega)
  have hR := hR.fo (KT.fo f_57) he0 h8 (by omega)
  have hO := hO.kt f_57 hL8 (by omega)
  refine ww_widen (n' := 12) (k' := 136) (by omega) (by omega) ?_
  refine ww_aload_n 2 dX8_init_60 rfl ?_
  refine ww_iload_n 1 dX8_init_61 rfl ?_
  refine ww_iload_n 0 dX8_init_62 rfl ?_
  refine wx_multi (kk0 := 10630) rfl rfl hL8 hN12 q733 q734 q794 rfl dX8_init_63 he0 he (by show 12 + (1 + lb.length) ≤ 240; omega) (by show 136 + (lb.length + lb.length * nm.length) ≤ 840; omega) (fun y5 RV h_63 e_63 hV => ?_)
  have he := e_63 _ _ he
  have ha := e_63 _ _ ha
  have hao := e_63 _ _ hao
  have hno := e_63 _ _ hno
  have h1 := e_63 _ _ h1
  have h2 := e_63 _ _ h2
  have h3 := e_63 _ _ h3
  have hFx := hFx.ex e_63
  have hS := hS.ex e_63
  have hR := hR.ex e_63
  have hO := hO.ex e_63
  refine wx_putF pf_X8_45 rfl rfl dX8_init_67 he he0 (Nat.le_of_ble_eq_true rfl) rfl rfl (fun h_67 he f_67 => ?_)
  have ha := f_67.at ha (by omega)
  have hao := f_67.at hao (by omega)
  have hno := f_67.at hno (by omega)
  have h1 := f_67.at h1 (by omega)
  have h2 := f_67.at h2 (by omega)
  have h3 := f_67.at h3 (by omega)
  have hFx := hFx.kt f_67 ⟨rfl, by omega, by omega⟩
  have hS := hS.fo (KT.fo f_67) he0 (by omega)
  have hR := hR.fo (KT.fo f_67) he0 h8 (by omega)
  have hO := hO.kt f_67 hL8 (by omega)
  have hV := hV.kt f_67 hL8 (by omega)
  refine ww_widen (n' := 21) (k' := 240) (by omega) (by omega) ?_
  refine ww_aload_n 2 dX8_init_70 rfl ?_
  refine ww_iload_n 1 dX8_init_71 rfl ?_
  refine ww_iload_n 0 dX8_init_72 rfl ?_
  refine wx_multi (kk0 := 10650) rfl rfl hL8 hN12 q733 q734 q794 rfl dX8_init_73 he0 he (by show 21 + (1 + lb.length) ≤ 240; omega) (by show 240 + (lb.length + lb.length * nm.length) ≤ 840; omega) (fun y6 RS h_73 e_73 hS6 => ?_)
  have he := e_73 _ _ he
  have ha := e_73 _ _ ha
  have hao := e_73 _ _ hao
  have hno := e_73 _ _ hno
  have h1 := e_73 _ _ h1
  have h2 := e_73 _ _ h2
  have h3 := e_73 _ _ h3
  have hFx := hFx.ex e_73
  have hS := hS.ex e_73
  have hR := hR.ex e_73
  have hO := hO.ex e_73
  have hV := hV.ex e_73
  refine wx_putF pf_X8_48 rfl rfl dX8_init_77 he he0 (Nat.le_of_ble_eq_true rfl) rfl rfl (fun h_77 he f_77 => ?_)
  have ha := f_77.at ha (by omega)
  have hao := f_77.at hao (by omega)
  have hno := f_77.at hno (by omega)
  have h1 := f_77.at h1 (by omega)
  have h2 := f_77.at h2 (by omega)
  have h3 := f_77.at h3 (by omega)
  have hFx := hFx.kt f_77 ⟨rfl, by omega, by omega⟩
  have hS := hS.fo (KT.fo f_77) he0 (by omega)
  have hR := hR.fo (KT.fo f_77) he0 h8 (by omega)
  have hO := hO.kt f_77 hL8 (by omega)
  have hV := hV.kt f_77 hL8 (by omega)
  have hS6 := hS6.kt f_77 hL8 (by omega)
  refine ww_widen (n' := 30) (k' := 344) (by omega) (by omega) ?_
  refine ww_aload_n 2 dX8_init_80 rfl ?_
  refine ww_iload_n 1 dX8_init_81 rfl ?_
  refine ww_iload_n 0 dX8_init_82 rfl ?_
  refine wx_multi (kk0 := 10670) rfl rfl hL8 hN12 q733 q734 q794 rfl dX8_init_83 he0 he (by show 30 + (1 + lb.length) ≤ 240; omega) (by show 344 + (lb.length + lb.length * nm.length) ≤ 840; omega) (fun y7 RB h_83 e_83 hB => ?_)
  have he := e_83 _ _ he
  have ha := e_83 _ _ ha
  have hao := e_83 _ _ hao
  have hno := e_83 _ _ hno
  have h1 := e_83 _ _ h1
  have h2 := e_83 _ _ h2
  have h3 := e_83 _ _ h3
  have hFx := hFx.ex e_83
  have hS := hS.ex e_83
  have hR := hR.ex e_83
  have hO := hO.ex e_83
  have hV := hV.ex e_83
  have hS6 := hS6.ex e_83
  refine wx_putF pf_X8_51 rfl rfl dX8_init_87 he he0 (Nat.le_of_ble_eq_true rfl) rfl rfl (fun h_87 he f_87 => ?_)
  have ha := f_87.at ha (by omega)
  have hao := f_87.at hao (by omega)
  have hno := f_87.at hno (by omega)
  have h1 := f_87.at h1 (by omega)
  have h2 := f_87.at h2 (by omega)
  have h3 := f_87.at h3 (by omega)
  have hFx := hFx.kt f_87 ⟨rfl, by omega, by omega⟩
  have hS := hS.fo (KT.fo f_87) he0 (by omega)
  have hR := hR.fo (KT.fo f_87) he0 h8 (by omega)
  have hO := hO.kt f_87 hL8 (by omega)
  have hV := hV.kt f_87 hL8 (by omega)
  have hS6 := hS6.kt f_87 hL8 (by omega)
  have hB := hB.kt f_87 hL8 (by omega)
  refine ww_widen (n' := 39) (k' := 448) (by omega) (by omega) ?_
  refine ww_iconst dX8_init_90 ?_
  refine ww_istore [(4, _), (3, _), (2, _), (0, _), (1, _)] dX8_init_91 (by decide) rfl ?_
  have loop_93 : ∀ (f : Nat) (j : Nat) (hx : AH) (W : Int → Int) (O : Int → Int → Int), (FO e 10600 10690 h hx) → (HS G hx a r nm lb of ld sh fn) → (EO G hx e a q_31 q_38 q_45 y4 y5 y6 y7 lb.length nm.length W (fun _ => 0) (fun _ => 0)) → (EAr G 6 0 hx e y4 10610 lb.length nm.length RO O) → (EAr G 6 0 hx e y5 10630 lb.length nm.length RV (fun _ _ => 0)) → (EAr G 6 0 hx e y6 10650 lb.length nm.length RS (fun _ _ => 0)) → (EAr G 6 0 hx e y7 10670 lb.length nm.length RB (fun _ _ => 0)) → (∀ k : Int, 0 ≤ k → k < j → W k = hWt nm.length lb of ld fn k) → (∀ i : Int, -1 ≤ W i ∧ W i ≤ 9999) → (∀ k n : Int, 0 ≤ k → k < j → 0 ≤ n → n < nm.length → O k n = of k n) → (∀ i j : Int, inI (O i j)) → (j ≤ lb.length) → (lb.length - j < f) → WW G E (MX8_init 1603 51400 240 840) hx (39 + 24 * j) (448 + 48 * j) 93 [(0, .ref e), (1, .ref a), (2, .int (iI (lb.length : Int))), (3, .int (iI (nm.length : Int))), (4, .int (iI (j : Int)))] [] := by
    intro f
    induction f with
    | zero => intro j hx W O hFx hS hE hO hV hS6 hB hWj hW hOj hOi hj hf; exact absurd hf (by omega)
    | succ f ih =>
      intro j hx W O hFx hS hE hO hV hS6 hB hWj hW hOj hOi hj hf
      obtain ⟨nl, al, am, ll, w, nx, lx, dx, ha0, hr0, ha, hR, hM, h8⟩ := id hS
      obtain ⟨-, hL8, hN12, he, h1, h2, h3⟩ := id hE
      obtain ⟨fsA, hao⟩ := hR.2.1.1.obj
      obtain ⟨fsN, hno⟩ := hR.1.1.obj
      refine ww_iload 4 dX8_init_93 rfl ?_
      refine ww_iload_n 2 dX8_init_95 rfl ?_
      refine ww_icmp_ge 151 dX8_init_96 (by decide) (inI.mk (by omega) (by omega)) (inI.mk (by omega) (by omega)) (fun c_96 => ?_) (fun c_96 => ?_)
      · have ej : j = lb.length := by omega
        subst ej
        refine ww_iconst dX8_init_151 ?_
        refine ww_istore [(4, _), (0, _), (1, _), (2, _), (3, _)] dX8_init_152 (by decide) rfl ?_
        have loop_154 : ∀ (f : Nat) (j : Nat) (hx : AH) (Wi T : Int → Int) (V S B : Int → Int → Int), (FO e 10600 10690 h hx) → (HS G hx a r nm lb of ld sh fn) → (EO G hx e a q_31 q_38 q_45 y4 y5 y6 y7 lb.length nm.length W Wi T) → (EAr G 6 0 hx e y4 10610 lb.length nm.length RO O) → (EAr G 6 0 hx e y5 10630 lb.length nm.length RV V) → (EAr G 6 0 hx e y6 10650 lb.length nm.length RS S) → (EAr G 6 0 hx e y7 10670 lb.length nm.length RB B) → (∀ n : Int, 0 ≤ n → n < j → Hld W O lb ld sh n V S B T Wi) → (∀ n : Int, j ≤ n → (∀ c : Int, S c n = 0) ∧ T n = 0) → (j ≤ nm.length) → (nm.length - j < f) → WW G E (MX8_init 1603 51400 240 840) hx 231 832 154 [(0, .ref e), (3, .int (iI (nm.length : Int))), (4, .int (iI (j : Int)))] [] := by
          intro f
          induction f with
          | zero => intro j hx Wi T V S B hFx hS hE hO hV hS6 hB hdn hzr hj hf; exact absurd hf (by omega)
          | succ f ih =>
            intro j hx Wi T V S B hFx hS hE hO hV hS6 hB hdn hzr hj hf
            obtain ⟨nl, al, am, ll, w, nx, lx, dx, ha0, hr0, ha, hR, hM, h8⟩ := id hS
            obtain ⟨-, hL8, hN12, he, h1, h2, h3⟩ := id hE
            obtain ⟨fsA, hao⟩ := hR.2.1.1.obj
            obtain ⟨fsN, hno⟩ := hR.1.1.obj
            refine ww_iload 2 dX8_init_154 rfl ?_
            refine ww_iload_n 1 dX8_init_156 rfl ?_
            refine ww_icmp_ge 172 dX8_init_157 (by decide) (inI.mk (by omega) (by omega)) (inI.mk (by omega) (by omega)) (fun c_157 => ?_) (fun c_157 => ?_)
            · have ej2 : j = nm.length := by omega
              subst ej2
              exact ww_vret hQ dX8_init_172 rfl (by show 231 ≤ 240; omega) (by show 832 ≤ 840; omega) ⟨rfl, ⟨q_31, q_38, q_45, y4, y5, y6, y7, RO, RV, RS, RB, W, Wi, T, O, V, S, B, ⟨hE, hO, hV, hS6, hB⟩, hWj, hW, hOj, hOi, fun n n0 n1 => hdn n n0 (by omega)⟩, hFx⟩
            · refine ww_aload_n 0 dX8_init_160 rfl ?_
              refine ww_iload 2 dX8_init_161 rfl ?_
              refine cr_v (cr_V (ct_X8_hold hG hS hE hW hO hOi hV hS6 hB hpf hld hsh (j : Int) (by omega) (by omega) (fun c _ _ => (hzr (j : Int) (by omega)).1 c) (hzr (j : Int) (by omega)).2) sv_X8_62 rfl dX8_init_163 he rfl rfl rfl rfl ⟨by decide, by decide⟩ (Nat.le_of_ble_eq_true rfl) (by show 231 + 0 ≤ 240; omega) (by show 832 + 0 ≤ 840; omega)) (fun h_163 hp_163 => ?_)
              obtain ⟨V2, S2, T2, Wi2, B2, hE, hO, hV, hS6, hB, hH, c1, c2, c3, c4, c5, f_163⟩ := hp_163
              have hFx := hFx.tr f_163
              have hS := hS.fo f_163 he0 (by omega)
              refine ww_iinc (j := 2) [(4, _), (0, _), (3, _)] dX8_init_166 rfl (by decide) rfl ?_
              refine ww_goto 154 dX8_init_169 (by decide) ?_
              refine ww_sub [1, 2, 0] rfl ?_
              exact ih (j + 1) _ _ _ _ _ _ hFx hS hE hO hV hS6 hB (fun n n0 n1 => if e9 : n = (j : Int) then (by rw [e9]; exact hH) else (hdn n n0 (by omega)).mv e9 c1 c2 c3 c4 c5) (fun n n1 => ⟨fun c => by rw [c2 c n (by omega)]; exact (hzr n (by omega)).1 c, by rw [c3 n (by omega)]; exact (hzr n (by omega)).2⟩) (by omega) (by omega)
        refine ww_sub [1, 4, 0] rfl ?_
        refine ww_widen (n' := 231) (k' := 832) (by omega) (by omega) ?_
        exact loop_154 (nm.length + 1) 0 _ _ _ _ _ _ hFx hS hE hO hV hS6 hB (fun n a b => absurd b (by omega)) (fun _ _ => ⟨fun _ => rfl, rfl⟩) (by omega) (by omega)
      · refine ww_aload_n 0 dX8_init_99 rfl ?_
        refine ww_getf gf_X8_30 rfl dX8_init_100 he rfl ?_
        refine ww_iload 4 dX8_init_103 rfl ?_
        refine ww_aload_n 0 dX8_init_105 rfl ?_
        refine ww_iload 4 dX8_init_106 rfl ?_
        refine cr_i (cr_V (ct_X8_weight hG hS hE hld hpf htr hof (j : Int) (by omega) (by omega)) sv_X8_54 rfl dX8_init_108 he rfl rfl rfl rfl ⟨by decide, by decide⟩ (Nat.le_of_ble_eq_true rfl) (by show 39 + 24 * j + 12 ≤ 240; omega) (by show 448 + 48 * j + 24 ≤ 840; omega)) (fun r_108 h_108 hp_108 => ?_)
        obtain ⟨er_108, e_108⟩ := hp_108
        subst er_108
        have he := e_108 _ _ he
        have ha := e_108 _ _ ha
        have hao := e_108 _ _ hao
        have hno := e_108 _ _ hno
        have h1 := e_108 _ _ h1
        have h2 := e_108 _ _ h2
        have h3 := e_108 _ _ h3
        have hFx := hFx.ex e_108
        have hS := hS.ex e_108
        have hR := hR.ex e_108
        have hO := hO.ex e_108
        have hV := hV.ex e_108
        have hS6 := hS6.ex e_108
        have hB := hB.ex e_108
        refine wx_iast dX8_init_111 h1 he0 (by omega) (by omega) (by omega) (fun h_111 h1 f_111 => ?_)
        have he := f_111.at he (by omega)
        have ha := f_111.at ha (by omega)
        have hao := f_111.at hao (by omega)
        have hno := f_111.at hno (by omega)
        have h2 := f_111.at h2 (by omega)
        have h3 := f_111.at h3 (by omega)
        have hFx := hFx.kt f_111 ⟨rfl, by omega, by omega⟩
        have hS := hS.fo (KT.fo f_111) he0 (by omega)
        have hR := hR.fo (KT.fo f_111) he0 h8 (by omega)
        have hO := hO.kt f_111 hL8 (by omega)
        have hV := hV.kt f_111 hL8 (by omega)
        have hS6 := hS6.kt f_111 hL8 (by omega)
        have hB := hB.kt f_111 hL8 (by omega)
        have hW2 : ∀ i : Int, -1 ≤ iup W (j : Int) (hWt nm.length lb of ld fn (j : Int)) i ∧ iup W (j : Int) (hWt nm.length lb of ld fn (j : Int)) i ≤ 9999 := fun i => if e9 : i = (j : Int) then (by rw [e9, iup_s]; exact hWt_bd) else (by rw [iup_n e9]; exact hW i)
        refine ww_iconst dX8_init_112 ?_
        refine ww_istore [(5, _), (0, _), (1, _), (2, _), (3, _), (4, _)] dX8_init_113 (by decide) rfl ?_
        have loop_115 : ∀ (f2 : Nat) (i : Nat) (hx : AH) (O : Int → Int → Int), (FO e 10600 10690 h hx) → (HS G hx a r nm lb of ld sh fn) → (EO G hx e a q_31 q_38 q_45 y4 y5 y6 y7 lb.length nm.length (iup W (j : Int) (hWt nm.length lb of ld fn (j : Int))) (fun _ => 0) (fun _ => 0)) → (EAr G 6 0 hx e y4 10610 lb.length nm.length RO O) → (EAr G 6 0 hx e y5 10630 lb.length nm.length RV (fun _ _ => 0)) → (EAr G 6 0 hx e y6 10650 lb.length nm.length RS (fun _ _ => 0)) → (EAr G 6 0 hx e y7 10670 lb.length nm.length RB (fun _ _ => 0)) → (∀ k n : Int, 0 ≤ k → k < j → 0 ≤ n → n < nm.length → O k n = of k n) → (∀ n : Int, 0 ≤ n → n < i → O j n = of j n) → (∀ i j : Int, inI (O i j)) → (i ≤ nm.length) → (nm.length - i < f2) → WW G E (MX8_init 1603 51400 240 840) hx (39 + 24 * j + 12 + i) (448 + 48 * j + 24 + 2 * i) 115 [(0, .ref e), (1, .ref a), (2, .int (iI (lb.length : Int))), (3, .int (iI (nm.length : Int))), (4, .int (iI (j : Int))), (5, .int (iI (i : Int)))] [] := by
          intro f2
          induction f2 with
          | zero => intro i hx O hFx hS hE hO hV hS6 hB hOj hOn hOi hi hf2; exact absurd hf2 (by omega)
          | succ f2 if2 =>
            intro i hx O hFx hS hE hO hV hS6 hB hOj hOn hOi hi hf2
            obtain ⟨nl, al, am, ll, w, nx, lx, dx, ha0, hr0, ha, hR, hM, h8⟩ := id hS
            obtain ⟨-, hL8, hN12, he, h1, h2, h3⟩ := id hE
            obtain ⟨fsA, hao⟩ := hR.2.1.1.obj
            obtain ⟨fsN, hno⟩ := hR.1.1.obj
            refine ww_iload 5 dX8_init_115 rfl ?_
            refine ww_iload_n 3 dX8_init_117 rfl ?_
            refine ww_icmp_ge 145 dX8_init_118 (by decide) (inI.mk (by omega) (by omega)) (inI.mk (by omega) (by omega)) (fun c_118 => ?_) (fun c_118 => ?_)
            · have ei : i = nm.length := by omega
              refine ww_iinc (j := 4) [(4, _), (0, _), (1, _), (2, _), (3, _), (5, _)] dX8_init_145 rfl (by decide) rfl ?_
              refine ww_goto 93 dX8_init_148 (by decide) ?_
              refine ww_sub [1, 2, 3, 4, 0] rfl ?_
              refine ww_widen (n' := 39 + 24 * (j + 1)) (k' := 448 + 48 * (j + 1)) (by omega) (by omega) ?_
              exact ih (j + 1) _ _ _ hFx hS hE hO hV hS6 hB (fun k k0 k1 => if e9 : k = (j : Int) then (by rw [e9, iup_s]) else (by rw [iup_n e9]; exact hWj k k0 (by omega))) hW2 (fun k n k0 k1 n0 n1 => if e9 : k = (j : Int) then (by rw [e9]; exact hOn n n0 (by omega)) else hOj k n k0 (by omega) n0 n1) hOi (by omega) (by omega)
            · refine ww_aload_n 0 dX8_init_121 rfl ?_
              refine ww_getf gf_X8_42 rfl dX8_init_122 he rfl ?_
              refine ww_iload 4 dX8_init_125 rfl ?_
              refine ww_aalds dX8_init_127 hO.1 rfl rfl (by omega) (by omega) (by omega) rfl ?_
              refine ww_iload 5 dX8_init_128 rfl ?_
              refine ww_aload_n 1 dX8_init_130 rfl ?_
              refine ww_iload 4 dX8_init_131 rfl ?_
              refine ww_iload 5 dX8_init_133 rfl ?_
              refine cr_i (cr_V (ct_X2_offer hG hS (j : Int) (i : Int) (by omega) (by omega) (by omega) (by omega)) sv_X8_58 rfl dX8_init_135 ha rfl rfl rfl rfl ⟨by decide, by decide⟩ (Nat.le_of_ble_eq_true rfl) (by show 39 + 24 * j + 12 + i + 1 ≤ 240; omega) (by show 448 + 48 * j + 24 + 2 * i + 2 ≤ 840; omega)) (fun r_135 h_135 hp_135 => ?_)
              obtain ⟨er_135, e_135⟩ := hp_135
              subst er_135
              have he := e_135 _ _ he
              have ha := e_135 _ _ ha
              have hao := e_135 _ _ hao
              have hno := e_135 _ _ hno
              have h1 := e_135 _ _ h1
              have h2 := e_135 _ _ h2
              have h3 := e_135 _ _ h3
              have hFx := hFx.ex e_135
              have hS := hS.ex e_135
              have hR := hR.ex e_135
              have hO := hO.ex e_135
              have hV := hV.ex e_135
              have hS6 := hS6.ex e_135
              have hB := hB.ex e_135
              have hrow := hO.2 (j : Int) (by omega) (by omega)
              refine wx_iast dX8_init_138 hrow he0 (by omega) (by omega) (by omega) (fun h_138 hrow f_138 => ?_)
              have he := f_138.at he (by omega)
              have ha := f_138.at ha (by omega)
              have hao := f_138.at hao (by omega)
              have hno := f_138.at hno (by omega)
              have h1 := f_138.at h1 (by omega)
              have h2 := f_138.at h2 (by omega)
              have h3 := f_138.at h3 (by omega)
              have hFx := hFx.kt f_138 ⟨rfl, by omega, by omega⟩
              have hS := hS.fo (KT.fo f_138) he0 (by omega)
              have hR := hR.fo (KT.fo f_138) he0 h8 (by omega)
              have hV := hV.kt f_138 hL8 (by omega)
              have hS6 := hS6.kt f_138 hL8 (by omega)
              have hB := hB.kt f_138 hL8 (by omega)
              have hO := hO.put (by omega) (by omega) hrow f_138
              refine ww_iinc (j := 5) [(5, _), (0, _), (1, _), (2, _), (3, _), (4, _)] dX8_init_139 rfl (by decide) rfl ?_
              refine ww_goto 115 dX8_init_142 (by decide) ?_
              refine ww_sub [1, 2, 3, 4, 5, 0] rfl ?_
              exact if2 (i + 1) _ _ hFx hS ⟨he0, hL8, hN12, he, h1, h2, h3⟩ hO hV hS6 hB (fun k n k0 k1 n0 n1 => by rw [g2_at, if_neg (fun z => by omega)]; exact hOj k n k0 k1 n0 n1) (fun n n0 n1 => by rw [g2_at]; exact if e9 : n = (i : Int) then (by rw [if_pos ⟨rfl, e9⟩, e9]) else (by rw [if_neg (fun z => e9 z.2)]; exact hOn n n0 (by omega))) (fun x y => by rw [g2_at]; split; exact hof _ _; exact hOi x y) (by omega) (by omega)
        refine ww_sub [1, 2, 3, 4, 5, 0] rfl ?_
        exact loop_115 (nm.length + 1) 0 _ _ hFx hS ⟨he0, hL8, hN12, he, h1, h2, h3⟩ hO hV hS6 hB hOj (fun n a b => absurd b (by omega)) hOi (by omega) (by omega)
  refine ww_sub [3, 4, 2, 1, 0] rfl ?_
  refine ww_widen (n' := 39) (k' := 448) (by omega) (by omega) ?_
  exact loop_93 (lb.length + 1) 0 _ (fun _ => 0) (fun _ _ => 0) hFx hS ⟨he0, hL8, hN12, he, h1, h2, h3⟩ hO hV hS6 hB (fun k a b => absurd b (by omega)) (fun _ => by decide) (fun k n a b => absurd b (by omega)) (fun _ _ => inI.mk (by decide) (by decide)) (by omega) (by omega)
