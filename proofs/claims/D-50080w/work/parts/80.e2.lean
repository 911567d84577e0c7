set_option maxRecDepth 100000
set_option maxHeartbeats 4000000 in
theorem ct_X8_hold {G : GT} {h : AH} (hG : GOK G) {a r : Nat} {nm : List (List Int)} {lb : List LV} {of : Int → Int → Int} {ld : List Int} {sh : Int} {fn : EF} (hS : HS G h a r nm lb of ld sh fn) {e y1 y2 y3 y4 y5 y6 y7 } {W Wi T : Int → Int} (hE : EO G h e a y1 y2 y3 y4 y5 y6 y7 lb.length nm.length W Wi T) (hW : ∀ i : Int, -1 ≤ W i ∧ W i ≤ 9999) {RO : Int → Nat} {O : Int → Int → Int} (hO : EAr G 6 0 h e y4 10610 lb.length nm.length RO O) (hOi : ∀ i j : Int, inI (O i j)) {RV RS : Int → Nat} {V S : Int → Int → Int} (hV : EAr G 6 0 h e y5 10630 lb.length nm.length RV V) (hS6 : EAr G 6 0 h e y6 10650 lb.length nm.length RS S) {RB : Int → Nat} {B : Int → Int → Int} (hB : EAr G 6 0 h e y7 10670 lb.length nm.length RB B) (hpf : ∀ v ∈ lb, ∀ x ∈ v.2.2.2, 0 ≤ x ∧ x < lb.length) (hld : ∀ x ∈ ld, 0 ≤ x ∧ x < lb.length) (hsh : 0 ≤ sh ∧ sh ≤ 100) (n : Int) (n0 : 0 ≤ n) (n1 : n < nm.length) (hz : ∀ c : Int, 0 ≤ c → c < lb.length → S c n = 0) (hzt : T n = 0) : CT G (MX8_hold 4 89 0 0) h [.ref e, .int (iI n)] (pV (fun h' => ∃ (V' S' : Int → Int → Int) (T' Wi' : Int → Int) (B' : Int → Int → Int), EO G h' e a y1 y2 y3 y4 y5 y6 y7 lb.length nm.length W Wi' T' ∧ EAr G 6 0 h' e y4 10610 lb.length nm.length RO O ∧ EAr G 6 0 h' e y5 10630 lb.length nm.length RV V' ∧ EAr G 6 0 h' e y6 10650 lb.length nm.length RS S' ∧ EAr G 6 0 h' e y7 10670 lb.length nm.length RB B' ∧ Hld W O lb ld sh n V' S' B' T' Wi' ∧ (∀ i m : Int, m ≠ n → V' i m = V i m) ∧ (∀ i m : Int, m ≠ n → S' i m = S i m) ∧ (∀ m : Int, m ≠ n → T' m = T m) ∧ (∀ m : Int, m ≠ n → Wi' m = Wi m) ∧ (∀ i m : Int, m ≠ n → B' i m = B i m) ∧ FO e 10600 10690 h h')) := by
  refine CT.of rfl hG (Nat.le_of_ble_eq_true rfl) rfl (fun E hQ => ?_)
  have hS0 := hS
  have hE0 := hE
  obtain ⟨he0, hL8, hN12, he, h1, h2, h3⟩ := id hE
  refine ww_iconst dX8_hold_0 ?_
  refine ww_istore_n [(2, _), (0, _), (1, _)] dX8_hold_1 (by decide) rfl ?_
  have loop_2 : ∀ (f : Nat) (j : Nat) (hx : AH) (V1 S1 : Int → Int → Int) (T1 : Int → Int), (FO e 10600 10690 h hx) → (EO G hx e a y1 y2 y3 y4 y5 y6 y7 lb.length nm.length W Wi T1) → (EAr G 6 0 hx e y4 10610 lb.length nm.length RO O) → (EAr G 6 0 hx e y5 10630 lb.length nm.length RV V1) → (EAr G 6 0 hx e y6 10650 lb.length nm.length RS S1) → (EAr G 6 0 hx e y7 10670 lb.length nm.length RB B) → (HJ W O lb n V S T (j : Int) V1 S1 T1) → (j ≤ lb.length) → (lb.length - j < f) → WW G E (MX8_hold 4 89 0 0) hx 0 0 2 [(0, .ref e), (1, .int (iI n)), (2, .int (iI (j : Int)))] [] := by
    intro f
    induction f with
    | zero => intro j hx V1 S1 T1 hFx hE hO hV hS6 hB hJ hj hf; exact absurd hf (by omega)
    | succ f ih =>
      intro j hx V1 S1 T1 hFx hE hO hV hS6 hB hJ hj hf
      have hS := hS0.fo hFx he0 (by omega)
      obtain ⟨nl, al, am, ll, w, nx, lx, dx, ha0, hr0, ha, hR, hM, h8⟩ := id hS
      obtain ⟨-, hL8, hN12, he, h1, h2, h3⟩ := id hE
      have hwj := hW (j : Int)
      refine ww_iload_n 2 dX8_hold_2 rfl ?_
      refine ww_aload_n 0 dX8_hold_3 rfl ?_
      refine ww_getf gf_X8_30 rfl dX8_hold_4 he rfl ?_
      refine ww_alenA dX8_hold_7 h1 (by omega) ?_
      refine ww_icmp_ge 73 dX8_hold_8 (by decide) (inI.mk (by omega) (by omega)) (inI.mk (by omega) (by omega)) (fun c_8 => ?_) (fun c_8 => ?_)
      · have ej : (j : Int) = lb.length := by omega
        rw [ej] at hJ
        refine ww_aload_n 0 dX8_hold_73 rfl ?_
        refine ww_getf gf_X8_34 rfl dX8_hold_74 he rfl ?_
        refine ww_iload_n 1 dX8_hold_77 rfl ?_
        refine ww_iconst dX8_hold_78 ?_
        refine wx_iast dX8_hold_79 h2 he0 (by omega) (by omega) (by omega) (fun h_79 h2 f_79 => ?_)
        have he := f_79.at he (by omega)
        have h1 := f_79.at h1 (by omega)
        have h3 := f_79.at h3 (by omega)
        have ha := f_79.at ha (by omega)
        have hFx := hFx.kt f_79 ⟨rfl, by omega, by omega⟩
        have hO := hO.kt f_79 hL8 (by omega)
        have hV := hV.kt f_79 hL8 (by omega)
        have hS6 := hS6.kt f_79 hL8 (by omega)
        have hB := hB.kt f_79 hL8 (by omega)
        refine ww_iconst dX8_hold_80 ?_
        refine ww_istore_n [(2, _), (0, _), (1, _)] dX8_hold_81 (by decide) rfl ?_
        have loop_82 : ∀ (f : Nat) (j : Nat) (hx : AH) (Wi1 : Int → Int), (FO e 10600 10690 h hx) → (EO G hx e a y1 y2 y3 y4 y5 y6 y7 lb.length nm.length W Wi1 T1) → (EAr G 6 0 hx e y4 10610 lb.length nm.length RO O) → (EAr G 6 0 hx e y5 10630 lb.length nm.length RV V1) → (EAr G 6 0 hx e y6 10650 lb.length nm.length RS S1) → (EAr G 6 0 hx e y7 10670 lb.length nm.length RB B) → (∀ m : Int, m ≠ n → Wi1 m = Wi m) → (hBs (fun k => hCd W O k n) (fun c => S1 c n) (ld.drop j) (Wi1 n) = hBs (fun k => hCd W O k n) (fun c => S1 c n) ld (-1)) → (-1 ≤ Wi1 n ∧ Wi1 n < lb.length) → (j ≤ ld.length) → (ld.length - j < f) → WW G E (MX8_hold 4 89 0 0) hx 0 0 82 [(0, .ref e), (1, .int (iI n)), (2, .int (iI (j : Int)))] [] := by
          intro f
          induction f with
          | zero => intro j hx Wi1 hFx hE hO hV hS6 hB hw9 hb9 hbr hj hf; exact absurd hf (by omega)
          | succ f ih =>
            intro j hx Wi1 hFx hE hO hV hS6 hB hw9 hb9 hbr hj hf
            have hS := hS0.fo hFx he0 (by omega)
            obtain ⟨nl, al, am, ll, w, nx, lx, dx, ha0, hr0, ha, hR, hM, h8⟩ := id hS
            obtain ⟨-, hL8, hN12, he, h1, h2, h3⟩ := id hE
            have hldl := hR.2.2.1.2.len
            have hdl := hR.2.2.1.1.len
            obtain ⟨fs7, hlo⟩ := hR.2.2.1.1.obj
            refine ww_iload_n 2 dX8_hold_82 rfl ?_
            refine ww_aload_n 0 dX8_hold_83 rfl ?_
            refine ww_getf gf_X8_9 rfl dX8_hold_84 he rfl ?_
            refine ww_getf gf_X8_124 rfl dX8_hold_87 ha rfl ?_
            refine cr5_pi (cr_F (ct_J3_size hG hR.2.2.1.1) sf_X8_21 rfl dX8_hold_90 hlo rfl rfl rfl rfl ⟨by decide, by decide⟩ (Nat.le_of_ble_eq_true rfl) (Nat.le_of_ble_eq_true rfl) (Nat.le_of_ble_eq_true rfl)) ?_
            refine ww_icmp_ge 174 dX8_hold_95 (by decide) (inI.mk (by omega) (by omega)) (inI.mk (by omega) (by omega)) (fun c_95 => ?_) (fun c_95 => ?_)
            · rw [List.drop_eq_nil_of_le (by omega)] at hb9
              refine ww_iconst dX8_hold_174 ?_
              refine ww_istore_n [(2, _), (0, _), (1, _)] dX8_hold_175 (by decide) rfl ?_
              have loop_176 : ∀ (f : Nat) (j : Nat) (hx : AH) (B1 : Int → Int → Int), (FO e 10600 10690 h hx) → (EO G hx e a y1 y2 y3 y4 y5 y6 y7 lb.length nm.length W Wi1 T1) → (EAr G 6 0 hx e y4 10610 lb.length nm.length RO O) → (EAr G 6 0 hx e y5 10630 lb.length nm.length RV V1) → (EAr G 6 0 hx e y6 10650 lb.length nm.length RS S1) → (EAr G 6 0 hx e y7 10670 lb.length nm.length RB B1) → (HBj W lb sh n V1 S1 (T1 n) (Wi1 n) B (j : Int) B1) → (j ≤ lb.length) → (lb.length - j < f) → WW G E (MX8_hold 4 89 0 0) hx 0 0 176 [(0, .ref e), (1, .int (iI n)), (2, .int (iI (j : Int)))] [] := by
                intro f
                induction f with
                | zero => intro j hx B1 hFx hE hO hV hS6 hB hK hj hf; exact absurd hf (by omega)
                | succ f ih =>
                  intro j hx B1 hFx hE hO hV hS6 hB hK hj hf
                  have hS := hS0.fo hFx he0 (by omega)
                  obtain ⟨nl, al, am, ll, w, nx, lx, dx, ha0, hr0, ha, hR, hM, h8⟩ := id hS
                  obtain ⟨-, hL8, hN12, he, h1, h2, h3⟩ := id hE
                  have hsb : ∀ c : Int, 0 ≤ c → c < lb.length → 0 ≤ S1 c n ∧ S1 c n ≤ 79992 := fun c c0 c1 => by rw [hJ.2.1 c c0 c1]; have := hSj_bd (O := O) (lb := lb) (n := n) (j := lb.length) hW c0 (by omega); omega
                  have htb : 0 ≤ T1 n ∧ T1 n ≤ 79992 := by rw [hJ.2.2.1]; have := hTj_bd (O := O) (lb := lb) (n := n) (j := lb.length) hW (by omega); omega
                  refine ww_iload_n 2 dX8_hold_176 rfl ?_
                  refine ww_aload_n 0 dX8_hold_177 rfl ?_
                  refine ww_getf gf_X8_30 rfl dX8_hold_178 he rfl ?_
                  refine ww_alenA dX8_hold_181 h1 (by omega) ?_
                  refine ww_icmp_ge 205 dX8_hold_182 (by decide) (inI.mk (by omega) (by omega)) (inI.mk (by omega) (by omega)) (fun c_182 => ?_) (fun c_182 => ?_)
                  · have ej : (j : Int) = lb.length := by omega
                    rw [ej] at hK
                    exact ww_vret hQ dX8_hold_205 rfl (Nat.le_of_ble_eq_true rfl) (Nat.le_of_ble_eq_true rfl) ⟨rfl, V1, S1, T1, Wi1, B1, hE, hO, hV, hS6, hB, ⟨hJ.1, hJ.2.1, hJ.2.2.1, hb9.symm ▸ rfl, hK.1⟩, hJ.2.2.2.1, hJ.2.2.2.2.1, hJ.2.2.2.2.2, hw9, hK.2, hFx⟩
                  · refine ww_aload_n 0 dX8_hold_185 rfl ?_
                    refine ww_getf gf_X8_51 rfl dX8_hold_186 he rfl ?_
                    refine ww_iload_n 2 dX8_hold_189 rfl ?_
                    refine ww_aalds dX8_hold_190 hB.1 rfl rfl (by omega) (by omega) (by omega) rfl ?_
                    refine ww_iload_n 1 dX8_hold_191 rfl ?_
                    refine ww_aload_n 0 dX8_hold_192 rfl ?_
                    refine ww_iload_n 2 dX8_hold_193 rfl ?_
                    refine ww_iload_n 1 dX8_hold_194 rfl ?_
                    refine cr_pi (cr_V (ct_X8_bound hG hS hE hW hV hS6 (j : Int) n (by omega) (by omega) n0 n1 (by rw [hJ.1 (j : Int) (by omega) (by omega)]; exact hVt_bd hpf (by omega) (by omega)) hsb htb hsh) sv_X8_127 rfl dX8_hold_195 he rfl rfl rfl rfl ⟨by decide, by decide⟩ (Nat.le_of_ble_eq_true rfl) (Nat.le_of_ble_eq_true rfl) (Nat.le_of_ble_eq_true rfl)) ?_
                    have hrow := hB.2 (j : Int) (by omega) (by omega)
                    refine wx_iast dX8_hold_198 hrow he0 (by omega) (by omega) (by omega) (fun h_198 hrow f_198 => ?_)
                    have he := f_198.at he (by omega)
                    have h1 := f_198.at h1 (by omega)
                    have h2 := f_198.at h2 (by omega)
                    have h3 := f_198.at h3 (by omega)
                    have ha := f_198.at ha (by omega)
                    have hFx := hFx.kt f_198 ⟨rfl, by omega, by omega⟩
                    have hO := hO.kt f_198 hL8 (by omega)
                    have hV := hV.kt f_198 hL8 (by omega)
                    have hS6 := hS6.kt f_198 hL8 (by omega)
                    have hB := hB.put (by omega) (by omega) hrow f_198
                    refine ww_iinc (j := 2) [(2, _), (0, _), (1, _)] dX8_hold_199 rfl (by decide) rfl ?_
                    refine ww_goto 176 dX8_hold_202 (by decide) ?_
                    refine ww_sub [1, 2, 0] rfl ?_
                    exact ih (j + 1) _ _ hFx ⟨he0, hL8, hN12, he, h1, h2, h3⟩ hO hV hS6 hB hK.nx (by omega) (by omega)
              refine ww_sub [1, 2, 0] rfl ?_
              exact loop_176 (lb.length + 1) 0 _ _ hFx hE hO hV hS6 hB ⟨fun i a b => absurd b (by omega), fun _ _ _ => rfl⟩ (by omega) (by omega)
            · refine ww_aload_n 0 dX8_hold_98 rfl ?_
              refine ww_getf gf_X8_9 rfl dX8_hold_99 he rfl ?_
              refine ww_getf gf_X8_124 rfl dX8_hold_102 ha rfl ?_
              refine ww_iload_n 2 dX8_hold_105 rfl ?_
              obtain ⟨x9, hx9⟩ := gx_get (xs := dx) (i := (j : Int)) (by omega) (by omega)
              obtain ⟨v9, hv9, o9, k9, hi9, -⟩ := hR.2.2.1.2.get hx9
              rw [Int.toNat_natCast] at hv9
              have hin9 := hld v9 (List.mem_of_getElem? hv9)
              refine cr5_pr (cr_F (ct_J3_get hG hR.2.2.1.1 _ x9 (by omega) hx9) sf_X8_74 rfl dX8_hold_106 hlo rfl rfl rfl rfl ⟨by decide, by decide⟩ (Nat.le_of_ble_eq_true rfl) (Nat.le_of_ble_eq_true rfl) (Nat.le_of_ble_eq_true rfl)) ?_
              refine ww_cast dX8_hold_111 hi9 rfl q1146 rfl ?_
              refine cr_pi (cr_V (ct_J20_intValue hG hi9) sv_X8_118 rfl dX8_hold_114 hi9 rfl rfl rfl rfl ⟨by decide, by decide⟩ (Nat.le_of_ble_eq_true rfl) (Nat.le_of_ble_eq_true rfl) (Nat.le_of_ble_eq_true rfl)) ?_
              refine ww_istore_n [(3, _), (0, _), (1, _), (2, _)] dX8_hold_117 (by decide) rfl ?_
              refine ww_aload_n 1 dX8_hold_118 rfl ?_
              refine ww_iload_n 0 dX8_hold_119 rfl ?_
              refine ww_iload_n 2 dX8_hold_120 rfl ?_
              refine cr_pi (cr_V (ct_X8_isCandidate hG hE hW hO hOi v9 n hin9.1 hin9.2 n0 n1) sv_X8_109 rfl dX8_hold_121 he rfl rfl rfl rfl ⟨by decide, by decide⟩ (Nat.le_of_ble_eq_true rfl) (Nat.le_of_ble_eq_true rfl) (Nat.le_of_ble_eq_true rfl)) ?_
              refine ww_ifb_eq 168 dX8_hold_124 (by decide) (fun c_124 => ?_) (fun c_124 => ?_)
              · have hcc : ¬ ((fun k => hCd W O k n) v9 = true ∧ (Wi1 n = -1 ∨ (fun c => S1 c n) (Wi1 n) < (fun c => S1 c n) v9)) := fun z => c_124 (hCd_t.mp z.1)
                refine ww_iinc (j := 3) [(2, _), (3, _), (0, _), (1, _)] dX8_hold_168 rfl (by decide) rfl ?_
                refine ww_goto 82 dX8_hold_171 (by decide) ?_
                refine ww_sub [2, 3, 0] rfl ?_
                exact ih (j + 1) _ _ hFx ⟨he0, hL8, hN12, he, h1, h2, h3⟩ hO hV hS6 hB hw9 (by rw [← hb9, dropc hv9, hBs_c, if_neg hcc]) hbr (by omega) (by omega)
              · refine ww_aload_n 1 dX8_hold_127 rfl ?_
                refine ww_getf gf_X8_34 rfl dX8_hold_128 he rfl ?_
                refine ww_iload_n 2 dX8_hold_131 rfl ?_
                refine ww_iald dX8_hold_132 h2 (by omega) (by omega) (by omega) ?_
                refine ww_iconst dX8_hold_133 ?_
                refine ww_icmp_eq 161 dX8_hold_134 (by decide) (inI.mk (by omega) (by omega)) (inI.mk (by decide) (by decide)) (fun c_134 => ?_) (fun c_134 => ?_)
                · have hcc : (fun k => hCd W O k n) v9 = true ∧ (Wi1 n = -1 ∨ (fun c => S1 c n) (Wi1 n) < (fun c => S1 c n) v9) := ⟨hCd_t.mpr c_124, Or.inl c_134⟩
                  refine ww_aload_n 1 dX8_hold_161 rfl ?_
                  refine ww_getf gf_X8_34 rfl dX8_hold_162 he rfl ?_
                  refine ww_iload_n 2 dX8_hold_165 rfl ?_
                  refine ww_iload_n 0 dX8_hold_166 rfl ?_
                  refine wx_iast dX8_hold_167 h2 he0 (by omega) (by omega) (by omega) (fun h_167 h2 f_167 => ?_)
                  have he := f_167.at he (by omega)
                  have h1 := f_167.at h1 (by omega)
                  have h3 := f_167.at h3 (by omega)
                  have ha := f_167.at ha (by omega)
                  have hFx := hFx.kt f_167 ⟨rfl, by omega, by omega⟩
                  have hO := hO.kt f_167 hL8 (by omega)
                  have hV := hV.kt f_167 hL8 (by omega)
                  have hS6 := hS6.kt f_167 hL8 (by omega)
                  have hB := hB.kt f_167 hL8 (by omega)
                  refine ww_iinc (j := 3) [(2, _), (3, _), (0, _), (1, _)] dX8_hold_168 rfl (by decide) rfl ?_
                  refine ww_goto 82 dX8_hold_171 (by decide) ?_
                  refine ww_sub [2, 3, 0] rfl ?_
                  exact ih (j + 1) _ _ hFx ⟨he0, hL8, hN12, he, h1, h2, h3⟩ hO hV hS6 hB (fun m hm => by rw [iup_n hm]; exact hw9 m hm) (by rw [← hb9, dropc hv9, hBs_c, if_pos hcc, iup_s]) (by rw [iup_s]; omega) (by omega) (by omega)
                · have hs1 := hJ.2.1 v9 hin9.1 hin9.2
                  have hs2 := hJ.2.1 (Wi1 n) (by omega) (by omega)
                  have hs3 := hSj_bd (O := O) (lb := lb) (n := n) (j := lb.length) hW hin9.1 (by omega)
                  have hs4 := hSj_bd (O := O) (lb := lb) (n := n) (j := lb.length) (c := Wi1 n) hW (by omega) (by omega)
                  refine ww_aload_n 1 dX8_hold_137 rfl ?_
                  refine ww_getf gf_X8_48 rfl dX8_hold_138 he rfl ?_
                  refine ww_iload_n 0 dX8_hold_141 rfl ?_
                  refine ww_aalds dX8_hold_142 hS6.1 rfl rfl (by omega) (by omega) (by omega) rfl ?_
                  refine ww_iload_n 2 dX8_hold_143 rfl ?_
                  refine ww_iald dX8_hold_144 (hS6.2 _ (by omega) (by omega)) (by omega) (by omega) (by omega) ?_
                  refine ww_aload_n 1 dX8_hold_145 rfl ?_
                  refine ww_getf gf_X8_48 rfl dX8_hold_146 he rfl ?_
                  refine ww_aload_n 1 dX8_hold_149 rfl ?_
                  refine ww_getf gf_X8_34 rfl dX8_hold_150 he rfl ?_
                  refine ww_iload_n 2 dX8_hold_153 rfl ?_
                  refine ww_iald dX8_hold_154 h2 (by omega) (by omega) (by omega) ?_
                  refine ww_aalds dX8_hold_155 hS6.1 rfl rfl (by omega) (by omega) (by omega) rfl ?_
                  refine ww_iload_n 2 dX8_hold_156 rfl ?_
                  refine ww_iald dX8_hold_157 (hS6.2 _ (by omega) (by omega)) (by omega) (by omega) (by omega) ?_
                  refine ww_icmp_le 168 dX8_hold_158 (by decide) (inI.mk (by omega) (by omega)) (inI.mk (by omega) (by omega)) (fun c_158 => ?_) (fun c_158 => ?_)
                  · have hcc : ¬ ((fun k => hCd W O k n) v9 = true ∧ (Wi1 n = -1 ∨ (fun c => S1 c n) (Wi1 n) < (fun c => S1 c n) v9)) := fun z => by have z2 : Wi1 n = -1 ∨ S1 (Wi1 n) n < S1 v9 n := z.2; omega
                    refine ww_iinc (j := 3) [(2, _), (3, _), (0, _), (1, _)] dX8_hold_168 rfl (by decide) rfl ?_
                    refine ww_goto 82 dX8_hold_171 (by decide) ?_
                    refine ww_sub [2, 3, 0] rfl ?_
                    exact ih (j + 1) _ _ hFx ⟨he0, hL8, hN12, he, h1, h2, h3⟩ hO hV hS6 hB hw9 (by rw [← hb9, dropc hv9, hBs_c, if_neg hcc]) hbr (by omega) (by omega)
                  · have hcc : (fun k => hCd W O k n) v9 = true ∧ (Wi1 n = -1 ∨ (fun c => S1 c n) (Wi1 n) < (fun c => S1 c n) v9) := ⟨hCd_t.mpr c_124, Or.inr (by show S1 (Wi1 n) n < S1 v9 n; omega)⟩
                    refine ww_aload_n 1 dX8_hold_161 rfl ?_
                    refine ww_getf gf_X8_34 rfl dX8_hold_162 he rfl ?_
                    refine ww_iload_n 2 dX8_hold_165 rfl ?_
                    refine ww_iload_n 0 dX8_hold_166 rfl ?_
                    refine wx_iast dX8_hold_167 h2 he0 (by omega) (by omega) (by omega) (fun h_167 h2 f_167 => ?_)
                    have he := f_167.at he (by omega)
                    have h1 := f_167.at h1 (by omega)
                    have h3 := f_167.at h3 (by omega)
                    have ha := f_167.at ha (by omega)
                    have hFx := hFx.kt f_167 ⟨rfl, by omega, by omega⟩
                    have hO := hO.kt f_167 hL8 (by omega)
                    have hV := hV.kt f_167 hL8 (by omega)
                    have hS6 := hS6.kt f_167 hL8 (by omega)
                    have hB := hB.kt f_167 hL8 (by omega)
                    refine ww_iinc (j := 3) [(2, _), (3, _), (0, _), (1, _)] dX8_hold_168 rfl (by decide) rfl ?_
                    refine ww_goto 82 dX8_hold_171 (by decide) ?_
                    refine ww_sub [2, 3, 0] rfl ?_
                    exact ih (j + 1) _ _ hFx ⟨he0, hL8, hN12, he, h1, h2, h3⟩ hO hV hS6 hB (fun m hm => by rw [iup_n hm]; exact hw9 m hm) (by rw [← hb9, dropc hv9, hBs_c, if_pos hcc, iup_s]) (by rw [iup_s]; omega) (by omega) (by omega)
        refine ww_sub [1, 2, 0] rfl ?_
        exact loop_82 (ld.length + 1) 0 _ _ hFx ⟨he0, hL8, hN12, he, h1, h2, h3⟩ hO hV hS6 hB (fun m hm => iup_n hm) (by rw [iup_s]; rfl) (by rw [iup_s]; omega) (by omega) (by omega)
      · refine ww_aload_n 0 dX8_hold_11 rfl ?_
        refine ww_iload_n 2 dX8_hold_12 rfl ?_
        refine ww_iload_n 1 dX8_hold_13 rfl ?_
        refine cr_pi (cr_V (ct_X8_choice hG hS hE hW hO hOi hpf (j : Int) n (by omega) (by omega) n0 n1) sv_X8_121 rfl dX8_hold_14 he rfl rfl rfl rfl ⟨by decide, by decide⟩ (Nat.le_of_ble_eq_true rfl) (Nat.le_of_ble_eq_true rfl) (Nat.le_of_ble_eq_true rfl)) ?_
        have hvb := hVt_bd (W := W) (O := O) (n := n) hpf (k := (j : Int)) (by omega) (by omega)
        refine ww_istore_n [(3, _), (0, _), (1, _), (2, _)] dX8_hold_17 (by decide) rfl ?_
        refine ww_aload_n 1 dX8_hold_18 rfl ?_
        refine ww_getf gf_X8_45 rfl dX8_hold_19 he rfl ?_
        refine ww_iload_n 3 dX8_hold_22 rfl ?_
        refine ww_aalds dX8_hold_23 hV.1 rfl rfl (by omega) (by omega) (by omega) rfl ?_
        refine ww_iload_n 2 dX8_hold_24 rfl ?_
        refine ww_iload_n 0 dX8_hold_25 rfl ?_
        have hrow := hV.2 (j : Int) (by omega) (by omega)
        refine wx_iast dX8_hold_26 hrow he0 (by omega) (by omega) (by omega) (fun h_26 hrow f_26 => ?_)
        have he := f_26.at he (by omega)
        have h1 := f_26.at h1 (by omega)
        have h2 := f_26.at h2 (by omega)
        have h3 := f_26.at h3 (by omega)
        have ha := f_26.at ha (by omega)
        have hFx := hFx.kt f_26 ⟨rfl, by omega, by omega⟩
        have hO := hO.kt f_26 hL8 (by omega)
        have hS6 := hS6.kt f_26 hL8 (by omega)
        have hB := hB.kt f_26 hL8 (by omega)
        have hV := hV.put (by omega) (by omega) hrow f_26
        refine ww_iload_n 0 dX8_hold_27 rfl ?_
        refine ww_iconst dX8_hold_28 ?_
        refine ww_icmp_ne 35 dX8_hold_29 (by decide) (inI.mk (by omega) (by omega)) (inI.mk (by decide) (by decide)) (fun c_29 => ?_) (fun c_29 => ?_)
        · have hsv := hJ.2.1 (hVt W O lb (j : Int) n) (by omega) (by omega)
          have hsb := hSj_bd (O := O) (lb := lb) (n := n) (j := (j : Int)) (c := hVt W O lb (j : Int) n) hW (by omega) (by omega)
          refine ww_aload_n 1 dX8_hold_35 rfl ?_
          refine ww_getf gf_X8_48 rfl dX8_hold_36 he rfl ?_
          refine ww_iload_n 0 dX8_hold_39 rfl ?_
          refine ww_aalds dX8_hold_40 hS6.1 rfl rfl (by omega) (by omega) (by omega) rfl ?_
          refine ww_iload_n 2 dX8_hold_41 rfl ?_
          refine ww_dup2 dX8_hold_42 rfl rfl ?_
          refine ww_iald dX8_hold_43 (hS6.2 _ (by omega) (by omega)) (by omega) (by omega) (by omega) ?_
          refine ww_aload_n 1 dX8_hold_44 rfl ?_
          refine ww_getf gf_X8_30 rfl dX8_hold_45 he rfl ?_
          refine ww_iload_n 3 dX8_hold_48 rfl ?_
          refine ww_iald dX8_hold_49 h1 (by omega) (by omega) (by omega) ?_
          refine ww_iadd dX8_hold_50 ?_
          have hrow2 := hS6.2 (hVt W O lb (j : Int) n) (by omega) (by omega)
          refine wx_iast dX8_hold_51 hrow2 he0 (by omega) (by omega) (by omega) (fun h_51 hrow2 f_51 => ?_)
          have he := f_51.at he (by omega)
          have h1 := f_51.at h1 (by omega)
          have h2 := f_51.at h2 (by omega)
          have h3 := f_51.at h3 (by omega)
          have ha := f_51.at ha (by omega)
          have hFx := hFx.kt f_51 ⟨rfl, by omega, by omega⟩
          have hO := hO.kt f_51 hL8 (by omega)
          have hV := hV.kt f_51 hL8 (by omega)
          have hB := hB.kt f_51 hL8 (by omega)
          have hS6 := hS6.put (by omega) (by omega) hrow2 f_51
          refine ww_aload_n 1 dX8_hold_52 rfl ?_
          refine ww_getf gf_X8_37 rfl dX8_hold_53 he rfl ?_
          refine ww_iload_n 2 dX8_hold_56 rfl ?_
          refine ww_dup2 dX8_hold_57 rfl rfl ?_
          refine ww_iald dX8_hold_58 h3 (by omega) (by omega) (by omega) ?_
          refine ww_aload_n 1 dX8_hold_59 rfl ?_
          refine ww_getf gf_X8_30 rfl dX8_hold_60 he rfl ?_
          refine ww_iload_n 3 dX8_hold_63 rfl ?_
          refine ww_iald dX8_hold_64 h1 (by omega) (by omega) (by omega) ?_
          refine ww_iadd dX8_hold_65 ?_
          refine wx_iast dX8_hold_66 h3 he0 (by omega) (by omega) (by omega) (fun h_66 h3 f_66 => ?_)
          have he := f_66.at he (by omega)
          have h1 := f_66.at h1 (by omega)
          have h2 := f_66.at h2 (by omega)
          have ha := f_66.at ha (by omega)
          have hFx := hFx.kt f_66 ⟨rfl, by omega, by omega⟩
          have hO := hO.kt f_66 hL8 (by omega)
          have hV := hV.kt f_66 hL8 (by omega)
          have hS6 := hS6.kt f_66 hL8 (by omega)
          have hB := hB.kt f_66 hL8 (by omega)
          refine ww_iinc (j := 3) [(2, _), (3, _), (0, _), (1, _)] dX8_hold_67 rfl (by decide) rfl ?_
          refine ww_goto 2 dX8_hold_70 (by decide) ?_
          refine ww_sub [2, 3, 0] rfl ?_
          exact ih (j + 1) _ _ _ _ hFx ⟨he0, hL8, hN12, he, h1, h2, h3⟩ hO hV hS6 hB (hJ.S (by omega) c_29) (by omega) (by omega)
        · refine ww_goto 67 dX8_hold_32 (by decide) ?_
          refine ww_iinc (j := 3) [(2, _), (3, _), (0, _), (1, _)] dX8_hold_67 rfl (by decide) rfl ?_
          refine ww_goto 2 dX8_hold_70 (by decide) ?_
          refine ww_sub [2, 3, 0] rfl ?_
          exact ih (j + 1) _ _ _ _ hFx ⟨he0, hL8, hN12, he, h1, h2, h3⟩ hO hV hS6 hB (hJ.N (by omega) c_29) (by omega) (by omega)
  refine ww_sub [1, 2, 0] rfl ?_
  exact loop_2 (lb.length + 1) 0 _ V S T FO.rf hE0 hO hV hS6 hB ⟨fun i a b => absurd b (by omega), fun c c0 c1 => hz c c0 c1, hzt, fun _ _ _ => rfl, fun _ _ _ => rfl, fun _ _ => rfl⟩ (by omega) (by omega)
