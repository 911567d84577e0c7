set_option maxRecDepth 100000
set_option maxHeartbeats 4000000 in
theorem ct_X8_moved {G : GT} {h : AH} (hG : GOK G) {a : Nat} {e y1 y2 y3 y4 y5 y6 y7 L N : Nat} {W Wi T : Int → Int} (hE : EO G h e a y1 y2 y3 y4 y5 y6 y7 L N W Wi T) (hW : ∀ i : Int, -1 ≤ W i ∧ W i ≤ 9999) {RB : Int → Nat} {B : Int → Int → Int} (hB : EAr G 6 0 h e y7 10670 L N RB B) (hBi : ∀ k n : Int, 0 ≤ k → k < L → 0 ≤ n → n < N → inI (B k n)) {e2 a2 z1 z2 z3 z4 z5 z6 z7 : Nat} {W2 Wi2 T2 : Int → Int} (hE2 : EO G h e2 a2 z1 z2 z3 z4 z5 z6 z7 L N W2 Wi2 T2) {RB2 : Int → Nat} {B2 : Int → Int → Int} (hB2 : EAr G 6 0 h e2 z7 10670 L N RB2 B2) (hBi2 : ∀ k n : Int, 0 ≤ k → k < L → 0 ≤ n → n < N → inI (B2 k n)) (b : Int) (hb : inI b) : CPi G (MX8_moved 1 21 0 0) h [.ref e, .ref e2, .int (iI b)] (smI (L : Int) (fun k => smI (N : Int) (fun n => bI (k ≠ b ∧ W k ≠ -1 ∧ B k n ≠ B2 k n)))) := by
  refine CT.of rfl hG (Nat.le_of_ble_eq_true rfl) rfl (fun E hQ => ?_)
  have hE0 := hE
  obtain ⟨-, -, -, heb, -, -, -⟩ := hE2
  obtain ⟨he0, hL8, hN12, he, h1, h2, h3⟩ := hE
  refine ww_iconst dX8_moved_0 ?_
  refine ww_istore_n [(3, _), (0, _), (1, _), (2, _)] dX8_moved_1 (by decide) rfl ?_
  refine ww_iconst dX8_moved_2 ?_
  refine ww_istore [(4, _), (3, _), (0, _), (1, _), (2, _)] dX8_moved_3 (by decide) rfl ?_
  have loop_5 : ∀ (f : Nat) (j : Nat), (j ≤ L) → (L - j < f) → WW G E (MX8_moved 1 21 0 0) h 0 0 5 [(0, .ref e), (1, .ref e2), (2, .int (iI b)), (3, .int (iI (smI (j : Int) (fun k => smI (N : Int) (fun n => bI (k ≠ b ∧ W k ≠ -1 ∧ B k n ≠ B2 k n)))))), (4, .int (iI (j : Int)))] [] := by
    intro f
    induction f with
    | zero => intro j hj hf; exact absurd hf (by omega)
    | succ f ih =>
      intro j hj hf
      refine ww_iload 4 dX8_moved_5 rfl ?_
      refine ww_aload_n 0 dX8_moved_7 rfl ?_
      refine ww_getf gf_X8_30 rfl dX8_moved_8 he rfl ?_
      refine ww_alenA dX8_moved_11 h1 (by omega) ?_
      refine ww_icmp_ge 86 dX8_moved_12 (by decide) (inI.mk (by omega) (by omega)) (inI.mk (by omega) (by omega)) (fun c_12 => ?_) (fun c_12 => ?_)
      · have ej : (j : Int) = L := by omega
        rw [ej]
        refine ww_iload_n 3 dX8_moved_86 rfl ?_
        exact ww_iret hQ dX8_moved_87 rfl (Nat.le_of_ble_eq_true rfl) (Nat.le_of_ble_eq_true rfl) ⟨_, rfl, rfl, rfl⟩
      · refine ww_iconst dX8_moved_15 ?_
        refine ww_istore [(5, _), (0, _), (1, _), (2, _), (3, _), (4, _)] dX8_moved_16 (by decide) rfl ?_
        have loop_18 : ∀ (f2 : Nat) (i : Nat), (i ≤ N) → (N - i < f2) → WW G E (MX8_moved 1 21 0 0) h 0 0 18 [(0, .ref e), (1, .ref e2), (2, .int (iI b)), (3, .int (iI (smI (j : Int) (fun k => smI (N : Int) (fun n => bI (k ≠ b ∧ W k ≠ -1 ∧ B k n ≠ B2 k n))) + smI (i : Int) (fun n => bI ((j : Int) ≠ b ∧ W (j : Int) ≠ -1 ∧ B (j : Int) n ≠ B2 (j : Int) n))))), (4, .int (iI (j : Int))), (5, .int (iI (i : Int)))] [] := by
          intro f2
          induction f2 with
          | zero => intro i hi hf2; exact absurd hf2 (by omega)
          | succ f2 if2 =>
            intro i hi hf2
            refine ww_iload 5 dX8_moved_18 rfl ?_
            refine ww_aload_n 0 dX8_moved_20 rfl ?_
            refine ww_getf gf_X8_34 rfl dX8_moved_21 he rfl ?_
            refine ww_alenA dX8_moved_24 h2 (by omega) ?_
            refine ww_icmp_ge 80 dX8_moved_25 (by decide) (inI.mk (by omega) (by omega)) (inI.mk (by omega) (by omega)) (fun c_25 => ?_) (fun c_25 => ?_)
            · have ei : (i : Int) = N := by omega
              rw [ei]
              refine ww_iinc (j := 4) [(4, _), (0, _), (1, _), (2, _), (3, _), (5, _)] dX8_moved_80 rfl (by decide) rfl ?_
              refine ww_goto 5 dX8_moved_83 (by decide) ?_
              refine ww_sub [1, 2, 3, 4, 0] rfl ?_
              rw [show smI (j : Int) (fun k => smI (N : Int) (fun n => bI (k ≠ b ∧ W k ≠ -1 ∧ B k n ≠ B2 k n))) + smI (N : Int) (fun n => bI ((j : Int) ≠ b ∧ W (j : Int) ≠ -1 ∧ B (j : Int) n ≠ B2 (j : Int) n)) = smI ((j : Int) + 1) (fun k => smI (N : Int) (fun n => bI (k ≠ b ∧ W k ≠ -1 ∧ B k n ≠ B2 k n))) by rw [smI_s (f := (fun k => smI (N : Int) (fun n => bI (k ≠ b ∧ W k ≠ -1 ∧ B k n ≠ B2 k n)))) (by omega)]]
              exact ih (j + 1) (by omega) (by omega)
            · refine ww_iload_n 3 dX8_moved_28 rfl ?_
              refine ww_iload 4 dX8_moved_29 rfl ?_
              refine ww_iload_n 2 dX8_moved_31 rfl ?_
              refine ww_icmp_eq 71 dX8_moved_32 (by decide) (inI.mk (by omega) (by omega)) hb (fun c_32 => ?_) (fun c_32 => ?_)
              · refine ww_iconst dX8_moved_71 ?_
                refine ww_iadd dX8_moved_72 ?_
                refine ww_istore_n [(3, _), (0, _), (1, _), (2, _), (4, _), (5, _)] dX8_moved_73 (by decide) rfl ?_
                refine ww_iinc (j := 5) [(5, _), (3, _), (0, _), (1, _), (2, _), (4, _)] dX8_moved_74 rfl (by decide) rfl ?_
                refine ww_goto 18 dX8_moved_77 (by decide) ?_
                refine ww_sub [2, 3, 4, 1, 5, 0] rfl ?_
                rw [Int.add_assoc, smI_z (f := (fun n => bI ((j : Int) ≠ b ∧ W (j : Int) ≠ -1 ∧ B (j : Int) n ≠ B2 (j : Int) n))) (bI_f (fun z => z.1 c_32))]
                exact if2 (i + 1) (by omega) (by omega)
              · refine ww_aload_n 0 dX8_moved_35 rfl ?_
                refine ww_iload 4 dX8_moved_36 rfl ?_
                refine cr_pi (cr_V (ct_X8_isLoaded hG hE0 hW (j : Int) (by omega) (by omega)) sv_X8_105 rfl dX8_moved_38 he rfl rfl rfl rfl ⟨by decide, by decide⟩ (Nat.le_of_ble_eq_true rfl) (Nat.le_of_ble_eq_true rfl) (Nat.le_of_ble_eq_true rfl)) ?_
                refine ww_ifb_eq 71 dX8_moved_41 (by decide) (fun c_41 => ?_) (fun c_41 => ?_)
                · refine ww_iconst dX8_moved_71 ?_
                  refine ww_iadd dX8_moved_72 ?_
                  refine ww_istore_n [(3, _), (0, _), (1, _), (2, _), (4, _), (5, _)] dX8_moved_73 (by decide) rfl ?_
                  refine ww_iinc (j := 5) [(5, _), (3, _), (0, _), (1, _), (2, _), (4, _)] dX8_moved_74 rfl (by decide) rfl ?_
                  refine ww_goto 18 dX8_moved_77 (by decide) ?_
                  refine ww_sub [2, 3, 4, 1, 5, 0] rfl ?_
                  rw [Int.add_assoc, smI_z (f := (fun n => bI ((j : Int) ≠ b ∧ W (j : Int) ≠ -1 ∧ B (j : Int) n ≠ B2 (j : Int) n))) (bI_f (fun z => c_41 z.2.1))]
                  exact if2 (i + 1) (by omega) (by omega)
                · refine ww_aload_n 0 dX8_moved_44 rfl ?_
                  refine ww_getf gf_X8_51 rfl dX8_moved_45 he rfl ?_
                  refine ww_iload 4 dX8_moved_48 rfl ?_
                  refine ww_aalds dX8_moved_50 hB.1 rfl rfl (by omega) (by omega) (by omega) rfl ?_
                  refine ww_iload 5 dX8_moved_51 rfl ?_
                  refine ww_iald dX8_moved_53 (hB.2 _ (by omega) (by omega)) (by omega) (by omega) (by omega) ?_
                  refine ww_aload_n 1 dX8_moved_54 rfl ?_
                  refine ww_getf gf_X8_51 rfl dX8_moved_55 heb rfl ?_
                  refine ww_iload 4 dX8_moved_58 rfl ?_
                  refine ww_aalds dX8_moved_60 hB2.1 rfl rfl (by omega) (by omega) (by omega) rfl ?_
                  refine ww_iload 5 dX8_moved_61 rfl ?_
                  refine ww_iald dX8_moved_63 (hB2.2 _ (by omega) (by omega)) (by omega) (by omega) (by omega) ?_
                  refine ww_icmp_eq 71 dX8_moved_64 (by decide) (hBi _ _ (by omega) (by omega) (by omega) (by omega)) (hBi2 _ _ (by omega) (by omega) (by omega) (by omega)) (fun c_64 => ?_) (fun c_64 => ?_)
                  · refine ww_iconst dX8_moved_71 ?_
                    refine ww_iadd dX8_moved_72 ?_
                    refine ww_istore_n [(3, _), (0, _), (1, _), (2, _), (4, _), (5, _)] dX8_moved_73 (by decide) rfl ?_
                    refine ww_iinc (j := 5) [(5, _), (3, _), (0, _), (1, _), (2, _), (4, _)] dX8_moved_74 rfl (by decide) rfl ?_
                    refine ww_goto 18 dX8_moved_77 (by decide) ?_
                    refine ww_sub [2, 3, 4, 1, 5, 0] rfl ?_
                    rw [Int.add_assoc, smI_z (f := (fun n => bI ((j : Int) ≠ b ∧ W (j : Int) ≠ -1 ∧ B (j : Int) n ≠ B2 (j : Int) n))) (bI_f (fun z => z.2.2 c_64))]
                    exact if2 (i + 1) (by omega) (by omega)
                  · refine ww_iconst dX8_moved_67 ?_
                    refine ww_goto 72 dX8_moved_68 (by decide) ?_
                    refine ww_iadd dX8_moved_72 ?_
                    refine ww_istore_n [(3, _), (0, _), (1, _), (2, _), (4, _), (5, _)] dX8_moved_73 (by decide) rfl ?_
                    refine ww_iinc (j := 5) [(5, _), (3, _), (0, _), (1, _), (2, _), (4, _)] dX8_moved_74 rfl (by decide) rfl ?_
                    refine ww_goto 18 dX8_moved_77 (by decide) ?_
                    refine ww_sub [2, 3, 4, 1, 5, 0] rfl ?_
                    rw [Int.add_assoc, smI_p (f := (fun n => bI ((j : Int) ≠ b ∧ W (j : Int) ≠ -1 ∧ B (j : Int) n ≠ B2 (j : Int) n))) (bI_t ⟨c_32, c_41, c_64⟩)]
                    exact if2 (i + 1) (by omega) (by omega)
        refine ww_sub [1, 2, 3, 4, 5, 0] rfl ?_
        rw [show smI (j : Int) (fun k => smI (N : Int) (fun n => bI (k ≠ b ∧ W k ≠ -1 ∧ B k n ≠ B2 k n))) = smI (j : Int) (fun k => smI (N : Int) (fun n => bI (k ≠ b ∧ W k ≠ -1 ∧ B k n ≠ B2 k n))) + smI ((0 : Nat) : Int) (fun n => bI ((j : Int) ≠ b ∧ W (j : Int) ≠ -1 ∧ B (j : Int) n ≠ B2 (j : Int) n)) by rw [show smI ((0 : Nat) : Int) (fun n => bI ((j : Int) ≠ b ∧ W (j : Int) ≠ -1 ∧ B (j : Int) n ≠ B2 (j : Int) n)) = 0 from rfl]; omega]
        exact loop_18 (N + 1) 0 (by omega) (by omega)
  refine ww_sub [2, 3, 4, 1, 0] rfl ?_
  exact loop_5 (L + 1) 0 (by omega) (by omega)

set_option maxHeartbeats 4000000 in
theorem ct_X9_init {G : GT} {h : AH} (hG : GOK G) {c e : Nat} (hc0 : c ≠ 0) (hc : h c = some ((c, 10700), ob 8 [.null, .int 0, .int 0])) : CT G (MX9_init 1 20 0 0) h [.ref c, .ref e] (pV (fun h' => h' c = some ((c, 10700), ob 8 [.ref e, .int (iI 0), .int (iI (-1))]) ∧ KT c (c, 10700) h h')) := by
  refine CT.of rfl hG (Nat.le_of_ble_eq_true rfl) rfl (fun E hQ => ?_)
  refine ww_aload_n 0 dX9_init_0 rfl ?_
  refine ww_objInit q1204 q128 q129 rfl dX9_init_1 (Nat.le_of_ble_eq_true rfl) (Nat.le_of_ble_eq_true rfl) ?_
  refine ww_aload_n 0 dX9_init_4 rfl ?_
  refine ww_iconst dX9_init_5 ?_
  refine wx_putf pf_X9_9 rfl dX9_init_6 hc hc0 (Nat.le_of_ble_eq_true rfl) rfl rfl (fun h_6 hc f_6 => ?_)
  refine ww_aload_n 0 dX9_init_9 rfl ?_
  refine ww_aload_n 1 dX9_init_10 rfl ?_
  refine wx_putF pf_X9_15 rfl rfl dX9_init_11 hc hc0 (Nat.le_of_ble_eq_true rfl) rfl rfl (fun h_11 hc f_11 => ?_)
  exact ww_vret hQ dX9_init_14 rfl (Nat.le_of_ble_eq_true rfl) (Nat.le_of_ble_eq_true rfl) ⟨rfl, hc, fun b u x hb hu => f_11 b u x (f_6 b u x hb hu) hu⟩

set_option maxHeartbeats 4000000 in
theorem ct_X9_go {G : GT} {h : AH} (hG : GOK G) {a : Nat} {e y1 y2 y3 y4 y5 y6 y7 L N : Nat} {W Wi T : Int → Int} (hE : EO G h e a y1 y2 y3 y4 y5 y6 y7 L N W Wi T) (hW : ∀ i : Int, -1 ≤ W i ∧ W i ≤ 9999) {RO : Int → Nat} {O : Int → Int → Int} (hO : EAr G 6 0 h e y4 10610 L N RO O) (hOi : ∀ i j : Int, inI (O i j)) {RB : Int → Nat} {B : Int → Int → Int} (hB : EAr G 6 0 h e y7 10670 L N RB B) (hBi : ∀ k n : Int, 0 ≤ k → k < L → 0 ≤ n → n < N → inI (B k n)) {c : Nat} (hc0 : c ≠ 0) (hce : e ≠ c) (hc : h c = some ((c, 10700), ob 8 [.ref e, .int (iI 0), .int (iI (-1))])) (hBr : ∀ k n : Int, 0 ≤ k → k < L → 0 ≤ n → n < N → -1 ≤ B k n ∧ B k n < L) (hBo : ∀ k n : Int, 0 ≤ k → k < L → 0 ≤ n → n < N → B k n ≠ -1 → O (B k n) n ≠ -1) (hBu : ∀ k n : Int, 0 ≤ k → k < L → 0 ≤ n → n < N → W k = -1 → B k n = -1) (hOr : ∀ k n : Int, 0 ≤ k → k < L → 0 ≤ n → n < N → -2 - (N : Int) < O k n ∧ O k n ≤ 9999) (k n : Int) (k0 : 0 ≤ k) (k1 : k < L) (n0 : 0 ≤ n) (n1 : n < N) : CT G (MX9_go 1 21 9 104) h [.ref c, .int (iI k), .int (iI n)] (pR (fun q h' => q = c ∧ h' c = some ((c, 10700), ob 8 [.ref e, .int (iI (flw 97 B O (fun _ _ => false) k n 0).2), .int (iI (flw 97 B O (fun _ _ => false) k n 0).1)]) ∧ FO c 10700 10790 h h')) := by
  refine CT.of rfl hG (Nat.le_of_ble_eq_true rfl) rfl (fun E hQ => ?_)
  have hE0 := hE
  have hO0 := hO
  have hB0 := hB
  obtain ⟨he0, hL8, hN12, he, h1, h2, h3⟩ := hE
  have hLN : L * N ≤ 96 := Nat.mul_le_mul hL8 hN12
  refine ww_aload_n 0 dX9_go_0 rfl ?_
  refine ww_getf gf_X9_15 rfl dX9_go_1 hc rfl ?_
  refine ww_getf gf_X9_19 rfl dX9_go_4 he rfl ?_
  refine ww_alenA dX9_go_7 h1 (by omega) ?_
  refine ww_aload_n 0 dX9_go_8 rfl ?_
  refine ww_getf gf_X9_15 rfl dX9_go_9 hc rfl ?_
  refine ww_getf gf_X9_25 rfl dX9_go_12 he rfl ?_
  refine ww_alenA dX9_go_15 h2 (by omega) ?_
  refine wx_multiZ (kk0 := 10710) rfl rfl hL8 hN12 q1221 q1222 q1224 rfl dX9_go_16 hc0 hc (by show 0 + (1 + L) ≤ 9; omega) (by show 0 + (L + L * N) ≤ 104; omega) (fun yz RZ h_16 e_16 hZ => ?_)
  have hFx : FO c 10700 10790 h h_16 := e_16.fo
  have hc := e_16 _ _ hc
  refine ww_astore_n [(3, _), (0, _), (1, _), (2, _)] dX9_go_20 (by decide) rfl ?_
  refine ww_iload_n 2 dX9_go_21 rfl ?_
  refine ww_istore [(4, _), (3, _), (0, _), (1, _), (2, _)] dX9_go_22 (by decide) rfl ?_
  refine ww_iload_n 4 dX9_go_24 rfl ?_
  refine ww_istore [(5, _), (4, _), (3, _), (0, _), (1, _), (2, _)] dX9_go_25 (by decide) rfl ?_
  have loop_27 : ∀ (f : Nat) (hx : AH) (F : Int → Int → Int) (q p s : Int), (FO c 10700 10790 h hx) → (hx c = some ((c, 10700), ob 8 [.ref e, .int (iI s), .int (iI (-1))])) → (EAr G 7 2 hx c yz 10710 L N RZ F) → (∀ a b : Int, F a b = 0 ∨ F a b = 1) → (∀ a b : Int, F a b = 1 → W a ≠ -1) → (flw f B O (vF F) q p s = (flw 97 B O (fun _ _ => false) k n 0)) → (0 ≤ q) → (q < L) → (0 ≤ p) → (p < N) → (0 ≤ s ∧ s + f ≤ 97) → (fmu (vF F) < f) → WW G E (MX9_go 1 21 9 104) hx 9 104 27 [(0, .ref c), (3, .ref yz), (4, .int (iI q)), (5, .int (iI p))] [] := by
    intro f
    induction f with
    | zero => intro hx F q p s hFx hc hZ hF01 hFl hfl hq0 hq1 hp0 hp1 hs0 hf; exact absurd hf (by have := fmu_nn (vF F); omega)
    | succ f ih =>
      intro hx F q p s hFx hc hZ hF01 hFl hfl hq0 hq1 hp0 hp1 hs0 hf
      have hE := hE0.fo hFx (by omega)
      have hO := hO0.fo hFx hL8 (by omega)
      have hB := hB0.fo hFx hL8 (by omega)
      obtain ⟨-, -, -, he, h1, h2, h3⟩ := id hE
      have hf1 := hF01 q p
      refine ww_aload_n 0 dX9_go_27 rfl ?_
      refine ww_getf gf_X9_15 rfl dX9_go_28 hc rfl ?_
      refine ww_iload 2 dX9_go_31 rfl ?_
      refine cr_pi (cr_V (ct_X8_isLoaded hG hE hW q hq0 hq1) sv_X9_30 rfl dX9_go_33 he rfl rfl rfl rfl ⟨by decide, by decide⟩ (Nat.le_of_ble_eq_true rfl) (by show 9 + 0 ≤ 9; omega) (by show 104 + 0 ≤ 104; omega)) ?_
      refine ww_widen (n' := 9) (k' := 104) (by show 9 + 0 ≤ 9; omega) (by show 104 + 0 ≤ 104; omega) ?_
      refine ww_ifb_eq 136 dX9_go_36 (by decide) (fun c_36 => ?_) (fun c_36 => ?_)
      · have hwu : W q = -1 := Classical.byContradiction c_36
        have hvf : vF F q p = false := by unfold vF; exact decide_eq_false (fun z => hFl q p z hwu)
        refine ww_aload_n 0 dX9_go_136 rfl ?_
        exact ww_aret hQ dX9_go_137 rfl rfl (by show 9 ≤ 9; omega) (by show 104 ≤ 104; omega) ⟨c, rfl, rfl, by obtain ⟨q1, q2⟩ := flw_e hfl (flw_l hvf (hBu q p hq0 hq1 hp0 hp1 hwu)); rw [q1, q2]; exact hc, hFx⟩
      · refine ww_aload_n 1 dX9_go_39 rfl ?_
        refine ww_iload 2 dX9_go_40 rfl ?_
        refine ww_aalds dX9_go_42 hZ.1 rfl rfl (by omega) (by omega) (by omega) rfl ?_
        refine ww_iload 3 dX9_go_43 rfl ?_
        refine ww_zald dX9_go_45 (hZ.2 q hq0 hq1) (by omega) (by omega) (by omega) ?_
        refine ww_if_eq 57 dX9_go_46 (by decide) (by rcases hf1 with z | z <;> rw [z] <;> exact inI.mk (by decide) (by decide)) (fun c_46 => ?_) (fun c_46 => ?_)
        · have hvf : vF F q p = false := by unfold vF; exact decide_eq_false (by omega)
          refine ww_aload_n 1 dX9_go_57 rfl ?_
          refine ww_iload 2 dX9_go_58 rfl ?_
          refine ww_aalds dX9_go_60 hZ.1 rfl rfl (by omega) (by omega) (by omega) rfl ?_
          refine ww_iload 3 dX9_go_61 rfl ?_
          refine ww_iconst dX9_go_63 ?_
          have hrow := hZ.2 q hq0 hq1
          refine wx_zast dX9_go_64 hrow hc0 (by omega) (by omega) (by omega) rfl (fun h_64 hrow f_64 => ?_)
          have hc := f_64.at hc (by omega)
          have he := f_64.at he (by omega)
          have h1 := f_64.at h1 (by omega)
          have hFx := hFx.kt f_64 ⟨rfl, by omega, by omega⟩
          have hO := hO.kt f_64 hL8 (by omega)
          have hB := hB.kt f_64 hL8 (by omega)
          have hZ := hZ.put hq0 hq1 hrow f_64
          have hbr := hBr q p hq0 hq1 hp0 hp1
          refine ww_aload_n 0 dX9_go_65 rfl ?_
          refine ww_getf gf_X9_15 rfl dX9_go_66 hc rfl ?_
          refine ww_getf gf_X9_34 rfl dX9_go_69 he rfl ?_
          refine ww_iload 2 dX9_go_72 rfl ?_
          refine ww_aalds dX9_go_74 hB.1 rfl rfl (by omega) (by omega) (by omega) rfl ?_
          refine ww_iload 3 dX9_go_75 rfl ?_
          refine ww_iald dX9_go_77 (hB.2 _ (by omega) (by omega)) (by omega) (by omega) (by omega) ?_
          refine ww_istore [(4, _), (0, _), (3, _), (5, _)] dX9_go_78 (by decide) rfl ?_
          refine ww_iload 0 dX9_go_80 rfl ?_
          refine ww_iconst dX9_go_82 ?_
          refine ww_icmp_ne 88 dX9_go_83 (by decide) (inI.mk (by omega) (by omega)) (inI.mk (by decide) (by decide)) (fun c_83 => ?_) (fun c_83 => ?_)
          · refine ww_aload_n 1 dX9_go_88 rfl ?_
            refine ww_dup dX9_go_89 rfl ?_
            refine ww_getf gf_X9_38 rfl dX9_go_90 hc rfl ?_
            refine ww_iconst dX9_go_93 ?_
            refine ww_iadd dX9_go_94 ?_
            refine wx_putf pf_X9_38 rfl dX9_go_95 hc hc0 (Nat.le_of_ble_eq_true rfl) rfl rfl (fun h_95 hc f_95 => ?_)
            have he := f_95.at he (by omega)
            have h1 := f_95.at h1 (by omega)
            have hFx := hFx.kt f_95 ⟨rfl, by omega, by omega⟩
            have hO := hO.kt f_95 hL8 (by omega)
            have hB := hB.kt f_95 hL8 (by omega)
            have hZ := hZ.kt f_95 hL8 (by omega)
            refine ww_aload_n 1 dX9_go_98 rfl ?_
            refine ww_getf gf_X9_15 rfl dX9_go_99 hc rfl ?_
            refine ww_getf gf_X9_41 rfl dX9_go_102 he rfl ?_
            refine ww_iload 0 dX9_go_105 rfl ?_
            refine ww_aalds dX9_go_107 hO.1 rfl rfl (by omega) (by omega) (by omega) rfl ?_
            refine ww_iload 3 dX9_go_108 rfl ?_
            refine ww_iald dX9_go_110 (hO.2 _ (by omega) (by omega)) (by omega) (by omega) (by omega) ?_
            refine ww_istore [(6, _), (4, _), (0, _), (3, _), (5, _)] dX9_go_111 (by decide) rfl ?_
            refine ww_iload 0 dX9_go_113 rfl ?_
            refine ww_if_lt 126 dX9_go_115 (by decide) (hOi _ _) (fun c_115 => ?_) (fun c_115 => ?_)
            · refine ww_bipush dX9_go_126 (by decide) ?_
              refine ww_iload 0 dX9_go_128 rfl ?_
              refine ww_isub dX9_go_130 ?_
              refine ww_istore [(5, _), (6, _), (4, _), (0, _), (3, _)] dX9_go_131 (by decide) rfl ?_
              refine ww_goto 27 dX9_go_133 (by decide) ?_
              refine ww_sub [3, 4, 2, 0] rfl ?_
              exact ih _ _ _ _ _ hFx hc hZ (fun a b => by rw [g2_at]; split; exact Or.inr rfl; exact hF01 a b) (fun a b z => by rw [g2_at] at z; by_cases e9 : a = q ∧ b = p; rw [e9.1]; exact c_36; rw [if_neg e9] at z; exact hFl a b z) (by rw [vF_mk, ← hfl, flw_n hvf c_83 (by omega)]) (by omega) (by omega) (by have := hOr (B q p) p (by omega) (by omega) hp0 hp1; have := hBo q p hq0 hq1 hp0 hp1 c_83; omega) (by have := hOr (B q p) p (by omega) (by omega) hp0 hp1; omega) (by omega) (by rw [vF_mk, fmu_mk (by omega) (by omega) (by omega) (by omega) hvf]; omega)
            · refine ww_aload_n 2 dX9_go_118 rfl ?_
              refine ww_iload 0 dX9_go_119 rfl ?_
              refine wx_putf pf_X9_9 rfl dX9_go_121 hc hc0 (Nat.le_of_ble_eq_true rfl) rfl rfl (fun h_121 hc f_121 => ?_)
              have he := f_121.at he (by omega)
              have h1 := f_121.at h1 (by omega)
              have hFx := hFx.kt f_121 ⟨rfl, by omega, by omega⟩
              have hO := hO.kt f_121 hL8 (by omega)
              have hB := hB.kt f_121 hL8 (by omega)
              have hZ := hZ.kt f_121 hL8 (by omega)
              refine ww_aload_n 2 dX9_go_124 rfl ?_
              exact ww_aret hQ dX9_go_125 rfl rfl (by show 9 ≤ 9; omega) (by show 104 ≤ 104; omega) ⟨c, rfl, rfl, by obtain ⟨q1, q2⟩ := flw_e hfl (flw_v hvf c_83 (by omega)); rw [q1, q2]; exact hc, hFx⟩
          · refine ww_aload_n 1 dX9_go_86 rfl ?_
            exact ww_aret hQ dX9_go_87 rfl rfl (by show 9 ≤ 9; omega) (by show 104 ≤ 104; omega) ⟨c, rfl, rfl, by obtain ⟨q1, q2⟩ := flw_e hfl (flw_l hvf c_83); rw [q1, q2]; exact hc, hFx⟩
        · have hvt : vF F q p = true := by unfold vF; exact decide_eq_true (by omega)
          refine ww_aload_n 0 dX9_go_49 rfl ?_
          refine ww_bipush dX9_go_50 (by decide) ?_
          refine wx_putf pf_X9_9 rfl dX9_go_52 hc hc0 (Nat.le_of_ble_eq_true rfl) rfl rfl (fun h_52 hc f_52 => ?_)
          have he := f_52.at he (by omega)
          have h1 := f_52.at h1 (by omega)
          have hFx := hFx.kt f_52 ⟨rfl, by omega, by omega⟩
          have hO := hO.kt f_52 hL8 (by omega)
          have hB := hB.kt f_52 hL8 (by omega)
          have hZ := hZ.kt f_52 hL8 (by omega)
          refine ww_aload_n 0 dX9_go_55 rfl ?_
          exact ww_aret hQ dX9_go_56 rfl rfl (by show 9 ≤ 9; omega) (by show 104 ≤ 104; omega) ⟨c, rfl, rfl, by obtain ⟨q1, q2⟩ := flw_e hfl (flw_m hvt); rw [q1, q2]; exact hc, hFx⟩
  refine ww_sub [3, 2, 1, 0] rfl ?_
  refine ww_widen (n' := 9) (k' := 104) (by omega) (by omega) ?_
  exact loop_27 97 _ (fun _ _ => 0) k n 0 hFx hc hZ (fun _ _ => Or.inl rfl) (fun _ _ z => absurd z (by decide)) rfl k0 k1 n0 n1 (by decide) (by have := fmu_0; have e : vF (fun _ _ => 0) = fun _ _ => false := rfl; rw [e]; omega)
