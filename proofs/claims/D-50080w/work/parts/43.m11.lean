set_option maxRecDepth 100000
set_option maxHeartbeats 4000000 in
theorem ct_X3_next {G : GT} {h0 h : AH} {m : Nat} {A : Nat → Nat} {B : Nat → Int → Nat} {D : Int → Int} {σ : MS} (hG : GOK G) (hM : MWF G h0 h m A B D σ) {t : Int → Int} {n : Int} (hT : TX σ t n) (p : Int) (hp : σ 4 0 0 = p) (hp0 : 0 ≤ p) (hp1 : p ≤ n) : CSi G (MX3_next 1 21 0 0) h m A B D [.ref m] (fun r σ' => su σ 4 0 0 (sk t p) = σ' ∧ r = t (sk t p)) := by
  refine CT.of rfl hG (Nat.le_of_ble_eq_true rfl) rfl (fun E hQ => ?_)
  have hM := hM.1.f
  have hx := hT.1
  have hn8 := hx.2.1
  have loop_0 : ∀ (f : Nat) (q : Int) (hx1 : AH), (MWF G h hx1 m A B D (su σ 4 0 0 q)) → (0 ≤ q) → (q ≤ n) → (sk t p = sk t q) → (n - q < f) → WW G E (MX3_next 1 21 0 0) hx1 0 0 0 [(0, .ref m)] [] := by
    intro f
    induction f with
    | zero => intro q hx1 hM hq0 hq1 hs hf; exact absurd hf (by omega)
    | succ f ih =>
      intro q hx1 hM hq0 hq1 hs hf
      have hT := hT.mv hM (by decide) (by decide)
      refine ww_aload_n 0 dX3_next_0 rfl ?_
      refine ww_aload_n 0 dX3_next_1 rfl ?_
      refine ww_getf gf_X3_68 rfl dX3_next_2 hM.obj rfl ?_
      rw [su_s]
      refine cr_pi (cr_V (ct_by hG hM hT _ (by omega) (by omega)) sv_X3_71 rfl dX3_next_5 hM.obj rfl rfl rfl rfl ⟨by decide, by decide⟩ (Nat.le_of_ble_eq_true rfl) (Nat.le_of_ble_eq_true rfl) (Nat.le_of_ble_eq_true rfl)) ?_
      refine ww_bipush dX3_next_8 (by decide) ?_
      refine ww_icmp_ne 26 dX3_next_10 (by decide) (by have := hx.rg (q := q) (by omega); exact inI.mk (by omega) (by omega)) (inI.mk (by decide) (by decide)) (fun c_10 => ?_) (fun c_10 => ?_)
      · refine ww_aload_n 0 dX3_next_26 rfl ?_
        refine ww_aload_n 0 dX3_next_27 rfl ?_
        refine ww_getf gf_X3_68 rfl dX3_next_28 hM.obj rfl ?_
        rw [su_s]
        refine cr_pi (cr_V (ct_by hG hM hT _ (by omega) (by omega)) sv_X3_71 rfl dX3_next_31 hM.obj rfl rfl rfl rfl ⟨by decide, by decide⟩ (Nat.le_of_ble_eq_true rfl) (Nat.le_of_ble_eq_true rfl) (Nat.le_of_ble_eq_true rfl)) ?_
        exact ww_iret hQ dX3_next_34 rfl (Nat.le_of_ble_eq_true rfl) (Nat.le_of_ble_eq_true rfl) (by have e : sk t q = q := sc_f (by unfold isSp; exact decide_eq_false c_10); exact ⟨_, rfl, _, hM, by rw [hs, e], by rw [hs, e]⟩)
      · refine ww_aload_n 0 dX3_next_13 rfl ?_
        refine ww_dup dX3_next_14 rfl ?_
        refine ww_getf gf_X3_68 rfl dX3_next_15 hM.obj rfl ?_
        rw [su_s]
        refine ww_iconst dX3_next_18 ?_
        refine ww_iadd dX3_next_19 ?_
        refine mw_put pf_X3_68 rfl dX3_next_20 hM rfl (inI.mk (by omega) (by omega)) (fun hh hM => ?_)
        refine ww_goto 0 dX3_next_23 (by decide) ?_
        refine ww_sub [0] rfl ?_
        have hqn : q ≠ n := fun e => by rw [e, hx.2.2.1 n (Int.le_refl _)] at c_10; cases c_10
        rw [su_su] at hM
        exact ih (q + 1) _ hM (by omega) (by omega) (by rw [hs]; exact sc_t (by unfold isSp; exact decide_eq_true c_10) (by omega)) (by omega)
  refine ww_sub [0] rfl ?_
  exact loop_0 801 p h (by rw [su_id hp]; exact hM) hp0 hp1 rfl (by omega)

set_option maxHeartbeats 4000000 in
theorem ct_X3_takeWord {G : GT} {h0 h : AH} {m : Nat} {A : Nat → Nat} {B : Nat → Int → Nat} {D : Int → Int} {σ : MS} (hG : GOK G) (hM : MWF G h0 h m A B D σ) {t : Int → Int} {n : Int} (hT : TX σ t n) (p : Int) (hp : σ 4 0 0 = p) (hp0 : 0 ≤ p) (hp1 : p ≤ n) (hg : σ 5 0 0 = 0) {o a : Nat} {w : List Int} (hS : StO G h o a w) (hom : o ≠ m) : CSi G (MX3_takeWord 4 85 0 0) h m A B D [.ref m, .ref a] (fun r σ' => (wd t (sk t p) (we t (sk t p)) = w ∧ su σ 4 0 0 (we t (sk t p)) = σ' ∧ r = 1) ∨ (wd t (sk t p) (we t (sk t p)) ≠ w ∧ su σ 4 0 0 (sk t p) = σ' ∧ r = 0)) := by
  refine CT.of rfl hG (Nat.le_of_ble_eq_true rfl) rfl (fun E hQ => ?_)
  have hM := hM.1.f
  have hx := hT.1
  have hn8 := hx.2.1
  obtain ⟨va, hsv, hzv, hs1, hs2, hw, hl1, hsi, hsh⟩ := id hS
  refine ww_aload_n 0 dX3_takeWord_0 rfl ?_
  refine cr_pi (cr_V (ct_X3_isGood hG hM) sv_X3_85 rfl dX3_takeWord_1 hM.obj rfl rfl rfl rfl ⟨by decide, by decide⟩ (Nat.le_of_ble_eq_true rfl) (Nat.le_of_ble_eq_true rfl) (Nat.le_of_ble_eq_true rfl)) ?_
  refine ww_ifb_ne 9 dX3_takeWord_4 (by decide) (fun c_4 => ?_) (fun c_4 => ?_)
  · refine ww_aload_n 0 dX3_takeWord_9 rfl ?_
    refine cr_si hM (cr_V (ct_X3_next hG hM hT _ (by first | exact hp | exact su_s | rfl) (by omega) (by omega)) sv_X3_89 rfl dX3_takeWord_10 hM.obj rfl rfl rfl rfl ⟨by decide, by decide⟩ (Nat.le_of_ble_eq_true rfl) (Nat.le_of_ble_eq_true rfl) (Nat.le_of_ble_eq_true rfl)) (fun r_10 σ_10 hh hM hp_10 => ?_)
    obtain ⟨rfl, rfl⟩ := hp_10
    try rw [su_su] at hM
    have hk := hx.k1 hp1
    have hT := hT.mv hM (by decide) (by decide)
    have hS := (StO.fr (m := m) hS (fun q u x e1 e2 => hM.2 q u x e1 (fun z => hom (e2.symm.trans z.1))))
    obtain ⟨va, hsv, hzv, hs1, hs2, hw, hl1, hsi, hsh⟩ := id hS
    refine ww_pop dX3_takeWord_13 rfl ?_
    refine ww_iconst dX3_takeWord_14 ?_
    refine ww_istore_n [(2, _), (0, _), (1, _)] dX3_takeWord_15 (by decide) rfl ?_
    have loop_16 : ∀ (f : Nat) (i : Int), (0 ≤ i) → (i ≤ w.length) → (∀ j : Int, 0 ≤ j → j < i → t (sk t p + j) = lf w j) → (w.length - i < f) → WW G E (MX3_takeWord 4 85 0 0) hh 0 0 16 [(2, .int (iI i)), (0, .ref m), (1, .ref a)] [] := by
      intro f
      induction f with
      | zero => intro i hi0 hi1 he hf; exact absurd hf (by omega)
      | succ f ih =>
        intro i hi0 hi1 he hf
        have hwi := wd_iff hx hk.2.1 hw i hi0 hi1 he
        refine ww_iload_n 0 dX3_takeWord_16 rfl ?_
        refine ww_aload_n 2 dX3_takeWord_17 rfl ?_
        refine cr_pi (cr_V (ct_J6_length hG hS) sv_X3_93 rfl dX3_takeWord_18 hs1 rfl rfl rfl rfl ⟨by decide, by decide⟩ (Nat.le_of_ble_eq_true rfl) (Nat.le_of_ble_eq_true rfl) (Nat.le_of_ble_eq_true rfl)) ?_
        refine ww_icmp_ge 48 dX3_takeWord_21 (by decide) (inI.mk (by omega) (by omega)) (inI.mk (by omega) (by omega)) (fun c_21 => ?_) (fun c_21 => ?_)
        · have ci : ¬ i < w.length := by omega
          refine ww_iload_n 0 dX3_takeWord_48 rfl ?_
          refine ww_aload_n 2 dX3_takeWord_49 rfl ?_
          refine cr_pi (cr_V (ct_J6_length hG hS) sv_X3_93 rfl dX3_takeWord_50 hs1 rfl rfl rfl rfl ⟨by decide, by decide⟩ (Nat.le_of_ble_eq_true rfl) (Nat.le_of_ble_eq_true rfl) (Nat.le_of_ble_eq_true rfl)) ?_
          refine ww_icmp_lt 76 dX3_takeWord_53 (by decide) (inI.mk (by omega) (by omega)) (inI.mk (by omega) (by omega)) (fun c_53 => ?_) (fun c_53 => ?_)
          · refine ww_iconst dX3_takeWord_76 ?_
            exact ww_zret hQ dX3_takeWord_77 rfl (Nat.le_of_ble_eq_true rfl) (Nat.le_of_ble_eq_true rfl) (by first | exact Or.inl rfl | exact Or.inr rfl | (unfold bI; split <;> simp)) ⟨_, rfl, _, hM, Or.inr ⟨by first | exact hwi.2 (fun _ => c_39) (fun e => by omega) | exact hwi.2 (fun e => by omega) (fun _ => c_73) | (exfalso; omega), rfl, rfl⟩⟩
          · refine ww_aload_n 1 dX3_takeWord_56 rfl ?_
            refine ww_aload_n 1 dX3_takeWord_57 rfl ?_
            refine ww_getf gf_X3_68 rfl dX3_takeWord_58 hM.obj rfl ?_
            rw [su_s]
            refine ww_iload_n 0 dX3_takeWord_61 rfl ?_
            refine ww_iadd dX3_takeWord_62 ?_
            refine cr_pi (cr_V (ct_by hG hM hT _ (by omega) (by omega)) sv_X3_71 rfl dX3_takeWord_63 hM.obj rfl rfl rfl rfl ⟨by decide, by decide⟩ (Nat.le_of_ble_eq_true rfl) (Nat.le_of_ble_eq_true rfl) (Nat.le_of_ble_eq_true rfl)) ?_
            refine ww_bipush dX3_takeWord_66 (by decide) ?_
            refine ww_bipush dX3_takeWord_68 (by decide) ?_
            refine cr_pi (cr_S (ct_X3_in hG _ _ _ (by have := hx.rg (q := sk t p + i) (by omega); exact inI.mk (by omega) (by omega)) (inI.mk (by decide) (by decide)) (inI.mk (by decide) (by decide))) ss_X3_81 rfl dX3_takeWord_70 rfl rfl ⟨by decide, by decide⟩ (Nat.le_of_ble_eq_true rfl) (Nat.le_of_ble_eq_true rfl) (Nat.le_of_ble_eq_true rfl)) ?_
            refine ww_ifb_eq 78 dX3_takeWord_73 (by decide) (fun c_73 => ?_) (fun c_73 => ?_)
            · refine ww_aload_n 1 dX3_takeWord_78 rfl ?_
              refine ww_dup dX3_takeWord_79 rfl ?_
              refine ww_getf gf_X3_68 rfl dX3_takeWord_80 hM.obj rfl ?_
              rw [su_s]
              refine ww_iload_n 0 dX3_takeWord_83 rfl ?_
              refine ww_iadd dX3_takeWord_84 ?_
              refine mw_put pf_X3_68 rfl dX3_takeWord_85 hM rfl (inI.mk (by omega) (by omega)) (fun hh hM => ?_)
              rw [su_su] at hM
              refine ww_iconst dX3_takeWord_88 ?_
              exact ww_zret hQ dX3_takeWord_89 rfl (Nat.le_of_ble_eq_true rfl) (Nat.le_of_ble_eq_true rfl) (by first | exact Or.inl rfl | exact Or.inr rfl | (unfold bI; split <;> simp)) ⟨_, rfl, _, hM, by first | (exfalso; omega) | exact Or.inl ⟨(hwi.1 (by omega) c_73).1, by rw [(hwi.1 (by omega) c_73).2], rfl⟩⟩
            · refine ww_iconst dX3_takeWord_76 ?_
              exact ww_zret hQ dX3_takeWord_77 rfl (Nat.le_of_ble_eq_true rfl) (Nat.le_of_ble_eq_true rfl) (by first | exact Or.inl rfl | exact Or.inr rfl | (unfold bI; split <;> simp)) ⟨_, rfl, _, hM, Or.inr ⟨by first | exact hwi.2 (fun _ => c_39) (fun e => by omega) | exact hwi.2 (fun e => by omega) (fun _ => c_73) | (exfalso; omega), rfl, rfl⟩⟩
        · refine ww_aload_n 1 dX3_takeWord_24 rfl ?_
          refine ww_aload_n 1 dX3_takeWord_25 rfl ?_
          refine ww_getf gf_X3_68 rfl dX3_takeWord_26 hM.obj rfl ?_
          rw [su_s]
          refine ww_iload_n 0 dX3_takeWord_29 rfl ?_
          refine ww_iadd dX3_takeWord_30 ?_
          refine cr_pi (cr_V (ct_by hG hM hT _ (by omega) (by omega)) sv_X3_71 rfl dX3_takeWord_31 hM.obj rfl rfl rfl rfl ⟨by decide, by decide⟩ (Nat.le_of_ble_eq_true rfl) (Nat.le_of_ble_eq_true rfl) (Nat.le_of_ble_eq_true rfl)) ?_
          refine ww_aload_n 2 dX3_takeWord_34 rfl ?_
          refine ww_iload_n 0 dX3_takeWord_35 rfl ?_
          refine cr_pi (cr_V (ct_J6_charAt hG hS _ (by omega) (by omega)) sv_X3_98 rfl dX3_takeWord_36 hs1 rfl rfl rfl rfl ⟨by decide, by decide⟩ (Nat.le_of_ble_eq_true rfl) (Nat.le_of_ble_eq_true rfl) (Nat.le_of_ble_eq_true rfl)) ?_
          have hcw := lf_wd hw hi0 (show i < w.length by omega)
          refine ww_icmp_ne 48 dX3_takeWord_39 (by decide) (by have := hx.rg (q := sk t p + i) (by omega); exact inI.mk (by omega) (by omega)) (inI.mk (by omega) (by omega)) (fun c_39 => ?_) (fun c_39 => ?_)
          · refine ww_iload_n 0 dX3_takeWord_48 rfl ?_
            refine ww_aload_n 2 dX3_takeWord_49 rfl ?_
            refine cr_pi (cr_V (ct_J6_length hG hS) sv_X3_93 rfl dX3_takeWord_50 hs1 rfl rfl rfl rfl ⟨by decide, by decide⟩ (Nat.le_of_ble_eq_true rfl) (Nat.le_of_ble_eq_true rfl) (Nat.le_of_ble_eq_true rfl)) ?_
            refine ww_icmp_lt 76 dX3_takeWord_53 (by decide) (inI.mk (by omega) (by omega)) (inI.mk (by omega) (by omega)) (fun c_53 => ?_) (fun c_53 => ?_)
            · refine ww_iconst dX3_takeWord_76 ?_
              exact ww_zret hQ dX3_takeWord_77 rfl (Nat.le_of_ble_eq_true rfl) (Nat.le_of_ble_eq_true rfl) (by first | exact Or.inl rfl | exact Or.inr rfl | (unfold bI; split <;> simp)) ⟨_, rfl, _, hM, Or.inr ⟨by first | exact hwi.2 (fun _ => c_39) (fun e => by omega) | exact hwi.2 (fun e => by omega) (fun _ => c_73) | (exfalso; omega), rfl, rfl⟩⟩
            · refine ww_aload_n 1 dX3_takeWord_56 rfl ?_
              refine ww_aload_n 1 dX3_takeWord_57 rfl ?_
              refine ww_getf gf_X3_68 rfl dX3_takeWord_58 hM.obj rfl ?_
              rw [su_s]
              refine ww_iload_n 0 dX3_takeWord_61 rfl ?_
              refine ww_iadd dX3_takeWord_62 ?_
              refine cr_pi (cr_V (ct_by hG hM hT _ (by omega) (by omega)) sv_X3_71 rfl dX3_takeWord_63 hM.obj rfl rfl rfl rfl ⟨by decide, by decide⟩ (Nat.le_of_ble_eq_true rfl) (Nat.le_of_ble_eq_true rfl) (Nat.le_of_ble_eq_true rfl)) ?_
              refine ww_bipush dX3_takeWord_66 (by decide) ?_
              refine ww_bipush dX3_takeWord_68 (by decide) ?_
              refine cr_pi (cr_S (ct_X3_in hG _ _ _ (by have := hx.rg (q := sk t p + i) (by omega); exact inI.mk (by omega) (by omega)) (inI.mk (by decide) (by decide)) (inI.mk (by decide) (by decide))) ss_X3_81 rfl dX3_takeWord_70 rfl rfl ⟨by decide, by decide⟩ (Nat.le_of_ble_eq_true rfl) (Nat.le_of_ble_eq_true rfl) (Nat.le_of_ble_eq_true rfl)) ?_
              refine ww_ifb_eq 78 dX3_takeWord_73 (by decide) (fun c_73 => ?_) (fun c_73 => ?_)
              · refine ww_aload_n 1 dX3_takeWord_78 rfl ?_
                refine ww_dup dX3_takeWord_79 rfl ?_
                refine ww_getf gf_X3_68 rfl dX3_takeWord_80 hM.obj rfl ?_
                rw [su_s]
                refine ww_iload_n 0 dX3_takeWord_83 rfl ?_
                refine ww_iadd dX3_takeWord_84 ?_
                refine mw_put pf_X3_68 rfl dX3_takeWord_85 hM rfl (inI.mk (by omega) (by omega)) (fun hh hM => ?_)
                rw [su_su] at hM
                refine ww_iconst dX3_takeWord_88 ?_
                exact ww_zret hQ dX3_takeWord_89 rfl (Nat.le_of_ble_eq_true rfl) (Nat.le_of_ble_eq_true rfl) (by first | exact Or.inl rfl | exact Or.inr rfl | (unfold bI; split <;> simp)) ⟨_, rfl, _, hM, by first | (exfalso; omega) | exact Or.inl ⟨(hwi.1 (by omega) c_73).1, by rw [(hwi.1 (by omega) c_73).2], rfl⟩⟩
              · refine ww_iconst dX3_takeWord_76 ?_
                exact ww_zret hQ dX3_takeWord_77 rfl (Nat.le_of_ble_eq_true rfl) (Nat.le_of_ble_eq_true rfl) (by first | exact Or.inl rfl | exact Or.inr rfl | (unfold bI; split <;> simp)) ⟨_, rfl, _, hM, Or.inr ⟨by first | exact hwi.2 (fun _ => c_39) (fun e => by omega) | exact hwi.2 (fun e => by omega) (fun _ => c_73) | (exfalso; omega), rfl, rfl⟩⟩
          · refine ww_iinc (j := 0) [(2, _), (0, _), (1, _)] dX3_takeWord_42 rfl (by decide) rfl ?_
            refine ww_goto 16 dX3_takeWord_45 (by decide) ?_
            refine ww_sub [0, 1, 2] rfl ?_
            exact ih (i + 1) (by omega) (by omega) (fun j x y => if e : j = i then by (rw [e]; exact c_39) else he j x (by omega)) (by omega)
    refine ww_sub [0, 1, 2] rfl ?_
    exact loop_16 1000 0 (by omega) (by omega) (fun j x y => by omega) (by omega)
  · exact absurd hg c_4

set_option maxHeartbeats 4000000 in
theorem ct_X3_takeWordB {G : GT} {h0 h : AH} {m : Nat} {A : Nat → Nat} {B : Nat → Int → Nat} {D : Int → Int} {σ : MS} (hG : GOK G) (hM : MWF G h0 h m A B D σ) (hg : ¬ σ 5 0 0 = 0) {a : Nat} : CPi G (MX3_takeWord 1 20 0 0) h [.ref m, .ref a] (0) := by
  refine CT.of rfl hG (Nat.le_of_ble_eq_true rfl) rfl (fun E hQ => ?_)
  have hM := hM.1.f
  refine ww_aload_n 0 dX3_takeWord_0 rfl ?_
  refine cr_pi (cr_V (ct_X3_isGood hG hM) sv_X3_85 rfl dX3_takeWord_1 hM.obj rfl rfl rfl rfl ⟨by decide, by decide⟩ (Nat.le_of_ble_eq_true rfl) (Nat.le_of_ble_eq_true rfl) (Nat.le_of_ble_eq_true rfl)) ?_
  refine ww_ifb_ne 9 dX3_takeWord_4 (by decide) (fun c_4 => ?_) (fun c_4 => ?_)
  · exact absurd c_4 hg
  · refine ww_iconst dX3_takeWord_7 ?_
    exact ww_zret hQ dX3_takeWord_8 rfl (Nat.le_of_ble_eq_true rfl) (Nat.le_of_ble_eq_true rfl) (by first | exact Or.inl rfl | exact Or.inr rfl | (unfold bI; split <;> simp)) ⟨_, rfl, rfl, rfl⟩

set_option maxHeartbeats 4000000 in
theorem ct_X3_expect {G : GT} {h0 h : AH} {m : Nat} {A : Nat → Nat} {B : Nat → Int → Nat} {D : Int → Int} {σ : MS} (hG : GOK G) (hM : MWF G h0 h m A B D σ) {t : Int → Int} {n : Int} (hT : TX σ t n) (p : Int) (hp : σ 4 0 0 = p) (hp0 : 0 ≤ p) (hp1 : p ≤ n) (hg : σ 5 0 0 = 0) (c : Int) (hc : inI c) : CSv G (MX3_expect 2 41 0 0) h m A B D [.ref m, .int (iI c)] (fun σ' => (t (sk t p) = c ∧ su σ 4 0 0 (sk t p + 1) = σ') ∨ (t (sk t p) ≠ c ∧ su (su (su σ 4 0 0 (sk t p)) 5 0 0 (-2)) 6 0 0 (sk t p) = σ')) := by
  refine CT.of rfl hG (Nat.le_of_ble_eq_true rfl) rfl (fun E hQ => ?_)
  have hM := hM.1.f
  have hx := hT.1
  have hn8 := hx.2.1
  refine ww_aload_n 0 dX3_expect_0 rfl ?_
  refine cr_pi (cr_V (ct_X3_isGood hG hM) sv_X3_85 rfl dX3_expect_1 hM.obj rfl rfl rfl rfl ⟨by decide, by decide⟩ (Nat.le_of_ble_eq_true rfl) (Nat.le_of_ble_eq_true rfl) (Nat.le_of_ble_eq_true rfl)) ?_
  refine ww_ifb_ne 8 dX3_expect_4 (by decide) (fun c_4 => ?_) (fun c_4 => ?_)
  · refine ww_aload_n 0 dX3_expect_8 rfl ?_
    refine cr_si hM (cr_V (ct_X3_next hG hM hT _ (by first | exact hp | exact su_s | rfl) (by omega) (by omega)) sv_X3_89 rfl dX3_expect_9 hM.obj rfl rfl rfl rfl ⟨by decide, by decide⟩ (Nat.le_of_ble_eq_true rfl) (Nat.le_of_ble_eq_true rfl) (Nat.le_of_ble_eq_true rfl)) (fun r_9 σ_9 hh hM hp_9 => ?_)
    obtain ⟨rfl, rfl⟩ := hp_9
    try rw [su_su] at hM
    have hk := hx.k1 hp1
    have hT := hT.mv hM (by decide) (by decide)
    refine ww_iload_n 1 dX3_expect_12 rfl ?_
    refine ww_icmp_ne 29 dX3_expect_13 (by decide) (by have := hx.rg (q := sk t p) (by omega); exact inI.mk (by omega) (by omega)) hc (fun c_13 => ?_) (fun c_13 => ?_)
    · refine ww_aload_n 0 dX3_expect_29 rfl ?_
      refine ww_bipush dX3_expect_30 (by decide) ?_
      refine ww_aload_n 0 dX3_expect_32 rfl ?_
      refine ww_getf gf_X3_68 rfl dX3_expect_33 hM.obj rfl ?_
      rw [su_s]
      refine cr_sv hM (cr_V (ct_X3_report hG hM _ _ (inI.mk (by decide) (by decide)) (inI.mk (by omega) (by omega))) sv_X3_102 rfl dX3_expect_36 hM.obj rfl rfl rfl rfl ⟨by decide, by decide⟩ (Nat.le_of_ble_eq_true rfl) (Nat.le_of_ble_eq_true rfl) (Nat.le_of_ble_eq_true rfl)) (fun σ_36 hh hM hp_36 => ?_)
      subst hp_36
      rw [if_pos (show su σ 4 0 0 (sk t p) 5 0 0 = 0 from hg)] at hM
      exact ww_vret hQ dX3_expect_39 rfl (Nat.le_of_ble_eq_true rfl) (Nat.le_of_ble_eq_true rfl) ⟨rfl, _, hM, by first | exact Or.inl ⟨c_13, rfl⟩ | exact Or.inr ⟨c_13, rfl⟩⟩
    · refine ww_aload_n 0 dX3_expect_16 rfl ?_
      refine ww_dup dX3_expect_17 rfl ?_
      refine ww_getf gf_X3_68 rfl dX3_expect_18 hM.obj rfl ?_
      rw [su_s]
      refine ww_iconst dX3_expect_21 ?_
      refine ww_iadd dX3_expect_22 ?_
      refine mw_put pf_X3_68 rfl dX3_expect_23 hM rfl (inI.mk (by omega) (by omega)) (fun hh hM => ?_)
      rw [su_su] at hM
      refine ww_goto 39 dX3_expect_26 (by decide) ?_
      exact ww_vret hQ dX3_expect_39 rfl (Nat.le_of_ble_eq_true rfl) (Nat.le_of_ble_eq_true rfl) ⟨rfl, _, hM, by first | exact Or.inl ⟨c_13, rfl⟩ | exact Or.inr ⟨c_13, rfl⟩⟩
  · exact absurd hg c_4

set_option maxHeartbeats 4000000 in
theorem ct_X3_expectB {G : GT} {h0 h : AH} {m : Nat} {A : Nat → Nat} {B : Nat → Int → Nat} {D : Int → Int} {σ : MS} (hG : GOK G) (hM : MWF G h0 h m A B D σ) (hg : ¬ σ 5 0 0 = 0) (c : Int) : CPv G (MX3_expect 1 20 0 0) h [.ref m, .int (iI c)]  := by
  refine CT.of rfl hG (Nat.le_of_ble_eq_true rfl) rfl (fun E hQ => ?_)
  have hM := hM.1.f
  refine ww_aload_n 0 dX3_expect_0 rfl ?_
  refine cr_pi (cr_V (ct_X3_isGood hG hM) sv_X3_85 rfl dX3_expect_1 hM.obj rfl rfl rfl rfl ⟨by decide, by decide⟩ (Nat.le_of_ble_eq_true rfl) (Nat.le_of_ble_eq_true rfl) (Nat.le_of_ble_eq_true rfl)) ?_
  refine ww_ifb_ne 8 dX3_expect_4 (by decide) (fun c_4 => ?_) (fun c_4 => ?_)
  · exact absurd c_4 hg
  · exact ww_vret hQ dX3_expect_7 rfl (Nat.le_of_ble_eq_true rfl) (Nat.le_of_ble_eq_true rfl) ⟨rfl, rfl⟩
