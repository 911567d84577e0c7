set_option maxRecDepth 100000
set_option maxHeartbeats 4000000 in
theorem ct_X4_word {G : GT} {h : AH} (hG : GOK G) {p x a nl : Nat} {t : Int → Int} {n nx sa dp hs hw : Int} (hP : PB G h p x a nl t n nx sa dp hs hw) : CT G (MX4_word 7 500 (wC (we t (sk t nx) - sk t nx).toNat) (wS (we t (sk t nx) - sk t nx).toNat)) h [.ref p] (pR (fun q h' => StO G h' q q (pw t nx) ∧ Nw h q ∧ PB G h' p x a nl t n (sk t nx) sa dp hs hw ∧ PF p h h')) := by
  refine CT.of rfl hG (Nat.le_of_ble_eq_true rfl) rfl (fun E hQ => ?_)
  have ht := hP.txt
  have h8 := ht.2.1
  have h0 := ht.1
  have hnx := hP.2.2.1
  have hk := ht.k1 hnx.2
  have hrg := ht.rg (q := sk t nx) (by omega)
  have hp0 := hP.1.1
  have hF : PF p h h := KT.rf
  have hwC : wC (we t (sk t nx) - sk t nx).toNat = 4 + (we t (sk t nx) - sk t nx).toNat := rfl
  have hwS : wS (we t (sk t nx) - sk t nx).toNat = 32 + 5 * (we t (sk t nx) - sk t nx).toNat := rfl
  have hw1 := ht.w1 hk.2.1
  refine ww_aload_n 0 dX4_word_0 rfl ?_
  refine cr_i (cr_V (ct_X4_peek hG hP) sv_X4_55 rfl dX4_word_1 hP.obj rfl rfl rfl rfl ⟨Nat.le_of_ble_eq_true rfl, Nat.le_of_ble_eq_true rfl⟩ (Nat.le_of_ble_eq_true rfl) (by dsimp only [mmc, MX4_word, MX4_peek] <;> omega) (by dsimp only [mms, MX4_word, MX4_peek] <;> omega)) (fun r_1 h_1 hp_1 => ?_)
  obtain ⟨er_1, hP, f_1⟩ := hp_1
  subst er_1
  have hF := hF.tr f_1
  have hP1 := hP
  refine ww_pop dX4_word_4 rfl ?_
  refine wx_new (fun q => (q, 10005)) nw_X4_63 rfl dX4_word_5 (fun q hq => ⟨hq.1, Nat.le_refl _⟩) (by dsimp only [mmc, MX4_word, MX4_peek] <;> omega) (by dsimp only [mms, MX4_word, MX4_peek] <;> omega) (fun q_5 h_5 n_5 e_5 hq => ?_)
  have hF := hF.xe e_5
  have hP := hP.ex e_5
  refine ww_dup dX4_word_8 rfl ?_
  refine cr_v (cr_I (ct_J15_init hG n_5.1 hq) si_X4_65 rfl rfl dX4_word_9 rfl rfl ⟨Nat.le_of_ble_eq_true rfl, Nat.le_of_ble_eq_true rfl⟩ (Nat.le_of_ble_eq_true rfl) (by dsimp only [mmc, MX4_word, MX4_peek, MJ15_init] <;> omega) (by dsimp only [mms, MX4_word, MX4_peek, MJ15_init] <;> omega)) (fun h_9 hp_9 => ?_)
  obtain ⟨hS, f_9⟩ := hp_9
  have hP := hP.kt f_9 (by omega)
  have n9 : Nw h q_5 := f_1.nwo hP1.obj n_5
  have hF := hF.nk f_9 n9
  refine ww_astore_n [(1, _), (0, _)] dX4_word_12 (Nat.le_of_ble_eq_true rfl) rfl ?_
  refine ww_aload_n 1 dX4_word_13 rfl ?_
  refine ww_getf gf_X4_35 rfl dX4_word_14 hP.obj rfl ?_
  refine ww_istore_n [(2, _), (1, _), (0, _)] dX4_word_17 (Nat.le_of_ble_eq_true rfl) rfl ?_
  have loop_18 : ∀ (f : Nat) (j : Int) (C nn kk : Nat) (h1 : AH), (PF p h h1) → (PB G h1 p x a nl t n (sk t nx) sa dp hs hw) → (SB G h1 q_5 (wd t (sk t nx) j) C) → (sk t nx ≤ j) → (j ≤ we t (sk t nx)) → (we t j = we t (sk t nx)) → ((nn : Int) ≤ 2 + (j - sk t nx)) → (kk + 12 ≤ 2 * C) → (C ≤ 16 ∨ (C : Int) ≤ 2 * (j - sk t nx)) → (n - j < f) → WW G E (MX4_word 7 500 (wC (we t (sk t nx) - sk t nx).toNat) (wS (we t (sk t nx) - sk t nx).toNat)) h1 nn kk 18 [(0, .ref p), (1, .ref q_5), (2, .int (iI j))] [] := by
    intro f
    induction f with
    | zero => intro j C nn kk h1 hF hP hS hj0 hj1 hwe hnn hkk hC hf; exact absurd hf (by omega)
    | succ f ih =>
      intro j C nn kk h1 hF hP hS hj0 hj1 hwe hnn hkk hC hf
      obtain ⟨-, ⟨bf, fs, B, hx0, hx, hb, -, hB⟩, -⟩ := id hP
      have hp := hP.obj
      have hwl := wd_len (t := t) (a := sk t nx) (b := j)
      obtain ⟨fs9, hso⟩ := hS.obj
      have hlc : (wd t (sk t nx) j).length < C ∨ (wd t (sk t nx) j).length = C := by obtain ⟨v9, a1, a2, a3, a4, a5⟩ := id hS; omega
      refine ww_aload_n 0 dX4_word_18 rfl ?_
      refine ww_iload_n 2 dX4_word_19 rfl ?_
      refine cr_pi (cr_V (ct_X4_isLetterAt hG hP j (by omega) (by omega)) sv_X4_66 rfl dX4_word_20 hP.obj rfl rfl rfl rfl ⟨Nat.le_of_ble_eq_true rfl, Nat.le_of_ble_eq_true rfl⟩ (Nat.le_of_ble_eq_true rfl) (by dsimp only [mmc, MX4_word, MX4_peek, MJ15_init, MX4_isLetterAt] <;> omega) (by dsimp only [mms, MX4_word, MX4_peek, MJ15_init, MX4_isLetterAt] <;> omega)) ?_
      refine ww_ifb_eq 47 dX4_word_23 (by decide) (fun c_23 => ?_) (fun c_23 => ?_)
      · have ej : we t (sk t nx) = j := by rw [← hwe]; exact we_f c_23
        refine ww_aload_n 1 dX4_word_47 rfl ?_
        have hP1_ := hP
        have hl9 : (wd t (sk t nx) j).length ≤ (we t (sk t nx) - sk t nx).toNat := by rw [ej]; omega
        refine cr_r (cr_V (ct_J15_toString hG hS (by omega)) sv_X4_74 rfl dX4_word_48 hso rfl rfl rfl rfl ⟨Nat.le_of_ble_eq_true rfl, Nat.le_of_ble_eq_true rfl⟩ (Nat.le_of_ble_eq_true rfl) (by dsimp only [mmc, MX4_word, MX4_peek, MJ15_init, MX4_isLetterAt, MJ15_toString] <;> omega) (by dsimp only [mms, MX4_word, MX4_peek, MJ15_init, MX4_isLetterAt, MJ15_toString] <;> omega)) (fun r_48 h_48 hp_48 => ?_)
        obtain ⟨hT_48, e_48, m_48⟩ := hp_48
        have hP := hP.ex e_48
        have hN9 := hF.nwo hP1_.obj m_48
        have hF := hF.xe e_48
        exact ww_aret hQ dX4_word_51 rfl rfl (by dsimp only [mmc, MX4_word, MX4_peek, MJ15_init, MX4_isLetterAt, MJ15_toString] <;> omega) (by dsimp only [mms, MX4_word, MX4_peek, MJ15_init, MX4_isLetterAt, MJ15_toString] <;> omega) ⟨_, rfl, by unfold pw; rw [ej]; exact hT_48, hN9, hP, hF⟩
      · have hjn : j ≠ n := fun e => by rw [e, ht.2.2.1 n (Int.le_refl _)] at c_23; omega
        have hBj := hB j (by omega) (by omega)
        have htj : t j = B j := by rw [hBj.2.2] at c_23 ⊢; omega
        rw [htj] at c_23
        have hwe2 : we t (j + 1) = we t (sk t nx) := by rw [← hwe]; exact (we_t (by rw [htj]; exact c_23) (by omega)).symm
        have hjw : j < we t (sk t nx) := by have := (ht.w1 (p := j + 1) (by omega)).1; rw [hwe2] at this; omega
        refine ww_aload_n 1 dX4_word_26 rfl ?_
        refine ww_aload_n 0 dX4_word_27 rfl ?_
        refine ww_getf gf_X4_3 rfl dX4_word_28 hp rfl ?_
        refine ww_getf gf_X4_38 rfl dX4_word_31 hx rfl ?_
        refine ww_iload_n 2 dX4_word_34 rfl ?_
        refine ww_bald dX4_word_35 hb (by omega) (by omega) (by omega) ?_
        refine ww_i2c dX4_word_36 (by omega) (by omega) ?_
        rcases hlc with hlt | hlt
        · refine cr_r (cr_V (ct_J15_appA hG hS hlt (B j) (by omega) (by omega)) sv_X4_70 rfl dX4_word_37 hso rfl rfl rfl rfl ⟨Nat.le_of_ble_eq_true rfl, Nat.le_of_ble_eq_true rfl⟩ (Nat.le_of_ble_eq_true rfl) (by dsimp only [mmc, MX4_word, MX4_peek, MJ15_init, MX4_isLetterAt, MJ15_toString, MJ15_append_3] <;> omega) (by dsimp only [mms, MX4_word, MX4_peek, MJ15_init, MX4_isLetterAt, MJ15_toString, MJ15_append_3] <;> omega)) (fun r_37 h_37 hp_37 => ?_)
          obtain ⟨eq_37, hS, g_37⟩ := hp_37
          subst eq_37
          have hP := hP.fo g_37 (by omega)
          have hF := hF.no g_37 n9
          refine ww_pop dX4_word_40 rfl ?_
          refine ww_iinc (j := 2) [(2, _), (0, _), (1, _)] dX4_word_41 rfl (Nat.le_of_ble_eq_true rfl) rfl ?_
          refine ww_goto 18 dX4_word_44 (by decide) ?_
          refine ww_sub [1, 2, 0] rfl ?_
          refine ww_widen (n' := nn) (k' := kk) (by dsimp only [mmc, MX4_isLetterAt, MJ15_append_3] <;> omega) (by dsimp only [mms, MX4_isLetterAt, MJ15_append_3] <;> omega) ?_
          exact ih (j + 1) C nn kk _ hF hP (by rw [wd_snoc hj0, htj]; exact hS) (by omega) (by omega) hwe2 (by omega) hkk (by omega) (by omega)
        · refine cr_r (cr_V (ct_J15_appB hG hS hlt (by omega) (B j) (by omega) (by omega)) sv_X4_70 rfl dX4_word_37 hso rfl rfl rfl rfl ⟨Nat.le_of_ble_eq_true rfl, Nat.le_of_ble_eq_true rfl⟩ (Nat.le_of_ble_eq_true rfl) (by dsimp only [mmc, MX4_word, MX4_peek, MJ15_init, MX4_isLetterAt, MJ15_toString, MJ15_append_3] <;> omega) (by dsimp only [mms, MX4_word, MX4_peek, MJ15_init, MX4_isLetterAt, MJ15_toString, MJ15_append_3] <;> omega)) (fun r_37 h_37 hp_37 => ?_)
          obtain ⟨eq_37, hS, g_37⟩ := hp_37
          subst eq_37
          have hP := hP.fo g_37 (by omega)
          have hF := hF.no g_37 n9
          refine ww_pop dX4_word_40 rfl ?_
          refine ww_iinc (j := 2) [(2, _), (0, _), (1, _)] dX4_word_41 rfl (Nat.le_of_ble_eq_true rfl) rfl ?_
          refine ww_goto 18 dX4_word_44 (by decide) ?_
          refine ww_sub [1, 2, 0] rfl ?_
          refine ww_widen (n' := nn + 1) (k' := kk + (2 * C + 2)) (by dsimp only [mmc, MX4_isLetterAt, MJ15_append_3] <;> omega) (by dsimp only [mms, MX4_isLetterAt, MJ15_append_3] <;> omega) ?_
          exact ih (j + 1) (2 * C + 2) (nn + 1) (kk + (2 * C + 2)) _ hF hP (by rw [wd_snoc hj0, htj]; exact hS) (by omega) (by omega) hwe2 (by omega) (by omega) (by omega) (by omega)
  refine ww_sub [2, 1, 0] rfl ?_
  refine ww_widen (n' := 2) (k' := 20) (by dsimp only [mmc, MX4_peek, MJ15_init] <;> omega) (by dsimp only [mms, MX4_peek, MJ15_init] <;> omega) ?_
  exact loop_18 801 (sk t nx) 16 2 20 _ hF hP (by rw [wd_nil]; exact hS) (by omega) (by omega) rfl (by omega) (by omega) (Or.inl (by omega)) (by omega)
