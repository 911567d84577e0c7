set_option maxRecDepth 100000
set_option maxHeartbeats 4000000 in
theorem ct_J8_signedHashCode {G : GT} {h : AH} {v : Nat} {t : Tg} {l : List Int} (hG : GOK G) (hv : h v = some (t, aA G 1 l.length (lf l))) (hw : Wd l) (hl : l.length < 1000) : CT G (MJ8_signedHashCode 0 0 0 0) h [.int (iI 0), .ref v, .int (iI 0), .int (iI l.length)] (pI (fun r h' => r = shash l ∧ h' = h)) := by
  refine CT.of rfl hG (Nat.le_of_ble_eq_true rfl) rfl (fun E hQ => ?_)
  refine ww_iload_n 2 dJ8_signedHashCode_0 rfl ?_
  refine ww_iload_n 3 dJ8_signedHashCode_1 rfl ?_
  refine ww_iadd dJ8_signedHashCode_2 ?_
  rw [show (0 : Int) + (l.length : Int) = (l.length : Int) by omega]
  refine ww_istore [(4, _), (0, _), (1, _), (2, _), (3, _)] dJ8_signedHashCode_3 (by decide) rfl ?_
  refine ww_iload_n 3 dJ8_signedHashCode_5 rfl ?_
  refine ww_istore [(5, _), (4, _), (0, _), (1, _), (2, _), (3, _)] dJ8_signedHashCode_6 (by decide) rfl ?_
  have loop_8 : ∀ (f : Nat) (i : Nat), (i ≤ l.length) → (l.length - i < f) → WW G E (MJ8_signedHashCode 0 0 0 0) h 0 0 8 [(0, .int (iI (shash (l.take i)))), (1, .ref v), (4, .int (iI (l.length : Int))), (5, .int (iI (i : Int)))] [] := by
    intro f
    induction f with
    | zero => intro i hi1 hf; exact absurd hf (by omega)
    | succ f ih =>
      intro i hi1 hf
      refine ww_iload 3 dJ8_signedHashCode_8 rfl ?_
      refine ww_iload 2 dJ8_signedHashCode_10 rfl ?_
      refine ww_icmp_ge 35 dJ8_signedHashCode_12 (by decide) (inI.mk (by omega) (by omega)) (inI.mk (by omega) (by omega)) (fun c_12 => ?_) (fun c_12 => ?_)
      · have e_l : l.take i = l := List.take_of_length_le (by omega)
        rw [e_l]
        refine ww_iload_n 0 dJ8_signedHashCode_35 rfl ?_
        exact ww_iret hQ dJ8_signedHashCode_36 rfl (Nat.le_of_ble_eq_true rfl) (Nat.le_of_ble_eq_true rfl) ⟨_, rfl, rfl, rfl⟩
      · refine ww_bipush dJ8_signedHashCode_15 (by decide) ?_
        refine ww_iload_n 0 dJ8_signedHashCode_17 rfl ?_
        refine ww_imul dJ8_signedHashCode_18 ?_
        refine ww_aload_n 1 dJ8_signedHashCode_19 rfl ?_
        refine ww_iload 3 dJ8_signedHashCode_20 rfl ?_
        refine ww_bald dJ8_signedHashCode_22 hv (by omega) (by omega) (by omega) ?_
        have hb := lf_wd hw (i := (i : Int)) (by omega) (by omega)
        refine ww_sipush dJ8_signedHashCode_23 (by decide) ?_
        refine ww_iandI dJ8_signedHashCode_26 rfl ?_
        rw [show lf l (i : Int) % 256 = lf l (i : Int) by omega]
        refine ww_iadd dJ8_signedHashCode_27 ?_
        refine ww_istore_n [(0, _), (1, _), (4, _), (5, _)] dJ8_signedHashCode_28 (by decide) rfl ?_
        refine ww_iinc (j := 3) [(5, _), (0, _), (1, _), (4, _)] dJ8_signedHashCode_29 rfl (by decide) rfl ?_
        refine ww_goto 8 dJ8_signedHashCode_32 (by decide) ?_
        refine ww_sub [1, 2, 3, 0] rfl ?_
        have e_i := shash_s (l := l) (i := i) (by omega)
        rw [← e_i]
        exact ih (i + 1) (by omega) (by omega)
  refine ww_sub [2, 3, 1, 0] rfl ?_
  exact loop_8 (l.length + 1) 0 (by omega) (by omega)

set_option maxHeartbeats 4000000 in
theorem ct_J8_vectorizedHashCode {G : GT} {h : AH} {v : Nat} {t : Tg} {l : List Int} (hG : GOK G) (hv : h v = some (t, aA G 1 l.length (lf l))) (hw : Wd l) (hl : l.length < 1000) : CT G (MJ8_vectorizedHashCode 1 25 0 0) h [.ref v, .int (iI 0), .int (iI l.length), .int (iI 0), .int (iI 4)] (pI (fun r h' => r = shash l ∧ h' = h)) := by
  refine CT.of rfl hG (Nat.le_of_ble_eq_true rfl) rfl (fun E hQ => ?_)
  refine ww_iload 4 dJ8_vectorizedHashCode_0 rfl ?_
  refine ww_tableIn 44 dJ8_vectorizedHashCode_2 (inI.mk (by decide) (by decide)) (by decide) (by decide) rfl (by decide) ?_
  refine ww_iload_n 3 dJ8_vectorizedHashCode_44 rfl ?_
  refine ww_aload_n 0 dJ8_vectorizedHashCode_45 rfl ?_
  refine ww_castA dJ8_vectorizedHashCode_46 hv q235 (fun U hU => (hU.2 1 _ rfl).2) rfl ?_
  refine ww_iload_n 1 dJ8_vectorizedHashCode_49 rfl ?_
  refine ww_iload_n 2 dJ8_vectorizedHashCode_50 rfl ?_
  refine cr_i (cr_S (ct_J8_signedHashCode hG hv hw hl) ss_J8_62 rfl dJ8_vectorizedHashCode_51 rfl rfl ⟨by decide, by decide⟩ (Nat.le_of_ble_eq_true rfl) (Nat.le_of_ble_eq_true rfl) (Nat.le_of_ble_eq_true rfl)) (fun r_51 h_51 hp_51 => ?_)
  obtain ⟨er_51, eh_51⟩ := hp_51
  subst eh_51
  subst er_51
  refine ww_goto 157 dJ8_vectorizedHashCode_54 (by decide) ?_
  exact ww_iret hQ dJ8_vectorizedHashCode_157 rfl (Nat.le_of_ble_eq_true rfl) (Nat.le_of_ble_eq_true rfl) ⟨_, rfl, rfl, rfl⟩

set_option maxHeartbeats 4000000 in
theorem ct_J7_hashCode {G : GT} {h : AH} {v : Nat} {t : Tg} {l : List Int} (hG : GOK G) (hv : h v = some (t, aA G 1 l.length (lf l))) (hw : Wd l) (hl : l.length < 1000) : CT G (MJ7_hashCode 2 49 0 0) h [.ref v] (pI (fun r h' => r = shash l ∧ h' = h)) := by
  refine CT.of rfl hG (Nat.le_of_ble_eq_true rfl) rfl (fun E hQ => ?_)
  refine ww_aload_n 0 dJ7_hashCode_0 rfl ?_
  refine ww_alenA dJ7_hashCode_1 hv (by decide) ?_
  by_cases c0 : l.length = 0
  · have hl0 : l = [] := List.length_eq_zero_iff.mp c0
    subst hl0
    refine ww_lookup 28 dJ7_hashCode_2 (inI.mk (by decide) (by decide)) rfl rfl (by decide) ?_
    refine ww_iconst dJ7_hashCode_28 ?_
    refine ww_goto 51 dJ7_hashCode_29 (by decide) ?_
    exact ww_iret hQ dJ7_hashCode_51 rfl (Nat.le_of_ble_eq_true rfl) (Nat.le_of_ble_eq_true rfl) ⟨_, rfl, rfl, rfl⟩
  by_cases c1 : l.length = 1
  · obtain ⟨x, hx⟩ : ∃ x, l = [x] := List.length_eq_one_iff.mp c1
    rw [show (l.length : Int) = 1 by omega]
    refine ww_lookup 32 dJ7_hashCode_2 (inI.mk (by decide) (by decide)) rfl rfl (by decide) ?_
    refine ww_aload_n 0 dJ7_hashCode_32 rfl ?_
    refine ww_iconst dJ7_hashCode_33 ?_
    refine ww_bald dJ7_hashCode_34 hv (by omega) (by omega) (by omega) ?_
    subst hx
    have hb := hw x List.mem_cons_self
    refine ww_sipush dJ7_hashCode_35 (by decide) ?_
    refine ww_iandI dJ7_hashCode_38 rfl ?_
    refine ww_goto 51 dJ7_hashCode_39 (by decide) ?_
    exact ww_iret hQ dJ7_hashCode_51 rfl (Nat.le_of_ble_eq_true rfl) (Nat.le_of_ble_eq_true rfl) ⟨_, rfl, by show x % 256 = 31 * 0 + x; omega, rfl⟩
  refine ww_lookup 42 dJ7_hashCode_2 (inI.mk (by omega) (by omega)) rfl (off := 40) (by simp [Op.lookupswitch.offset, List.find?, show ¬ (0 : Int) = (l.length : Int) by omega, show ¬ (1 : Int) = (l.length : Int) by omega]) (by decide) ?_
  refine ww_aload_n 0 dJ7_hashCode_42 rfl ?_
  refine ww_iconst dJ7_hashCode_43 ?_
  refine ww_aload_n 0 dJ7_hashCode_44 rfl ?_
  refine ww_alenA dJ7_hashCode_45 hv (by decide) ?_
  refine ww_iconst dJ7_hashCode_46 ?_
  refine ww_iconst dJ7_hashCode_47 ?_
  refine cr_i (cr_S (ct_J8_vectorizedHashCode hG hv hw hl) ss_J7_84 rfl dJ7_hashCode_48 rfl rfl ⟨by decide, by decide⟩ (Nat.le_of_ble_eq_true rfl) (Nat.le_of_ble_eq_true rfl) (Nat.le_of_ble_eq_true rfl)) (fun r_48 h_48 hp_48 => ?_)
  obtain ⟨er_48, eh_48⟩ := hp_48
  subst eh_48
  subst er_48
  exact ww_iret hQ dJ7_hashCode_51 rfl (Nat.le_of_ble_eq_true rfl) (Nat.le_of_ble_eq_true rfl) ⟨_, rfl, rfl, rfl⟩
