set_option maxRecDepth 100000
set_option maxHeartbeats 4000000 in
theorem ct_J1_inc {G : GT} {h : AH} (hG : GOK G) (i : Int) (h0 : 0 ≤ i) (h1 : i < 17) : CPi G (MJ1_inc 0 0 0 0) h [.int (iI i), .int (iI 17)] ((i + 1) % 17) := by
  refine CT.of rfl hG (Nat.le_of_ble_eq_true rfl) rfl (fun E hQ => ?_)
  refine ww_iinc (j := 0) [(0, _), (1, _)] dJ1_inc_0 rfl (by decide) rfl ?_
  refine ww_iload_n 0 dJ1_inc_3 rfl ?_
  refine ww_iload_n 1 dJ1_inc_4 rfl ?_
  refine ww_icmp_lt 10 dJ1_inc_5 (by decide) (inI.mk (by omega) (by omega)) (inI.mk (by omega) (by omega)) (fun c_5 => ?_) (fun c_5 => ?_)
  · refine ww_iload_n 0 dJ1_inc_10 rfl ?_
    exact ww_iret hQ dJ1_inc_11 rfl (Nat.le_of_ble_eq_true rfl) (Nat.le_of_ble_eq_true rfl) ⟨_, rfl, by omega, rfl⟩
  · refine ww_iconst dJ1_inc_8 ?_
    refine ww_istore_n [(0, _), (1, _)] dJ1_inc_9 (by decide) rfl ?_
    refine ww_iload_n 0 dJ1_inc_10 rfl ?_
    exact ww_iret hQ dJ1_inc_11 rfl (Nat.le_of_ble_eq_true rfl) (Nat.le_of_ble_eq_true rfl) ⟨_, rfl, by omega, rfl⟩

set_option maxHeartbeats 4000000 in
theorem ct_J1_dec {G : GT} {h : AH} (hG : GOK G) (i : Int) (h0 : 0 ≤ i) (h1 : i < 17) : CPi G (MJ1_dec 0 0 0 0) h [.int (iI i), .int (iI 17)] ((i + 16) % 17) := by
  refine CT.of rfl hG (Nat.le_of_ble_eq_true rfl) rfl (fun E hQ => ?_)
  refine ww_iinc (j := 0) [(0, _), (1, _)] dJ1_dec_0 rfl (by decide) rfl ?_
  refine ww_iload_n 0 dJ1_dec_3 rfl ?_
  refine ww_if_ge 11 dJ1_dec_4 (by decide) (inI.mk (by omega) (by omega)) (fun c_4 => ?_) (fun c_4 => ?_)
  · refine ww_iload_n 0 dJ1_dec_11 rfl ?_
    exact ww_iret hQ dJ1_dec_12 rfl (Nat.le_of_ble_eq_true rfl) (Nat.le_of_ble_eq_true rfl) ⟨_, rfl, by omega, rfl⟩
  · refine ww_iload_n 1 dJ1_dec_7 rfl ?_
    refine ww_iconst dJ1_dec_8 ?_
    refine ww_isub dJ1_dec_9 ?_
    refine ww_istore_n [(0, _), (1, _)] dJ1_dec_10 (by decide) rfl ?_
    refine ww_iload_n 0 dJ1_dec_11 rfl ?_
    exact ww_iret hQ dJ1_dec_12 rfl (Nat.le_of_ble_eq_true rfl) (Nat.le_of_ble_eq_true rfl) ⟨_, rfl, by omega, rfl⟩

set_option maxHeartbeats 4000000 in
theorem ct_J1_sub {G : GT} {h : AH} (hG : GOK G) (i j : Int) (h0 : 0 ≤ i) (h1 : i < 17) (h2 : 0 ≤ j) (h3 : j < 17) : CPi G (MJ1_sub 0 0 0 0) h [.int (iI i), .int (iI j), .int (iI 17)] ((i + 17 - j) % 17) := by
  refine CT.of rfl hG (Nat.le_of_ble_eq_true rfl) rfl (fun E hQ => ?_)
  refine ww_iload_n 0 dJ1_sub_0 rfl ?_
  refine ww_iload_n 1 dJ1_sub_1 rfl ?_
  refine ww_isub dJ1_sub_2 ?_
  refine ww_dup dJ1_sub_3 rfl ?_
  refine ww_istore_n [(0, _), (1, _), (2, _)] dJ1_sub_4 (by decide) rfl ?_
  refine ww_if_ge 12 dJ1_sub_5 (by decide) (inI.mk (by omega) (by omega)) (fun c_5 => ?_) (fun c_5 => ?_)
  · refine ww_iload_n 0 dJ1_sub_12 rfl ?_
    exact ww_iret hQ dJ1_sub_13 rfl (Nat.le_of_ble_eq_true rfl) (Nat.le_of_ble_eq_true rfl) ⟨_, rfl, by omega, rfl⟩
  · refine ww_iload_n 0 dJ1_sub_8 rfl ?_
    refine ww_iload_n 2 dJ1_sub_9 rfl ?_
    refine ww_iadd dJ1_sub_10 ?_
    refine ww_istore_n [(0, _), (1, _), (2, _)] dJ1_sub_11 (by decide) rfl ?_
    refine ww_iload_n 0 dJ1_sub_12 rfl ?_
    exact ww_iret hQ dJ1_sub_13 rfl (Nat.le_of_ble_eq_true rfl) (Nat.le_of_ble_eq_true rfl) ⟨_, rfl, by omega, rfl⟩

set_option maxHeartbeats 4000000 in
theorem ct_J1_elementAt {G : GT} {h : AH} (hG : GOK G) {r : Nat} {t : Tg} {f : Int → Option Nat} (hr : h r = some (t, aR G 4 17 f)) (i : Int) (h0 : 0 ≤ i) (h1 : i < 17) {x : Nat} (hx : f i = some x) : CT G (MJ1_elementAt 0 0 0 0) h [.ref r, .int (iI i)] (pR (fun z h' => z = x ∧ h' = h)) := by
  refine CT.of rfl hG (Nat.le_of_ble_eq_true rfl) rfl (fun E hQ => ?_)
  refine ww_aload_n 0 dJ1_elementAt_0 rfl ?_
  refine ww_iload_n 1 dJ1_elementAt_1 rfl ?_
  refine ww_aalds dJ1_elementAt_2 hr rfl rfl (by decide) (by omega) (by omega) hx ?_
  exact ww_aret hQ dJ1_elementAt_3 rfl rfl (Nat.le_of_ble_eq_true rfl) (Nat.le_of_ble_eq_true rfl) ⟨_, rfl, rfl, rfl⟩

set_option maxHeartbeats 4000000 in
theorem ct_J1_init {G : GT} {h : AH} (hG : GOK G) {o k a : Nat} (ho : o ≠ 0) (ha : h a = some ((o, k), ob 9 [.null, .int 0, .int 0])) : CT G (MJ1_init 2 40 1 17) h [.ref a] (pV (fun h' => DQ G h' o k a [] ∧ KT a (o, k) h h')) := by
  refine CT.of rfl hG (Nat.le_of_ble_eq_true rfl) rfl (fun E hQ => ?_)
  have hF : FO o k k h h := FO.rf
  refine ww_aload_n 0 dJ1_init_0 rfl ?_
  refine cr_pv (cr_I (ct_J0_init hG _) si_J1_42 rfl rfl dJ1_init_1 rfl rfl ⟨by decide, by decide⟩ (Nat.le_of_ble_eq_true rfl) (Nat.le_of_ble_eq_true rfl) (Nat.le_of_ble_eq_true rfl)) ?_
  refine ww_aload_n 0 dJ1_init_4 rfl ?_
  refine ww_bipush dJ1_init_5 (by decide) ?_
  refine wx_newR (N := 17) (j := 4) (fun _ => (o, k + 1)) rfl (by decide) q139 q140 rfl rfl dJ1_init_7 (fun q hq => ⟨ho, Nat.le_of_lt (hq.2 _ _ _ ha).2⟩) (Nat.le_of_ble_eq_true rfl) (Nat.le_of_ble_eq_true rfl) (fun q_7 h_7 n_7 e_7 hq => ?_)
  have ha := e_7 _ _ ha
  have hF := hF.ex e_7
  refine wx_putf pf_J1_3 rfl dJ1_init_10 ha ho (Nat.le_of_ble_eq_true rfl) rfl rfl (fun h_10 ha f_10 => ?_)
  have hq := f_10.at hq (by omega)
  have hF := hF.kt f_10 ⟨rfl, by omega, by omega⟩
  exact ww_vret hQ dJ1_init_13 rfl (Nat.le_of_ble_eq_true rfl) (Nat.le_of_ble_eq_true rfl) ⟨rfl, ⟨_, 0, _, ho, ha, hq, by decide, by decide, by decide, fun i x hx => by cases hx⟩, fun b u x hb hu => f_10 b u x (e_7 _ _ hb) hu⟩

set_option maxHeartbeats 4000000 in
theorem ct_J1_isEmpty {G : GT} {h : AH} (hG : GOK G) {o k a : Nat} {xs : List Nat} (hA : DQ G h o k a xs) : CT G (MJ1_isEmpty 0 0 0 0) h [.ref a] (pI (fun r h' => r = bI (xs = []) ∧ h' = h)) := by
  refine CT.of rfl hG (Nat.le_of_ble_eq_true rfl) rfl (fun E hQ => ?_)
  obtain ⟨r, hd, f, ho, ha, hr, h0, h1, h8, hf⟩ := hA
  refine ww_aload_n 0 dJ1_isEmpty_0 rfl ?_
  refine ww_getf gf_J1_24 rfl dJ1_isEmpty_1 ha rfl ?_
  refine ww_aload_n 0 dJ1_isEmpty_4 rfl ?_
  refine ww_getf gf_J1_20 rfl dJ1_isEmpty_5 ha rfl ?_
  refine ww_icmp_ne 15 dJ1_isEmpty_8 (by decide) (inI.mk (by omega) (by omega)) (inI.mk (by omega) (by omega)) (fun c_8 => ?_) (fun c_8 => ?_)
  · have e0 : bI (xs = []) = 0 := bI_f (fun e => by rw [e] at c_8; exact c_8 (by simp only [List.length_nil]; omega))
    refine ww_iconst dJ1_isEmpty_15 ?_
    exact ww_zret hQ dJ1_isEmpty_16 rfl (Nat.le_of_ble_eq_true rfl) (Nat.le_of_ble_eq_true rfl) (by first | exact Or.inl rfl | exact Or.inr rfl | (unfold bI; split <;> simp)) ⟨_, rfl, by rw [e0], rfl⟩
  · have e0 : bI (xs = []) = 1 := bI_t (List.length_eq_zero_iff.mp (by omega))
    refine ww_iconst dJ1_isEmpty_11 ?_
    refine ww_goto 16 dJ1_isEmpty_12 (by decide) ?_
    exact ww_zret hQ dJ1_isEmpty_16 rfl (Nat.le_of_ble_eq_true rfl) (Nat.le_of_ble_eq_true rfl) (by first | exact Or.inl rfl | exact Or.inr rfl | (unfold bI; split <;> simp)) ⟨_, rfl, by rw [e0], rfl⟩

set_option maxHeartbeats 4000000 in
theorem ct_J1_size {G : GT} {h : AH} (hG : GOK G) {o k a : Nat} {xs : List Nat} (hA : DQ G h o k a xs) : CT G (MJ1_size 1 22 0 0) h [.ref a] (pI (fun r h' => r = xs.length ∧ h' = h)) := by
  refine CT.of rfl hG (Nat.le_of_ble_eq_true rfl) rfl (fun E hQ => ?_)
  obtain ⟨r, hd, f, ho, ha, hr, h0, h1, h8, hf⟩ := hA
  refine ww_aload_n 0 dJ1_size_0 rfl ?_
  refine ww_getf gf_J1_20 rfl dJ1_size_1 ha rfl ?_
  refine ww_aload_n 0 dJ1_size_4 rfl ?_
  refine ww_getf gf_J1_24 rfl dJ1_size_5 ha rfl ?_
  refine ww_aload_n 0 dJ1_size_8 rfl ?_
  refine ww_getf gf_J1_3 rfl dJ1_size_9 ha rfl ?_
  refine ww_alenR dJ1_size_12 hr (by decide) ?_
  refine cr_pi (cr_S (ct_J1_sub hG _ _ (by omega) (by omega) (by omega) (by omega)) ss_J1_127 rfl dJ1_size_13 rfl rfl ⟨by decide, by decide⟩ (Nat.le_of_ble_eq_true rfl) (Nat.le_of_ble_eq_true rfl) (Nat.le_of_ble_eq_true rfl)) ?_
  exact ww_iret hQ dJ1_size_16 rfl (Nat.le_of_ble_eq_true rfl) (Nat.le_of_ble_eq_true rfl) ⟨_, rfl, by omega, rfl⟩

set_option maxHeartbeats 4000000 in
theorem ct_J1_addLast {G : GT} {h : AH} (hG : GOK G) {o k a : Nat} {xs : List Nat} (hA : DQ G h o k a xs) (h7 : xs.length < 8) {ci : Nat} {q : vw_C} (hci : gcl[ci]? = some q) (hC : Cond.castable q.1 "java/lang/Object" ∈ lw_tbl) {e u1 u2 : Nat} {efs : List Value} (he : h e = some ((u1, u2), ob ci efs)) (hu : u1 ≠ o ∨ u2 < k ∨ k + 1 < u2) : CT G (MJ1_addLast 1 21 0 0) h [.ref a, .ref e] (pV (fun h' => DQ G h' o k a (xs ++ [e]) ∧ FO o k (k + 1) h h')) := by
  refine CT.of rfl hG (Nat.le_of_ble_eq_true rfl) rfl (fun E hQ => ?_)
  obtain ⟨r, hd, f, ho, ha, hr, h0, h1, h8, hf⟩ := hA
  have hF : FO o k (k + 1) h h := FO.rf
  have e_ln : ((xs ++ [e]).length : Int) = xs.length + 1 := by rw [List.length_append, List.length_singleton]; omega
  refine ww_aload_n 1 dJ1_addLast_0 rfl ?_
  refine ww_ifnonnull 12 dJ1_addLast_1 (by decide) ?_
  refine ww_aload_n 0 dJ1_addLast_12 rfl ?_
  refine ww_getf gf_J1_3 rfl dJ1_addLast_13 ha rfl ?_
  refine ww_astore_n [(2, _), (0, _), (1, _)] dJ1_addLast_16 (by decide) rfl ?_
  refine ww_aload_n 0 dJ1_addLast_17 rfl ?_
  refine ww_aload_n 1 dJ1_addLast_18 rfl ?_
  refine ww_getf gf_J1_20 rfl dJ1_addLast_19 ha rfl ?_
  refine ww_aload_n 2 dJ1_addLast_22 rfl ?_
  refine wx_aast (Or.inr hC) dJ1_addLast_23 hr ho rfl he hci (by decide) (by omega) (by omega) (fun h_23 hr f_23 => ?_)
  have ha := f_23.at ha (by omega)
  have he := f_23.at he (by omega)
  have hF := hF.kt f_23 ⟨rfl, by omega, by omega⟩
  refine ww_aload_n 1 dJ1_addLast_24 rfl ?_
  refine ww_getf gf_J1_24 rfl dJ1_addLast_25 ha rfl ?_
  refine ww_aload_n 1 dJ1_addLast_28 rfl ?_
  refine ww_aload_n 1 dJ1_addLast_29 rfl ?_
  refine ww_getf gf_J1_20 rfl dJ1_addLast_30 ha rfl ?_
  refine ww_aload_n 0 dJ1_addLast_33 rfl ?_
  refine ww_alenR dJ1_addLast_34 hr (by decide) ?_
  refine cr_pi (cr_S (ct_J1_inc hG _ (by omega) (by omega)) ss_J1_74 rfl dJ1_addLast_35 rfl rfl ⟨by decide, by decide⟩ (Nat.le_of_ble_eq_true rfl) (Nat.le_of_ble_eq_true rfl) (Nat.le_of_ble_eq_true rfl)) ?_
  refine ww_dup_x1 dJ1_addLast_38 rfl rfl ?_
  refine wx_putf pf_J1_20 rfl dJ1_addLast_39 ha ho (Nat.le_of_ble_eq_true rfl) rfl rfl (fun h_39 ha f_39 => ?_)
  have hr := f_39.at hr (by omega)
  have he := f_39.at he (by omega)
  have hF := hF.kt f_39 ⟨rfl, by omega, by omega⟩
  refine ww_icmp_ne 50 dJ1_addLast_42 (by decide) (inI.mk (by omega) (by omega)) (inI.mk (by omega) (by omega)) (fun c_42 => ?_) (fun c_42 => ?_)
  · exact ww_vret hQ dJ1_addLast_50 rfl (Nat.le_of_ble_eq_true rfl) (Nat.le_of_ble_eq_true rfl) ⟨rfl, ⟨_, hd, _, ho, by rw [e_ln, show (hd + ((xs.length : Int) + 1)) % 17 = ((hd + xs.length) % 17 + 1) % 17 by omega]; exact ha, hr, h0, h1, by omega, dq_snoc h0 h1 h7 hf⟩, hF⟩
  · exact absurd c_42 (by omega)

set_option maxHeartbeats 4000000 in
theorem ct_J1_pollFirst {G : GT} {h : AH} (hG : GOK G) {o k a x0 : Nat} {xs : List Nat} (hA : DQ G h o k a (x0 :: xs)) : CT G (MJ1_pollFirst 1 21 0 0) h [.ref a] (pR (fun z h' => z = x0 ∧ DQ G h' o k a xs ∧ FO o k (k + 1) h h')) := by
  refine CT.of rfl hG (Nat.le_of_ble_eq_true rfl) rfl (fun E hQ => ?_)
  obtain ⟨r, hd, f, ho, ha, hr, h0, h1, h8, hf⟩ := hA
  have hF : FO o k (k + 1) h h := FO.rf
  have hx0 := hf 0 x0 rfl
  rw [show (hd + ((0 : Nat) : Int)) % 17 = hd by omega] at hx0
  have e_ln : ((x0 :: xs).length : Int) = xs.length + 1 := by rw [List.length_cons]; omega
  rw [e_ln] at ha
  refine ww_aload_n 0 dJ1_pollFirst_0 rfl ?_
  refine ww_getf gf_J1_3 rfl dJ1_pollFirst_1 ha rfl ?_
  refine ww_dup dJ1_pollFirst_4 rfl ?_
  refine ww_astore_n [(1, _), (0, _)] dJ1_pollFirst_5 (by decide) rfl ?_
  refine ww_aload_n 1 dJ1_pollFirst_6 rfl ?_
  refine ww_getf gf_J1_24 rfl dJ1_pollFirst_7 ha rfl ?_
  refine ww_dup dJ1_pollFirst_10 rfl ?_
  refine ww_istore_n [(2, _), (1, _), (0, _)] dJ1_pollFirst_11 (by decide) rfl ?_
  refine cr_pr (cr_S (ct_J1_elementAt hG hr hd h0 h1 hx0) ss_J1_103 rfl dJ1_pollFirst_12 rfl rfl ⟨by decide, by decide⟩ (Nat.le_of_ble_eq_true rfl) (Nat.le_of_ble_eq_true rfl) (Nat.le_of_ble_eq_true rfl)) ?_
  refine ww_astore_n [(3, _), (2, _), (1, _), (0, _)] dJ1_pollFirst_15 (by decide) rfl ?_
  refine ww_aload_n 0 dJ1_pollFirst_16 rfl ?_
  refine ww_ifnull dJ1_pollFirst_17 ?_
  refine ww_aload_n 2 dJ1_pollFirst_20 rfl ?_
  refine ww_iload_n 1 dJ1_pollFirst_21 rfl ?_
  refine ww_null dJ1_pollFirst_22 ?_
  refine wx_aastN dJ1_pollFirst_23 hr ho rfl (by decide) (by omega) (by omega) (fun h_23 hr f_23 => ?_)
  have ha := f_23.at ha (by omega)
  have hF := hF.kt f_23 ⟨rfl, by omega, by omega⟩
  refine ww_aload_n 3 dJ1_pollFirst_24 rfl ?_
  refine ww_iload_n 1 dJ1_pollFirst_25 rfl ?_
  refine ww_aload_n 2 dJ1_pollFirst_26 rfl ?_
  refine ww_alenR dJ1_pollFirst_27 hr (by decide) ?_
  refine cr_pi (cr_S (ct_J1_inc hG _ (by omega) (by omega)) ss_J1_74 rfl dJ1_pollFirst_28 rfl rfl ⟨by decide, by decide⟩ (Nat.le_of_ble_eq_true rfl) (Nat.le_of_ble_eq_true rfl) (Nat.le_of_ble_eq_true rfl)) ?_
  refine wx_putf pf_J1_24 rfl dJ1_pollFirst_31 ha ho (Nat.le_of_ble_eq_true rfl) rfl rfl (fun h_31 ha f_31 => ?_)
  have hr := f_31.at hr (by omega)
  have hF := hF.kt f_31 ⟨rfl, by omega, by omega⟩
  refine ww_aload_n 0 dJ1_pollFirst_34 rfl ?_
  exact ww_aret hQ dJ1_pollFirst_35 rfl rfl (Nat.le_of_ble_eq_true rfl) (Nat.le_of_ble_eq_true rfl) ⟨_, rfl, rfl, ⟨_, (hd + 1) % 17, _, ho, by rw [show ((hd + 1) % 17 + (xs.length : Int)) % 17 = (hd + ((xs.length : Int) + 1)) % 17 by omega]; exact ha, hr, by omega, by omega, by rw [List.length_cons] at h8; omega, dq_tail h0 h1 h8 rfl hf⟩, hF⟩

set_option maxHeartbeats 4000000 in
theorem ct_J1_removeFirst {G : GT} {h : AH} (hG : GOK G) {o k a x0 : Nat} {xs : List Nat} (hA : DQ G h o k a (x0 :: xs)) : CT G (MJ1_removeFirst 2 44 0 0) h [.ref a] (pR (fun z h' => z = x0 ∧ DQ G h' o k a xs ∧ FO o k (k + 1) h h')) := by
  refine CT.of rfl hG (Nat.le_of_ble_eq_true rfl) rfl (fun E hQ => ?_)
  have hA0 := hA
  obtain ⟨r, hd, f, ho, ha, hr, h0, h1, h8, hf⟩ := hA
  refine ww_aload_n 0 dJ1_removeFirst_0 rfl ?_
  refine cr_r (cr_V (ct_J1_pollFirst hG hA0) sv_J1_93 rfl dJ1_removeFirst_1 ha rfl rfl rfl rfl ⟨by decide, by decide⟩ (Nat.le_of_ble_eq_true rfl) (Nat.le_of_ble_eq_true rfl) (Nat.le_of_ble_eq_true rfl)) (fun r_1 h_1 hp_1 => ?_)
  obtain ⟨rfl, hA, f_1⟩ := hp_1
  refine ww_astore_n [(1, _), (0, _)] dJ1_removeFirst_4 (by decide) rfl ?_
  refine ww_aload_n 0 dJ1_removeFirst_5 rfl ?_
  refine ww_ifnonnull 17 dJ1_removeFirst_6 (by decide) ?_
  refine ww_aload_n 0 dJ1_removeFirst_17 rfl ?_
  exact ww_aret hQ dJ1_removeFirst_18 rfl rfl (Nat.le_of_ble_eq_true rfl) (Nat.le_of_ble_eq_true rfl) ⟨_, rfl, rfl, hA, f_1⟩

set_option maxHeartbeats 4000000 in
theorem ct_J1_pollLast {G : GT} {h : AH} (hG : GOK G) {o k a x0 : Nat} {xs : List Nat} (hA : DQ G h o k a (xs ++ [x0])) : CT G (MJ1_pollLast 1 21 0 0) h [.ref a] (pR (fun z h' => z = x0 ∧ DQ G h' o k a xs ∧ FO o k (k + 1) h h')) := by
  refine CT.of rfl hG (Nat.le_of_ble_eq_true rfl) rfl (fun E hQ => ?_)
  obtain ⟨r, hd, f, ho, ha, hr, h0, h1, h8, hf⟩ := hA
  have hF : FO o k (k + 1) h h := FO.rf
  have hx0 := hf xs.length x0 (by rw [List.getElem?_append_right (Nat.le_refl _), Nat.sub_self]; rfl)
  have e_ln : ((xs ++ [x0]).length : Int) = xs.length + 1 := by rw [List.length_append, List.length_singleton]; omega
  rw [e_ln] at ha
  have h8b : xs.length + 1 ≤ 8 := by rw [List.length_append, List.length_singleton] at h8; exact h8
  have e_t : ((hd + ((xs.length : Int) + 1)) % 17 + 16) % 17 = (hd + xs.length) % 17 := by omega
  refine ww_aload_n 0 dJ1_pollLast_0 rfl ?_
  refine ww_getf gf_J1_3 rfl dJ1_pollLast_1 ha rfl ?_
  refine ww_dup dJ1_pollLast_4 rfl ?_
  refine ww_astore_n [(1, _), (0, _)] dJ1_pollLast_5 (by decide) rfl ?_
  refine ww_aload_n 1 dJ1_pollLast_6 rfl ?_
  refine ww_getf gf_J1_20 rfl dJ1_pollLast_7 ha rfl ?_
  refine ww_aload_n 0 dJ1_pollLast_10 rfl ?_
  refine ww_alenR dJ1_pollLast_11 hr (by decide) ?_
  refine cr_pi (cr_S (ct_J1_dec hG _ (by omega) (by omega)) ss_J1_68 rfl dJ1_pollLast_12 rfl rfl ⟨by decide, by decide⟩ (Nat.le_of_ble_eq_true rfl) (Nat.le_of_ble_eq_true rfl) (Nat.le_of_ble_eq_true rfl)) ?_
  rw [e_t]
  refine ww_dup dJ1_pollLast_15 rfl ?_
  refine ww_istore_n [(2, _), (1, _), (0, _)] dJ1_pollLast_16 (by decide) rfl ?_
  refine cr_pr (cr_S (ct_J1_elementAt hG hr _ (by omega) (by omega) hx0) ss_J1_103 rfl dJ1_pollLast_17 rfl rfl ⟨by decide, by decide⟩ (Nat.le_of_ble_eq_true rfl) (Nat.le_of_ble_eq_true rfl) (Nat.le_of_ble_eq_true rfl)) ?_
  refine ww_astore_n [(3, _), (2, _), (1, _), (0, _)] dJ1_pollLast_20 (by decide) rfl ?_
  refine ww_aload_n 0 dJ1_pollLast_21 rfl ?_
  refine ww_ifnull dJ1_pollLast_22 ?_
  refine ww_aload_n 2 dJ1_pollLast_25 rfl ?_
  refine ww_aload_n 3 dJ1_pollLast_26 rfl ?_
  refine ww_iload_n 1 dJ1_pollLast_27 rfl ?_
  refine ww_dup_x1 dJ1_pollLast_28 rfl rfl ?_
  refine wx_putf pf_J1_20 rfl dJ1_pollLast_29 ha ho (Nat.le_of_ble_eq_true rfl) rfl rfl (fun h_29 ha f_29 => ?_)
  have hr := f_29.at hr (by omega)
  have hF := hF.kt f_29 ⟨rfl, by omega, by omega⟩
  refine ww_null dJ1_pollLast_32 ?_
  refine wx_aastN dJ1_pollLast_33 hr ho rfl (by decide) (by omega) (by omega) (fun h_33 hr f_33 => ?_)
  have ha := f_33.at ha (by omega)
  have hF := hF.kt f_33 ⟨rfl, by omega, by omega⟩
  refine ww_aload_n 0 dJ1_pollLast_34 rfl ?_
  exact ww_aret hQ dJ1_pollLast_35 rfl rfl (Nat.le_of_ble_eq_true rfl) (Nat.le_of_ble_eq_true rfl) ⟨_, rfl, rfl, ⟨_, hd, _, ho, ha, hr, h0, h1, by omega, dq_init h0 h1 h8 rfl hf⟩, hF⟩

set_option maxHeartbeats 4000000 in
theorem ct_J1_removeLast {G : GT} {h : AH} (hG : GOK G) {o k a x0 : Nat} {xs : List Nat} (hA : DQ G h o k a (xs ++ [x0])) : CT G (MJ1_removeLast 2 44 0 0) h [.ref a] (pR (fun z h' => z = x0 ∧ DQ G h' o k a xs ∧ FO o k (k + 1) h h')) := by
  refine CT.of rfl hG (Nat.le_of_ble_eq_true rfl) rfl (fun E hQ => ?_)
  have hA0 := hA
  obtain ⟨r, hd, f, ho, ha, hr, h0, h1, h8, hf⟩ := hA
  refine ww_aload_n 0 dJ1_removeLast_0 rfl ?_
  refine cr_r (cr_V (ct_J1_pollLast hG hA0) sv_J1_100 rfl dJ1_removeLast_1 ha rfl rfl rfl rfl ⟨by decide, by decide⟩ (Nat.le_of_ble_eq_true rfl) (Nat.le_of_ble_eq_true rfl) (Nat.le_of_ble_eq_true rfl)) (fun r_1 h_1 hp_1 => ?_)
  obtain ⟨rfl, hA, f_1⟩ := hp_1
  refine ww_astore_n [(1, _), (0, _)] dJ1_removeLast_4 (by decide) rfl ?_
  refine ww_aload_n 0 dJ1_removeLast_5 rfl ?_
  refine ww_ifnonnull 17 dJ1_removeLast_6 (by decide) ?_
  refine ww_aload_n 0 dJ1_removeLast_17 rfl ?_
  exact ww_aret hQ dJ1_removeLast_18 rfl rfl (Nat.le_of_ble_eq_true rfl) (Nat.le_of_ble_eq_true rfl) ⟨_, rfl, rfl, hA, f_1⟩
