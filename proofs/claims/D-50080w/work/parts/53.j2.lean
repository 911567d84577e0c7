set_option maxRecDepth 100000
set_option maxHeartbeats 4000000 in
theorem ct_J21_checkIndex {G : GT} {h : AH} (hG : GOK G) (i n : Int) (h0 : 0 ≤ i) (h1 : i < n) (h2 : n ≤ 2147483647) : CPi G (MJ21_checkIndex 1 22 0 0) h [.int (iI i), .int (iI n)] (i) := by
  refine CT.of rfl hG (Nat.le_of_ble_eq_true rfl) rfl (fun E hQ => ?_)
  refine ww_iload_n 0 dJ21_checkIndex_0 rfl ?_
  refine ww_iload_n 1 dJ21_checkIndex_1 rfl ?_
  refine ww_null dJ21_checkIndex_2 ?_
  refine cr_pi (cr_S (ct_J18_checkIndex hG i n none h0 h1 h2) ss_J21_105 rfl dJ21_checkIndex_3 rfl rfl ⟨by decide, by decide⟩ (Nat.le_of_ble_eq_true rfl) (Nat.le_of_ble_eq_true rfl) (Nat.le_of_ble_eq_true rfl)) ?_
  exact ww_iret hQ dJ21_checkIndex_6 rfl (Nat.le_of_ble_eq_true rfl) (Nat.le_of_ble_eq_true rfl) ⟨_, rfl, rfl, rfl⟩

set_option maxHeartbeats 4000000 in
theorem ct_J8_newLength {G : GT} {h : AH} (hG : GOK G) (a b c : Int) (h0 : 0 ≤ a) (h1 : 1 ≤ b) (h2 : 0 ≤ c) (h3 : a ≤ 1000000) (h4 : b ≤ 1000000) (h5 : c ≤ 1000000) : CPi G (MJ8_newLength 1 25 0 0) h [.int (iI a), .int (iI b), .int (iI c)] (a + max b c) := by
  refine CT.of rfl hG (Nat.le_of_ble_eq_true rfl) rfl (fun E hQ => ?_)
  refine ww_iload_n 0 dJ8_newLength_0 rfl ?_
  refine ww_iload_n 1 dJ8_newLength_1 rfl ?_
  refine ww_iload_n 2 dJ8_newLength_2 rfl ?_
  refine ww_mmax q377 rfl dJ8_newLength_3 (by first | assumption | exact inI.mk (by omega) (by omega)) (by first | assumption | exact inI.mk (by omega) (by omega)) (Nat.le_of_ble_eq_true rfl) (Nat.le_of_ble_eq_true rfl) (Nat.le_of_ble_eq_true rfl) (Nat.le_of_ble_eq_true rfl) ?_
  refine ww_iadd dJ8_newLength_6 ?_
  refine ww_istore_n [(3, _), (0, _), (1, _), (2, _)] dJ8_newLength_7 (by decide) rfl ?_
  refine ww_iconst dJ8_newLength_8 ?_
  refine ww_iload_n 0 dJ8_newLength_9 rfl ?_
  refine ww_icmp_ge 21 dJ8_newLength_10 (by decide) (inI.mk (by omega) (by omega)) (inI.mk (by omega) (by omega)) (fun c_10 => ?_) (fun c_10 => ?_)
  · exact absurd c_10 (by omega)
  · refine ww_iload_n 0 dJ8_newLength_13 rfl ?_
    refine ww_ldc q380 dJ8_newLength_14 (z := 2147483639) rfl ?_
    refine ww_icmp_gt 21 dJ8_newLength_16 (by decide) (inI.mk (by omega) (by omega)) (inI.mk (by omega) (by omega)) (fun c_16 => ?_) (fun c_16 => ?_)
    · exact absurd c_16 (by omega)
    · refine ww_iload_n 0 dJ8_newLength_19 rfl ?_
      exact ww_iret hQ dJ8_newLength_20 rfl (Nat.le_of_ble_eq_true rfl) (Nat.le_of_ble_eq_true rfl) ⟨_, rfl, rfl, rfl⟩

set_option maxHeartbeats 4000000 in
theorem ct_J0_init {G : GT} {h : AH} (hG : GOK G) (a : Nat) : CPv G (MJ0_init 1 20 0 0) h [.ref a]  := by
  refine CT.of rfl hG (Nat.le_of_ble_eq_true rfl) rfl (fun E hQ => ?_)
  refine ww_aload_n 0 dJ0_init_0 rfl ?_
  refine ww_objInit q138 q128 q129 rfl dJ0_init_1 (Nat.le_of_ble_eq_true rfl) (Nat.le_of_ble_eq_true rfl) ?_
  exact ww_vret hQ dJ0_init_4 rfl (Nat.le_of_ble_eq_true rfl) (Nat.le_of_ble_eq_true rfl) ⟨rfl, rfl⟩

set_option maxHeartbeats 4000000 in
theorem ct_J4_init {G : GT} {h : AH} (hG : GOK G) (a : Nat) : CPv G (MJ4_init 1 20 0 0) h [.ref a]  := by
  refine CT.of rfl hG (Nat.le_of_ble_eq_true rfl) rfl (fun E hQ => ?_)
  refine ww_aload_n 0 dJ4_init_0 rfl ?_
  refine ww_objInit q191 q128 q129 rfl dJ4_init_1 (Nat.le_of_ble_eq_true rfl) (Nat.le_of_ble_eq_true rfl) ?_
  exact ww_vret hQ dJ4_init_4 rfl (Nat.le_of_ble_eq_true rfl) (Nat.le_of_ble_eq_true rfl) ⟨rfl, rfl⟩

set_option maxHeartbeats 4000000 in
theorem ct_J2_init {G : GT} {h : AH} (hG : GOK G) {o k a : Nat} (ho : o ≠ 0) {c : Int} {r s : Value} (ha : h a = some ((o, k), ob 10 [.int (iI c), r, s])) : CT G (MJ2_init 2 40 0 0) h [.ref a] (pV (fun h' => h' a = some ((o, k), ob 10 [.int (iI 0), r, s]) ∧ KT a (o, k) h h')) := by
  refine CT.of rfl hG (Nat.le_of_ble_eq_true rfl) rfl (fun E hQ => ?_)
  refine ww_aload_n 0 dJ2_init_0 rfl ?_
  refine cr_pv (cr_I (ct_J0_init hG _) si_J2_1 rfl rfl dJ2_init_1 rfl rfl ⟨by decide, by decide⟩ (Nat.le_of_ble_eq_true rfl) (Nat.le_of_ble_eq_true rfl) (Nat.le_of_ble_eq_true rfl)) ?_
  refine ww_aload_n 0 dJ2_init_4 rfl ?_
  refine ww_iconst dJ2_init_5 ?_
  refine wx_putf pf_J2_7 rfl dJ2_init_6 ha ho (Nat.le_of_ble_eq_true rfl) rfl rfl (fun h_6 ha f_6 => ?_)
  exact ww_vret hQ dJ2_init_9 rfl (Nat.le_of_ble_eq_true rfl) (Nat.le_of_ble_eq_true rfl) ⟨rfl, ha, f_6⟩

theorem q_ac : Cond.methodLink "java/util/Arrays" 150 arraycopyName ∈ lw_all := q398
theorem q_ac3 : Cond.methodLink "java/util/ArrayList" 112 arraycopyName ∈ lw_all := q1961
theorem q_acn : Cond.native arraycopyName ∈ lw_all := q400
theorem q_acs : Cond.static arraycopyName ∈ lw_all := q399
theorem q_aci : Cond.initialized "java/lang/System" ∈ lw_all := q100
set_option maxHeartbeats 4000000 in
theorem ct_J3_init {G : GT} {h : AH} (hG : GOK G) (hK : KC G h) {o k a : Nat} (ho : o ≠ 0) (ha : h a = some ((o, k), ob 10 [.int 0, .null, .int 0])) : CT G (MJ3_init 3 60 0 0) h [.ref a] (pV (fun h' => AL G h' o k a [] ∧ KT a (o, k) h h')) := by
  refine CT.of rfl hG (Nat.le_of_ble_eq_true rfl) rfl (fun E hQ => ?_)
  have hf : FO o k k h h := FO.rf
  refine ww_aload_n 0 dJ3_init_0 rfl ?_
  refine cr_v (cr_I (ct_J2_init hG ho (c := 0) ha) si_J3_1 rfl rfl dJ3_init_1 rfl rfl ⟨by decide, by decide⟩ (Nat.le_of_ble_eq_true rfl) (Nat.le_of_ble_eq_true rfl) (Nat.le_of_ble_eq_true rfl)) (fun h_1 hp_1 => ?_)
  obtain ⟨ha, f_1⟩ := hp_1
  have hf := hf.kt f_1 ⟨rfl, by omega, by omega⟩
  have hK := hK.kt f_1 (by first | exact ho | assumption | omega)
  refine ww_aload_n 0 dJ3_init_4 rfl ?_
  refine ww_gets hK.1 q163 rfl dJ3_init_5 ?_
  refine wx_putf pf_J3_9 rfl dJ3_init_8 ha ho (Nat.le_of_ble_eq_true rfl) rfl rfl (fun h_8 ha f_8 => ?_)
  have hf := hf.kt f_8 ⟨rfl, by omega, by omega⟩
  have hK := hK.kt f_8 (by first | exact ho | assumption | omega)
  exact ww_vret hQ dJ3_init_11 rfl (Nat.le_of_ble_eq_true rfl) (Nat.le_of_ble_eq_true rfl) ⟨rfl, ⟨_, 0, 0, fun _ => none, 0, 10, ho, ha, hK.2.1, Or.inl ⟨rfl, rfl, rfl, rfl⟩, Nat.le_refl _, by decide, fun i x hx => by cases hx⟩, fun b u x hb hu => f_8 b u x (f_1 b u x hb hu) hu⟩

set_option maxHeartbeats 4000000 in
theorem ct_J3_size {G : GT} {h : AH} (hG : GOK G) {o k a : Nat} {xs : List Nat} (hA : AL G h o k a xs) : CT G (MJ3_size 0 0 0 0) h [.ref a] (pI (fun r h' => r = xs.length ∧ h' = h)) := by
  refine CT.of rfl hG (Nat.le_of_ble_eq_true rfl) rfl (fun E hQ => ?_)
  obtain ⟨r, N, c, f, o1, k1, ho, ha, hr, hd, hn, hN, hf⟩ := hA
  refine ww_aload_n 0 dJ3_size_0 rfl ?_
  refine ww_getf gf_J3_48 rfl dJ3_size_1 ha rfl ?_
  exact ww_iret hQ dJ3_size_4 rfl (Nat.le_of_ble_eq_true rfl) (Nat.le_of_ble_eq_true rfl) ⟨_, rfl, rfl, rfl⟩

set_option maxHeartbeats 4000000 in
theorem ct_J3_elementData {G : GT} {h : AH} (hG : GOK G) {o k a : Nat} {xs : List Nat} (hA : AL G h o k a xs) (i : Int) (x : Nat) (h0 : 0 ≤ i) (hx : xs[i.toNat]? = some x) : CT G (MJ3_elementData 0 0 0 0) h [.ref a, .int (iI i)] (pR (fun r h' => r = x ∧ h' = h)) := by
  refine CT.of rfl hG (Nat.le_of_ble_eq_true rfl) rfl (fun E hQ => ?_)
  obtain ⟨r, N, c, f, o1, k1, ho, ha, hr, hd, hn, hN, hf⟩ := hA
  have hl := (List.getElem?_eq_some_iff.mp hx).1
  have hfx := hf _ _ hx
  rw [Int.toNat_of_nonneg h0] at hfx
  refine ww_aload_n 0 dJ3_elementData_0 rfl ?_
  refine ww_getf gf_J3_9 rfl dJ3_elementData_1 ha rfl ?_
  refine ww_iload_n 1 dJ3_elementData_4 rfl ?_
  refine ww_aalds dJ3_elementData_5 hr rfl rfl (by omega) (by omega) (by omega) hfx ?_
  exact ww_aret hQ dJ3_elementData_6 rfl rfl (Nat.le_of_ble_eq_true rfl) (Nat.le_of_ble_eq_true rfl) ⟨_, rfl, rfl, rfl⟩

set_option maxHeartbeats 4000000 in
theorem ct_J3_get {G : GT} {h : AH} (hG : GOK G) {o k a : Nat} {xs : List Nat} (hA : AL G h o k a xs) (i : Int) (x : Nat) (h0 : 0 ≤ i) (hx : xs[i.toNat]? = some x) : CT G (MJ3_get 2 43 0 0) h [.ref a, .int (iI i)] (pR (fun r h' => r = x ∧ h' = h)) := by
  refine CT.of rfl hG (Nat.le_of_ble_eq_true rfl) rfl (fun E hQ => ?_)
  have hA0 := hA
  obtain ⟨r, N, c, f, o1, k1, ho, ha, hr, hd, hn, hN, hf⟩ := hA
  have hl := (List.getElem?_eq_some_iff.mp hx).1
  refine ww_iload_n 1 dJ3_get_0 rfl ?_
  refine ww_aload_n 0 dJ3_get_1 rfl ?_
  refine ww_getf gf_J3_48 rfl dJ3_get_2 ha rfl ?_
  refine cr_pi (cr_S (ct_J21_checkIndex hG _ _ (by omega) (by omega) (by omega)) ss_J3_118 rfl dJ3_get_5 rfl rfl ⟨by decide, by decide⟩ (Nat.le_of_ble_eq_true rfl) (Nat.le_of_ble_eq_true rfl) (Nat.le_of_ble_eq_true rfl)) ?_
  refine ww_pop dJ3_get_8 rfl ?_
  refine ww_aload_n 0 dJ3_get_9 rfl ?_
  refine ww_iload_n 1 dJ3_get_10 rfl ?_
  refine cr_pr (cr_V (ct_J3_elementData hG hA0 i x h0 hx) sv_J3_123 rfl dJ3_get_11 ha rfl rfl rfl rfl ⟨by decide, by decide⟩ (Nat.le_of_ble_eq_true rfl) (Nat.le_of_ble_eq_true rfl) (Nat.le_of_ble_eq_true rfl)) ?_
  exact ww_aret hQ dJ3_get_14 rfl rfl (Nat.le_of_ble_eq_true rfl) (Nat.le_of_ble_eq_true rfl) ⟨_, rfl, rfl, rfl⟩

set_option maxHeartbeats 4000000 in
theorem ct_J17_copyOf_3 {G : GT} {h : AH} (hG : GOK G) {t : Tg} {r N : Nat} {f : Int → Option Nat} (hr : h r = some (t, aR G 4 N f)) (N2 : Nat) (h1 : N < N2) (h2 : N2 ≤ 15) (u1 u2 : Nat) (hu : u1 ≠ 0) (hu2 : ∀ q, Nw h q → u1 ≤ q) {ci : Nat} {q : vw_C} (hci : gcl[ci]? = some q) (hC : Cond.castable q.1 "java/lang/Object" ∈ lw_tbl) (hel : ∀ i : Int, 0 ≤ i → i < N → ∀ y : Nat, f i = some y → ∃ v fs, h y = some (v, ob ci fs)) {mi : Nat} (hm : va_Mi "[Ljava/lang/Object;" mi (g0 G)) : CT G (MJ17_copyOf_3 1 50 1 15) h [.ref r, .int (iI (N2 : Int)), .ref mi] (pR (fun q h' => Nw h q ∧ Ex h h' ∧ h' q = some ((u1, u2), aR G 4 N2 (icp f (fun _ => none) 0 0 N)))) := by
  refine CT.of rfl hG (Nat.le_of_ble_eq_true rfl) rfl (fun E hQ => ?_)
  have hr0 := hr
  refine ww_aload_n 2 dJ17_copyOf_3_0 rfl ?_
  refine ww_ldcM hm q1428 rfl dJ17_copyOf_3_1 ?_
  refine ww_acmp_neR 13 dJ17_copyOf_3_3 (by decide) (fun c_3 => ?_) (fun c_3 => ?_)
  · exact absurd rfl c_3
  · refine ww_iload_n 1 dJ17_copyOf_3_6 rfl ?_
    refine wx_newR (N := N2) (j := 4) (fun _ => (u1, u2)) rfl (by omega) q1429 q140 rfl rfl dJ17_copyOf_3_7 (fun q hq => ⟨hu, hu2 q hq⟩) (Nat.le_of_ble_eq_true rfl) (by show 0 + N2 ≤ 15; omega) (fun q_7 h_7 n_7 e_7 hq => ?_)
    have hr := e_7 _ _ hr
    refine ww_goto 24 dJ17_copyOf_3_10 (by decide) ?_
    refine ww_astore_n [(3, _), (0, _), (1, _), (2, _)] dJ17_copyOf_3_24 (by decide) rfl ?_
    refine ww_aload_n 1 dJ17_copyOf_3_25 rfl ?_
    refine ww_iconst dJ17_copyOf_3_26 ?_
    refine ww_aload_n 0 dJ17_copyOf_3_27 rfl ?_
    refine ww_iconst dJ17_copyOf_3_28 ?_
    refine ww_aload_n 1 dJ17_copyOf_3_29 rfl ?_
    refine ww_alenR dJ17_copyOf_3_30 hr (by decide) ?_
    refine ww_iload_n 2 dJ17_copyOf_3_31 rfl ?_
    refine ww_mmin q395 rfl dJ17_copyOf_3_32 (by first | assumption | exact inI.mk (by omega) (by omega)) (by first | assumption | exact inI.mk (by omega) (by omega)) (Nat.le_of_ble_eq_true rfl) (Nat.le_of_ble_eq_true rfl) (Nat.le_of_ble_eq_true rfl) (by show 0 + N2 ≤ 15; omega) ?_
    have e_min : min (N : Int) (N2 : Int) = N := by omega
    rw [e_min]
    refine ww_copyR (C := "") (ci := ci) q_ac q_acn q_acs q_aci rfl dJ17_copyOf_3_35 hr hq hu (by omega) (by omega) (by omega) (by omega) (by omega) (by omega) (by omega) hci hC (fun i i0 i1 y hy => by obtain ⟨v, fs, hv⟩ := hel i (by omega) (by omega) y hy; exact ⟨v, fs, e_7 _ _ hv⟩) (Nat.le_of_ble_eq_true rfl) (Nat.le_of_ble_eq_true rfl) ?_
    refine ww_aload_n 0 dJ17_copyOf_3_38 rfl ?_
    exact ww_aret hQ dJ17_copyOf_3_39 rfl rfl (Nat.le_of_ble_eq_true rfl) (by show 0 + N2 ≤ 15; omega) ⟨_, rfl, n_7, fun b x hb => by rw [hset_n (n_7.ne (t := x.1) (x := x.2) hb)]; exact e_7 _ _ hb, hset_s⟩

set_option maxHeartbeats 4000000 in
theorem ct_J17_copyOf_2 {G : GT} {h : AH} (hG : GOK G) {t : Tg} {r N : Nat} {f : Int → Option Nat} (hr : h r = some (t, aR G 4 N f)) (N2 : Nat) (h1 : N < N2) (h2 : N2 ≤ 15) (u1 u2 : Nat) (hu : u1 ≠ 0) (hu2 : ∀ q, Nw h q → u1 ≤ q) {ci : Nat} {q : vw_C} (hci : gcl[ci]? = some q) (hC : Cond.castable q.1 "java/lang/Object" ∈ lw_tbl) (hel : ∀ i : Int, 0 ≤ i → i < N → ∀ y : Nat, f i = some y → ∃ v fs, h y = some (v, ob ci fs)) : CT G (MJ17_copyOf_2 2 73 1 15) h [.ref r, .int (iI (N2 : Int))] (pR (fun q h' => Nw h q ∧ Ex h h' ∧ h' q = some ((u1, u2), aR G 4 N2 (icp f (fun _ => none) 0 0 N)))) := by
  refine CT.of rfl hG (Nat.le_of_ble_eq_true rfl) rfl (fun E hQ => ?_)
  obtain ⟨mi, hm⟩ := hG.mi
  refine ww_aload_n 0 dJ17_copyOf_2_0 rfl ?_
  refine ww_iload_n 1 dJ17_copyOf_2_1 rfl ?_
  refine ww_aload_n 0 dJ17_copyOf_2_2 rfl ?_
  refine ww_getC hm q1424 q2486 q2485 q885 q910 rfl dJ17_copyOf_2_3 hr (Nat.le_of_ble_eq_true rfl) (Nat.le_of_ble_eq_true rfl) ?_
  refine cr_r (cr_S (ct_J17_copyOf_3 hG hr N2 h1 h2 u1 u2 hu hu2 hci hC hel hm) ss_J17_300 rfl dJ17_copyOf_2_6 rfl rfl ⟨by decide, by decide⟩ (Nat.le_of_ble_eq_true rfl) (Nat.le_of_ble_eq_true rfl) (Nat.le_of_ble_eq_true rfl)) (fun r_6 h_6 hp_6 => ?_)
  obtain ⟨n_6, e_6, hq⟩ := hp_6
  exact ww_aret hQ dJ17_copyOf_2_9 rfl rfl (Nat.le_of_ble_eq_true rfl) (Nat.le_of_ble_eq_true rfl) ⟨_, rfl, n_6, e_6, hq⟩

set_option maxHeartbeats 4000000 in
theorem ct_J3_grow_2 {G : GT} {h : AH} (hG : GOK G) {o k a : Nat} {xs : List Nat} {r N : Nat} {c : Int} {f : Int → Option Nat} {o1 k1 : Nat} (hA : ALd G h o k a xs r N c f o1 k1) (hK : KC G h) (hfull : xs.length = N) (h60 : N ≤ 12) {ci : Nat} {q : vw_C} (hci : gcl[ci]? = some q) (hC : Cond.castable q.1 "java/lang/Object" ∈ lw_tbl) (hel : ELm h o k ci xs) (hmem : ∀ i : Int, 0 ≤ i → i < N → ∃ x ∈ xs, f i = some x) : CT G (MJ3_grow_2 3 94 1 15) h [.ref a, .int (iI ((xs.length : Int) + 1))] (pR (fun r2 h' => ∃ N2 f2, ALd G h' o k a xs r2 N2 c f2 o (k + 1) ∧ xs.length < N2 ∧ FO o k (k + 1) h h')) := by
  refine CT.of rfl hG (Nat.le_of_ble_eq_true rfl) rfl (fun E hQ => ?_)
  obtain ⟨ho, ha, hr, hd, hn, hN, hf⟩ := hA
  have hF : FO o k (k + 1) h h := FO.rf
  refine ww_aload_n 0 dJ3_grow_2_0 rfl ?_
  refine ww_getf gf_J3_9 rfl dJ3_grow_2_1 ha rfl ?_
  refine ww_alenR dJ3_grow_2_4 hr (by decide) ?_
  refine ww_istore_n [(2, _), (0, _), (1, _)] dJ3_grow_2_5 (by decide) rfl ?_
  refine ww_iload_n 0 dJ3_grow_2_6 rfl ?_
  refine ww_if_gt 20 dJ3_grow_2_7 (by decide) (inI.mk (by omega) (by omega)) (fun c_7 => ?_) (fun c_7 => ?_)
  · have h10 : 10 ≤ N := by omega
    obtain ⟨e_1, e_2⟩ : o1 = o ∧ k1 = k + 1 := by omega
    rw [e_1, e_2] at hr
    refine ww_iload_n 0 dJ3_grow_2_20 rfl ?_
    refine ww_iload_n 2 dJ3_grow_2_21 rfl ?_
    refine ww_iload_n 0 dJ3_grow_2_22 rfl ?_
    refine ww_isub dJ3_grow_2_23 ?_
    refine ww_iload_n 0 dJ3_grow_2_24 rfl ?_
    refine ww_iconst dJ3_grow_2_25 ?_
    refine ww_ishrI (b := 1) rfl dJ3_grow_2_26 (inI.mk (by omega) (by omega)) (by decide) ?_
    refine cr_pi (cr_S (ct_J8_newLength hG _ _ _ (by omega) (by omega) (by omega) (by omega) (by omega) (by omega)) ss_J3_73 rfl dJ3_grow_2_27 rfl rfl ⟨by decide, by decide⟩ (Nat.le_of_ble_eq_true rfl) (Nat.le_of_ble_eq_true rfl) (Nat.le_of_ble_eq_true rfl)) ?_
    obtain ⟨N2, hN2⟩ : ∃ N2 : Nat, (N : Int) + max ((xs.length : Int) + 1 - N) ((N : Int) / 2 ^ 1) = N2 := ⟨((N : Int) + max ((xs.length : Int) + 1 - N) ((N : Int) / 2 ^ 1)).toNat, by omega⟩
    rw [hN2]
    refine ww_istore_n [(3, _), (2, _), (0, _), (1, _)] dJ3_grow_2_30 (by decide) rfl ?_
    refine ww_aload_n 2 dJ3_grow_2_31 rfl ?_
    refine ww_aload_n 2 dJ3_grow_2_32 rfl ?_
    refine ww_getf gf_J3_9 rfl dJ3_grow_2_33 ha rfl ?_
    refine ww_iload_n 0 dJ3_grow_2_36 rfl ?_
    refine cr_r (cr_S (ct_J17_copyOf_2 hG hr N2 (by omega) (by omega) o (k + 1) ho (fun q hq => Nat.le_of_lt (hq.2 _ _ _ ha).2) hci hC (fun i i0 i1 y hy => by obtain ⟨x, hx1, hx2⟩ := hmem i i0 i1; rw [hx2] at hy; cases hy; obtain ⟨v1, v2, fs, g1, g2⟩ := hel y hx1; exact ⟨_, fs, g1⟩)) ss_J3_66 rfl dJ3_grow_2_37 rfl rfl ⟨by decide, by decide⟩ (Nat.le_of_ble_eq_true rfl) (Nat.le_of_ble_eq_true rfl) (Nat.le_of_ble_eq_true rfl)) (fun r_37 h_37 hp_37 => ?_)
    obtain ⟨n_37, e_37, hq⟩ := hp_37
    have ha := e_37 _ _ ha
    have hF := hF.ex e_37
    refine ww_dup_x1 dJ3_grow_2_40 rfl rfl ?_
    refine wx_putf pf_J3_9 rfl dJ3_grow_2_41 ha ho (Nat.le_of_ble_eq_true rfl) rfl rfl (fun h_41 ha f_41 => ?_)
    have hF := hF.kt f_41 ⟨rfl, by omega, by omega⟩
    have hq := f_41.at hq (by omega)
    exact ww_aret hQ dJ3_grow_2_44 rfl rfl (Nat.le_of_ble_eq_true rfl) (Nat.le_of_ble_eq_true rfl) ⟨_, rfl, N2, _, ⟨ho, ha, hq, Or.inr ⟨rfl, rfl, by omega⟩, by omega, by omega, fun i x hx => by have hl := (List.getElem?_eq_some_iff.mp hx).1; unfold icp; rw [if_pos (by omega)]; have := hf i x hx; rw [← this]; congr 1; omega⟩, by omega, hF⟩
  · obtain ⟨e_1, e_2, hN0, hrg⟩ : o1 = 0 ∧ k1 = 10 ∧ N = 0 ∧ r = gde G := by omega
    have hx0 : xs = [] := List.length_eq_zero_iff.mp (by omega)
    refine ww_aload_n 1 dJ3_grow_2_10 rfl ?_
    refine ww_getf gf_J3_9 rfl dJ3_grow_2_11 ha rfl ?_
    refine ww_gets hK.1 q163 rfl dJ3_grow_2_14 ?_
    refine ww_acmp_eqR 45 dJ3_grow_2_17 (by decide) (fun c_17 => ?_) (fun c_17 => ?_)
    · refine ww_aload_n 1 dJ3_grow_2_45 rfl ?_
      refine ww_bipush dJ3_grow_2_46 (by decide) ?_
      refine ww_iload_n 2 dJ3_grow_2_48 rfl ?_
      refine ww_mmax q1430 rfl dJ3_grow_2_49 (by first | assumption | exact inI.mk (by omega) (by omega)) (by first | assumption | exact inI.mk (by omega) (by omega)) (Nat.le_of_ble_eq_true rfl) (Nat.le_of_ble_eq_true rfl) (Nat.le_of_ble_eq_true rfl) (Nat.le_of_ble_eq_true rfl) ?_
      have e_10 : max 10 ((xs.length : Int) + 1) = (10 : Nat) := by rw [hx0]; rfl
      rw [e_10]
      refine wx_newR (N := 10) (j := 4) (fun _ => (o, k + 1)) rfl (by decide) q1431 q140 rfl rfl dJ3_grow_2_52 (fun q hq => ⟨ho, Nat.le_of_lt (hq.2 _ _ _ ha).2⟩) (Nat.le_of_ble_eq_true rfl) (Nat.le_of_ble_eq_true rfl) (fun q_52 h_52 n_52 e_52 hq => ?_)
      have ha := e_52 _ _ ha
      have hF := hF.ex e_52
      refine ww_dup_x1 dJ3_grow_2_55 rfl rfl ?_
      refine wx_putf pf_J3_9 rfl dJ3_grow_2_56 ha ho (Nat.le_of_ble_eq_true rfl) rfl rfl (fun h_56 ha f_56 => ?_)
      have hq := f_56.at hq (by omega)
      have hF := hF.kt f_56 ⟨rfl, by omega, by omega⟩
      exact ww_aret hQ dJ3_grow_2_59 rfl rfl (Nat.le_of_ble_eq_true rfl) (Nat.le_of_ble_eq_true rfl) ⟨_, rfl, 10, _, ⟨ho, ha, hq, Or.inr ⟨rfl, rfl, by omega⟩, by rw [hx0]; decide, by decide, fun i x hx => by rw [hx0] at hx; cases hx⟩, by rw [hx0]; decide, hF⟩
    · exact absurd hrg c_17

set_option maxHeartbeats 4000000 in
theorem ct_J3_grow {G : GT} {h : AH} (hG : GOK G) {o k a : Nat} {xs : List Nat} {r N : Nat} {c : Int} {f : Int → Option Nat} {o1 k1 : Nat} (hA : ALd G h o k a xs r N c f o1 k1) (hK : KC G h) (hfull : xs.length = N) (h60 : N ≤ 12) {ci : Nat} {q : vw_C} (hci : gcl[ci]? = some q) (hC : Cond.castable q.1 "java/lang/Object" ∈ lw_tbl) (hel : ELm h o k ci xs) (hmem : ∀ i : Int, 0 ≤ i → i < N → ∃ x ∈ xs, f i = some x) : CT G (MJ3_grow 4 117 1 15) h [.ref a] (pR (fun r2 h' => ∃ N2 f2, ALd G h' o k a xs r2 N2 c f2 o (k + 1) ∧ xs.length < N2 ∧ FO o k (k + 1) h h')) := by
  refine CT.of rfl hG (Nat.le_of_ble_eq_true rfl) rfl (fun E hQ => ?_)
  have hA0 := hA
  obtain ⟨ho, ha, hr, hd, hn, hN, hf⟩ := hA
  refine ww_aload_n 0 dJ3_grow_0 rfl ?_
  refine ww_aload_n 0 dJ3_grow_1 rfl ?_
  refine ww_getf gf_J3_48 rfl dJ3_grow_2 ha rfl ?_
  refine ww_iconst dJ3_grow_5 ?_
  refine ww_iadd dJ3_grow_6 ?_
  refine cr_r (cr_V (ct_J3_grow_2 hG hA0 hK hfull h60 hci hC hel hmem) sv_J3_69 rfl dJ3_grow_7 ha rfl rfl rfl rfl ⟨by decide, by decide⟩ (Nat.le_of_ble_eq_true rfl) (Nat.le_of_ble_eq_true rfl) (Nat.le_of_ble_eq_true rfl)) (fun r_7 h_7 hp_7 => ?_)
  obtain ⟨N2, f2, hA, hl2, f_7⟩ := hp_7
  exact ww_aret hQ dJ3_grow_10 rfl rfl (Nat.le_of_ble_eq_true rfl) (Nat.le_of_ble_eq_true rfl) ⟨_, rfl, N2, f2, hA, hl2, f_7⟩

set_option maxHeartbeats 4000000 in
theorem ct_J3_add_2 {G : GT} {h : AH} (hG : GOK G) {o k a : Nat} {xs : List Nat} {r N : Nat} {c : Int} {f : Int → Option Nat} {o1 k1 : Nat} (hA : ALd G h o k a xs r N c f o1 k1) (hK : KC G h) (h60 : xs.length ≤ 12) {ci : Nat} {q : vw_C} (hci : gcl[ci]? = some q) (hC : Cond.castable q.1 "java/lang/Object" ∈ lw_tbl) (hel : ELm h o k ci xs) {e u1 u2 : Nat} {efs : List Value} (he : h e = some ((u1, u2), ob ci efs)) (hu : u1 ≠ o ∨ u2 < k ∨ k + 1 < u2) : CT G (MJ3_add_2 5 137 1 15) h [.ref a, .ref e, .ref r, .int (iI xs.length)] (pV (fun h' => AL G h' o k a (xs ++ [e]) ∧ FO o k (k + 1) h h')) := by
  refine CT.of rfl hG (Nat.le_of_ble_eq_true rfl) rfl (fun E hQ => ?_)
  have hA0 := hA
  obtain ⟨ho, ha, hr, hd, hn, hN, hf⟩ := hA
  have hF : FO o k (k + 1) h h := FO.rf
  have hmem : xs.length = N → ∀ i : Int, 0 ≤ i → i < N → ∃ x ∈ xs, f i = some x := fun e0 i i0 i1 => by obtain ⟨x, hx⟩ := gx_get (xs := xs) i0 (by omega); have := hf _ _ hx; rw [Int.toNat_of_nonneg i0] at this; exact ⟨x, List.mem_of_getElem? hx, this⟩
  refine ww_iload_n 3 dJ3_add_2_0 rfl ?_
  refine ww_aload_n 2 dJ3_add_2_1 rfl ?_
  refine ww_alenR dJ3_add_2_2 hr (by decide) ?_
  refine ww_icmp_ne 11 dJ3_add_2_3 (by decide) (inI.mk (by omega) (by omega)) (inI.mk (by omega) (by omega)) (fun c_3 => ?_) (fun c_3 => ?_)
  · have h10 : 10 ≤ N := by omega
    obtain ⟨e_1, e_2⟩ : o1 = o ∧ k1 = k + 1 := by omega
    rw [e_1, e_2] at hr
    refine ww_aload_n 2 dJ3_add_2_11 rfl ?_
    refine ww_iload_n 3 dJ3_add_2_12 rfl ?_
    refine ww_aload_n 1 dJ3_add_2_13 rfl ?_
    refine wx_aast (Or.inr hC) dJ3_add_2_14 hr ho rfl he hci (by omega) (by omega) (by omega) (fun h_14 hr f_14 => ?_)
    have ha := f_14.at ha (by omega)
    have he := f_14.at he (by omega)
    have hF := hF.kt f_14 ⟨rfl, by omega, by omega⟩
    refine ww_aload_n 0 dJ3_add_2_15 rfl ?_
    refine ww_iload_n 3 dJ3_add_2_16 rfl ?_
    refine ww_iconst dJ3_add_2_17 ?_
    refine ww_iadd dJ3_add_2_18 ?_
    refine wx_putf pf_J3_48 rfl dJ3_add_2_19 ha ho (Nat.le_of_ble_eq_true rfl) rfl rfl (fun h_19 ha f_19 => ?_)
    have hr := f_19.at hr (by omega)
    have he := f_19.at he (by omega)
    have hF := hF.kt f_19 ⟨rfl, by omega, by omega⟩
    exact ww_vret hQ dJ3_add_2_22 rfl (Nat.le_of_ble_eq_true rfl) (Nat.le_of_ble_eq_true rfl) ⟨rfl, ⟨_, _, c, _, o, k + 1, ho, by rw [List.length_append]; exact ha, hr, Or.inr ⟨rfl, rfl, by omega⟩, by rw [List.length_append, List.length_singleton]; omega, by omega, ld_snoc hf⟩, hF⟩
  · have hfull : xs.length = N := by omega
    refine ww_aload_n 0 dJ3_add_2_6 rfl ?_
    refine cr_r (cr_V (ct_J3_grow hG hA0 hK hfull (by omega) hci hC hel (hmem hfull)) sv_J3_129 rfl dJ3_add_2_7 ha rfl rfl rfl rfl ⟨by decide, by decide⟩ (Nat.le_of_ble_eq_true rfl) (Nat.le_of_ble_eq_true rfl) (Nat.le_of_ble_eq_true rfl)) (fun r_7 h_7 hp_7 => ?_)
    obtain ⟨N2, f2, hA, hl2, f_7⟩ := hp_7
    have he := f_7.at he (by omega)
    have hF := hF.tr (FO.w f_7 (by omega) (by omega))
    obtain ⟨ho, ha, hr, hd, hn, hN, hf⟩ := hA
    refine ww_astore_n [(2, _), (0, _), (1, _), (3, _)] dJ3_add_2_10 (by decide) rfl ?_
    refine ww_aload_n 0 dJ3_add_2_11 rfl ?_
    refine ww_iload_n 3 dJ3_add_2_12 rfl ?_
    refine ww_aload_n 2 dJ3_add_2_13 rfl ?_
    refine wx_aast (Or.inr hC) dJ3_add_2_14 hr ho rfl he hci (by omega) (by omega) (by omega) (fun h_14 hr f_14 => ?_)
    have ha := f_14.at ha (by omega)
    have he := f_14.at he (by omega)
    have hF := hF.kt f_14 ⟨rfl, by omega, by omega⟩
    refine ww_aload_n 1 dJ3_add_2_15 rfl ?_
    refine ww_iload_n 3 dJ3_add_2_16 rfl ?_
    refine ww_iconst dJ3_add_2_17 ?_
    refine ww_iadd dJ3_add_2_18 ?_
    refine wx_putf pf_J3_48 rfl dJ3_add_2_19 ha ho (Nat.le_of_ble_eq_true rfl) rfl rfl (fun h_19 ha f_19 => ?_)
    have hr := f_19.at hr (by omega)
    have he := f_19.at he (by omega)
    have hF := hF.kt f_19 ⟨rfl, by omega, by omega⟩
    exact ww_vret hQ dJ3_add_2_22 rfl (Nat.le_of_ble_eq_true rfl) (Nat.le_of_ble_eq_true rfl) ⟨rfl, ⟨_, _, c, _, o, k + 1, ho, by rw [List.length_append]; exact ha, hr, Or.inr ⟨rfl, rfl, by omega⟩, by rw [List.length_append, List.length_singleton]; omega, by omega, ld_snoc hf⟩, hF⟩

set_option maxHeartbeats 4000000 in
theorem ct_J3_add {G : GT} {h : AH} (hG : GOK G) {o k a : Nat} {xs : List Nat} (hA : AL G h o k a xs) (hK : KC G h) (h60 : xs.length ≤ 12) {ci : Nat} {q : vw_C} (hci : gcl[ci]? = some q) (hC : Cond.castable q.1 "java/lang/Object" ∈ lw_tbl) (hel : ELm h o k ci xs) {e u1 u2 : Nat} {efs : List Value} (he : h e = some ((u1, u2), ob ci efs)) (hu : u1 ≠ o ∨ u2 < k ∨ k + 1 < u2) : CT G (MJ3_add 6 160 1 15) h [.ref a, .ref e] (pI (fun z h' => z = 1 ∧ AL G h' o k a (xs ++ [e]) ∧ FO o k (k + 1) h h')) := by
  refine CT.of rfl hG (Nat.le_of_ble_eq_true rfl) rfl (fun E hQ => ?_)
  obtain ⟨r, N, c, f, o1, k1, ho, ha, hr, hd, hn, hN, hf⟩ := hA
  have hF : FO o k (k + 1) h h := FO.rf
  have hel0 := hel
  refine ww_aload_n 0 dJ3_add_0 rfl ?_
  refine ww_dup dJ3_add_1 rfl ?_
  refine ww_getf gf_J3_63 rfl dJ3_add_2 ha rfl ?_
  refine ww_iconst dJ3_add_5 ?_
  refine ww_iadd dJ3_add_6 ?_
  refine wx_putf pf_J3_63 rfl dJ3_add_7 ha ho (Nat.le_of_ble_eq_true rfl) rfl rfl (fun h_7 ha f_7 => ?_)
  have hr := f_7.at hr (by omega)
  have he := f_7.at he (by omega)
  have hF := hF.kt f_7 ⟨rfl, by omega, by omega⟩
  have hK := hK.kt f_7 (by first | exact ho | assumption | omega)
  have hel := hel.kt f_7 (Or.inl rfl)
  refine ww_aload_n 0 dJ3_add_10 rfl ?_
  refine ww_aload_n 1 dJ3_add_11 rfl ?_
  refine ww_aload_n 0 dJ3_add_12 rfl ?_
  refine ww_getf gf_J3_9 rfl dJ3_add_13 ha rfl ?_
  refine ww_aload_n 0 dJ3_add_16 rfl ?_
  refine ww_getf gf_J3_48 rfl dJ3_add_17 ha rfl ?_
  refine cr_v (cr_V (ct_J3_add_2 hG (xs := xs) ⟨ho, ha, hr, hd, hn, hN, hf⟩ hK h60 hci hC hel he hu) sv_J3_131 rfl dJ3_add_20 ha rfl rfl rfl rfl ⟨by decide, by decide⟩ (Nat.le_of_ble_eq_true rfl) (Nat.le_of_ble_eq_true rfl) (Nat.le_of_ble_eq_true rfl)) (fun h_20 hp_20 => ?_)
  obtain ⟨hA_20, f_20⟩ := hp_20
  have hF := hF.tr (FO.w f_20 (by omega) (by omega))
  have hK := hK.fo f_20 (by first | exact ho | assumption | omega)
  refine ww_iconst dJ3_add_23 ?_
  exact ww_zret hQ dJ3_add_24 rfl (Nat.le_of_ble_eq_true rfl) (Nat.le_of_ble_eq_true rfl) (by first | exact Or.inl rfl | exact Or.inr rfl | (unfold bI; split <;> simp)) ⟨_, rfl, rfl, hA_20, hF⟩

set_option maxHeartbeats 4000000 in
theorem ct_J3_fastRemove {G : GT} {h : AH} (hG : GOK G) {o k a : Nat} {xs : List Nat} {r N : Nat} {c : Int} {f : Int → Option Nat} {o1 k1 : Nat} (hA : ALd G h o k a xs r N c f o1 k1) {ci : Nat} {q : vw_C} (hci : gcl[ci]? = some q) (hC : Cond.castable q.1 "java/lang/Object" ∈ lw_tbl) (hel : ELm h o k ci xs) (i : Int) (i0 : 0 ≤ i) (i1 : i < xs.length) : CT G (MJ3_fastRemove 1 60 0 0) h [.ref a, .ref r, .int (iI i)] (pV (fun h' => AL G h' o k a (xs.eraseIdx i.toNat) ∧ FO o k (k + 1) h h')) := by
  refine CT.of rfl hG (Nat.le_of_ble_eq_true rfl) rfl (fun E hQ => ?_)
  obtain ⟨ho, ha, hr, hd, hn, hN, hf⟩ := hA
  have h10 : 10 ≤ N := by omega
  obtain ⟨e_1, e_2⟩ : o1 = o ∧ k1 = k + 1 := by omega
  rw [e_1, e_2] at hr
  have hF : FO o k (k + 1) h h := FO.rf
  have e_len : ((xs.eraseIdx i.toNat).length : Int) = (xs.length : Int) - 1 := by rw [List.length_eraseIdx_of_lt (by omega)]; omega
  refine ww_aload_n 0 dJ3_fastRemove_0 rfl ?_
  refine ww_dup dJ3_fastRemove_1 rfl ?_
  refine ww_getf gf_J3_63 rfl dJ3_fastRemove_2 ha rfl ?_
  refine ww_iconst dJ3_fastRemove_5 ?_
  refine ww_iadd dJ3_fastRemove_6 ?_
  refine wx_putf pf_J3_63 rfl dJ3_fastRemove_7 ha ho (Nat.le_of_ble_eq_true rfl) rfl rfl (fun h_7 ha f_7 => ?_)
  have hr := f_7.at hr (by omega)
  have hF := hF.kt f_7 ⟨rfl, by omega, by omega⟩
  have hel := hel.kt f_7 (Or.inl rfl)
  refine ww_aload_n 0 dJ3_fastRemove_10 rfl ?_
  refine ww_getf gf_J3_48 rfl dJ3_fastRemove_11 ha rfl ?_
  refine ww_iconst dJ3_fastRemove_14 ?_
  refine ww_isub dJ3_fastRemove_15 ?_
  refine ww_dup dJ3_fastRemove_16 rfl ?_
  refine ww_istore_n [(3, _), (0, _), (1, _), (2, _)] dJ3_fastRemove_17 (by decide) rfl ?_
  refine ww_iload_n 3 dJ3_fastRemove_18 rfl ?_
  refine ww_icmp_le 34 dJ3_fastRemove_19 (by decide) (inI.mk (by omega) (by omega)) (inI.mk (by omega) (by omega)) (fun c_19 => ?_) (fun c_19 => ?_)
  · refine ww_aload_n 2 dJ3_fastRemove_34 rfl ?_
    refine ww_aload_n 1 dJ3_fastRemove_35 rfl ?_
    refine ww_iload_n 0 dJ3_fastRemove_36 rfl ?_
    refine ww_dup_x1 dJ3_fastRemove_37 rfl rfl ?_
    refine wx_putf pf_J3_48 rfl dJ3_fastRemove_38 ha ho (Nat.le_of_ble_eq_true rfl) rfl rfl (fun h_38 ha f_38 => ?_)
    have hr := f_38.at hr (by omega)
    have hF := hF.kt f_38 ⟨rfl, by omega, by omega⟩
    refine ww_null dJ3_fastRemove_41 ?_
    refine wx_aastN dJ3_fastRemove_42 hr ho rfl (by omega) (by omega) (by omega) (fun h_42 hr f_42 => ?_)
    have ha := f_42.at ha (by omega)
    have hF := hF.kt f_42 ⟨rfl, by omega, by omega⟩
    exact ww_vret hQ dJ3_fastRemove_43 rfl (Nat.le_of_ble_eq_true rfl) (Nat.le_of_ble_eq_true rfl) ⟨rfl, ⟨r, N, c + 1, _, o, k + 1, ho, by rw [e_len]; exact ha, hr, Or.inr ⟨rfl, rfl, by omega⟩, by omega, hN, ld_rem (by omega) hf (fun i2 j0 j1 => by rw [iup_n (by omega), if_pos (by omega)])⟩, hF⟩
  · refine ww_aload_n 2 dJ3_fastRemove_22 rfl ?_
    refine ww_iload_n 3 dJ3_fastRemove_23 rfl ?_
    refine ww_iconst dJ3_fastRemove_24 ?_
    refine ww_iadd dJ3_fastRemove_25 ?_
    refine ww_aload_n 2 dJ3_fastRemove_26 rfl ?_
    refine ww_iload_n 3 dJ3_fastRemove_27 rfl ?_
    refine ww_iload_n 0 dJ3_fastRemove_28 rfl ?_
    refine ww_iload_n 3 dJ3_fastRemove_29 rfl ?_
    refine ww_isub dJ3_fastRemove_30 ?_
    refine ww_copyR (C := "") (ci := ci) q_ac3 q_acn q_acs q_aci rfl dJ3_fastRemove_31 hr hr ho (by omega) (by omega) (by omega) (by omega) (by omega) (by omega) (by omega) hci hC (fun i2 j0 j1 y hy => by obtain ⟨x, hx⟩ := gx_get (xs := xs) (i := i2) (by omega) (by omega); have h3 := hf _ _ hx; rw [Int.toNat_of_nonneg (by omega), hy] at h3; cases h3; obtain ⟨v1, v2, fs, g1, g2⟩ := hel y (List.mem_of_getElem? hx); exact ⟨_, fs, g1⟩) (Nat.le_of_ble_eq_true rfl) (Nat.le_of_ble_eq_true rfl) ?_
    have f_31 := KT.of (y := aR G 4 N (icp f f (i + 1) i ((xs.length : Int) - 1 - i))) hr
    have ha := f_31.at ha (by omega)
    have hF := hF.kt f_31 ⟨rfl, by omega, by omega⟩
    have hr := hset_s (h := h_7) (a := r) (x := ((o, k + 1), aR G 4 N (icp f f (i + 1) i ((xs.length : Int) - 1 - i))))
    refine ww_aload_n 2 dJ3_fastRemove_34 rfl ?_
    refine ww_aload_n 1 dJ3_fastRemove_35 rfl ?_
    refine ww_iload_n 0 dJ3_fastRemove_36 rfl ?_
    refine ww_dup_x1 dJ3_fastRemove_37 rfl rfl ?_
    refine wx_putf pf_J3_48 rfl dJ3_fastRemove_38 ha ho (Nat.le_of_ble_eq_true rfl) rfl rfl (fun h_38 ha f_38 => ?_)
    have hr := f_38.at hr (by omega)
    have hF := hF.kt f_38 ⟨rfl, by omega, by omega⟩
    refine ww_null dJ3_fastRemove_41 ?_
    refine wx_aastN dJ3_fastRemove_42 hr ho rfl (by omega) (by omega) (by omega) (fun h_42 hr f_42 => ?_)
    have ha := f_42.at ha (by omega)
    have hF := hF.kt f_42 ⟨rfl, by omega, by omega⟩
    exact ww_vret hQ dJ3_fastRemove_43 rfl (Nat.le_of_ble_eq_true rfl) (Nat.le_of_ble_eq_true rfl) ⟨rfl, ⟨r, N, c + 1, _, o, k + 1, ho, by rw [e_len]; exact ha, hr, Or.inr ⟨rfl, rfl, by omega⟩, by omega, hN, ld_rem (by omega) hf (fun i2 j0 j1 => by rw [iup_n (by omega)]; unfold icp; exact if c1 : i2 < i then (by rw [if_neg (by omega), if_pos (by omega)]) else (by rw [if_pos (by omega), if_neg (by omega)]; congr 1; omega))⟩, hF⟩

set_option maxHeartbeats 4000000 in
theorem ct_J3_remove {G : GT} {h : AH} (hG : GOK G) {o k a : Nat} {xs : List Nat} (hA : AL G h o k a xs) {ci : Nat} {q : vw_C} (hci : gcl[ci]? = some q) (hC : Cond.castable q.1 "java/lang/Object" ∈ lw_tbl) (hel : ELm h o k ci xs) (i : Int) (x : Nat) (i0 : 0 ≤ i) (hx : xs[i.toNat]? = some x) : CT G (MJ3_remove 2 83 0 0) h [.ref a, .int (iI i)] (pR (fun z h' => z = x ∧ AL G h' o k a (xs.eraseIdx i.toNat) ∧ FO o k (k + 1) h h')) := by
  refine CT.of rfl hG (Nat.le_of_ble_eq_true rfl) rfl (fun E hQ => ?_)
  obtain ⟨r, N, c, f, o1, k1, ho, ha, hr, hd, hn, hN, hf⟩ := hA
  have hl := (List.getElem?_eq_some_iff.mp hx).1
  have hfx := hf _ _ hx
  rw [Int.toNat_of_nonneg i0] at hfx
  refine ww_iload_n 1 dJ3_remove_0 rfl ?_
  refine ww_aload_n 0 dJ3_remove_1 rfl ?_
  refine ww_getf gf_J3_48 rfl dJ3_remove_2 ha rfl ?_
  refine cr_pi (cr_S (ct_J21_checkIndex hG _ _ (by omega) (by omega) (by omega)) ss_J3_118 rfl dJ3_remove_5 rfl rfl ⟨by decide, by decide⟩ (Nat.le_of_ble_eq_true rfl) (Nat.le_of_ble_eq_true rfl) (Nat.le_of_ble_eq_true rfl)) ?_
  refine ww_pop dJ3_remove_8 rfl ?_
  refine ww_aload_n 0 dJ3_remove_9 rfl ?_
  refine ww_getf gf_J3_9 rfl dJ3_remove_10 ha rfl ?_
  refine ww_astore_n [(2, _), (0, _), (1, _)] dJ3_remove_13 (by decide) rfl ?_
  refine ww_aload_n 0 dJ3_remove_14 rfl ?_
  refine ww_iload_n 2 dJ3_remove_15 rfl ?_
  refine ww_aalds dJ3_remove_16 hr rfl rfl (by omega) (by omega) (by omega) hfx ?_
  refine ww_astore_n [(3, _), (2, _), (0, _), (1, _)] dJ3_remove_17 (by decide) rfl ?_
  refine ww_aload_n 2 dJ3_remove_18 rfl ?_
  refine ww_aload_n 1 dJ3_remove_19 rfl ?_
  refine ww_iload_n 3 dJ3_remove_20 rfl ?_
  refine cr_v (cr_V (ct_J3_fastRemove hG (xs := xs) ⟨ho, ha, hr, hd, hn, hN, hf⟩ hci hC hel i i0 (by omega)) sv_J3_144 rfl dJ3_remove_21 ha rfl rfl rfl rfl ⟨by decide, by decide⟩ (Nat.le_of_ble_eq_true rfl) (Nat.le_of_ble_eq_true rfl) (Nat.le_of_ble_eq_true rfl)) (fun h_21 hp_21 => ?_)
  obtain ⟨hA_21, f_21⟩ := hp_21
  refine ww_aload_n 0 dJ3_remove_24 rfl ?_
  exact ww_aret hQ dJ3_remove_25 rfl rfl (Nat.le_of_ble_eq_true rfl) (Nat.le_of_ble_eq_true rfl) ⟨_, rfl, rfl, hA_21, f_21⟩

set_option maxHeartbeats 4000000 in
theorem ct_J19_init {G : GT} {h : AH} (hG : GOK G) (a : Nat) : CPv G (MJ19_init 1 20 0 0) h [.ref a]  := by
  refine CT.of rfl hG (Nat.le_of_ble_eq_true rfl) rfl (fun E hQ => ?_)
  refine ww_aload_n 0 dJ19_init_0 rfl ?_
  refine ww_objInit q1505 q128 q129 rfl dJ19_init_1 (Nat.le_of_ble_eq_true rfl) (Nat.le_of_ble_eq_true rfl) ?_
  exact ww_vret hQ dJ19_init_4 rfl (Nat.le_of_ble_eq_true rfl) (Nat.le_of_ble_eq_true rfl) ⟨rfl, rfl⟩

set_option maxHeartbeats 4000000 in
theorem ct_J20_init {G : GT} {h : AH} (hG : GOK G) {o k a : Nat} (ho : o ≠ 0) {z : Value} (ha : h a = some ((o, k), ob 15 [z])) (v : Int) : CT G (MJ20_init 2 40 0 0) h [.ref a, .int (iI v)] (pV (fun h' => h' a = some ((o, k), ob 15 [.int (iI v)]) ∧ KT a (o, k) h h')) := by
  refine CT.of rfl hG (Nat.le_of_ble_eq_true rfl) rfl (fun E hQ => ?_)
  refine ww_aload_n 0 dJ20_init_0 rfl ?_
  refine cr_pv (cr_I (ct_J19_init hG _) si_J20_202 rfl rfl dJ20_init_1 rfl rfl ⟨by decide, by decide⟩ (Nat.le_of_ble_eq_true rfl) (Nat.le_of_ble_eq_true rfl) (Nat.le_of_ble_eq_true rfl)) ?_
  refine ww_aload_n 0 dJ20_init_4 rfl ?_
  refine ww_iload_n 1 dJ20_init_5 rfl ?_
  refine wx_putF pf_J20_205 rfl rfl dJ20_init_6 ha ho (Nat.le_of_ble_eq_true rfl) rfl rfl (fun h_6 ha f_6 => ?_)
  exact ww_vret hQ dJ20_init_9 rfl (Nat.le_of_ble_eq_true rfl) (Nat.le_of_ble_eq_true rfl) ⟨rfl, ha, f_6⟩

theorem z_hi {G : GT} (hG : GOK G) : va_Z "java/lang/Integer$IntegerCache" "high" "I" (.int (iI 127)) (gA G) (g0 G) (g0 G).heap := st_int hG q1495 (lw_all_tbl q109) (by decide +kernel)
set_option maxHeartbeats 4000000 in
theorem ct_J20_valueOf {G : GT} {h : AH} (hG : GOK G) (hK : KC G h) (v : Int) (hv : inI v) : CT G (MJ20_valueOf 3 61 1 1) h [.int (iI v)] (pR (fun x h' => Ex h h' ∧ IV G h' x v)) := by
  refine CT.of rfl hG (Nat.le_of_ble_eq_true rfl) rfl (fun E hQ => ?_)
  refine ww_iload_n 0 dJ20_valueOf_0 rfl ?_
  refine ww_bipush dJ20_valueOf_1 (by decide) ?_
  refine ww_icmp_lt 23 dJ20_valueOf_3 (by decide) hv (inI.mk (by omega) (by omega)) (fun c_3 => ?_) (fun c_3 => ?_)
  · refine wx_new (fun q => (q, 10002)) nw_J20_1 rfl dJ20_valueOf_23 (fun q hq => ⟨hq.1, Nat.le_refl _⟩) (Nat.le_of_ble_eq_true rfl) (Nat.le_of_ble_eq_true rfl) (fun q_23 h_23 n_23 e_23 hq => ?_)
    refine ww_dup dJ20_valueOf_26 rfl ?_
    refine ww_iload_n 0 dJ20_valueOf_27 rfl ?_
    refine cr_v (cr_I (ct_J20_init hG n_23.1 hq v) si_J20_199 rfl rfl dJ20_valueOf_28 rfl rfl ⟨by decide, by decide⟩ (Nat.le_of_ble_eq_true rfl) (Nat.le_of_ble_eq_true rfl) (Nat.le_of_ble_eq_true rfl)) (fun h_28 hp_28 => ?_)
    obtain ⟨hq, f_28⟩ := hp_28
    exact ww_aret hQ dJ20_valueOf_31 rfl rfl (Nat.le_of_ble_eq_true rfl) (Nat.le_of_ble_eq_true rfl) ⟨_, rfl, f_28.nw e_23 n_23, _, _, hq, Or.inr ⟨rfl, rfl⟩⟩
  · refine ww_iload_n 0 dJ20_valueOf_6 rfl ?_
    refine ww_gets (z_hi hG) q1494 rfl dJ20_valueOf_7 ?_
    refine ww_icmp_gt 23 dJ20_valueOf_10 (by decide) hv (inI.mk (by omega) (by omega)) (fun c_10 => ?_) (fun c_10 => ?_)
    · refine wx_new (fun q => (q, 10002)) nw_J20_1 rfl dJ20_valueOf_23 (fun q hq => ⟨hq.1, Nat.le_refl _⟩) (Nat.le_of_ble_eq_true rfl) (Nat.le_of_ble_eq_true rfl) (fun q_23 h_23 n_23 e_23 hq => ?_)
      refine ww_dup dJ20_valueOf_26 rfl ?_
      refine ww_iload_n 0 dJ20_valueOf_27 rfl ?_
      refine cr_v (cr_I (ct_J20_init hG n_23.1 hq v) si_J20_199 rfl rfl dJ20_valueOf_28 rfl rfl ⟨by decide, by decide⟩ (Nat.le_of_ble_eq_true rfl) (Nat.le_of_ble_eq_true rfl) (Nat.le_of_ble_eq_true rfl)) (fun h_28 hp_28 => ?_)
      obtain ⟨hq, f_28⟩ := hp_28
      exact ww_aret hQ dJ20_valueOf_31 rfl rfl (Nat.le_of_ble_eq_true rfl) (Nat.le_of_ble_eq_true rfl) ⟨_, rfl, f_28.nw e_23 n_23, _, _, hq, Or.inr ⟨rfl, rfl⟩⟩
    · refine ww_gets hK.2.2.1 q1496 rfl dJ20_valueOf_13 ?_
      refine ww_iload_n 0 dJ20_valueOf_16 rfl ?_
      refine ww_sipush dJ20_valueOf_17 (by decide) ?_
      refine ww_iadd dJ20_valueOf_20 ?_
      refine ww_aald8s dJ20_valueOf_21 hK.2.2.2.1 (by decide) (by omega) (by omega) rfl ?_
      rw [show v + 128 - 128 = v by omega]
      exact ww_aret hQ dJ20_valueOf_22 rfl rfl (Nat.le_of_ble_eq_true rfl) (Nat.le_of_ble_eq_true rfl) ⟨_, rfl, Ex.rf, 0, 12, hK.2.2.2.2 v (by omega) (by omega), Or.inl ⟨rfl, rfl⟩⟩

set_option maxHeartbeats 4000000 in
theorem ct_J20_intValue {G : GT} {h : AH} (hG : GOK G) {x : Nat} {v : Int} {t : Tg} (hx : h x = some (t, ob 15 [.int (iI v)])) : CT G (MJ20_intValue 0 0 0 0) h [.ref x] (pI (fun r h' => r = v ∧ h' = h)) := by
  refine CT.of rfl hG (Nat.le_of_ble_eq_true rfl) rfl (fun E hQ => ?_)
  refine ww_aload_n 0 dJ20_intValue_0 rfl ?_
  refine ww_getf gf_J20_205 rfl dJ20_intValue_1 hx rfl ?_
  exact ww_iret hQ dJ20_intValue_4 rfl (Nat.le_of_ble_eq_true rfl) (Nat.le_of_ble_eq_true rfl) ⟨_, rfl, rfl, rfl⟩
