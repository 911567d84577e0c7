set_option maxRecDepth 100000
theorem a0_IO : ∀ w ∈ Bundle.ownAtoms0 "LinkElection" 70 "java/lang/IndexOutOfBoundsException" rtN, PW w := at_c (pw_a q92 rfl) (at_c (pw_a q303 rfl) (at_c (pw_a q312 rfl) (at_c (pw_a q318 rfl) (at_c (pw_a q321 rfl) (at_c (pw_a q323 rfl) (at_c (pw_a q304 rfl) (at_c (pw_a q305 rfl) (at_c (pw_a q128 rfl) (at_c (pw_a q129 rfl) (at_c (pw_a q306 rfl) (at_c (pw_a q311 rfl) (at_c (pw_a q319 rfl) (at_c (pw_a q547 rfl) (at_c (pw_a q293 rfl) (at_c (pw_a q548 rfl) (at_c (pw_a q295 rfl) (at_c (pw_a q549 rfl) (at_c (pw_a q297 rfl) (at_c (pw_a q307 rfl) (at_c (Or.inl (by decide +kernel)) (at_c (pw_a q309 rfl) (at_c (Or.inl (by decide +kernel)) (at_c (pw_a q299 rfl) (at_c (pw_a q1807 rfl) (at_c (pw_a q1808 rfl) (at_c (pw_a q1809 rfl) (at_c (pw_a q1245 rfl) (at_c (pw_d q284 rfl) (at_c (pw_a q1245 rfl) (at_c (pw_a q1246 rfl) (at_c (pw_a q1247 rfl) (at_c (pw_a q1248 rfl) (at_c (pw_d q286 rfl) (at_c (pw_a q1248 rfl) (at_c (pw_a q1249 rfl) (at_c (pw_a q1250 rfl) (at_c (pw_a q304 rfl) (at_c (pw_d q288 rfl) (at_c (pw_a q1806 rfl) (at_c (pw_a q1798 rfl) (at_c (pw_c q1799 rfl) (at_c (pw_a q1800 rfl) (at_c (pw_a q317 rfl) (at_c (pw_a q1801 rfl) (at_c (pw_a q1802 rfl) (at_c (pw_a q1803 rfl) (at_c (pw_a q1804 rfl) (at_c (Or.inl (by decide +kernel)) (at_c (Or.inl (by decide +kernel)) (at_c (pw_a q302 rfl) (at_c (pw_a q301 rfl) (at_c (pw_a q1805 rfl) (at_n)))))))))))))))))))))))))))))))))))))))))))))))))))))
theorem a0_IA : ∀ w ∈ Bundle.ownAtoms0 "LinkElection" 73 "java/lang/IllegalArgumentException" rtN, PW w := at_c (pw_a q92 rfl) (at_c (pw_a q303 rfl) (at_c (pw_a q312 rfl) (at_c (pw_a q318 rfl) (at_c (pw_a q321 rfl) (at_c (pw_a q323 rfl) (at_c (pw_a q304 rfl) (at_c (pw_a q305 rfl) (at_c (pw_a q128 rfl) (at_c (pw_a q129 rfl) (at_c (pw_a q306 rfl) (at_c (pw_a q311 rfl) (at_c (pw_a q319 rfl) (at_c (pw_a q547 rfl) (at_c (pw_a q293 rfl) (at_c (pw_a q548 rfl) (at_c (pw_a q295 rfl) (at_c (pw_a q549 rfl) (at_c (pw_a q297 rfl) (at_c (pw_a q307 rfl) (at_c (Or.inl (by decide +kernel)) (at_c (pw_a q309 rfl) (at_c (Or.inl (by decide +kernel)) (at_c (pw_a q299 rfl) (at_c (pw_a q1242 rfl) (at_c (pw_a q1243 rfl) (at_c (pw_a q1244 rfl) (at_c (pw_a q1245 rfl) (at_c (pw_d q284 rfl) (at_c (pw_a q1245 rfl) (at_c (pw_a q1246 rfl) (at_c (pw_a q1247 rfl) (at_c (pw_a q1248 rfl) (at_c (pw_d q286 rfl) (at_c (pw_a q1248 rfl) (at_c (pw_a q1249 rfl) (at_c (pw_a q1250 rfl) (at_c (pw_a q304 rfl) (at_c (pw_d q288 rfl) (at_c (pw_a q1241 rfl) (at_c (pw_a q282 rfl) (at_c (pw_c q283 rfl) (at_c (pw_a q290 rfl) (at_c (pw_a q291 rfl) (at_c (pw_a q292 rfl) (at_c (pw_a q294 rfl) (at_c (pw_a q296 rfl) (at_c (pw_a q298 rfl) (at_c (Or.inl (by decide +kernel)) (at_c (Or.inl (by decide +kernel)) (at_c (pw_a q302 rfl) (at_c (pw_a q301 rfl) (at_c (pw_a q300 rfl) (at_n)))))))))))))))))))))))))))))))))))))))))))))))))))))
theorem a0_IS : ∀ w ∈ Bundle.ownAtoms0 "LinkElection" 76 "java/lang/IllegalStateException" rtN, PW w := at_c (pw_a q92 rfl) (at_c (pw_a q303 rfl) (at_c (pw_a q312 rfl) (at_c (pw_a q318 rfl) (at_c (pw_a q321 rfl) (at_c (pw_a q323 rfl) (at_c (pw_a q304 rfl) (at_c (pw_a q305 rfl) (at_c (pw_a q128 rfl) (at_c (pw_a q129 rfl) (at_c (pw_a q306 rfl) (at_c (pw_a q311 rfl) (at_c (pw_a q319 rfl) (at_c (pw_a q547 rfl) (at_c (pw_a q293 rfl) (at_c (pw_a q548 rfl) (at_c (pw_a q295 rfl) (at_c (pw_a q549 rfl) (at_c (pw_a q297 rfl) (at_c (pw_a q307 rfl) (at_c (Or.inl (by decide +kernel)) (at_c (pw_a q309 rfl) (at_c (Or.inl (by decide +kernel)) (at_c (pw_a q299 rfl) (at_c (pw_a q1926 rfl) (at_c (pw_a q1927 rfl) (at_c (pw_a q1928 rfl) (at_c (pw_a q1245 rfl) (at_c (pw_d q284 rfl) (at_c (pw_a q1245 rfl) (at_c (pw_a q1246 rfl) (at_c (pw_a q1247 rfl) (at_c (pw_a q1248 rfl) (at_c (pw_d q286 rfl) (at_c (pw_a q1248 rfl) (at_c (pw_a q1249 rfl) (at_c (pw_a q1250 rfl) (at_c (pw_a q304 rfl) (at_c (pw_d q288 rfl) (at_c (pw_a q1925 rfl) (at_c (pw_a q1746 rfl) (at_c (pw_c q1747 rfl) (at_c (pw_a q1748 rfl) (at_c (pw_a q316 rfl) (at_c (pw_a q1749 rfl) (at_c (pw_a q1750 rfl) (at_c (pw_a q1751 rfl) (at_c (pw_a q1752 rfl) (at_c (Or.inl (by decide +kernel)) (at_c (Or.inl (by decide +kernel)) (at_c (pw_a q302 rfl) (at_c (pw_a q301 rfl) (at_c (pw_a q1753 rfl) (at_n)))))))))))))))))))))))))))))))))))))))))))))))))))))
set_option maxHeartbeats 4000000 in
theorem ct_X1_riT {G : GT} {h : AH} (hG : GOK G) (i c : Int) (hi : inI i) (hc0 : 0 ≤ c) (hc1 : c ≤ 1000) (hr : 0 ≤ i ∧ i < c) : CPv G (MX1_requireIndex 1 25 0 0) h [.int (iI i), .int (iI c)]  := by
  refine CT.of rfl hG (Nat.le_of_ble_eq_true rfl) rfl (fun E hQ => ?_)
  have hi1 := hi.1
  have hi2 := hi.2
  refine ww_iload_n 0 dX1_requireIndex_0 rfl ?_
  refine ww_i2l dX1_requireIndex_1 hi ?_
  refine ww_lconst 0 dX1_requireIndex_2 rfl ?_
  refine ww_iload_n 1 dX1_requireIndex_3 rfl ?_
  refine ww_iconst dX1_requireIndex_4 ?_
  refine ww_isub dX1_requireIndex_5 ?_
  refine ww_i2l dX1_requireIndex_6 (inI.mk (by omega) (by omega)) ?_
  refine cr_pi (cr_S (ct_X1_isBetween hG i 0 (c - 1) (inL.mk (by omega) (by omega)) (inL.mk (by omega) (by omega)) (inL.mk (by omega) (by omega))) ss_X1_64 rfl dX1_requireIndex_7 rfl rfl ⟨by decide, by decide⟩ (Nat.le_of_ble_eq_true rfl) (Nat.le_of_ble_eq_true rfl) (Nat.le_of_ble_eq_true rfl)) ?_
  refine ww_ifb_ne 21 dX1_requireIndex_10 (by decide) (fun c_10 => ?_) (fun c_10 => ?_)
  · exact ww_vret hQ dX1_requireIndex_21 rfl (Nat.le_of_ble_eq_true rfl) (Nat.le_of_ble_eq_true rfl) ⟨rfl, rfl⟩
  · exact absurd (show 0 ≤ i ∧ i ≤ c - 1 by omega) c_10

set_option maxHeartbeats 4000000 in
theorem ct_X1_riF {G : GT} {h : AH} (hG : GOK G) (i c : Int) (hi : inI i) (hc0 : 0 ≤ c) (hc1 : c ≤ 1000) (hr : ¬ (0 ≤ i ∧ i < c)) : CX G (MX1_requireIndex 7 120 1 6) h [.int (iI i), .int (iI c)] (pV (fun _ => False)) (XJ h (fun X => X = ioN)) := by
  refine CX.of rfl hG (Nat.le_of_ble_eq_true rfl) rfl (fun E hQ hT => ?_)
  have hi1 := hi.1
  have hi2 := hi.2
  refine ww_iload_n 0 dX1_requireIndex_0 rfl ?_
  refine ww_i2l dX1_requireIndex_1 hi ?_
  refine ww_lconst 0 dX1_requireIndex_2 rfl ?_
  refine ww_iload_n 1 dX1_requireIndex_3 rfl ?_
  refine ww_iconst dX1_requireIndex_4 ?_
  refine ww_isub dX1_requireIndex_5 ?_
  refine ww_i2l dX1_requireIndex_6 (inI.mk (by omega) (by omega)) ?_
  refine cr_pi (cr_S (ct_X1_isBetween hG i 0 (c - 1) (inL.mk (by omega) (by omega)) (inL.mk (by omega) (by omega)) (inL.mk (by omega) (by omega))) ss_X1_64 rfl dX1_requireIndex_7 rfl rfl ⟨by decide, by decide⟩ (Nat.le_of_ble_eq_true rfl) (Nat.le_of_ble_eq_true rfl) (Nat.le_of_ble_eq_true rfl)) ?_
  refine ww_ifb_ne 21 dX1_requireIndex_10 (by decide) (fun c_10 => ?_) (fun c_10 => ?_)
  · exact absurd c_10 (by omega)
  · exact ww_throw0 a0_IO q1797 q118 (by decide +kernel) hQ hT rfl (fun G hG => z_us hG) (fun G hG => z_ss hG) dX1_requireIndex_13 dX1_requireIndex_16 dX1_requireIndex_17 dX1_requireIndex_20 (Nat.le_of_ble_eq_true rfl) (Nat.le_of_ble_eq_true rfl) (Nat.le_of_ble_eq_true rfl) (Nat.le_of_ble_eq_true rfl) (fun q => ⟨rfl, Ex.rf⟩)

set_option maxHeartbeats 4000000 in
theorem ct_X1_raT {G : GT} {h : AH} (hG : GOK G) : CPv G (MX1_requireArgument 0 0 0 0) h [.int (iI 1)]  := by
  refine CT.of rfl hG (Nat.le_of_ble_eq_true rfl) rfl (fun E hQ => ?_)
  refine ww_iload_n 0 dX1_requireArgument_0 rfl ?_
  refine ww_if_ne 12 dX1_requireArgument_1 (by decide) (inI.mk (by decide) (by decide)) (fun c_1 => ?_) (fun c_1 => ?_)
  · exact ww_vret hQ dX1_requireArgument_12 rfl (Nat.le_of_ble_eq_true rfl) (Nat.le_of_ble_eq_true rfl) ⟨rfl, rfl⟩
  · exact absurd c_1 (by decide)

set_option maxHeartbeats 4000000 in
theorem ct_X1_raF {G : GT} {h : AH} (hG : GOK G) : CX G (MX1_requireArgument 7 120 1 6) h [.int (iI 0)] (pV (fun _ => False)) (XJ h (fun X => X = iaN)) := by
  refine CX.of rfl hG (Nat.le_of_ble_eq_true rfl) rfl (fun E hQ hT => ?_)
  refine ww_iload_n 0 dX1_requireArgument_0 rfl ?_
  refine ww_if_ne 12 dX1_requireArgument_1 (by decide) (inI.mk (by decide) (by decide)) (fun c_1 => ?_) (fun c_1 => ?_)
  · exact absurd c_1 (by decide)
  · exact ww_throw0 a0_IA q1240 q95 (by decide +kernel) hQ hT rfl (fun G hG => z_us hG) (fun G hG => z_ss hG) dX1_requireArgument_4 dX1_requireArgument_7 dX1_requireArgument_8 dX1_requireArgument_11 (Nat.le_of_ble_eq_true rfl) (Nat.le_of_ble_eq_true rfl) (Nat.le_of_ble_eq_true rfl) (Nat.le_of_ble_eq_true rfl) (fun q => ⟨rfl, Ex.rf⟩)

set_option maxHeartbeats 4000000 in
theorem ct_X1_rsT {G : GT} {h : AH} (hG : GOK G) : CPv G (MX1_requireState 0 0 0 0) h [.int (iI 1)]  := by
  refine CT.of rfl hG (Nat.le_of_ble_eq_true rfl) rfl (fun E hQ => ?_)
  refine ww_iload_n 0 dX1_requireState_0 rfl ?_
  refine ww_if_ne 12 dX1_requireState_1 (by decide) (inI.mk (by decide) (by decide)) (fun c_1 => ?_) (fun c_1 => ?_)
  · exact ww_vret hQ dX1_requireState_12 rfl (Nat.le_of_ble_eq_true rfl) (Nat.le_of_ble_eq_true rfl) ⟨rfl, rfl⟩
  · exact absurd c_1 (by decide)

set_option maxHeartbeats 4000000 in
theorem ct_X1_rsF {G : GT} {h : AH} (hG : GOK G) : CX G (MX1_requireState 7 120 1 6) h [.int (iI 0)] (pV (fun _ => False)) (XJ h (fun X => X = isN)) := by
  refine CX.of rfl hG (Nat.le_of_ble_eq_true rfl) rfl (fun E hQ hT => ?_)
  refine ww_iload_n 0 dX1_requireState_0 rfl ?_
  refine ww_if_ne 12 dX1_requireState_1 (by decide) (inI.mk (by decide) (by decide)) (fun c_1 => ?_) (fun c_1 => ?_)
  · exact absurd c_1 (by decide)
  · exact ww_throw0 a0_IS q1924 q117 (by decide +kernel) hQ hT rfl (fun G hG => z_us hG) (fun G hG => z_ss hG) dX1_requireState_4 dX1_requireState_7 dX1_requireState_8 dX1_requireState_11 (Nat.le_of_ble_eq_true rfl) (Nat.le_of_ble_eq_true rfl) (Nat.le_of_ble_eq_true rfl) (Nat.le_of_ble_eq_true rfl) (fun q => ⟨rfl, Ex.rf⟩)

set_option maxHeartbeats 4000000 in
theorem ct_X1_libraries {G : GT} {h : AH} (hG : GOK G) {x bf hd a r : Nat} {xs : List Nat} {B : Int → Int} {bl eo : Int} {cur : HV} {hist : List HV} (hC : CWd G h x bf hd a r xs B bl eo cur hist) : CPi G (MX1_libraries 1 20 0 0) h [.ref x] ((cur.lb.length : Int)) := by
  refine CT.of rfl hG (Nat.le_of_ble_eq_true rfl) rfl (fun E hQ => ?_)
  obtain ⟨⟨hx0, hx⟩, ⟨hbf, hBr⟩, hdq, hS, hok, hI, hbl, heo, hL⟩ := id hC
  obtain ⟨nl, al, am, ll, w, nxs, lx, dx, ha0, hr0, hho, ⟨⟨hA1, hZ1⟩, ⟨hA2, hB2⟩, ⟨hA3, hZ3⟩, hWt⟩, hMp, h8⟩ := id hS
  have h12 := hok.1
  obtain ⟨fs1, ho1⟩ := hA1.obj
  obtain ⟨fs2, ho2⟩ := hA2.obj
  have hln1 := hZ1.len
  have hln2 := hB2.1
  refine ww_aload_n 0 dX1_libraries_0 rfl ?_
  refine ww_getf gf_X1_56 rfl dX1_libraries_1 hx rfl ?_
  refine ww_getf gf_X1_84 rfl dX1_libraries_4 hho rfl ?_
  refine cr5_pi (cr_F (ct_J3_size hG hA2) sf_X1_151 rfl dX1_libraries_7 ho2 rfl rfl rfl rfl ⟨by decide, by decide⟩ (Nat.le_of_ble_eq_true rfl) (Nat.le_of_ble_eq_true rfl) (Nat.le_of_ble_eq_true rfl)) ?_
  rw [hln2]
  exact ww_iret hQ dX1_libraries_12 rfl (Nat.le_of_ble_eq_true rfl) (Nat.le_of_ble_eq_true rfl) ⟨_, rfl, rfl, rfl⟩

set_option maxHeartbeats 4000000 in
theorem ct_X1_names {G : GT} {h : AH} (hG : GOK G) {x bf hd a r : Nat} {xs : List Nat} {B : Int → Int} {bl eo : Int} {cur : HV} {hist : List HV} (hC : CWd G h x bf hd a r xs B bl eo cur hist) : CPi G (MX1_names 1 20 0 0) h [.ref x] ((cur.nm.length : Int)) := by
  refine CT.of rfl hG (Nat.le_of_ble_eq_true rfl) rfl (fun E hQ => ?_)
  obtain ⟨⟨hx0, hx⟩, ⟨hbf, hBr⟩, hdq, hS, hok, hI, hbl, heo, hL⟩ := id hC
  obtain ⟨nl, al, am, ll, w, nxs, lx, dx, ha0, hr0, hho, ⟨⟨hA1, hZ1⟩, ⟨hA2, hB2⟩, ⟨hA3, hZ3⟩, hWt⟩, hMp, h8⟩ := id hS
  have h12 := hok.1
  obtain ⟨fs1, ho1⟩ := hA1.obj
  obtain ⟨fs2, ho2⟩ := hA2.obj
  have hln1 := hZ1.len
  have hln2 := hB2.1
  refine ww_aload_n 0 dX1_names_0 rfl ?_
  refine ww_getf gf_X1_56 rfl dX1_names_1 hx rfl ?_
  refine ww_getf gf_X1_152 rfl dX1_names_4 hho rfl ?_
  refine cr5_pi (cr_F (ct_J3_size hG hA1) sf_X1_151 rfl dX1_names_7 ho1 rfl rfl rfl rfl ⟨by decide, by decide⟩ (Nat.le_of_ble_eq_true rfl) (Nat.le_of_ble_eq_true rfl) (Nat.le_of_ble_eq_true rfl)) ?_
  rw [hln1]
  exact ww_iret hQ dX1_names_12 rfl (Nat.le_of_ble_eq_true rfl) (Nat.le_of_ble_eq_true rfl) ⟨_, rfl, rfl, rfl⟩

set_option maxHeartbeats 4000000 in
theorem ct_X1_share {G : GT} {h : AH} (hG : GOK G) {x bf hd a r : Nat} {xs : List Nat} {B : Int → Int} {bl eo : Int} {cur : HV} {hist : List HV} (hC : CWd G h x bf hd a r xs B bl eo cur hist) : CPi G (MX1_share 0 0 0 0) h [.ref x] (cur.sh) := by
  refine CT.of rfl hG (Nat.le_of_ble_eq_true rfl) rfl (fun E hQ => ?_)
  obtain ⟨⟨hx0, hx⟩, ⟨hbf, hBr⟩, hdq, hS, hok, hI, hbl, heo, hL⟩ := id hC
  obtain ⟨nl, al, am, ll, w, nxs, lx, dx, ha0, hr0, hho, ⟨⟨hA1, hZ1⟩, ⟨hA2, hB2⟩, ⟨hA3, hZ3⟩, hWt⟩, hMp, h8⟩ := id hS
  have h12 := hok.1
  obtain ⟨fs1, ho1⟩ := hA1.obj
  obtain ⟨fs2, ho2⟩ := hA2.obj
  have hln1 := hZ1.len
  have hln2 := hB2.1
  refine ww_aload_n 0 dX1_share_0 rfl ?_
  refine ww_getf gf_X1_56 rfl dX1_share_1 hx rfl ?_
  refine ww_getf gf_X1_154 rfl dX1_share_4 hho rfl ?_
  exact ww_iret hQ dX1_share_7 rfl (Nat.le_of_ble_eq_true rfl) (Nat.le_of_ble_eq_true rfl) ⟨_, rfl, rfl, rfl⟩

set_option maxHeartbeats 4000000 in
theorem ct_X1_errorOffset {G : GT} {h : AH} (hG : GOK G) {x bf hd a r : Nat} {xs : List Nat} {B : Int → Int} {bl eo : Int} {cur : HV} {hist : List HV} (hC : CWd G h x bf hd a r xs B bl eo cur hist) : CPi G (MX1_errorOffset 0 0 0 0) h [.ref x] (eo) := by
  refine CT.of rfl hG (Nat.le_of_ble_eq_true rfl) rfl (fun E hQ => ?_)
  obtain ⟨⟨hx0, hx⟩, ⟨hbf, hBr⟩, hdq, hS, hok, hI, hbl, heo, hL⟩ := id hC
  refine ww_aload_n 0 dX1_errorOffset_0 rfl ?_
  refine ww_getf gf_X1_60 rfl dX1_errorOffset_1 hx rfl ?_
  exact ww_iret hQ dX1_errorOffset_4 rfl (Nat.le_of_ble_eq_true rfl) (Nat.le_of_ble_eq_true rfl) ⟨_, rfl, rfl, rfl⟩

set_option maxHeartbeats 4000000 in
theorem ct_X1_laT {G : GT} {h : AH} (hG : GOK G) {x bf hd a r : Nat} {xs : List Nat} {B : Int → Int} {bl eo : Int} {cur : HV} {hist : List HV} (hC : CWd G h x bf hd a r xs B bl eo cur hist) (k : Int) (hk : inI k) (hr : 0 ≤ k ∧ k < (cur.lb.length : Int)) {v : LV} (hv : cur.lb[k.toNat]? = some v) : CT G (MX1_libraryAt 3 64 0 0) h [.ref x, .int (iI k)] (pR (fun y h' => h' = h ∧ ∃ ws pl px, h y = some ((a, 10050 + k.toNat), ob 5 [.ref ws, .ref pl, .int (iI v.2.1), .int (iI v.2.2.1)]) ∧ AL G h r (10060 + 2 * k.toNat) pl px ∧ px.length = v.2.2.2.length)) := by
  refine CT.of rfl hG (Nat.le_of_ble_eq_true rfl) rfl (fun E hQ => ?_)
  obtain ⟨⟨hx0, hx⟩, ⟨hbf, hBr⟩, hdq, hS, hok, hI, hbl, heo, hL⟩ := id hC
  obtain ⟨nl, al, am, ll, w, nxs, lx, dx, ha0, hr0, hho, ⟨⟨hA1, hZ1⟩, ⟨hA2, hB2⟩, ⟨hA3, hZ3⟩, hWt⟩, hMp, h8⟩ := id hS
  have h12 := hok.1
  obtain ⟨fs1, ho1⟩ := hA1.obj
  obtain ⟨fs2, ho2⟩ := hA2.obj
  have hln1 := hZ1.len
  have hln2 := hB2.1
  obtain ⟨x8, hx8⟩ := gx_get (xs := lx) (i := k) hr.1 (by omega)
  obtain ⟨ws, pl, px, hb, -, hpa, hpz, -⟩ := hB2.2 _ _ _ hx8 hv
  refine ww_iload_n 1 dX1_libraryAt_0 rfl ?_
  refine ww_aload_n 0 dX1_libraryAt_1 rfl ?_
  refine cr_pi (cr_V (ct_X1_libraries hG hC) sv_X1_77 rfl dX1_libraryAt_2 hx rfl rfl rfl rfl ⟨by decide, by decide⟩ (Nat.le_of_ble_eq_true rfl) (Nat.le_of_ble_eq_true rfl) (Nat.le_of_ble_eq_true rfl)) ?_
  refine cr_pv (cr_S (ct_X1_riT hG k (cur.lb.length : Int) hk (by omega) (by omega) hr) ss_X1_80 rfl dX1_libraryAt_5 rfl rfl ⟨by decide, by decide⟩ (Nat.le_of_ble_eq_true rfl) (Nat.le_of_ble_eq_true rfl) (Nat.le_of_ble_eq_true rfl)) ?_
  refine ww_aload_n 0 dX1_libraryAt_8 rfl ?_
  refine ww_getf gf_X1_56 rfl dX1_libraryAt_9 hx rfl ?_
  refine ww_getf gf_X1_84 rfl dX1_libraryAt_12 hho rfl ?_
  refine ww_iload_n 1 dX1_libraryAt_15 rfl ?_
  refine cr5_pr (cr_F (ct_J3_get hG hA2 _ x8 hr.1 hx8) sf_X1_87 rfl dX1_libraryAt_16 ho2 rfl rfl rfl rfl ⟨by decide, by decide⟩ (Nat.le_of_ble_eq_true rfl) (Nat.le_of_ble_eq_true rfl) (Nat.le_of_ble_eq_true rfl)) ?_
  refine ww_cast dX1_libraryAt_21 hb rfl q1191 rfl ?_
  exact ww_aret hQ dX1_libraryAt_24 rfl rfl (Nat.le_of_ble_eq_true rfl) (Nat.le_of_ble_eq_true rfl) ⟨_, rfl, rfl, ws, pl, px, hb, hpa, hpz.len⟩

set_option maxHeartbeats 4000000 in
theorem ct_X1_laF {G : GT} {h : AH} (hG : GOK G) {x bf hd a r : Nat} {xs : List Nat} {B : Int → Int} {bl eo : Int} {cur : HV} {hist : List HV} (hC : CWd G h x bf hd a r xs B bl eo cur hist) (k : Int) (hk : inI k) (hr : ¬ (0 ≤ k ∧ k < (cur.lb.length : Int))) : CX G (MX1_libraryAt 8 141 1 6) h [.ref x, .int (iI k)] (pR (fun _ _ => False)) (XJ h (fun X => X = ioN)) := by
  refine CX.of rfl hG (Nat.le_of_ble_eq_true rfl) rfl (fun E hQ hT => ?_)
  obtain ⟨⟨hx0, hx⟩, ⟨hbf, hBr⟩, hdq, hS, hok, hI, hbl, heo, hL⟩ := id hC
  have h8 := hok.2.1
  have h12 := hok.1
  refine ww_iload_n 1 dX1_libraryAt_0 rfl ?_
  refine ww_aload_n 0 dX1_libraryAt_1 rfl ?_
  refine cr_pi (cr_V (ct_X1_libraries hG hC) sv_X1_77 rfl dX1_libraryAt_2 hx rfl rfl rfl rfl ⟨by decide, by decide⟩ (Nat.le_of_ble_eq_true rfl) (Nat.le_of_ble_eq_true rfl) (Nat.le_of_ble_eq_true rfl)) ?_
  refine cx_v (cx_S (ct_X1_riF hG k (cur.lb.length : Int) hk (by omega) (by omega) hr) ss_X1_80 rfl dX1_libraryAt_5 rfl rfl ⟨by decide, by decide⟩ (Nat.le_of_ble_eq_true rfl) (Nat.le_of_ble_eq_true rfl) (Nat.le_of_ble_eq_true rfl)) (fun X_5 q_5 g_5 hx_5 => wq_out hQ hT (Nat.le_of_ble_eq_true rfl) (Nat.le_of_ble_eq_true rfl) (hx_5.go Ex.rf (fun X e => e))) (fun h_5 hp_5 => ?_)
  exact hp_5.elim

set_option maxHeartbeats 4000000 in
theorem ct_X1_rnT {G : GT} {h : AH} (hG : GOK G) {x bf hd a r : Nat} {xs : List Nat} {B : Int → Int} {bl eo : Int} {cur : HV} {hist : List HV} (hC : CWd G h x bf hd a r xs B bl eo cur hist) (n : Int) (hn : inI n) (hr : 0 ≤ n ∧ n < (cur.nm.length : Int)) : CPv G (MX1_requireName 2 46 0 0) h [.ref x, .int (iI n)]  := by
  refine CT.of rfl hG (Nat.le_of_ble_eq_true rfl) rfl (fun E hQ => ?_)
  obtain ⟨⟨hx0, hx⟩, ⟨hbf, hBr⟩, hdq, hS, hok, hI, hbl, heo, hL⟩ := id hC
  have h8 := hok.2.1
  have h12 := hok.1
  refine ww_iload_n 1 dX1_requireName_0 rfl ?_
  refine ww_aload_n 0 dX1_requireName_1 rfl ?_
  refine cr_pi (cr_V (ct_X1_names hG hC) sv_X1_95 rfl dX1_requireName_2 hx rfl rfl rfl rfl ⟨by decide, by decide⟩ (Nat.le_of_ble_eq_true rfl) (Nat.le_of_ble_eq_true rfl) (Nat.le_of_ble_eq_true rfl)) ?_
  refine cr_pv (cr_S (ct_X1_riT hG n (cur.nm.length : Int) hn (by omega) (by omega) hr) ss_X1_80 rfl dX1_requireName_5 rfl rfl ⟨by decide, by decide⟩ (Nat.le_of_ble_eq_true rfl) (Nat.le_of_ble_eq_true rfl) (Nat.le_of_ble_eq_true rfl)) ?_
  exact ww_vret hQ dX1_requireName_8 rfl (Nat.le_of_ble_eq_true rfl) (Nat.le_of_ble_eq_true rfl) ⟨rfl, rfl⟩

set_option maxHeartbeats 4000000 in
theorem ct_X1_rnF {G : GT} {h : AH} (hG : GOK G) {x bf hd a r : Nat} {xs : List Nat} {B : Int → Int} {bl eo : Int} {cur : HV} {hist : List HV} (hC : CWd G h x bf hd a r xs B bl eo cur hist) (n : Int) (hn : inI n) (hr : ¬ (0 ≤ n ∧ n < (cur.nm.length : Int))) : CX G (MX1_requireName 8 141 1 6) h [.ref x, .int (iI n)] (pV (fun _ => False)) (XJ h (fun X => X = ioN)) := by
  refine CX.of rfl hG (Nat.le_of_ble_eq_true rfl) rfl (fun E hQ hT => ?_)
  obtain ⟨⟨hx0, hx⟩, ⟨hbf, hBr⟩, hdq, hS, hok, hI, hbl, heo, hL⟩ := id hC
  have h8 := hok.2.1
  have h12 := hok.1
  refine ww_iload_n 1 dX1_requireName_0 rfl ?_
  refine ww_aload_n 0 dX1_requireName_1 rfl ?_
  refine cr_pi (cr_V (ct_X1_names hG hC) sv_X1_95 rfl dX1_requireName_2 hx rfl rfl rfl rfl ⟨by decide, by decide⟩ (Nat.le_of_ble_eq_true rfl) (Nat.le_of_ble_eq_true rfl) (Nat.le_of_ble_eq_true rfl)) ?_
  refine cx_v (cx_S (ct_X1_riF hG n (cur.nm.length : Int) hn (by omega) (by omega) hr) ss_X1_80 rfl dX1_requireName_5 rfl rfl ⟨by decide, by decide⟩ (Nat.le_of_ble_eq_true rfl) (Nat.le_of_ble_eq_true rfl) (Nat.le_of_ble_eq_true rfl)) (fun X_5 q_5 g_5 hx_5 => wq_out hQ hT (Nat.le_of_ble_eq_true rfl) (Nat.le_of_ble_eq_true rfl) (hx_5.go Ex.rf (fun X e => e))) (fun h_5 hp_5 => ?_)
  exact hp_5.elim

set_option maxHeartbeats 4000000 in
theorem ct_X1_rbT {G : GT} {h : AH} (hG : GOK G) {x bf hd a r : Nat} {xs : List Nat} {B : Int → Int} {bl eo : Int} {cur : HV} {hist : List HV} (hC : CWd G h x bf hd a r xs B bl eo cur hist) (k : Int) (hk : inI k) (n : Int) (hn : inI n) (hr : (0 ≤ k ∧ k < (cur.lb.length : Int)) ∧ (0 ≤ n ∧ n < (cur.nm.length : Int))) : CPv G (MX1_requireBoth 3 67 0 0) h [.ref x, .int (iI k), .int (iI n)]  := by
  refine CT.of rfl hG (Nat.le_of_ble_eq_true rfl) rfl (fun E hQ => ?_)
  obtain ⟨⟨hx0, hx⟩, ⟨hbf, hBr⟩, hdq, hS, hok, hI, hbl, heo, hL⟩ := id hC
  have h8 := hok.2.1
  have h12 := hok.1
  refine ww_iload_n 1 dX1_requireBoth_0 rfl ?_
  refine ww_aload_n 0 dX1_requireBoth_1 rfl ?_
  refine cr_pi (cr_V (ct_X1_libraries hG hC) sv_X1_77 rfl dX1_requireBoth_2 hx rfl rfl rfl rfl ⟨by decide, by decide⟩ (Nat.le_of_ble_eq_true rfl) (Nat.le_of_ble_eq_true rfl) (Nat.le_of_ble_eq_true rfl)) ?_
  refine cr_pv (cr_S (ct_X1_riT hG k (cur.lb.length : Int) hk (by omega) (by omega) hr.1) ss_X1_80 rfl dX1_requireBoth_5 rfl rfl ⟨by decide, by decide⟩ (Nat.le_of_ble_eq_true rfl) (Nat.le_of_ble_eq_true rfl) (Nat.le_of_ble_eq_true rfl)) ?_
  refine ww_aload_n 0 dX1_requireBoth_8 rfl ?_
  refine ww_iload_n 2 dX1_requireBoth_9 rfl ?_
  refine cr_pv (cr_V (ct_X1_rnT hG hC n hn hr.2) sv_X1_98 rfl dX1_requireBoth_10 hx rfl rfl rfl rfl ⟨by decide, by decide⟩ (Nat.le_of_ble_eq_true rfl) (Nat.le_of_ble_eq_true rfl) (Nat.le_of_ble_eq_true rfl)) ?_
  exact ww_vret hQ dX1_requireBoth_13 rfl (Nat.le_of_ble_eq_true rfl) (Nat.le_of_ble_eq_true rfl) ⟨rfl, rfl⟩

set_option maxHeartbeats 4000000 in
theorem ct_X1_rbF {G : GT} {h : AH} (hG : GOK G) {x bf hd a r : Nat} {xs : List Nat} {B : Int → Int} {bl eo : Int} {cur : HV} {hist : List HV} (hC : CWd G h x bf hd a r xs B bl eo cur hist) (k : Int) (hk : inI k) (n : Int) (hn : inI n) (hr : ¬ ((0 ≤ k ∧ k < (cur.lb.length : Int)) ∧ (0 ≤ n ∧ n < (cur.nm.length : Int)))) : CX G (MX1_requireBoth 9 162 1 6) h [.ref x, .int (iI k), .int (iI n)] (pV (fun _ => False)) (XJ h (fun X => X = ioN)) := by
  refine CX.of rfl hG (Nat.le_of_ble_eq_true rfl) rfl (fun E hQ hT => ?_)
  obtain ⟨⟨hx0, hx⟩, ⟨hbf, hBr⟩, hdq, hS, hok, hI, hbl, heo, hL⟩ := id hC
  have h8 := hok.2.1
  have h12 := hok.1
  refine ww_iload_n 1 dX1_requireBoth_0 rfl ?_
  refine ww_aload_n 0 dX1_requireBoth_1 rfl ?_
  refine cr_pi (cr_V (ct_X1_libraries hG hC) sv_X1_77 rfl dX1_requireBoth_2 hx rfl rfl rfl rfl ⟨by decide, by decide⟩ (Nat.le_of_ble_eq_true rfl) (Nat.le_of_ble_eq_true rfl) (Nat.le_of_ble_eq_true rfl)) ?_
  rcases Classical.em (0 ≤ k ∧ k < (cur.lb.length : Int)) with hk9 | hk9
  · refine cr_pv (cr_S (ct_X1_riT hG k (cur.lb.length : Int) hk (by omega) (by omega) hk9) ss_X1_80 rfl dX1_requireBoth_5 rfl rfl ⟨by decide, by decide⟩ (Nat.le_of_ble_eq_true rfl) (Nat.le_of_ble_eq_true rfl) (Nat.le_of_ble_eq_true rfl)) ?_
    refine ww_aload_n 0 dX1_requireBoth_8 rfl ?_
    refine ww_iload_n 2 dX1_requireBoth_9 rfl ?_
    refine cx_v (cx_V (ct_X1_rnF hG hC n hn (fun z => hr ⟨hk9, z⟩)) sv_X1_98 rfl dX1_requireBoth_10 hx rfl rfl rfl rfl ⟨by decide, by decide⟩ (Nat.le_of_ble_eq_true rfl) (Nat.le_of_ble_eq_true rfl) (Nat.le_of_ble_eq_true rfl)) (fun X_10 q_10 g_10 hx_10 => wq_out hQ hT (Nat.le_of_ble_eq_true rfl) (Nat.le_of_ble_eq_true rfl) (hx_10.go Ex.rf (fun X e => e))) (fun h_10 hp_10 => ?_)
    exact hp_10.elim
  · refine cx_v (cx_S (ct_X1_riF hG k (cur.lb.length : Int) hk (by omega) (by omega) hk9) ss_X1_80 rfl dX1_requireBoth_5 rfl rfl ⟨by decide, by decide⟩ (Nat.le_of_ble_eq_true rfl) (Nat.le_of_ble_eq_true rfl) (Nat.le_of_ble_eq_true rfl)) (fun X_5 q_5 g_5 hx_5 => wq_out hQ hT (Nat.le_of_ble_eq_true rfl) (Nat.le_of_ble_eq_true rfl) (hx_5.go Ex.rf (fun X e => e))) (fun h_5 hp_5 => ?_)
    exact hp_5.elim
