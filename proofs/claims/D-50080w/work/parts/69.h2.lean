set_option maxRecDepth 100000
set_option maxHeartbeats 4000000 in
theorem ct_X6_init_2 {G : GT} {h : AH} (hG : GOK G) {o k x y ws pl : Nat} (ho : o ≠ 0) {y1 y2 y3 y4 : Value} (hx : h x = some ((o, k), ob 5 [y1, y2, y3, y4])) {tr kp : Int} {t1 t2 : Nat} (hy : h y = some ((t1, t2), ob 5 [.ref ws, .ref pl, .int (iI tr), .int (iI kp)])) (hne : t1 ≠ o ∨ t2 ≠ k) (hkp : kp = 0 ∨ kp = 1) : CT G (MX6_init_2 1 20 0 0) h [.ref x, .ref y] (pV (fun h' => h' x = some ((o, k), ob 5 [.ref ws, .ref pl, .int (iI tr), .int (iI kp)]) ∧ KT x (o, k) h h')) := by
  refine CT.of rfl hG (Nat.le_of_ble_eq_true rfl) rfl (fun E hQ => ?_)
  refine ww_aload_n 0 dX6_init_2_0 rfl ?_
  refine ww_objInit q1462 q128 q129 rfl dX6_init_2_1 (Nat.le_of_ble_eq_true rfl) (Nat.le_of_ble_eq_true rfl) ?_
  refine ww_aload_n 0 dX6_init_2_4 rfl ?_
  refine ww_aload_n 1 dX6_init_2_5 rfl ?_
  refine ww_getf gf_X6_7 rfl dX6_init_2_6 hy rfl ?_
  refine wx_putF pf_X6_7 rfl rfl dX6_init_2_9 hx ho (Nat.le_of_ble_eq_true rfl) rfl rfl (fun h_9 hx f_9 => ?_)
  have hy := f_9.at hy (by omega)
  refine ww_aload_n 0 dX6_init_2_12 rfl ?_
  refine ww_aload_n 1 dX6_init_2_13 rfl ?_
  refine ww_getf gf_X6_24 rfl dX6_init_2_14 hy rfl ?_
  refine wx_putF pf_X6_24 rfl rfl dX6_init_2_17 hx ho (Nat.le_of_ble_eq_true rfl) rfl rfl (fun h_17 hx f_17 => ?_)
  have hy := f_17.at hy (by omega)
  refine ww_aload_n 0 dX6_init_2_20 rfl ?_
  refine ww_aload_n 1 dX6_init_2_21 rfl ?_
  refine ww_getf gf_X6_13 rfl dX6_init_2_22 hy rfl ?_
  refine wx_putf pf_X6_13 rfl dX6_init_2_25 hx ho (Nat.le_of_ble_eq_true rfl) rfl rfl (fun h_25 hx f_25 => ?_)
  have hy := f_25.at hy (by omega)
  refine ww_aload_n 0 dX6_init_2_28 rfl ?_
  refine ww_aload_n 1 dX6_init_2_29 rfl ?_
  refine ww_getf gf_X6_17 rfl dX6_init_2_30 hy rfl ?_
  refine wx_putf pf_X6_17 rfl dX6_init_2_33 hx ho (Nat.le_of_ble_eq_true rfl) (by rcases hkp with e | e <;> rw [e] <;> rfl) (by rcases hkp with e | e <;> rw [e] <;> rfl) (fun h_33 hx f_33 => ?_)
  have hy := f_33.at hy (by omega)
  exact ww_vret hQ dX6_init_2_36 rfl (Nat.le_of_ble_eq_true rfl) (Nat.le_of_ble_eq_true rfl) ⟨rfl, hx, fun b u x hb hu => f_33 b u x (f_25 b u x (f_17 b u x (f_9 b u x hb hu) hu) hu) hu⟩

set_option maxHeartbeats 4000000 in
theorem ct_X2_init {G : GT} {h : AH} (hG : GOK G) (hL : LitC G h) {a r nl : Nat} {nx : List Nat} {nm : List (List Int)} (ha0 : a ≠ 0) (hr0 : r ≠ 0) (ha : h a = some ((a, 10500), ob 1 [.null, .null, .null, .null, .null, .int 0])) (hN : AL G h r 10010 nl nx) (hZ : Z2 (fun x w => StO G h x x w) nx nm) : CT G (MX2_init 11 3222 3 14) h [.ref a, .ref nl] (pV (fun h' => HS G h' a r nm [] (fun _ _ => -1) [] 50 (fvar 1) ∧ KT a (a, 10500) h h')) := by
  refine CT.of rfl hG (Nat.le_of_ble_eq_true rfl) rfl (fun E hQ => ?_)
  refine ww_aload_n 0 dX2_init_0 rfl ?_
  refine ww_objInit q180 q128 q129 rfl dX2_init_1 (Nat.le_of_ble_eq_true rfl) (Nat.le_of_ble_eq_true rfl) ?_
  refine ww_aload_n 0 dX2_init_4 rfl ?_
  refine wx_new (fun _ => (a, 10020)) nw_X2_9 rfl dX2_init_5 (fun q hq => ⟨ha0, Nat.le_of_lt (hq.2 _ _ _ ha).2⟩) (Nat.le_of_ble_eq_true rfl) (Nat.le_of_ble_eq_true rfl) (fun q_5 h_5 n_5 e_5 hq => ?_)
  have ha := e_5 _ _ ha
  have hL := hL.ex e_5
  have hN := hN.ex e_5
  have hZ := hZ.mono (fun _ _ q => StO.ex q e_5)
  refine ww_dup dX2_init_8 rfl ?_
  refine cr_v (cr_I (ct_J3_init hG hL.2.1 ha0 hq) si_X2_11 rfl rfl dX2_init_9 rfl rfl ⟨by decide, by decide⟩ (Nat.le_of_ble_eq_true rfl) (Nat.le_of_ble_eq_true rfl) (Nat.le_of_ble_eq_true rfl)) (fun h_9 hp_9 => ?_)
  obtain ⟨hA1, f_9⟩ := hp_9
  have E1 := f_9.nw e_5 n_5
  have ha := f_9.at ha (by omega)
  have hL := hL.kt f_9 (by first | assumption | omega)
  have hN := hN.kt f_9 (by first | assumption | omega) (by omega)
  have hZ := hZ.mono (fun _ _ q => StO.kt q f_9 (by omega))
  refine wx_putF pf_X2_12 rfl rfl dX2_init_12 ha ha0 (Nat.le_of_ble_eq_true rfl) rfl rfl (fun h_12 ha f_12 => ?_)
  have hL := hL.kt f_12 (by first | assumption | omega)
  have hN := hN.kt f_12 (by first | assumption | omega) (by omega)
  have hZ := hZ.mono (fun _ _ q => StO.kt q f_12 (by omega))
  have hA1 := hA1.kt f_12 (by first | assumption | omega) (by omega)
  refine ww_aload_n 0 dX2_init_15 rfl ?_
  refine wx_new (fun _ => (a, 10200)) nw_X2_18 rfl dX2_init_16 (fun q hq => ⟨ha0, Nat.le_of_lt (hq.2 _ _ _ ha).2⟩) (Nat.le_of_ble_eq_true rfl) (Nat.le_of_ble_eq_true rfl) (fun q_16 h_16 n_16 e_16 hq => ?_)
  have ha := e_16 _ _ ha
  have hL := hL.ex e_16
  have hN := hN.ex e_16
  have hZ := hZ.mono (fun _ _ q => StO.ex q e_16)
  have hA1 := hA1.ex e_16
  refine ww_dup dX2_init_19 rfl ?_
  refine cr_v (cr_I (ct_J5_init hG ha0 hq) si_X2_20 rfl rfl dX2_init_20 rfl rfl ⟨by decide, by decide⟩ (Nat.le_of_ble_eq_true rfl) (Nat.le_of_ble_eq_true rfl) (Nat.le_of_ble_eq_true rfl)) (fun h_20 hp_20 => ?_)
  obtain ⟨hM1, f_20⟩ := hp_20
  have E2 := f_20.nw e_16 n_16
  have ha := f_20.at ha (by omega)
  have hL := hL.kt f_20 (by first | assumption | omega)
  have hN := hN.kt f_20 (by first | assumption | omega) (by omega)
  have hZ := hZ.mono (fun _ _ q => StO.kt q f_20 (by omega))
  have hA1 := hA1.kt f_20 (by first | assumption | omega) (by omega)
  refine wx_putF pf_X2_21 rfl rfl dX2_init_23 ha ha0 (Nat.le_of_ble_eq_true rfl) rfl rfl (fun h_23 ha f_23 => ?_)
  have hL := hL.kt f_23 (by first | assumption | omega)
  have hN := hN.kt f_23 (by first | assumption | omega) (by omega)
  have hZ := hZ.mono (fun _ _ q => StO.kt q f_23 (by omega))
  have hA1 := hA1.kt f_23 (by first | assumption | omega) (by omega)
  have hM1 := hM1.kt f_23 (by first | assumption | omega) (by omega)
  refine ww_aload_n 0 dX2_init_26 rfl ?_
  refine wx_new (fun _ => (a, 10030)) nw_X2_9 rfl dX2_init_27 (fun q hq => ⟨ha0, Nat.le_of_lt (hq.2 _ _ _ ha).2⟩) (Nat.le_of_ble_eq_true rfl) (Nat.le_of_ble_eq_true rfl) (fun q_27 h_27 n_27 e_27 hq => ?_)
  have ha := e_27 _ _ ha
  have hL := hL.ex e_27
  have hN := hN.ex e_27
  have hZ := hZ.mono (fun _ _ q => StO.ex q e_27)
  have hA1 := hA1.ex e_27
  have hM1 := hM1.ex e_27
  refine ww_dup dX2_init_30 rfl ?_
  refine cr_v (cr_I (ct_J3_init hG hL.2.1 ha0 hq) si_X2_11 rfl rfl dX2_init_31 rfl rfl ⟨by decide, by decide⟩ (Nat.le_of_ble_eq_true rfl) (Nat.le_of_ble_eq_true rfl) (Nat.le_of_ble_eq_true rfl)) (fun h_31 hp_31 => ?_)
  obtain ⟨hA3, f_31⟩ := hp_31
  have E3 := f_31.nw e_27 n_27
  have ha := f_31.at ha (by omega)
  have hL := hL.kt f_31 (by first | assumption | omega)
  have hN := hN.kt f_31 (by first | assumption | omega) (by omega)
  have hZ := hZ.mono (fun _ _ q => StO.kt q f_31 (by omega))
  have hA1 := hA1.kt f_31 (by first | assumption | omega) (by omega)
  have hM1 := hM1.kt f_31 (by first | assumption | omega) (by omega)
  refine wx_putF pf_X2_25 rfl rfl dX2_init_34 ha ha0 (Nat.le_of_ble_eq_true rfl) rfl rfl (fun h_34 ha f_34 => ?_)
  have hL := hL.kt f_34 (by first | assumption | omega)
  have hN := hN.kt f_34 (by first | assumption | omega) (by omega)
  have hZ := hZ.mono (fun _ _ q => StO.kt q f_34 (by omega))
  have hA1 := hA1.kt f_34 (by first | assumption | omega) (by omega)
  have hM1 := hM1.kt f_34 (by first | assumption | omega) (by omega)
  have hA3 := hA3.kt f_34 (by first | assumption | omega) (by omega)
  refine ww_aload_n 0 dX2_init_37 rfl ?_
  obtain ⟨a9, tx9, hz8, hS9⟩ := hL.1 "LinkElection$House" 28 kwTrust (by decide)
  refine ww_ldcS hz8 dX2_init_38 ?_
  refine cr_o (cr_SN (ct_X1_variable hG hS9 hL) ss_X2_30 rfl dX2_init_40 rfl rfl ⟨by decide, by decide⟩ (Nat.le_of_ble_eq_true rfl) (Nat.le_of_ble_eq_true rfl) (Nat.le_of_ble_eq_true rfl)) (fun r_40 h_40 hp_40 => ?_)
  obtain ⟨hV_40, -, f0_40⟩ := hp_40
  have e_40 := f0_40.ex
  have ev := hV_40.t
  subst ev
  have ha := e_40 _ _ ha
  have hL := hL.ex e_40
  have hN := hN.ex e_40
  have hZ := hZ.mono (fun _ _ q => StO.ex q e_40)
  have hA1 := hA1.ex e_40
  have hM1 := hM1.ex e_40
  have hA3 := hA3.ex e_40
  refine wx_putf pf_X2_34 rfl dX2_init_43 ha ha0 (Nat.le_of_ble_eq_true rfl) rfl rfl (fun h_43 ha f_43 => ?_)
  have hL := hL.kt f_43 (by first | assumption | omega)
  have hN := hN.kt f_43 (by first | assumption | omega) (by omega)
  have hZ := hZ.mono (fun _ _ q => StO.kt q f_43 (by omega))
  have hA1 := hA1.kt f_43 (by first | assumption | omega) (by omega)
  have hM1 := hM1.kt f_43 (by first | assumption | omega) (by omega)
  have hA3 := hA3.kt f_43 (by first | assumption | omega) (by omega)
  refine ww_aload_n 0 dX2_init_46 rfl ?_
  refine ww_bipush dX2_init_47 (by decide) ?_
  refine wx_putf pf_X2_38 rfl dX2_init_49 ha ha0 (Nat.le_of_ble_eq_true rfl) rfl rfl (fun h_49 ha f_49 => ?_)
  have hL := hL.kt f_49 (by first | assumption | omega)
  have hN := hN.kt f_49 (by first | assumption | omega) (by omega)
  have hZ := hZ.mono (fun _ _ q => StO.kt q f_49 (by omega))
  have hA1 := hA1.kt f_49 (by first | assumption | omega) (by omega)
  have hM1 := hM1.kt f_49 (by first | assumption | omega) (by omega)
  have hA3 := hA3.kt f_49 (by first | assumption | omega) (by omega)
  refine ww_aload_n 0 dX2_init_52 rfl ?_
  refine ww_aload_n 1 dX2_init_53 rfl ?_
  refine wx_putF pf_X2_42 rfl rfl dX2_init_54 ha ha0 (Nat.le_of_ble_eq_true rfl) rfl rfl (fun h_54 ha f_54 => ?_)
  have hL := hL.kt f_54 (by first | assumption | omega)
  have hN := hN.kt f_54 (by first | assumption | omega) (by omega)
  have hZ := hZ.mono (fun _ _ q => StO.kt q f_54 (by omega))
  have hA1 := hA1.kt f_54 (by first | assumption | omega) (by omega)
  have hM1 := hM1.kt f_54 (by first | assumption | omega) (by omega)
  have hA3 := hA3.kt f_54 (by first | assumption | omega) (by omega)
  exact ww_vret hQ dX2_init_57 rfl (Nat.le_of_ble_eq_true rfl) (Nat.le_of_ble_eq_true rfl) ⟨rfl, ⟨nl, _, _, _, _, nx, [], [], ha0, hr0, ha, ⟨⟨hN, hZ⟩, ⟨hA1, rfl, fun k x v h1 => by cases h1⟩, ⟨hA3, trivial⟩, WT.v hL (by decide) (by decide)⟩, hM1, by decide⟩, fun b u x hb hu => f_54 b u x (f_49 b u x (f_43 b u x (e_40 _ _ (f_34 b u x (E3 _ _ (f_23 b u x (E2 _ _ (f_12 b u x (E1 _ _ hb) hu)) hu)) hu)) hu) hu) hu⟩

set_option maxHeartbeats 4000000 in
theorem ct_X2_copy {G : GT} {h : AH} (hG : GOK G) {a r : Nat} {nm : List (List Int)} {lb : List LV} {of : Int → Int → Int} {ld : List Int} {sh : Int} {fn : EF} (hS : HS G h a r nm lb of ld sh fn) (hL : LitC G h) (h12 : nm.length ≤ 12) (hl8 : ld.length ≤ 8) (hof : ∀ k n : Int, inI (of k n)) (hout : ∀ k n : Int, k < 0 ∨ n < 0 ∨ (lb.length : Int) ≤ k ∨ (nm.length : Int) ≤ n → of k n = -1) : CT G (MX2_copy 12 3243 604 14980) h [.ref a] (pR (fun q h' => HS G h' q r nm lb of ld sh fn ∧ Ex h h' ∧ Nw h q)) := by
  refine CT.of rfl hG (Nat.le_of_ble_eq_true rfl) rfl (fun E hQ => ?_)
  have hQ0 := hQ
  have hS0 := hS
  have hL0 := hL
  obtain ⟨nl, al, am, ll, w, nx, lx, dx, ha0, hr0, ha, hR, hM, h8⟩ := hS
  have ha1 := ha
  refine wx_new (fun q => (q, 10500)) nw_X2_13 rfl dX2_copy_0 (fun q hq => ⟨hq.1, Nat.le_refl _⟩) (Nat.le_of_ble_eq_true rfl) (Nat.le_of_ble_eq_true rfl) (fun q_0 h_0 n_0 e_0 hq => ?_)
  have ha := e_0 _ _ ha
  refine ww_dup dX2_copy_3 rfl ?_
  refine ww_aload_n 0 dX2_copy_4 rfl ?_
  refine ww_getf gf_X2_42 rfl dX2_copy_5 ha rfl ?_
  refine cr_v (cr_I (ct_X2_init hG (hL0.ex e_0) n_0.1 hr0 hq (hR.1.1.ex e_0) (hR.1.2.mono (fun _ _ q => StO.ex q e_0))) si_X2_45 rfl rfl dX2_copy_8 rfl rfl ⟨by decide, by decide⟩ (Nat.le_of_ble_eq_true rfl) (Nat.le_of_ble_eq_true rfl) (Nat.le_of_ble_eq_true rfl)) (fun h_8 hp_8 => ?_)
  obtain ⟨hS_8, f_8⟩ := hp_8
  have E0 := f_8.nw e_0 n_0
  have hQn := n_0
  generalize q_0 = q at *
  have hqa : a ≠ q := hQn.ne ha1
  have hqr : r ≠ q := fun e => by obtain ⟨fs, h9⟩ := hR.1.1.obj; exact hQn.no h9 e
  refine ww_astore_n [(1, _), (0, _)] dX2_copy_11 (by decide) rfl ?_
  refine ww_iconst dX2_copy_12 ?_
  refine ww_istore_n [(2, _), (1, _), (0, _)] dX2_copy_13 (by decide) rfl ?_
  have loop_14 : ∀ (f : Nat) (j : Nat) (hx : AH), (Ex h hx) → (HS G hx q r nm (lb.take j) (fun _ _ => -1) [] 50 (fvar 1)) → (j ≤ lb.length) → (lb.length - j < f) → WW G E (MX2_copy 12 3243 604 14980) hx (4 + 2 * j) (20 + 19 * j) 14 [(0, .ref a), (1, .ref q), (2, .int (iI (j : Int)))] [] := by
    intro f
    induction f with
    | zero => intro j hx hE9 hQ hj hf; exact absurd hf (by omega)
    | succ f ih =>
      intro j hx hE9 hQ hj hf
      have hS := hS0.ex hE9
      obtain ⟨nl, al, am, ll, w, nx, lx, dx, ha0, hr0, ha, hR, hM, h8⟩ := id hS
      have hL := hL0.ex hE9
      obtain ⟨nl2, al2, am2, ll2, w2, nx2, lx2, dx2, hq0, -, hq, hR2, hM2, h82⟩ := id hQ
      obtain ⟨fsA, hao⟩ := hR.2.1.1.obj
      obtain ⟨fsD, hdo⟩ := hR.2.2.1.1.obj
      obtain ⟨fsN, hno⟩ := hR.1.1.obj
      obtain ⟨fsB, hbo⟩ := hR2.2.1.1.obj
      obtain ⟨fsE, heo⟩ := hR2.2.2.1.1.obj
      have hlx := hR.2.1.2.1
      have hlx2 := hR2.2.1.2.1
      have hlq := hR.2.1.2.1
      have hld := hR.2.2.1.2.len
      have hld2 := hR2.2.2.1.2.len
      have hln := hR.1.2.len
      have hl1 := hR.2.1.1.len
      have hl2 := hR.2.2.1.1.len
      have hl3 := hR.1.1.len
      refine ww_iload_n 2 dX2_copy_14 rfl ?_
      refine ww_aload_n 0 dX2_copy_15 rfl ?_
      refine ww_getf gf_X2_12 rfl dX2_copy_16 ha rfl ?_
      refine cr5_pi (cr_F (ct_J3_size hG hR.2.1.1) sf_X2_48 rfl dX2_copy_19 hao rfl rfl rfl rfl ⟨by decide, by decide⟩ (Nat.le_of_ble_eq_true rfl) (by show 4 + 2 * j + 0 ≤ 604; omega) (by show 20 + 19 * j + 0 ≤ 14980; omega)) ?_
      refine ww_icmp_ge 63 dX2_copy_24 (by decide) (inI.mk (by omega) (by omega)) (inI.mk (by omega) (by omega)) (fun c_24 => ?_) (fun c_24 => ?_)
      · have ej : lb.take j = lb := List.take_of_length_le (by omega)
        refine ww_iconst dX2_copy_63 ?_
        refine ww_istore_n [(2, _), (0, _), (1, _)] dX2_copy_64 (by decide) rfl ?_
        have loop_65 : ∀ (f : Nat) (j : Nat) (hx : AH), (Ex h hx) → (HS G hx q r nm lb (ofp of (j : Int) 0) [] 50 (fvar 1)) → (j ≤ lb.length) → (lb.length - j < f) → WW G E (MX2_copy 12 3243 604 14980) hx (20 + 72 * j) (172 + 1836 * j) 65 [(0, .ref a), (1, .ref q), (2, .int (iI (j : Int)))] [] := by
          intro f
          induction f with
          | zero => intro j hx hE9 hQ hj hf; exact absurd hf (by omega)
          | succ f ih =>
            intro j hx hE9 hQ hj hf
            have hS := hS0.ex hE9
            obtain ⟨nl, al, am, ll, w, nx, lx, dx, ha0, hr0, ha, hR, hM, h8⟩ := id hS
            have hL := hL0.ex hE9
            obtain ⟨nl2, al2, am2, ll2, w2, nx2, lx2, dx2, hq0, -, hq, hR2, hM2, h82⟩ := id hQ
            obtain ⟨fsA, hao⟩ := hR.2.1.1.obj
            obtain ⟨fsD, hdo⟩ := hR.2.2.1.1.obj
            obtain ⟨fsN, hno⟩ := hR.1.1.obj
            obtain ⟨fsB, hbo⟩ := hR2.2.1.1.obj
            obtain ⟨fsE, heo⟩ := hR2.2.2.1.1.obj
            have hlx := hR.2.1.2.1
            have hlx2 := hR2.2.1.2.1
            have hlq := hR.2.1.2.1
            have hld := hR.2.2.1.2.len
            have hld2 := hR2.2.2.1.2.len
            have hln := hR.1.2.len
            have hl1 := hR.2.1.1.len
            have hl2 := hR.2.2.1.1.len
            have hl3 := hR.1.1.len
            refine ww_iload_n 2 dX2_copy_65 rfl ?_
            refine ww_aload_n 0 dX2_copy_66 rfl ?_
            refine ww_getf gf_X2_12 rfl dX2_copy_67 ha rfl ?_
            refine cr5_pi (cr_F (ct_J3_size hG hR.2.1.1) sf_X2_48 rfl dX2_copy_70 hao rfl rfl rfl rfl ⟨by decide, by decide⟩ (Nat.le_of_ble_eq_true rfl) (by show 20 + 72 * j + 0 ≤ 604; omega) (by show 172 + 1836 * j + 0 ≤ 14980; omega)) ?_
            refine ww_icmp_ge 117 dX2_copy_75 (by decide) (inI.mk (by omega) (by omega)) (inI.mk (by omega) (by omega)) (fun c_75 => ?_) (fun c_75 => ?_)
            · have ej2 : (j : Int) = lb.length := by omega
              refine ww_iconst dX2_copy_117 ?_
              refine ww_istore_n [(2, _), (0, _), (1, _)] dX2_copy_118 (by decide) rfl ?_
              have loop_119 : ∀ (f : Nat) (j : Nat) (hx : AH), (Ex h hx) → (HS G hx q r nm lb of (ld.take j) 50 (fvar 1)) → (j ≤ ld.length) → (ld.length - j < f) → WW G E (MX2_copy 12 3243 604 14980) hx (596 + j) (14860 + 15 * j) 119 [(0, .ref a), (1, .ref q), (2, .int (iI (j : Int)))] [] := by
                intro f
                induction f with
                | zero => intro j hx hE9 hQ hj hf; exact absurd hf (by omega)
                | succ f ih =>
                  intro j hx hE9 hQ hj hf
                  have hS := hS0.ex hE9
                  obtain ⟨nl, al, am, ll, w, nx, lx, dx, ha0, hr0, ha, hR, hM, h8⟩ := id hS
                  have hL := hL0.ex hE9
                  obtain ⟨nl2, al2, am2, ll2, w2, nx2, lx2, dx2, hq0, -, hq, hR2, hM2, h82⟩ := id hQ
                  obtain ⟨fsA, hao⟩ := hR.2.1.1.obj
                  obtain ⟨fsD, hdo⟩ := hR.2.2.1.1.obj
                  obtain ⟨fsN, hno⟩ := hR.1.1.obj
                  obtain ⟨fsB, hbo⟩ := hR2.2.1.1.obj
                  obtain ⟨fsE, heo⟩ := hR2.2.2.1.1.obj
                  have hlx := hR.2.1.2.1
                  have hlx2 := hR2.2.1.2.1
                  have hlq := hR.2.1.2.1
                  have hld := hR.2.2.1.2.len
                  have hld2 := hR2.2.2.1.2.len
                  have hln := hR.1.2.len
                  have hl1 := hR.2.1.1.len
                  have hl2 := hR.2.2.1.1.len
                  have hl3 := hR.1.1.len
                  refine ww_iload_n 2 dX2_copy_119 rfl ?_
                  refine ww_aload_n 0 dX2_copy_120 rfl ?_
                  refine ww_getf gf_X2_25 rfl dX2_copy_121 ha rfl ?_
                  refine cr5_pi (cr_F (ct_J3_size hG hR.2.2.1.1) sf_X2_48 rfl dX2_copy_124 hdo rfl rfl rfl rfl ⟨by decide, by decide⟩ (Nat.le_of_ble_eq_true rfl) (by show 596 + j + 0 ≤ 604; omega) (by show 14860 + 15 * j + 0 ≤ 14980; omega)) ?_
                  refine ww_icmp_ge 161 dX2_copy_129 (by decide) (inI.mk (by omega) (by omega)) (inI.mk (by omega) (by omega)) (fun c_129 => ?_) (fun c_129 => ?_)
                  · have ej3 : ld.take j = ld := List.take_of_length_le (by omega)
                    rw [ej3] at hQ
                    obtain ⟨nl2, al2, am2, ll2, w2, nx2, lx2, dx2, hq0, -, hq, hR2, hM2, h82⟩ := hQ
                    refine ww_aload_n 1 dX2_copy_161 rfl ?_
                    refine ww_aload_n 0 dX2_copy_162 rfl ?_
                    refine ww_getf gf_X2_34 rfl dX2_copy_163 ha rfl ?_
                    refine wx_putf pf_X2_34 rfl dX2_copy_166 hq hq0 (Nat.le_of_ble_eq_true rfl) rfl rfl (fun h_166 hq f_166 => ?_)
                    have ha := f_166.at ha (by omega)
                    refine ww_aload_n 1 dX2_copy_169 rfl ?_
                    refine ww_aload_n 0 dX2_copy_170 rfl ?_
                    refine ww_getf gf_X2_38 rfl dX2_copy_171 ha rfl ?_
                    refine wx_putf pf_X2_38 rfl dX2_copy_174 hq hq0 (Nat.le_of_ble_eq_true rfl) rfl rfl (fun h_174 hq f_174 => ?_)
                    refine ww_aload_n 1 dX2_copy_177 rfl ?_
                    exact ww_aret hQ0 dX2_copy_178 rfl rfl (by show 596 + j ≤ 604; omega) (by show 14860 + 15 * j ≤ 14980; omega) ⟨_, rfl, ⟨nl2, al2, am2, ll2, w, nx2, lx2, dx2, hq0, hr0, hq, HR.fo (HR.fo (hR := (⟨hR2.1, hR2.2.1, hR2.2.2.1, hR.2.2.2⟩ : HR G hx q r nl2 al2 ll2 w nx2 lx2 dx2 nm lb ld fn)) (KT.fo f_166) hq0 h8 (by omega)) (KT.fo f_174) hq0 h8 (by omega), (hM2.kt f_166 hq0 (by omega)).kt f_174 hq0 (by omega), h8⟩, fun b x9 hb9 => f_174 b x9.1 x9.2 (f_166 b x9.1 x9.2 (hE9 _ _ hb9) (Or.inr (hQn.ne (t := x9.1) (x := x9.2) hb9))) (Or.inr (hQn.ne (t := x9.1) (x := x9.2) hb9)), hQn⟩
                  · refine ww_aload_n 1 dX2_copy_132 rfl ?_
                    refine ww_getf gf_X2_25 rfl dX2_copy_133 hq rfl ?_
                    refine ww_aload_n 0 dX2_copy_136 rfl ?_
                    refine ww_getf gf_X2_25 rfl dX2_copy_137 ha rfl ?_
                    refine ww_iload_n 2 dX2_copy_140 rfl ?_
                    obtain ⟨x9, hx9⟩ := gx_get (xs := dx) (i := (j : Int)) (by omega) (by omega)
                    obtain ⟨v9, hv9, o9, k9, hi9, hi8⟩ := hR.2.2.1.2.get hx9
                    rw [Int.toNat_natCast] at hv9
                    refine cr5_pr (cr_F (ct_J3_get hG hR.2.2.1.1 _ x9 (by omega) hx9) sf_X2_56 rfl dX2_copy_141 hdo rfl rfl rfl rfl ⟨by decide, by decide⟩ (Nat.le_of_ble_eq_true rfl) (by show 596 + j + 0 ≤ 604; omega) (by show 14860 + 15 * j + 0 ≤ 14980; omega)) ?_
                    refine ww_cast dX2_copy_146 hi9 rfl q764 rfl ?_
                    refine cr5_i (cr_F (ct_J3_add hG hR2.2.2.1.1 hL.2.1 (by rw [hld2, List.length_take]; omega) (ci := 15) rfl q2473 (IVs.el hR2.2.2.1.2 (by decide)) hi9 (by omega)) sf_X2_63 rfl dX2_copy_149 heo rfl rfl rfl rfl ⟨by decide, by decide⟩ (Nat.le_of_ble_eq_true rfl) (by show 596 + j + 1 ≤ 604; omega) (by show 14860 + 15 * j + 15 ≤ 14980; omega)) (fun r_149 h_149 hp_149 => ?_)
                    obtain ⟨er_149, hA_149, f_149⟩ := hp_149
                    subst er_149
                    obtain ⟨⟨a1, a2⟩, ⟨a3, a4⟩, ⟨a5, a6⟩, a7⟩ := hR2
                    have E149 : Ex h h_149 := fun b x9 hb9 => f_149 b x9.1 x9.2 (hE9 _ _ hb9) (fun z => by have := hQn.no (t := x9.1) (x := x9.2) hb9; exact this z.1)
                    have etk : ld.take (j + 1) = ld.take j ++ [v9] := by rw [List.take_succ_eq_append_getElem (by omega)]; rw [List.getElem?_eq_getElem (by omega)] at hv9; rw [Option.some.inj hv9]
                    have hQ9 : HS G h_149 q r nm lb of (ld.take (j + 1)) 50 (fvar 1) := ⟨nl2, al2, am2, ll2, w2, nx2, lx2, dx2 ++ [x9], hq0, hr0, f_149.at hq (by omega), ⟨⟨a1.fo f_149 hq0 (by omega), a2.mono (fun _ _ q9 => q9.fo f_149 (by omega))⟩, ⟨a3.fo f_149 hq0 (by omega), a4.fo f_149 hq0 h82 (by omega)⟩, ⟨hA_149, by rw [etk]; exact (Z2.snoc (P := IV G hx) ⟨o9, k9, hi9, hi8⟩ a6).mono (fun _ _ q9 => q9.fo f_149 hq0 (by omega))⟩, a7.fo f_149 hq0 (by omega)⟩, hM2.fo f_149 hq0 (by omega), h82⟩
                    refine ww_pop dX2_copy_154 rfl ?_
                    refine ww_iinc (j := 2) [(2, _), (0, _), (1, _)] dX2_copy_155 rfl (by decide) rfl ?_
                    refine ww_goto 119 dX2_copy_158 (by decide) ?_
                    refine ww_sub [1, 2, 0] rfl ?_
                    exact ih (j + 1) _ E149 hQ9 (by omega) (by omega)
              refine ww_sub [1, 2, 0] rfl ?_
              refine ww_widen (n' := 596) (k' := 14860) (by show 20 + 72 * j + 0 ≤ 596; omega) (by show 172 + 1836 * j + 0 ≤ 14860; omega) ?_
              exact loop_119 (ld.length + 1) 0 _ hE9 (by rw [ej2] at hQ; rw [ofp_end (fun i j h9 => hout i j (by omega))] at hQ; exact hQ) (by omega) (by omega)
            · refine ww_iconst dX2_copy_78 ?_
              refine ww_istore_n [(3, _), (0, _), (1, _), (2, _)] dX2_copy_79 (by decide) rfl ?_
              have loop_80 : ∀ (f2 : Nat) (i : Nat) (hx : AH), (Ex h hx) → (HS G hx q r nm lb (ofp of (j : Int) (i : Int)) [] 50 (fvar 1)) → (i ≤ nm.length) → (nm.length - i < f2) → WW G E (MX2_copy 12 3243 604 14980) hx (20 + 72 * j + 6 * i) (172 + 1836 * j + 153 * i) 80 [(0, .ref a), (1, .ref q), (2, .int (iI (j : Int))), (3, .int (iI (i : Int)))] [] := by
                intro f2
                induction f2 with
                | zero => intro i hx hE9 hQ hi hf2; exact absurd hf2 (by omega)
                | succ f2 if2 =>
                  intro i hx hE9 hQ hi hf2
                  have hS := hS0.ex hE9
                  obtain ⟨nl, al, am, ll, w, nx, lx, dx, ha0, hr0, ha, hR, hM, h8⟩ := id hS
                  have hL := hL0.ex hE9
                  obtain ⟨nl2, al2, am2, ll2, w2, nx2, lx2, dx2, hq0, -, hq, hR2, hM2, h82⟩ := id hQ
                  obtain ⟨fsA, hao⟩ := hR.2.1.1.obj
                  obtain ⟨fsD, hdo⟩ := hR.2.2.1.1.obj
                  obtain ⟨fsN, hno⟩ := hR.1.1.obj
                  obtain ⟨fsB, hbo⟩ := hR2.2.1.1.obj
                  obtain ⟨fsE, heo⟩ := hR2.2.2.1.1.obj
                  have hlx := hR.2.1.2.1
                  have hlx2 := hR2.2.1.2.1
                  have hlq := hR.2.1.2.1
                  have hld := hR.2.2.1.2.len
                  have hld2 := hR2.2.2.1.2.len
                  have hln := hR.1.2.len
                  have hl1 := hR.2.1.1.len
                  have hl2 := hR.2.2.1.1.len
                  have hl3 := hR.1.1.len
                  refine ww_iload_n 3 dX2_copy_80 rfl ?_
                  refine ww_aload_n 0 dX2_copy_81 rfl ?_
                  refine ww_getf gf_X2_42 rfl dX2_copy_82 ha rfl ?_
                  refine cr5_pi (cr_F (ct_J3_size hG hR.1.1) sf_X2_48 rfl dX2_copy_85 hno rfl rfl rfl rfl ⟨by decide, by decide⟩ (Nat.le_of_ble_eq_true rfl) (by show 20 + 72 * j + 6 * i + 0 ≤ 604; omega) (by show 172 + 1836 * j + 153 * i + 0 ≤ 14980; omega)) ?_
                  refine ww_icmp_ge 111 dX2_copy_90 (by decide) (inI.mk (by omega) (by omega)) (inI.mk (by omega) (by omega)) (fun c_90 => ?_) (fun c_90 => ?_)
                  · have ei : (i : Int) = nm.length := by omega
                    refine ww_iinc (j := 2) [(2, _), (0, _), (1, _), (3, _)] dX2_copy_111 rfl (by decide) rfl ?_
                    refine ww_goto 65 dX2_copy_114 (by decide) ?_
                    refine ww_sub [1, 2, 0] rfl ?_
                    refine ww_widen (n' := 20 + 72 * (j + 1)) (k' := 172 + 1836 * (j + 1)) (by show 20 + 72 * j + 6 * i + 0 ≤ 20 + 72 * (j + 1); omega) (by show 172 + 1836 * j + 153 * i + 0 ≤ 172 + 1836 * (j + 1); omega) ?_
                    exact ih (j + 1) _ hE9 (by have e9 := ofp_nx (of := of) (k := (j : Int)) (nn := (nm.length : Int)) (fun i j h9 => hout i j (by omega)); rw [ei] at hQ; rw [show ((j + 1 : Nat) : Int) = (j : Int) + 1 by omega, ← e9]; exact hQ) (by omega) (by omega)
                  · refine ww_aload_n 1 dX2_copy_93 rfl ?_
                    refine ww_iload_n 2 dX2_copy_94 rfl ?_
                    refine ww_iload_n 3 dX2_copy_95 rfl ?_
                    refine ww_aload_n 0 dX2_copy_96 rfl ?_
                    refine ww_iload_n 2 dX2_copy_97 rfl ?_
                    refine ww_iload_n 3 dX2_copy_98 rfl ?_
                    refine cr_i (cr_V (ct_X2_offer hG hS (j : Int) (i : Int) (by omega) (by omega) (by omega) (by omega)) sv_X2_67 rfl dX2_copy_99 ha rfl rfl rfl rfl ⟨by decide, by decide⟩ (Nat.le_of_ble_eq_true rfl) (by show 20 + 72 * j + 6 * i + 1 ≤ 604; omega) (by show 172 + 1836 * j + 153 * i + 2 ≤ 14980; omega)) (fun r_99 h_99 hp_99 => ?_)
                    obtain ⟨er_99, e_99⟩ := hp_99
                    subst er_99
                    have hq := e_99 _ _ hq
                    refine cr_v (cr_V (ct_X2_put hG (hQ.ex e_99) (j : Int) (i : Int) (by omega) (by omega) (by omega) (by omega) (of (j : Int) (i : Int)) (hof _ _) (hL.ex e_99)) sv_X2_71 rfl dX2_copy_102 hq rfl rfl rfl rfl ⟨by decide, by decide⟩ (Nat.le_of_ble_eq_true rfl) (by show 20 + 72 * j + 6 * i + 1 + 5 ≤ 604; omega) (by show 172 + 1836 * j + 153 * i + 2 + 151 ≤ 14980; omega)) (fun h_102 hp_102 => ?_)
                    obtain ⟨hQ9, f_102⟩ := hp_102
                    rw [ofp_put] at hQ9
                    have E102 : Ex h h_102 := fun b x9 hb9 => f_102 b x9.1 x9.2 ((hE9.tr e_99) _ _ hb9) (fun z => by have := hQn.no (t := x9.1) (x := x9.2) hb9; exact this z.1)
                    refine ww_iinc (j := 3) [(3, _), (0, _), (1, _), (2, _)] dX2_copy_105 rfl (by decide) rfl ?_
                    refine ww_goto 80 dX2_copy_108 (by decide) ?_
                    refine ww_sub [1, 2, 3, 0] rfl ?_
                    exact if2 (i + 1) _ E102 hQ9 (by omega) (by omega)
              refine ww_sub [1, 2, 3, 0] rfl ?_
              exact loop_80 (nm.length + 1) 0 _ hE9 hQ (by omega) (by omega)
        refine ww_sub [1, 2, 0] rfl ?_
        refine ww_widen (n' := 20) (k' := 172) (by show 4 + 2 * j + 0 ≤ 20; omega) (by show 20 + 19 * j + 0 ≤ 172; omega) ?_
        exact loop_65 (lb.length + 1) 0 _ hE9 (by rw [ej] at hQ; show HS G _ q r nm lb (ofp of 0 0) [] 50 (fvar 1); rw [ofp_0 (fun i j h9 => hout i j (by omega))]; exact hQ) (by omega) (by omega)
      · refine ww_aload_n 1 dX2_copy_27 rfl ?_
        refine ww_getf gf_X2_12 rfl dX2_copy_28 hq rfl ?_
        have hv8 : lb[j]? = some (lb[j]'(by omega)) := List.getElem?_eq_getElem (by omega)
        obtain ⟨x8, hx8⟩ := gx_get (xs := lx) (i := (j : Int)) (by omega) (by omega)
        obtain ⟨ws, pl, px, hb, hws, hpa, hpz, hkp⟩ := hR.2.1.2.2 _ _ _ hx8 (by rw [Int.toNat_natCast]; exact hv8)
        rw [Int.toNat_natCast] at hb hpa
        refine wx_new (fun _ => (q, 10050 + j)) nw_X2_54 rfl dX2_copy_31 (fun q9 hq9 => ⟨hq0, Nat.le_of_lt (hq9.2 _ _ _ hq).2⟩) (by show 4 + 2 * j + 1 ≤ 604; omega) (by show 20 + 19 * j + 4 ≤ 14980; omega) (fun q_31 h_31 n_31 e_31 hx9 => ?_)
        have hb := e_31 _ _ hb
        have hR := hR.ex e_31
        have hao := e_31 _ _ hao
        have hbo := e_31 _ _ hbo
        have ha := e_31 _ _ ha
        refine ww_dup dX2_copy_34 rfl ?_
        refine ww_aload_n 0 dX2_copy_35 rfl ?_
        refine ww_getf gf_X2_12 rfl dX2_copy_36 ha rfl ?_
        refine ww_iload_n 2 dX2_copy_39 rfl ?_
        refine cr5_pr (cr_F (ct_J3_get hG hR.2.1.1 _ x8 (by omega) hx8) sf_X2_56 rfl dX2_copy_40 hao rfl rfl rfl rfl ⟨by decide, by decide⟩ (Nat.le_of_ble_eq_true rfl) (by show 4 + 2 * j + 1 ≤ 604; omega) (by show 20 + 19 * j + 4 ≤ 14980; omega)) ?_
        refine ww_cast dX2_copy_45 hb rfl q1118 rfl ?_
        refine cr_v (cr_I (ct_X6_init_2 hG hq0 hx9 hb (by omega) hkp) si_X2_60 rfl rfl dX2_copy_48 rfl rfl ⟨by decide, by decide⟩ (Nat.le_of_ble_eq_true rfl) (by show 4 + 2 * j + 1 ≤ 604; omega) (by show 20 + 19 * j + 4 ≤ 14980; omega)) (fun h_48 hp_48 => ?_)
        obtain ⟨hx9, f_48⟩ := hp_48
        have E48 := f_48.nw e_31 n_31
        have hR2 := hR2.ex E48
        have hL := hL.ex E48
        have hbo := f_48.at hbo (by omega)
        have hl9 := hlx2
        rw [List.length_take, Nat.min_eq_left hj] at hl9
        refine cr5_i (cr_F (ct_J3_add hG hR2.2.1.1 hL.2.1 (by omega) (ci := 5) rfl q2472 (LBs.el hR2.2.1.2) hx9 (by omega)) sf_X2_63 rfl dX2_copy_51 hbo rfl rfl rfl rfl ⟨by decide, by decide⟩ (Nat.le_of_ble_eq_true rfl) (by show 4 + 2 * j + 1 + 1 ≤ 604; omega) (by show 20 + 19 * j + 4 + 15 ≤ 14980; omega)) (fun r_51 h_51 hp_51 => ?_)
        obtain ⟨er_51, hA_51, f_51⟩ := hp_51
        subst er_51
        obtain ⟨⟨a1, a2⟩, ⟨a3, a4⟩, ⟨a5, a6⟩, a7⟩ := hR2
        have E51 : Ex h h_51 := fun b x9 hb9 => f_51 b x9.1 x9.2 ((hE9.tr E48) _ _ hb9) (fun z => by have := hQn.no (t := x9.1) (x := x9.2) hb9; exact this z.1)
        have hbc : LBc G h_51 q r j q_31 (lb[j]'(by omega)) := ⟨ws, pl, px, f_51.at hx9 (by omega), ((hws.ex E48)).fo f_51 (by omega), ((hpa.ex E48)).fo f_51 hq0 (by omega), hpz.mono (fun _ _ q9 => (q9.ex E48).fo f_51 hq0 (by omega)), hkp⟩
        have etk : lb.take (j + 1) = lb.take j ++ [lb[j]'(by omega)] := List.take_succ_eq_append_getElem (by omega)
        have hQ9 : HS G h_51 q r nm (lb.take (j + 1)) (fun _ _ => -1) [] 50 (fvar 1) := ⟨nl2, al2, am2, ll2, w2, nx2, lx2 ++ [q_31], dx2, hq0, hr0, f_51.at (E48 _ _ hq) (by omega), ⟨⟨a1.fo f_51 hq0 (by omega), a2.mono (fun _ _ q9 => q9.fo f_51 (by omega))⟩, ⟨hA_51, by rw [etk]; exact LBs.snoc (a4.fo f_51 hq0 h82 (by omega)) (by rw [List.length_take, Nat.min_eq_left (by omega)]; exact hbc)⟩, ⟨a5.fo f_51 hq0 (by omega), a6.mono (fun _ _ q9 => q9.fo f_51 hq0 (by omega))⟩, a7.fo f_51 hq0 (by omega)⟩, (hM2.ex E48).fo f_51 hq0 (by omega), by rw [List.length_take]; omega⟩
        refine ww_pop dX2_copy_56 rfl ?_
        refine ww_iinc (j := 2) [(2, _), (0, _), (1, _)] dX2_copy_57 rfl (by decide) rfl ?_
        refine ww_goto 14 dX2_copy_60 (by decide) ?_
        refine ww_sub [1, 2, 0] rfl ?_
        refine ww_widen (n' := 4 + 2 * (j + 1)) (k' := 20 + 19 * (j + 1)) (by show 4 + 2 * j + 1 + 1 ≤ 4 + 2 * (j + 1); omega) (by show 20 + 19 * j + 4 + 15 ≤ 20 + 19 * (j + 1); omega) ?_
        exact ih (j + 1) _ E51 hQ9 (by omega) (by omega)
  refine ww_sub [2, 1, 0] rfl ?_
  exact loop_14 (lb.length + 1) 0 _ E0 hS_8 (by omega) (by omega)
