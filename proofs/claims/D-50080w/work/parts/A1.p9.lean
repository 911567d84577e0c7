set_option maxRecDepth 100000
theorem st_ub {t : Int → Int} {n p : Int} {s : PS} (hx : Txt t n) (h0 : 0 ≤ p) (hp : p ≤ n) : (stC n p (pSt t p s) : Int) ≤ 8 * (n - p) + 40 ∧ (stS n p (pSt t p s) : Int) ≤ 40 * (n - p) + 200 := by
  cases h1 : pSt t p s with
  | error x => show ((8 * (n - p).toNat + 40 : Nat) : Int) ≤ _ ∧ ((40 * (n - p).toNat + 200 : Nat) : Int) ≤ _; omega
  | ok y =>
    obtain ⟨q, s'⟩ := y
    have := pSt_r hx h0 hp q s' h1
    have hk := hx.k1 hp
    show ((8 * (q - p).toNat : Nat) : Int) ≤ _ ∧ ((40 * (q - p).toNat : Nat) : Int) ≤ _
    omega
theorem st_oq {n p q : Int} {s : PS} {r : PE (Int × PS)} (h : r = .ok (q, s)) (hq : p ≤ q) : (stC n p r : Int) = 8 * (q - p) ∧ (stS n p r : Int) = 40 * (q - p) := by
  rw [h]
  show ((8 * (q - p).toNat : Nat) : Int) = _ ∧ ((40 * (q - p).toNat : Nat) : Int) = _
  omega
set_option maxHeartbeats 4000000 in
theorem ct_X2_initN {G : GT} {h : AH} (hG : GOK G) (hL : LitC G h) {a r nl : Nat} {nx : List Nat} {nm : List (List Int)} (ha0 : a ≠ 0) (hr0 : r ≠ 0) (ha : h a = some ((a, 10500), ob 1 [.null, .null, .null, .null, .null, .int 0])) (hN : AL G h r 10010 nl nx) (hZ : Z2 (fun x w => StO G h x x w) nx nm) : CT G (MX2_init 11 3222 3 14) h [.ref a, .ref nl] (pV (fun h' => (∃ al am ll w, HSd G h' a r nl al am ll w nx [] [] nm [] (fun _ _ => -1) [] 50 (fvar 1)) ∧ KT a (a, 10500) h h')) := by
  refine CT.of rfl hG (Nat.le_of_ble_eq_true rfl) rfl (fun E hQ => ?_)
  refine ww_aload_n 0 dX2_init_0 rfl ?_
  refine ww_objInit q180 q128 q129 rfl dX2_init_1 (Nat.le_of_ble_eq_true rfl) (Nat.le_of_ble_eq_true rfl) ?_
  refine ww_aload_n 0 dX2_init_4 rfl ?_
  refine wx_new (fun _ => (a, 10020)) nw_X2_9 rfl dX2_init_5 (fun q hq => ⟨ha0, Nat.le_of_lt (hq.2 _ _ _ ha).2⟩) (Nat.le_of_ble_eq_true rfl) (Nat.le_of_ble_eq_true rfl) (fun q_5 h_5 n_5 e_5 hq => ?_)
  have ha := e_5 _ _ ha
  have hL := hL.ex e_5
  have hN := hN.ex e_5
  have hZ := hZ.mono (fun _ _ q => StO.ex q e_5)
  refine ww_dup dX2_init_8 rfl ?_
  refine cr_v (cr_I (ct_J3_init hG hL.2.1 ha0 hq) si_X2_11 rfl rfl dX2_init_9 rfl rfl ⟨by decide, by decide⟩ (Nat.le_of_ble_eq_true rfl) (Nat.le_of_ble_eq_true rfl) (Nat.le_of_ble_eq_true rfl)) (fun h_9 hp_9 => ?_)
  obtain ⟨hA1, f_9⟩ := hp_9
  have E1 := f_9.nw e_5 n_5
  have ha := f_9.at ha (by omega)
  have hL := hL.kt f_9 (by first | assumption | omega)
  have hN := hN.kt f_9 (by first | assumption | omega) (by omega)
  have hZ := hZ.mono (fun _ _ q => StO.kt q f_9 (by omega))
  refine wx_putF pf_X2_12 rfl rfl dX2_init_12 ha ha0 (Nat.le_of_ble_eq_true rfl) rfl rfl (fun h_12 ha f_12 => ?_)
  have hL := hL.kt f_12 (by first | assumption | omega)
  have hN := hN.kt f_12 (by first | assumption | omega) (by omega)
  have hZ := hZ.mono (fun _ _ q => StO.kt q f_12 (by omega))
  have hA1 := hA1.kt f_12 (by first | assumption | omega) (by omega)
  refine ww_aload_n 0 dX2_init_15 rfl ?_
  refine wx_new (fun _ => (a, 10200)) nw_X2_18 rfl dX2_init_16 (fun q hq => ⟨ha0, Nat.le_of_lt (hq.2 _ _ _ ha).2⟩) (Nat.le_of_ble_eq_true rfl) (Nat.le_of_ble_eq_true rfl) (fun q_16 h_16 n_16 e_16 hq => ?_)
  have ha := e_16 _ _ ha
  have hL := hL.ex e_16
  have hN := hN.ex e_16
  have hZ := hZ.mono (fun _ _ q => StO.ex q e_16)
  have hA1 := hA1.ex e_16
  refine ww_dup dX2_init_19 rfl ?_
  refine cr_v (cr_I (ct_J5_init hG ha0 hq) si_X2_20 rfl rfl dX2_init_20 rfl rfl ⟨by decide, by decide⟩ (Nat.le_of_ble_eq_true rfl) (Nat.le_of_ble_eq_true rfl) (Nat.le_of_ble_eq_true rfl)) (fun h_20 hp_20 => ?_)
  obtain ⟨hM1, f_20⟩ := hp_20
  have E2 := f_20.nw e_16 n_16
  have ha := f_20.at ha (by omega)
  have hL := hL.kt f_20 (by first | assumption | omega)
  have hN := hN.kt f_20 (by first | assumption | omega) (by omega)
  have hZ := hZ.mono (fun _ _ q => StO.kt q f_20 (by omega))
  have hA1 := hA1.kt f_20 (by first | assumption | omega) (by omega)
  refine wx_putF pf_X2_21 rfl rfl dX2_init_23 ha ha0 (Nat.le_of_ble_eq_true rfl) rfl rfl (fun h_23 ha f_23 => ?_)
  have hL := hL.kt f_23 (by first | assumption | omega)
  have hN := hN.kt f_23 (by first | assumption | omega) (by omega)
  have hZ := hZ.mono (fun _ _ q => StO.kt q f_23 (by omega))
  have hA1 := hA1.kt f_23 (by first | assumption | omega) (by omega)
  have hM1 := hM1.kt f_23 (by first | assumption | omega) (by omega)
  refine ww_aload_n 0 dX2_init_26 rfl ?_
  refine wx_new (fun _ => (a, 10030)) nw_X2_9 rfl dX2_init_27 (fun q hq => ⟨ha0, Nat.le_of_lt (hq.2 _ _ _ ha).2⟩) (Nat.le_of_ble_eq_true rfl) (Nat.le_of_ble_eq_true rfl) (fun q_27 h_27 n_27 e_27 hq => ?_)
  have ha := e_27 _ _ ha
  have hL := hL.ex e_27
  have hN := hN.ex e_27
  have hZ := hZ.mono (fun _ _ q => StO.ex q e_27)
  have hA1 := hA1.ex e_27
  have hM1 := hM1.ex e_27
  refine ww_dup dX2_init_30 rfl ?_
  refine cr_v (cr_I (ct_J3_init hG hL.2.1 ha0 hq) si_X2_11 rfl rfl dX2_init_31 rfl rfl ⟨by decide, by decide⟩ (Nat.le_of_ble_eq_true rfl) (Nat.le_of_ble_eq_true rfl) (Nat.le_of_ble_eq_true rfl)) (fun h_31 hp_31 => ?_)
  obtain ⟨hA3, f_31⟩ := hp_31
  have E3 := f_31.nw e_27 n_27
  have ha := f_31.at ha (by omega)
  have hL := hL.kt f_31 (by first | assumption | omega)
  have hN := hN.kt f_31 (by first | assumption | omega) (by omega)
  have hZ := hZ.mono (fun _ _ q => StO.kt q f_31 (by omega))
  have hA1 := hA1.kt f_31 (by first | assumption | omega) (by omega)
  have hM1 := hM1.kt f_31 (by first | assumption | omega) (by omega)
  refine wx_putF pf_X2_25 rfl rfl dX2_init_34 ha ha0 (Nat.le_of_ble_eq_true rfl) rfl rfl (fun h_34 ha f_34 => ?_)
  have hL := hL.kt f_34 (by first | assumption | omega)
  have hN := hN.kt f_34 (by first | assumption | omega) (by omega)
  have hZ := hZ.mono (fun _ _ q => StO.kt q f_34 (by omega))
  have hA1 := hA1.kt f_34 (by first | assumption | omega) (by omega)
  have hM1 := hM1.kt f_34 (by first | assumption | omega) (by omega)
  have hA3 := hA3.kt f_34 (by first | assumption | omega) (by omega)
  refine ww_aload_n 0 dX2_init_37 rfl ?_
  obtain ⟨a9, tx9, hz8, hS9⟩ := hL.1 "LinkElection$House" 28 kwTrust (by decide)
  refine ww_ldcS hz8 dX2_init_38 ?_
  refine cr_o (cr_SN (ct_X1_variable hG hS9 hL) ss_X2_30 rfl dX2_init_40 rfl rfl ⟨by decide, by decide⟩ (Nat.le_of_ble_eq_true rfl) (Nat.le_of_ble_eq_true rfl) (Nat.le_of_ble_eq_true rfl)) (fun r_40 h_40 hp_40 => ?_)
  obtain ⟨hV_40, -, f0_40⟩ := hp_40
  have e_40 := f0_40.ex
  have ev := hV_40.t
  subst ev
  have ha := e_40 _ _ ha
  have hL := hL.ex e_40
  have hN := hN.ex e_40
  have hZ := hZ.mono (fun _ _ q => StO.ex q e_40)
  have hA1 := hA1.ex e_40
  have hM1 := hM1.ex e_40
  have hA3 := hA3.ex e_40
  refine wx_putf pf_X2_34 rfl dX2_init_43 ha ha0 (Nat.le_of_ble_eq_true rfl) rfl rfl (fun h_43 ha f_43 => ?_)
  have hL := hL.kt f_43 (by first | assumption | omega)
  have hN := hN.kt f_43 (by first | assumption | omega) (by omega)
  have hZ := hZ.mono (fun _ _ q => StO.kt q f_43 (by omega))
  have hA1 := hA1.kt f_43 (by first | assumption | omega) (by omega)
  have hM1 := hM1.kt f_43 (by first | assumption | omega) (by omega)
  have hA3 := hA3.kt f_43 (by first | assumption | omega) (by omega)
  refine ww_aload_n 0 dX2_init_46 rfl ?_
  refine ww_bipush dX2_init_47 (by decide) ?_
  refine wx_putf pf_X2_38 rfl dX2_init_49 ha ha0 (Nat.le_of_ble_eq_true rfl) rfl rfl (fun h_49 ha f_49 => ?_)
  have hL := hL.kt f_49 (by first | assumption | omega)
  have hN := hN.kt f_49 (by first | assumption | omega) (by omega)
  have hZ := hZ.mono (fun _ _ q => StO.kt q f_49 (by omega))
  have hA1 := hA1.kt f_49 (by first | assumption | omega) (by omega)
  have hM1 := hM1.kt f_49 (by first | assumption | omega) (by omega)
  have hA3 := hA3.kt f_49 (by first | assumption | omega) (by omega)
  refine ww_aload_n 0 dX2_init_52 rfl ?_
  refine ww_aload_n 1 dX2_init_53 rfl ?_
  refine wx_putF pf_X2_42 rfl rfl dX2_init_54 ha ha0 (Nat.le_of_ble_eq_true rfl) rfl rfl (fun h_54 ha f_54 => ?_)
  have hL := hL.kt f_54 (by first | assumption | omega)
  have hN := hN.kt f_54 (by first | assumption | omega) (by omega)
  have hZ := hZ.mono (fun _ _ q => StO.kt q f_54 (by omega))
  have hA1 := hA1.kt f_54 (by first | assumption | omega) (by omega)
  have hM1 := hM1.kt f_54 (by first | assumption | omega) (by omega)
  have hA3 := hA3.kt f_54 (by first | assumption | omega) (by omega)
  exact ww_vret hQ dX2_init_57 rfl (Nat.le_of_ble_eq_true rfl) (Nat.le_of_ble_eq_true rfl) ⟨rfl, ⟨_, _, _, _, ha0, hr0, ha, ⟨⟨hN, hZ⟩, ⟨hA1, rfl, fun k x v h1 => by cases h1⟩, ⟨hA3, trivial⟩, WT.v hL (by decide) (by decide)⟩, hM1, by decide⟩, fun b u x hb hu => f_54 b u x (f_49 b u x (f_43 b u x (e_40 _ _ (f_34 b u x (E3 _ _ (f_23 b u x (E2 _ _ (f_12 b u x (E1 _ _ hb) hu)) hu)) hu)) hu) hu) hu⟩

set_option maxHeartbeats 4000000 in
theorem ct_X4_init {G : GT} {h : AH} (hG : GOK G) (hL : LitC G h) {p x : Nat} {t : Int → Int} {n : Int} (hp0 : p ≠ 0) (hp : h p = some ((p, 10580), ob 3 [.int 0, .null, .null, .int 0, .int 0, .int 0, .int 0, .int 0, .null])) (hTB : TB G h x t n) : CT G (MX4_init 12 3243 5 23) h [.ref p, .ref x, .int (iI n)] (pV (fun h' => ∃ nl a, PB G h' p x a nl t n 0 0 0 0 0 ∧ HPn G h' a p nl PS0 ∧ LitC G h' ∧ Nw h a ∧ PF p h h')) := by
  refine CT.of rfl hG (Nat.le_of_ble_eq_true rfl) rfl (fun E hQ => ?_)
  have hF : PF p h h := KT.rf
  obtain ⟨bf, fs, B, hx0, hx, hb, ht, hB⟩ := id hTB
  have h8 := ht.2.1
  have h0 := ht.1
  refine ww_aload_n 0 dX4_init_0 rfl ?_
  refine ww_aload_n 1 dX4_init_1 rfl ?_
  refine wx_putF pf_X4_3 rfl rfl dX4_init_2 hp hp0 (Nat.le_of_ble_eq_true rfl) rfl rfl (fun h_2 hp f_2 => ?_)
  have hF := hF.tr f_2
  have hL := hL.kt f_2 hp0
  have hTB := hTB.kt f_2 (by omega)
  refine ww_aload_n 0 dX4_init_5 rfl ?_
  refine ww_objInit q1256 q128 q129 rfl dX4_init_6 (Nat.le_of_ble_eq_true rfl) (Nat.le_of_ble_eq_true rfl) ?_
  refine ww_aload_n 0 dX4_init_9 rfl ?_
  have hpb := hp
  have hFb := hF
  refine wx_new (fun _ => (p, 10010)) nw_X4_15 rfl dX4_init_10 (fun q hq => ⟨hp0, Nat.le_of_lt (hq.2 _ _ _ hp).1⟩) (Nat.le_of_ble_eq_true rfl) (Nat.le_of_ble_eq_true rfl) (fun q_10 h_10 n_10 e_10 hq => ?_)
  have hp := e_10 _ _ hp
  have hF := hF.xe e_10
  have hL := hL.ex e_10
  have hTB := hTB.ex e_10
  refine ww_dup dX4_init_13 rfl ?_
  refine cr_v (cr_I (ct_J3_init hG hL.2.1 hp0 hq) si_X4_17 rfl rfl dX4_init_14 rfl rfl ⟨by decide, by decide⟩ (Nat.le_of_ble_eq_true rfl) (Nat.le_of_ble_eq_true rfl) (Nat.le_of_ble_eq_true rfl)) (fun h_14 hp_14 => ?_)
  obtain ⟨hA, f_14⟩ := hp_14
  have E1 := f_14.nw e_10 n_10
  have hp := E1 _ _ hpb
  have hF : PF p h h_14 := hFb.xe E1
  have hL := hL.kt f_14 hp0
  have hTB := hTB.kt f_14 (by omega)
  refine wx_putF pf_X4_18 rfl rfl dX4_init_17 hp hp0 (Nat.le_of_ble_eq_true rfl) rfl rfl (fun h_17 hp f_17 => ?_)
  have hF := hF.tr f_17
  have hL := hL.kt f_17 hp0
  have hTB := hTB.kt f_17 (by omega)
  have hA := hA.kt f_17 hp0 (by omega)
  refine ww_aload_n 0 dX4_init_20 rfl ?_
  have hpb := hp
  have hFb := hF
  refine wx_new (fun q => (q, 10500)) nw_X4_22 rfl dX4_init_21 (fun q hq => ⟨hq.1, Nat.le_refl _⟩) (Nat.le_of_ble_eq_true rfl) (Nat.le_of_ble_eq_true rfl) (fun q_21 h_21 n_21 e_21 hq => ?_)
  have hp := e_21 _ _ hp
  have hF := hF.xe e_21
  have hL := hL.ex e_21
  have hTB := hTB.ex e_21
  have hA := hA.ex e_21
  have n9 : Nw h q_21 := hFb.nwo hpb n_21
  refine ww_dup dX4_init_24 rfl ?_
  refine ww_aload_n 0 dX4_init_25 rfl ?_
  refine ww_getf gf_X4_18 rfl dX4_init_26 hp rfl ?_
  refine cr_v (cr_I (ct_X2_initN hG hL n_21.1 hp0 hq hA (nm := []) trivial) si_X4_24 rfl rfl dX4_init_29 rfl rfl ⟨by decide, by decide⟩ (Nat.le_of_ble_eq_true rfl) (Nat.le_of_ble_eq_true rfl) (Nat.le_of_ble_eq_true rfl)) (fun h_29 hp_29 => ?_)
  obtain ⟨⟨al, am, ll, w, hS⟩, f_29⟩ := hp_29
  have E2 := f_29.nw e_21 n_21
  have hp := E2 _ _ hpb
  have hF : PF p h h_29 := hFb.xe E2
  have hL := hL.kt f_29 n_21.1
  have hTB := hTB.kt f_29 (by omega)
  have hS := hS
  refine wx_putF pf_X4_27 rfl rfl dX4_init_32 hp hp0 (Nat.le_of_ble_eq_true rfl) rfl rfl (fun h_32 hp f_32 => ?_)
  have hF := hF.tr f_32
  have hL := hL.kt f_32 hp0
  have hTB := hTB.kt f_32 (by omega)
  have hS := hS.fo f_32.fo hp0 (by omega)
  refine ww_aload_n 0 dX4_init_35 rfl ?_
  refine ww_iload_n 2 dX4_init_36 rfl ?_
  refine wx_putF pf_X4_31 rfl rfl dX4_init_37 hp hp0 (Nat.le_of_ble_eq_true rfl) rfl rfl (fun h_37 hp f_37 => ?_)
  have hF := hF.tr f_37
  have hL := hL.kt f_37 hp0
  have hTB := hTB.kt f_37 (by omega)
  have hS := hS.fo f_37.fo hp0 (by omega)
  exact ww_vret hQ dX4_init_40 rfl (Nat.le_of_ble_eq_true rfl) (Nat.le_of_ble_eq_true rfl) ⟨rfl, q_10, q_21, ⟨⟨hp0, hp⟩, hTB, ⟨by omega, by omega⟩, ⟨by omega, by omega⟩, ⟨by omega, by omega⟩, Or.inl rfl, Or.inl rfl⟩, ⟨al, am, ll, w, [], [], [], hS⟩, hL, n9, hF⟩

set_option maxHeartbeats 4000000 in
theorem ct_X4_parse {G : GT} {h : AH} (hG : GOK G) {p x a nl : Nat} {t : Int → Int} {n sa hs hw : Int} (hP : PB G h p x a nl t n 0 sa 0 hs hw) (hH : HPn G h a p nl PS0) (hL : LitC G h) (hs9 : PSc PS0) (hhs : hs = bI (PS0.hs = true)) (hhw : hw = bI (PS0.hw = true)) : CX G (MX4_parse 30 5700 6600 33000) h [.ref p] (pR (fun q h' => q = a ∧ ∃ s, pAll t = .ok s ∧ PSc s ∧ HPn G h' a p nl s ∧ LitC G h' ∧ TB G h' x t n ∧ FP p a h h')) (XS p a h (pAll t)) := by
  refine CX.of rfl hG (Nat.le_of_ble_eq_true rfl) rfl (fun E hQ hT => ?_)
  have hnx := hP.2.2.1
  have ht := hP.txt
  have h8 := ht.2.1
  have h0 := ht.1
  have hk := ht.k1 hnx.2
  have hrg := ht.rg (q := sk t 0) (by omega)
  have hp0 := hP.1.1
  have hF : FP p a h h := FP.rf
  have h12 := hs9.n
  have h8l := hs9.l
  have ha0 := hH.a0
  have hw1 := ht.w1 hk.2.1
  refine ww_aload_n 0 dX4_parse_0 rfl ?_
  obtain ⟨hwC, hwS⟩ := wCI (l := we t (sk t 0) - sk t 0) (by omega)
  have hH0 := hH
  refine cr_r (cr_V (ct_X4_word hG hP) sv_X4_124 rfl dX4_parse_1 hP.obj rfl rfl rfl rfl ⟨Nat.le_of_ble_eq_true rfl, Nat.le_of_ble_eq_true rfl⟩ (Nat.le_of_ble_eq_true rfl) (by dsimp only [mmc, MX4_parse, MX4_word] <;> omega) (by dsimp only [mms, MX4_parse, MX4_word] <;> omega)) (fun r_1 h_1 hp_1 => ?_)
  obtain ⟨hW_1, n_1, hP, f_1⟩ := hp_1
  have hF := hF.kt f_1 (by first | exact Or.inl rfl | exact Or.inr rfl)
  have hH := hH.kt f_1 hp0
  have hL := hL.kt f_1 (by first | exact hp0 | exact ha0)
  have hpw := pw_len (t := t) (e := 0)
  rw [Int.toNat_of_nonneg (by omega)] at hpw
  obtain ⟨fsw, hwo⟩ := hW_1.obj
  obtain ⟨a9, tx9, hz8, hS9⟩ := hL.1 "LinkElection$Parser" 243 kwLink (by decide)
  refine ww_ldcS hz8 dX4_parse_4 ?_
  refine cr_pi (cr_V (ct_J6_equals hG hW_1 hS9) sv_X4_146 rfl dX4_parse_6 hwo rfl rfl rfl rfl ⟨Nat.le_of_ble_eq_true rfl, Nat.le_of_ble_eq_true rfl⟩ (Nat.le_of_ble_eq_true rfl) (by dsimp only [mmc, MX4_parse, MX4_word, MJ6_equals] <;> omega) (by dsimp only [mms, MX4_parse, MX4_word, MJ6_equals] <;> omega)) ?_
  rcases Classical.em (pw t 0 = kwLink) with hlk | hlk
  · rw [bI_t hlk]
    rw [hlk] at hpw
    have hkl : (kwLink.length : Int) = 4 := rfl
    rw [hkl] at hpw
    refine ww_istore_n [(1, _), (0, _)] dX4_parse_9 (Nat.le_of_ble_eq_true rfl) rfl ?_
    refine ww_aload_n 1 dX4_parse_10 rfl ?_
    refine ww_iload_n 0 dX4_parse_11 rfl ?_
    refine ww_bipush dX4_parse_12 (by decide) ?_
    refine ww_aload_n 1 dX4_parse_14 rfl ?_
    refine ww_getf gf_X4_35 rfl dX4_parse_15 hP.obj rfl ?_
    refine cr_pv (cr_V (ct_X4_reqT hG 1 _ _ (by decide) (inI.mk (by decide) (by decide))) sv_X4_59 rfl dX4_parse_18 hP.obj rfl rfl rfl rfl ⟨Nat.le_of_ble_eq_true rfl, Nat.le_of_ble_eq_true rfl⟩ (Nat.le_of_ble_eq_true rfl) (by dsimp only [mmc, MX4_parse, MX4_word, MJ6_equals, MX4_require] <;> omega) (by dsimp only [mms, MX4_parse, MX4_word, MJ6_equals, MX4_require] <;> omega)) ?_
    refine ww_aload_n 1 dX4_parse_21 rfl ?_
    refine ww_dup dX4_parse_22 rfl ?_
    refine ww_getf gf_X4_35 rfl dX4_parse_23 hP.obj rfl ?_
    refine ww_iconst dX4_parse_26 ?_
    refine ww_iadd dX4_parse_27 ?_
    rw [show sk t 0 + 4 = we t (sk t 0) by omega]
    have hp := hP.obj
    refine wx_putf pf_X4_35 rfl dX4_parse_28 hp hp0 (Nat.le_of_ble_eq_true rfl) rfl rfl (fun h_28 hp f_28 => ?_)
    have hF := hF.kt f_28 (by first | exact Or.inl rfl | exact Or.inr rfl)
    have hH := hH.kt f_28 hp0
    have hL := hL.kt f_28 (by first | exact hp0 | exact ha0)
    have hP : PB G h_28 p x a nl t n (we t (sk t 0)) sa 0 hs hw := ⟨⟨hp0, hp⟩, hP.2.1.kt f_28 (by omega), ⟨by omega, by omega⟩, hP.2.2.2⟩
    refine ww_aload_n 1 dX4_parse_31 rfl ?_
    refine ww_bipush dX4_parse_32 (by decide) ?_
    refine cx_v (cx_V (ct_X4_expect hG hP 59 (by decide) (by decide)) sv_X4_113 rfl dX4_parse_34 hP.obj rfl rfl rfl rfl ⟨Nat.le_of_ble_eq_true rfl, Nat.le_of_ble_eq_true rfl⟩ (Nat.le_of_ble_eq_true rfl) (by dsimp only [mmc, MX4_parse, MX4_word, MJ6_equals, MX4_require, MX4_expect] <;> omega) (by dsimp only [mms, MX4_parse, MX4_word, MJ6_equals, MX4_require, MX4_expect] <;> omega)) (fun X_34 q_34 g_34 hx_34 => wq_out hQ hT (by dsimp only [mmc, MX4_parse, MX4_word, MJ6_equals, MX4_require, MX4_expect, MX4_peek, MX4_statement] <;> omega) (by dsimp only [mms, MX4_parse, MX4_word, MJ6_equals, MX4_require, MX4_expect, MX4_peek, MX4_statement] <;> omega) (hx_34.go hF (fun c o e => by unfold pexp at e; split at e; cases e; rename_i c9; rw [pAll_e hlk c9]; cases e; rfl))) (fun h_34 hp_34 => ?_)
    obtain ⟨hc_34, hP, f_34⟩ := hp_34
    have hF := hF.kt f_34 (by first | exact Or.inl rfl | exact Or.inr rfl)
    have hH := hH.kt f_34 hp0
    have hL := hL.kt f_34 (by first | exact hp0 | exact ha0)
    have hs59 := sk59 ht hc_34 hw1.2.1
    have hk59 := ht.k1 hw1.2.1
    have loop_37 : ∀ (e : Nat) (u : Nat) (s : PS) (q sa9 hs9 hw9 : Int) (nn kk : Nat) (h1 : AH), (FP p a h h1) → (PB G h1 p x a nl t n q sa9 0 hs9 hw9) → (hs9 = bI (s.hs = true)) → (hw9 = bI (s.hw = true)) → (HPn G h1 a p nl s) → (LitC G h1) → (PSc s) → (pAll t = pLp u t q s) → (n - q < u) → (0 ≤ q) → (q ≤ n) → ((nn : Int) ≤ 8 * q + 20) → ((kk : Int) ≤ 40 * q + 100) → (n - q < e) → WW G E (MX4_parse 30 5700 6600 33000) h1 nn kk 37 [(0, .ref p)] [] := by
      intro e
      induction e with
      | zero => intro u s q sa9 hs9 hw9 nn kk h1 hF hP hhs hhw hH hL hsk hpl hu q0 q1 hnn hkk he; exact absurd he (by omega)
      | succ e ie =>
        intro u s q sa9 hs9 hw9 nn kk h1 hF hP hhs hhw hH hL hsk hpl hu q0 q1 hnn hkk he
        obtain ⟨v, rfl⟩ : ∃ v, u = v + 1 := ⟨u - 1, by omega⟩
        have hkq := ht.k1 q1
        have hrq := ht.rg (q := sk t q) (by omega)
        refine ww_aload_n 0 dX4_parse_37 rfl ?_
        refine cr_i (cr_V (ct_X4_peek hG hP) sv_X4_55 rfl dX4_parse_38 hP.obj rfl rfl rfl rfl ⟨Nat.le_of_ble_eq_true rfl, Nat.le_of_ble_eq_true rfl⟩ (Nat.le_of_ble_eq_true rfl) (by dsimp only [mmc, MX4_parse, MX4_word, MJ6_equals, MX4_require, MX4_expect, MX4_peek] <;> omega) (by dsimp only [mms, MX4_parse, MX4_word, MJ6_equals, MX4_require, MX4_expect, MX4_peek] <;> omega)) (fun r_38 h_38 hp_38 => ?_)
        obtain ⟨er_38, hP, f_38⟩ := hp_38
        subst er_38
        have hF := hF.kt f_38 (by first | exact Or.inl rfl | exact Or.inr rfl)
        have hH := hH.kt f_38 hp0
        have hL := hL.kt f_38 (by first | exact hp0 | exact ha0)
        refine ww_iconst dX4_parse_41 ?_
        refine ww_icmp_eq 52 dX4_parse_42 (by decide) (inI.mk (by omega) (by omega)) (inI.mk (by decide) (by decide)) (fun c_42 => ?_) (fun c_42 => ?_)
        · refine ww_aload_n 0 dX4_parse_52 rfl ?_
          refine ww_getf gf_X4_27 rfl dX4_parse_53 hP.obj rfl ?_
          exact ww_x hQ (ww_aret rfl dX4_parse_56 rfl rfl (by dsimp only [mmc, MX4_parse, MX4_word, MJ6_equals, MX4_require, MX4_expect, MX4_peek] <;> omega) (by dsimp only [mms, MX4_parse, MX4_word, MJ6_equals, MX4_require, MX4_expect, MX4_peek] <;> omega) ⟨_, rfl, rfl, s, by rw [hpl, pLp_end c_42], hsk, hH, hL, hP.2.1, hF⟩)
        · refine ww_aload_n 0 dX4_parse_45 rfl ?_
          obtain ⟨hu1, hu2⟩ := st_ub (s := s) ht (show 0 ≤ sk t q by omega) hkq.2.1
          refine cx_v (cx_V (ct_X4_statement hG hP hH hL hsk hhs hhw) sv_X4_245 rfl dX4_parse_46 hP.obj rfl rfl rfl rfl ⟨Nat.le_of_ble_eq_true rfl, Nat.le_of_ble_eq_true rfl⟩ (Nat.le_of_ble_eq_true rfl) (by dsimp only [mmc, MX4_parse, MX4_word, MJ6_equals, MX4_require, MX4_expect, MX4_peek, MX4_statement] <;> omega) (by dsimp only [mms, MX4_parse, MX4_word, MJ6_equals, MX4_require, MX4_expect, MX4_peek, MX4_statement] <;> omega)) (fun X_46 q_46 g_46 hx_46 => wq_out hQ hT (by dsimp only [mmc, MX4_parse, MX4_word, MJ6_equals, MX4_require, MX4_expect, MX4_peek, MX4_statement] <;> omega) (by dsimp only [mms, MX4_parse, MX4_word, MJ6_equals, MX4_require, MX4_expect, MX4_peek, MX4_statement] <;> omega) (hx_46.go hF (fun c o e => by rw [hpl, pLp_e c_42 (by rw [← pSt_kk ht q1]; exact e)]))) (fun h_46 hp_46 => ?_)
          obtain ⟨e_46, s1, sa1, hs1, hw1, hr_46, hg_46, hm_46, hs9, hP, hhs1, hhw1, hH, hL, f_46⟩ := hp_46
          refine ww_goto 37 dX4_parse_49 (by decide) ?_
          refine ww_sub [0] rfl ?_
          refine ww_widen (n' := nn + stC n (sk t q) (pSt t (sk t q) s)) (k' := kk + stS n (sk t q) (pSt t (sk t q) s)) (by dsimp only [mmc, MX4_parse, MX4_word, MJ6_equals, MX4_require, MX4_expect, MX4_peek, MX4_statement] <;> omega) (by dsimp only [mms, MX4_parse, MX4_word, MJ6_equals, MX4_require, MX4_expect, MX4_peek, MX4_statement] <;> omega) ?_
          obtain ⟨hz1, hz2⟩ := st_oq (n := n) (p := sk t q) hr_46 (by omega)
          exact ie v s1 e_46 sa1 hs1 hw1 _ _ _ (hF.tr f_46) hP hhs1 hhw1 hH hL hs9 (by rw [hpl, pLp_go c_42 (by rw [← pSt_kk ht q1]; exact hr_46)]) (by omega) (by omega) (by omega) (by omega) (by omega) (by omega)
    refine ww_sub [1] rfl ?_
    obtain ⟨c1, hc1⟩ : ∃ c : Nat, (c : Int) = 9 := ⟨9, rfl⟩
    refine ww_widen (n' := 9) (k' := 60) (by dsimp only [mmc, MX4_parse, MX4_word, MJ6_equals, MX4_require, MX4_expect, MX4_peek, MX4_statement] <;> omega) (by dsimp only [mms, MX4_parse, MX4_word, MJ6_equals, MX4_require, MX4_expect, MX4_peek, MX4_statement] <;> omega) ?_
    exact loop_37 801 900 PS0 (sk t (we t (sk t 0)) + 1) _ _ _ 9 60 _ hF hP hhs hhw hH hL hs9 (pAll_go hlk hc_34) (by omega) (by omega) (by omega) (by omega) (by omega) (by omega)
  · rw [bI_f hlk]
    refine ww_istore_n [(1, _), (0, _)] dX4_parse_9 (Nat.le_of_ble_eq_true rfl) rfl ?_
    refine ww_aload_n 1 dX4_parse_10 rfl ?_
    refine ww_iload_n 0 dX4_parse_11 rfl ?_
    refine ww_bipush dX4_parse_12 (by decide) ?_
    refine ww_aload_n 1 dX4_parse_14 rfl ?_
    refine ww_getf gf_X4_35 rfl dX4_parse_15 hP.obj rfl ?_
    refine cx_v (cx_V (ct_X4_reqF hG p a (-2) (sk t 0) (by omega)) sv_X4_59 rfl dX4_parse_18 hP.obj rfl rfl rfl rfl ⟨Nat.le_of_ble_eq_true rfl, Nat.le_of_ble_eq_true rfl⟩ (Nat.le_of_ble_eq_true rfl) (by dsimp only [mmc, MX4_parse, MX4_word, MJ6_equals, MX4_require, MX4_expect, MX4_peek, MX4_statement] <;> omega) (by dsimp only [mms, MX4_parse, MX4_word, MJ6_equals, MX4_require, MX4_expect, MX4_peek, MX4_statement] <;> omega)) (fun X_18 q_18 g_18 hx_18 => wq_out hQ hT (by dsimp only [mmc, MX4_parse, MX4_word, MJ6_equals, MX4_require, MX4_expect, MX4_peek, MX4_statement] <;> omega) (by dsimp only [mms, MX4_parse, MX4_word, MJ6_equals, MX4_require, MX4_expect, MX4_peek, MX4_statement] <;> omega) (hx_18.go hF (fun c o e => by cases e; exact pAll_no hlk))) (fun h_18 hp_18 => ?_)
    exact hp_18.elim
