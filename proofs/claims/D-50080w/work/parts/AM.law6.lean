/-! ===== the law's loop, and its start ===== -/
set_option maxRecDepth 100000
theorem LI.w {G : GT} {h : AH} {x m o : Nat} {c d : Int} (hI : LI G h x m o c) (l : c ≤ d) : LI G h x m o d := by
  obtain ⟨A, Bg, f0, D, σ, Bf, bl, eo, cur, hist, h1, h2, h3, h4, h5, h6, h7⟩ := hI
  exact ⟨A, Bg, f0, D, σ, Bf, bl, eo, cur, hist, h1, h2, h3, h4, h5.w l, h6.w l, h7⟩
theorem ww_iand31 {G : GT} {E : ET} {M : MT} {h : AH} {n k pc : Nat} {L : List (Nat × Value)} {st : List Value} {a c : Int} (d : decode (mcc M) pc = .ok (.iand, 1)) (hc : c = 31) (kk : WW G E M h n k (pc + 1) L (.int (iI (a % 32)) :: st)) : WW G E M h n k pc L (.int (iI c) :: .int (iI a) :: st) := by
  intro hE H locs ls hR hS hl
  subst hc
  refine lv_iand hE.x hE.b d ?_
  have e : iI a &&& iI 31 = iI (a % 32) := by
    rw [pk_and (iI a) (m := iI 31) 5 (by decide), bt_toNat, ← bt_nat]
    congr 1
    omega
  rw [e]
  exact kk hE H locs ls hR hS hl
set_option maxHeartbeats 1000000 in
theorem law_loop {G : GT} {E : ET} {x m o N n0 k0 : Nat} {xs : Nat → Int32} (hG : GOK G) (hLE : LE G E) (hX : va_X (gb G) N xs (g0 G) (g0 G).heap) (hN : N ≤ 384) (hn0 : n0 ≤ 19399) (hk0 : k0 ≤ 588884) : ∀ (f t : Nat) (h : AH), t ≤ 64 → 65 - t ≤ f → LI G h x m o (8 + (t : Int)) → WW G E ML h (n0 + 10000 * t) (k0 + 100000 * t) 23 (LL G x m o (6 * (t : Int))) [] := by
  have hb : gb G < gz G := hG.2.2.2.2
  intro f
  induction f with
  | zero => intro t h ht hf; exact absurd hf (by omega)
  | succ f ih =>
    intro t h ht hf hI
    refine ww_iload 0 dL_law_23 rfl ?_
    refine ww_aload_n 1 dL_law_25 rfl ?_
    refine ww_slen hX hLE hb dL_law_26 ?_
    refine ww_bipush dL_law_27 rfl ?_
    refine ww_isub dL_law_29 ?_
    refine ww_icmp_gt 1698 dL_law_30 (by decide) (inI.mk (by omega) (by omega)) (inI.mk (by omega) (by omega)) (fun hgt => ?_) (fun hle => ?_)
    · refine ww_iconst dL_law_1698 ?_
      exact ww_law1 hLE dL_law_1699 (by omega) (by omega)
    · have kk : ∀ h2, LI G h2 x m o (8 + (t : Int) + 1) → WW G E ML h2 (n0 + 10000 * t + 10000) (k0 + 100000 * t + 100000) 1692 (LL G x m o (6 * (t : Int))) [] := fun h2 hI2 => by
        refine ww_iinc (j := 0) (LL G x m o (6 * (t : Int) + 6)) dL_law_1692 rfl (Nat.le_of_ble_eq_true rfl) rfl ?_
        refine ww_goto 23 dL_law_1695 (by decide) ?_
        have e1 : 6 * (t : Int) + 6 = 6 * ((t + 1 : Nat) : Int) := by omega
        have e2 : 8 + (t : Int) + 1 = 8 + ((t + 1 : Nat) : Int) := by omega
        rw [e1]
        rw [e2] at hI2
        exact ww_widen (n' := n0 + 10000 * (t + 1)) (k' := k0 + 100000 * (t + 1)) (by omega) (by omega) (ih (t + 1) h2 (by omega) (by omega) hI2)
      refine ww_aload_n 1 dL_law_33 rfl ?_
      refine ww_iload 0 dL_law_34 rfl ?_
      refine ww_sld hX hLE hb (by omega) (by omega) hN dL_law_36 ?_
      refine ww_bipush dL_law_37 rfl ?_
      refine ww_iand31 dL_law_39 rfl ?_
      have hz1 : 0 ≤ scr xs (6 * (t : Int)) % 32 := by omega
      have hz2 : scr xs (6 * (t : Int)) % 32 < 32 := by omega
      generalize scr xs (6 * (t : Int)) % 32 = z at *
      have hzi : inI z := inI.mk (by omega) (by omega)
      have i1 : 6 * (t : Int) + 6 ≤ N := by omega
      have i0 : (0 : Int) ≤ 6 * (t : Int) := by omega
      have c8 : (8 : Int) ≤ 8 + (t : Int) := by omega
      have c9 : 8 + (t : Int) ≤ 1000 := by omega
      have hn : n0 + 10000 * t + 10000 ≤ 659399 := by omega
      have hk : k0 + 100000 * t + 100000 ≤ 6988884 := by omega
      by_cases hd : 28 ≤ z
      · exact ww_tableOut 1692 dL_law_40 hzi (Or.inr (by omega)) (by decide) (ww_widen (n' := n0 + 10000 * t + 10000) (k' := k0 + 100000 * t + 100000) (by omega) (by omega) (kk h (hI.w (by omega))))
      · skip
        have hz : z = 0 ∨ z = 1 ∨ z = 2 ∨ z = 3 ∨ z = 4 ∨ z = 5 ∨ z = 6 ∨ z = 7 ∨ z = 8 ∨ z = 9 ∨ z = 10 ∨ z = 11 ∨ z = 12 ∨ z = 13 ∨ z = 14 ∨ z = 15 ∨ z = 16 ∨ z = 17 ∨ z = 18 ∨ z = 19 ∨ z = 20 ∨ z = 21 ∨ z = 22 ∨ z = 23 ∨ z = 24 ∨ z = 25 ∨ z = 26 ∨ z = 27 := by omega
        rcases hz with rfl | rfl | rfl | rfl | rfl | rfl | rfl | rfl | rfl | rfl | rfl | rfl | rfl | rfl | rfl | rfl | rfl | rfl | rfl | rfl | rfl | rfl | rfl | rfl | rfl | rfl | rfl | rfl
        · exact ww_tableIn 168 dL_law_40 hzi (by decide) (by decide) rfl (by decide) (lc_0 hG hLE hX hN i0 i1 c8 c9 hI hn hk kk)
        · exact ww_tableIn 241 dL_law_40 hzi (by decide) (by decide) rfl (by decide) (lc_1 hG hLE hX hN i0 i1 c8 c9 hI hn hk kk)
        · exact ww_tableIn 297 dL_law_40 hzi (by decide) (by decide) rfl (by decide) (lc_2 hG hLE hX hN i0 i1 c8 c9 hI hn hk kk)
        · exact ww_tableIn 310 dL_law_40 hzi (by decide) (by decide) rfl (by decide) (lc_3 hG hLE hX hN i0 i1 c8 c9 hI hn hk kk)
        · exact ww_tableIn 323 dL_law_40 hzi (by decide) (by decide) rfl (by decide) (lc_4 hG hLE hX hN i0 i1 c8 c9 hI hn hk kk)
        · exact ww_tableIn 336 dL_law_40 hzi (by decide) (by decide) rfl (by decide) (lc_5 hG hLE hX hN i0 i1 c8 c9 hI hn hk kk)
        · exact ww_tableIn 349 dL_law_40 hzi (by decide) (by decide) rfl (by decide) (lc_6 hG hLE hX hN i0 i1 c8 c9 hI hn hk kk)
        · exact ww_tableIn 417 dL_law_40 hzi (by decide) (by decide) rfl (by decide) (lc_7 hG hLE hX hN i0 i1 c8 c9 hI hn hk kk)
        · exact ww_tableIn 485 dL_law_40 hzi (by decide) (by decide) rfl (by decide) (lc_8 hG hLE hX hN i0 i1 c8 c9 hI hn hk kk)
        · exact ww_tableIn 541 dL_law_40 hzi (by decide) (by decide) rfl (by decide) (lc_9 hG hLE hX hN i0 i1 c8 c9 hI hn hk kk)
        · exact ww_tableIn 609 dL_law_40 hzi (by decide) (by decide) rfl (by decide) (lc_10 hG hLE hX hN i0 i1 c8 c9 hI hn hk kk)
        · exact ww_tableIn 677 dL_law_40 hzi (by decide) (by decide) rfl (by decide) (lc_11 hG hLE hX hN i0 i1 c8 c9 hI hn hk kk)
        · exact ww_tableIn 733 dL_law_40 hzi (by decide) (by decide) rfl (by decide) (lc_12 hG hLE hX hN i0 i1 c8 c9 hI hn hk kk)
        · exact ww_tableIn 789 dL_law_40 hzi (by decide) (by decide) rfl (by decide) (lc_13 hG hLE hX hN i0 i1 c8 c9 hI hn hk kk)
        · exact ww_tableIn 857 dL_law_40 hzi (by decide) (by decide) rfl (by decide) (lc_14 hG hLE hX hN i0 i1 c8 c9 hI hn hk kk)
        · exact ww_tableIn 913 dL_law_40 hzi (by decide) (by decide) rfl (by decide) (lc_15 hG hLE hX hN i0 i1 c8 c9 hI hn hk kk)
        · exact ww_tableIn 981 dL_law_40 hzi (by decide) (by decide) rfl (by decide) (lc_16 hG hLE hX hN i0 i1 c8 c9 hI hn hk kk)
        · exact ww_tableIn 1049 dL_law_40 hzi (by decide) (by decide) rfl (by decide) (lc_17 hG hLE hX hN i0 i1 c8 c9 hI hn hk kk)
        · exact ww_tableIn 1117 dL_law_40 hzi (by decide) (by decide) rfl (by decide) (lc_18 hG hLE hX hN i0 i1 c8 c9 hI hn hk kk)
        · exact ww_tableIn 1173 dL_law_40 hzi (by decide) (by decide) rfl (by decide) (lc_19 hG hLE hX hN i0 i1 c8 c9 hI hn hk kk)
        · exact ww_tableIn 1229 dL_law_40 hzi (by decide) (by decide) rfl (by decide) (lc_20 hG hLE hX hN i0 i1 c8 c9 hI hn hk kk)
        · exact ww_tableIn 1309 dL_law_40 hzi (by decide) (by decide) rfl (by decide) (lc_21 hG hLE hX hN i0 i1 c8 c9 hI hn hk kk)
        · exact ww_tableIn 1389 dL_law_40 hzi (by decide) (by decide) rfl (by decide) (lc_22 hG hLE hX hN i0 i1 c8 c9 hI hn hk kk)
        · exact ww_tableIn 1457 dL_law_40 hzi (by decide) (by decide) rfl (by decide) (lc_23 hG hLE hX hN i0 i1 c8 c9 hI hn hk kk)
        · exact ww_tableIn 1525 dL_law_40 hzi (by decide) (by decide) rfl (by decide) (lc_24 hG hLE hX hN i0 i1 c8 c9 hI hn hk kk)
        · exact ww_tableIn 1609 dL_law_40 hzi (by decide) (by decide) rfl (by decide) (lc_25 hG hLE hX hN i0 i1 c8 c9 hI hn hk kk)
        · exact ww_tableIn 1665 dL_law_40 hzi (by decide) (by decide) rfl (by decide) (lc_26 hG hLE hX hN i0 i1 c8 c9 hI hn hk kk)
        · exact ww_tableIn 1678 dL_law_40 hzi (by decide) (by decide) rfl (by decide) (lc_27 hG hLE hX hN i0 i1 c8 c9 hI hn hk kk)
theorem PS0_rel : MRc (iup (fun _ => 0) 0 50) (vP PS0) 8 := by
  have hR : MRep (fun j i k => if j = 9 ∧ i = 0 then iup (fun _ => 0) 0 50 k else 0) PS0 := MRep0 rfl (fun z z0 _ => by
    show (if (9 : Nat) = 9 ∧ (0 : Int) = 0 then iup (fun _ => 0) 0 50 z else 0) = 0
    rw [if_pos ⟨rfl, rfl⟩, iup_n (by omega)]) rfl rfl
  have he : rEq (iup (fun _ => (0 : Int)) 0 50) ((fun (j : Nat) (i k : Int) => if j = 9 ∧ i = 0 then iup (fun _ => 0) 0 50 k else 0) 9 0) := fun j _ _ => by
    show _ = (if (9 : Nat) = 9 ∧ (0 : Int) = 0 then iup (fun _ => 0) 0 50 j else 0)
    rw [if_pos ⟨rfl, rfl⟩]
  exact ⟨MR.lod PSok0 hR he, DOK.load PSok0 hR he, vP_ok PSc0 (fun _ _ _ => rfl), by rw [iup_n (by decide)]; decide⟩
set_option maxHeartbeats 1000000 in
theorem law_start {G : GT} {E : ET} {h : AH} {N : Nat} {xs : Nat → Int32} (hG : GOK G) (hLE : LE G E) (hX : va_X (gb G) N xs (g0 G) (g0 G).heap) (hN : N ≤ 384) (hLc : LitC G h) (hLm : LitM G h) : WW G E ML h 0 0 0 [(0, .ref (gb G))] [] := by
  refine wx_new (fun q => (q, 10570)) nw_L_8 rfl dL_law_0 (fun q hq => ⟨hq.1, Nat.le_refl _⟩) (Nat.le_of_ble_eq_true rfl) (Nat.le_of_ble_eq_true rfl) (fun x h1 n1 e1 hx => ?_)
  refine ww_dup dL_law_3 rfl ?_
  refine cr_v (cr_I (ct_X1_init hG (hLc.ex e1) n1.1 hx) si_L_82 rfl rfl dL_law_4 rfl rfl ⟨Nat.le_of_ble_eq_true rfl, Nat.le_of_ble_eq_true rfl⟩ (Nat.le_of_ble_eq_true rfl) (Nat.le_of_ble_eq_true rfl) (Nat.le_of_ble_eq_true rfl)) (fun h2 hp => ?_)
  obtain ⟨hCW, F1⟩ := hp
  have E2 : Ex h h2 := F1.nw e1 n1
  refine ww_astore_n [(1, _), (0, _)] dL_law_7 (Nat.le_of_ble_eq_true rfl) rfl ?_
  refine wx_new (fun q => (q, 0)) nw_L_83 rfl dL_law_8 (fun q hq => ⟨hq.1, Nat.le_refl _⟩) (Nat.le_of_ble_eq_true rfl) (Nat.le_of_ble_eq_true rfl) (fun m h3 n3 e3 hm => ?_)
  refine ww_dup dL_law_11 rfl ?_
  have hMB : MB G h3 h3 m (fun _ => none) 0 := ⟨n3.1, hm, fun j N q _ z => (by cases z), fun j N q _ z => (by cases z), fun j N q _ z => (by cases z), Fr.rf⟩
  refine cr_v (cr_I (ct_X3_init hG hMB) si_L_85 rfl rfl dL_law_12 rfl rfl ⟨Nat.le_of_ble_eq_true rfl, Nat.le_of_ble_eq_true rfl⟩ (Nat.le_of_ble_eq_true rfl) (Nat.le_of_ble_eq_true rfl) (Nat.le_of_ble_eq_true rfl)) (fun h4 hp4 => ?_)
  obtain ⟨A, Bg, hM4⟩ := hp4
  have E4 : Ex h2 h4 := fun b y hb => hM4.2 b y.1 y.2 (e3 _ _ hb) (fun z => n3.no (t := y.1) (x := y.2) hb z.1)
  refine ww_astore_n [(2, _), (1, _), (0, _)] dL_law_15 (Nat.le_of_ble_eq_true rfl) rfl ?_
  refine ww_iconst dL_law_16 ?_
  refine ww_newJ (N := 1) (fun q => (q, 10800)) rfl (by decide) q2114 dL_law_17 (fun q hq q0 => ⟨q0, Nat.le_refl _⟩) (Nat.le_of_ble_eq_true rfl) (Nat.le_of_ble_eq_true rfl) (fun o hno o0 => ?_)
  have E5 : Ex h4 (hset h4 o ((o, 10800), aJ G 1 (fun _ => 0))) := fun b y hb => by rw [hset_n (by have := hno b y hb; omega)]; exact hb
  refine ww_astore_n [(3, _), (2, _), (1, _), (0, _)] dL_law_19 (Nat.le_of_ble_eq_true rfl) rfl ?_
  refine ww_iconst dL_law_20 ?_
  refine ww_istore [(4, _), (3, _), (2, _), (1, _), (0, _)] dL_law_21 (Nat.le_of_ble_eq_true rfl) rfl ?_
  refine ww_sub [0, 4, 3, 2, 1] rfl ?_
  have hI : LI G (hset h4 o ((o, 10800), aJ G 1 (fun _ => 0))) x m o (8 + ((0 : Nat) : Int)) :=
    ⟨A, Bg, _, _, σN, (fun _ => 0), 0, -1, vP PS0, [], hCW.ex (E4.tr E5), hM4.1.fo (E5.fo (o := o) (k1 := 10800) (k2 := 10800)) (by omega), hLm.mv (fun a t y hy _ => E5 _ _ (E4 _ _ (E2 _ _ hy))), ⟨o0, hset_s⟩, PS0_rel, ⟨rfl, by decide, fun i v hv => by cases hv⟩, ⟨rfl, by decide, rfl, fun q _ => rfl⟩⟩
  exact ww_widen (n' := 19399 + 10000 * 0) (k' := 588884 + 100000 * 0) (Nat.le_of_ble_eq_true rfl) (Nat.le_of_ble_eq_true rfl) (law_loop hG hLE hX hN (Nat.le_refl _) (Nat.le_refl _) 65 0 _ (by decide) (by decide) hI)
