set_option maxRecDepth 100000
set_option maxHeartbeats 4000000 in
theorem ct_X7_hashCode {G : GT} {h : AH} (hG : GOK G) {x : Nat} {t : Tg} {l n : Int} (hx : h x = some (t, ob 6 [.int (iI l), .int (iI n)])) : CT G (MX7_hashCode 0 0 0 0) h [.ref x] (pI (fun r h' => r = 16 * l + n ∧ h' = h)) := by
  refine CT.of rfl hG (Nat.le_of_ble_eq_true rfl) rfl (fun E hQ => ?_)
  refine ww_bipush dX7_hashCode_0 (by decide) ?_
  refine ww_aload_n 0 dX7_hashCode_2 rfl ?_
  refine ww_getf gf_X7_7 rfl dX7_hashCode_3 hx rfl ?_
  refine ww_imul dX7_hashCode_6 ?_
  refine ww_aload_n 0 dX7_hashCode_7 rfl ?_
  refine ww_getf gf_X7_13 rfl dX7_hashCode_8 hx rfl ?_
  refine ww_iadd dX7_hashCode_11 ?_
  exact ww_iret hQ dX7_hashCode_12 rfl (Nat.le_of_ble_eq_true rfl) (Nat.le_of_ble_eq_true rfl) ⟨_, rfl, rfl, rfl⟩

set_option maxHeartbeats 4000000 in
theorem ct_X7_equals {G : GT} {h : AH} (hG : GOK G) {x y : Nat} {t u : Tg} {l n l2 n2 : Int} (hx : h x = some (t, ob 6 [.int (iI l), .int (iI n)])) (hy : h y = some (u, ob 6 [.int (iI l2), .int (iI n2)])) (h1 : inI l) (h2 : inI n) (h3 : inI l2) (h4 : inI n2) : CT G (MX7_equals 0 0 0 0) h [.ref x, .ref y] (pI (fun r h' => r = bI (l2 = l ∧ n2 = n) ∧ h' = h)) := by
  refine CT.of rfl hG (Nat.le_of_ble_eq_true rfl) rfl (fun E hQ => ?_)
  refine ww_aload_n 1 dX7_equals_0 rfl ?_
  refine ww_inst dX7_equals_1 hy rfl q847 rfl ?_
  refine ww_if_eq 39 dX7_equals_4 (by decide) (inI.mk (by decide) (by decide)) (fun c_4 => ?_) (fun c_4 => ?_)
  · exact absurd c_4 (by decide)
  · refine ww_aload_n 1 dX7_equals_7 rfl ?_
    refine ww_cast dX7_equals_8 hy rfl q847 rfl ?_
    refine ww_getf gf_X7_7 rfl dX7_equals_11 hy rfl ?_
    refine ww_aload_n 0 dX7_equals_14 rfl ?_
    refine ww_getf gf_X7_7 rfl dX7_equals_15 hx rfl ?_
    refine ww_icmp_ne 39 dX7_equals_18 (by decide) h3 h1 (fun c_18 => ?_) (fun c_18 => ?_)
    · have e0 : bI (l2 = l ∧ n2 = n) = 0 := bI_f (fun z => c_18 z.1)
      refine ww_iconst dX7_equals_39 ?_
      exact ww_zret hQ dX7_equals_40 rfl (Nat.le_of_ble_eq_true rfl) (Nat.le_of_ble_eq_true rfl) (by first | exact Or.inl rfl | exact Or.inr rfl | (unfold bI; split <;> simp)) ⟨_, rfl, by rw [e0], rfl⟩
    · refine ww_aload_n 1 dX7_equals_21 rfl ?_
      refine ww_cast dX7_equals_22 hy rfl q847 rfl ?_
      refine ww_getf gf_X7_13 rfl dX7_equals_25 hy rfl ?_
      refine ww_aload_n 0 dX7_equals_28 rfl ?_
      refine ww_getf gf_X7_13 rfl dX7_equals_29 hx rfl ?_
      refine ww_icmp_ne 39 dX7_equals_32 (by decide) h4 h2 (fun c_32 => ?_) (fun c_32 => ?_)
      · have e0 : bI (l2 = l ∧ n2 = n) = 0 := bI_f (fun z => c_32 z.2)
        refine ww_iconst dX7_equals_39 ?_
        exact ww_zret hQ dX7_equals_40 rfl (Nat.le_of_ble_eq_true rfl) (Nat.le_of_ble_eq_true rfl) (by first | exact Or.inl rfl | exact Or.inr rfl | (unfold bI; split <;> simp)) ⟨_, rfl, by rw [e0], rfl⟩
      · have e0 : bI (l2 = l ∧ n2 = n) = 1 := bI_t ⟨c_18, c_32⟩
        refine ww_iconst dX7_equals_35 ?_
        refine ww_goto 40 dX7_equals_36 (by decide) ?_
        exact ww_zret hQ dX7_equals_40 rfl (Nat.le_of_ble_eq_true rfl) (Nat.le_of_ble_eq_true rfl) (by first | exact Or.inl rfl | exact Or.inr rfl | (unfold bI; split <;> simp)) ⟨_, rfl, by rw [e0], rfl⟩

set_option maxHeartbeats 4000000 in
theorem ct_X7_init {G : GT} {h : AH} (hG : GOK G) {o k a : Nat} (ho : o ≠ 0) {y z : Value} (ha : h a = some ((o, k), ob 6 [y, z])) (l n : Int) : CT G (MX7_init 1 20 0 0) h [.ref a, .int (iI l), .int (iI n)] (pV (fun h' => h' a = some ((o, k), ob 6 [.int (iI l), .int (iI n)]) ∧ KT a (o, k) h h')) := by
  refine CT.of rfl hG (Nat.le_of_ble_eq_true rfl) rfl (fun E hQ => ?_)
  refine ww_aload_n 0 dX7_init_0 rfl ?_
  refine ww_objInit q786 q128 q129 rfl dX7_init_1 (Nat.le_of_ble_eq_true rfl) (Nat.le_of_ble_eq_true rfl) ?_
  refine ww_aload_n 0 dX7_init_4 rfl ?_
  refine ww_iload_n 1 dX7_init_5 rfl ?_
  refine wx_putF pf_X7_7 rfl rfl dX7_init_6 ha ho (Nat.le_of_ble_eq_true rfl) rfl rfl (fun h_6 ha f_6 => ?_)
  refine ww_aload_n 0 dX7_init_9 rfl ?_
  refine ww_iload_n 2 dX7_init_10 rfl ?_
  refine wx_putF pf_X7_13 rfl rfl dX7_init_11 ha ho (Nat.le_of_ble_eq_true rfl) rfl rfl (fun h_11 ha f_11 => ?_)
  exact ww_vret hQ dX7_init_14 rfl (Nat.le_of_ble_eq_true rfl) (Nat.le_of_ble_eq_true rfl) ⟨rfl, ha, fun b u x hb hu => f_11 b u x (f_6 b u x hb hu) hu⟩

set_option maxHeartbeats 4000000 in
theorem ct_J5_hash {G : GT} {h : AH} (hG : GOK G) (c : Nat) (hc : c < 128) {kx : Nat} {u : Tg} (hk : h kx = some (u, ob 6 [.int (iI ((c / 16 : Nat) : Int)), .int (iI ((c % 16 : Nat) : Int))])) : CT G (MJ5_hash 1 20 0 0) h [.ref kx] (pI (fun r h' => r = (c : Int) ∧ h' = h)) := by
  refine CT.of rfl hG (Nat.le_of_ble_eq_true rfl) rfl (fun E hQ => ?_)
  refine ww_aload_n 0 dJ5_hash_0 rfl ?_
  refine ww_ifnonnull 8 dJ5_hash_1 (by decide) ?_
  refine ww_aload_n 0 dJ5_hash_8 rfl ?_
  refine cr_pi (cr_A (ct_X7_hashCode hG hk) sa_J5_1_X7 rfl dJ5_hash_9 hk rfl rfl rfl rfl ⟨by decide, by decide⟩ (Nat.le_of_ble_eq_true rfl) (Nat.le_of_ble_eq_true rfl) (Nat.le_of_ble_eq_true rfl)) ?_
  rw [show 16 * ((c / 16 : Nat) : Int) + ((c % 16 : Nat) : Int) = (c : Int) by omega]
  refine ww_dup dJ5_hash_12 rfl ?_
  refine ww_istore_n [(1, _), (0, _)] dJ5_hash_13 (by decide) rfl ?_
  refine ww_iload_n 0 dJ5_hash_14 rfl ?_
  refine ww_bipush dJ5_hash_15 (by decide) ?_
  refine ww_iushr16 dJ5_hash_17 (by omega) ?_
  refine ww_ixor0 dJ5_hash_18 ?_
  exact ww_iret hQ dJ5_hash_19 rfl (Nat.le_of_ble_eq_true rfl) (Nat.le_of_ble_eq_true rfl) ⟨_, rfl, rfl, rfl⟩

theorem no_tn : Cond.not (.castable "java/util/HashMap$Node" "java/util/HashMap$TreeNode") ∈ flatC (Jvm.Cond.and given_1 narrow_1) := by decide +kernel
set_option maxHeartbeats 4000000 in
theorem ct_J5_getNode {G : GT} {h : AH} (hG : GOK G) {o a N : Nat} {tr : Option Nat} {sz mc : Int} {tb X : Nat → Option Nat} {A K V : Nat → Nat} {bk : Nat → List Nat} {of : Int → Int → Int} (hM : HMd G h o a N tr sz mc tb X A K V bk of) (c : Nat) (hc : c < 128) {kx : Nat} {u : Tg} (hk : h kx = some (u, ob 6 [.int (iI ((c / 16 : Nat) : Int)), .int (iI ((c % 16 : Nat) : Int))])) : CT G (MJ5_getNode 2 41 0 0) h [.ref a, .ref kx] (pO (fun r h' => h' = h ∧ ((lvo of c = false ∧ r = none) ∨ (lvo of c = true ∧ r = some (A c))))) := by
  refine CT.of rfl hG (Nat.le_of_ble_eq_true rfl) rfl (fun E hQ => ?_)
  obtain ⟨ho, ha, h2, h3⟩ := hM
  refine ww_aload_n 0 dJ5_getNode_0 rfl ?_
  refine ww_getf gf_J5_105 rfl dJ5_getNode_1 ha rfl ?_
  rcases h2 with ⟨rfl, rfl, hno⟩ | ⟨r, F, rfl, hr, hF, hcap, hI⟩
  · refine ww_dup dJ5_getNode_4 rfl ?_
    refine ww_astore_nN [(2, _), (0, _), (1, _)] dJ5_getNode_5 (by decide) rfl ?_
    refine ww_ifnullN 148 dJ5_getNode_6 (by decide) ?_
    refine ww_null dJ5_getNode_148 ?_
    exact ww_aretq (a := none) hQ dJ5_getNode_149 rfl rfl (Nat.le_of_ble_eq_true rfl) (Nat.le_of_ble_eq_true rfl) ⟨none, rfl, rfl, Or.inl ⟨hno c, rfl⟩⟩
  · obtain ⟨qq, hqq, hq7⟩ := hcap.pow
    have hNp := hcap.pos
    have hjN : c % N < N := Nat.mod_lt _ (by omega)
    obtain ⟨hch, hnd, hbk⟩ := hI.1 (c % N) hjN
    refine ww_dup dJ5_getNode_4 rfl ?_
    refine ww_astore_n [(2, _), (0, _), (1, _)] dJ5_getNode_5 (by decide) rfl ?_
    refine ww_ifnull dJ5_getNode_6 ?_
    refine ww_aload_n 0 dJ5_getNode_9 rfl ?_
    refine ww_alenR dJ5_getNode_10 hr (by decide) ?_
    refine ww_dup dJ5_getNode_11 rfl ?_
    refine ww_istore [(5, _), (2, _), (0, _), (1, _)] dJ5_getNode_12 (by decide) rfl ?_
    refine ww_if_le 148 dJ5_getNode_14 (by decide) (inI.mk (by omega) (by omega)) (fun c_14 => ?_) (fun c_14 => ?_)
    · exact absurd c_14 (by omega)
    · refine ww_aload_n 1 dJ5_getNode_17 rfl ?_
      refine ww_iload 0 dJ5_getNode_18 rfl ?_
      refine ww_iconst dJ5_getNode_20 ?_
      refine ww_isub dJ5_getNode_21 ?_
      refine ww_aload_n 3 dJ5_getNode_22 rfl ?_
      refine cr_pi (cr_S (ct_J5_hash hG c hc hk) ss_J5_149 rfl dJ5_getNode_23 rfl rfl ⟨by decide, by decide⟩ (Nat.le_of_ble_eq_true rfl) (Nat.le_of_ble_eq_true rfl) (Nat.le_of_ble_eq_true rfl)) ?_
      refine ww_dup dJ5_getNode_26 rfl ?_
      refine ww_istore [(6, _), (5, _), (2, _), (0, _), (1, _)] dJ5_getNode_27 (by decide) rfl ?_
      refine ww_iandQ qq dJ5_getNode_29 (by rw [hqq]; have := Nat.two_pow_pos qq; omega) (by omega) (by omega) ?_
      rw [← hqq]
      refine ww_aald dJ5_getNode_30 hr rfl rfl (by omega) (by omega) (by omega) ?_
      rw [hF _ hjN]
      have htt : tb (c % N) = none ∨ ∃ d, tb (c % N) = some d := by cases tb (c % N) with | none => exact Or.inl rfl | some e => exact Or.inr ⟨e, rfl⟩
      rcases htt with e0 | ⟨d, e0⟩
      · rw [e0] at hch ⊢
        have hl0 := hch.nil
        refine ww_dup dJ5_getNode_31 rfl ?_
        refine ww_astore_nN [(3, _), (6, _), (5, _), (2, _), (0, _), (1, _)] dJ5_getNode_32 (by decide) rfl ?_
        refine ww_ifnullN 148 dJ5_getNode_33 (by decide) ?_
        refine ww_null dJ5_getNode_148 ?_
        exact ww_aretq (a := none) hQ dJ5_getNode_149 rfl rfl (Nat.le_of_ble_eq_true rfl) (Nat.le_of_ble_eq_true rfl) ⟨none, rfl, rfl, Or.inl ⟨Bool.eq_false_iff.mpr (fun z => by have h9 := hI.2 c z; rw [hl0] at h9; cases h9), rfl⟩⟩
      · rw [e0] at hch ⊢
        obtain ⟨l, hl1, hp⟩ := hch.cons
        have hld := (hbk d (by rw [hl1]; exact List.mem_cons_self)).1
        have hNd := (h3 d hld).1.1
        have hKd := (h3 d hld).1.2
        have hd8 := (lvo_lt hld).1
        refine ww_dup dJ5_getNode_31 rfl ?_
        refine ww_astore_n [(3, _), (6, _), (5, _), (2, _), (0, _), (1, _)] dJ5_getNode_32 (by decide) rfl ?_
        refine ww_ifnull dJ5_getNode_33 ?_
        refine ww_aload_n 0 dJ5_getNode_36 rfl ?_
        refine ww_getf gf_J5_168 rfl dJ5_getNode_37 hNd rfl ?_
        refine ww_iload 1 dJ5_getNode_40 rfl ?_
        refine ww_icmp_ne 71 dJ5_getNode_42 (by decide) (inI.mk (by omega) (by omega)) (inI.mk (by omega) (by omega)) (fun c_42 => ?_) (fun c_42 => ?_)
        · have hdc : ¬ d = c := by omega
          refine ww_aload_n 0 dJ5_getNode_71 rfl ?_
          refine ww_getf gf_J5_177 rfl dJ5_getNode_72 hNd rfl ?_
          have hxx : X d = none ∨ ∃ e, X d = some e := by cases X d with | none => exact Or.inl rfl | some e => exact Or.inr ⟨e, rfl⟩
          rcases hxx with hxd | ⟨e, hxd⟩
          · rw [hxd] at hp ⊢
            have hl0 := hp.nil
            refine ww_dup dJ5_getNode_75 rfl ?_
            refine ww_astoreN [(4, _), (3, _), (6, _), (5, _), (2, _), (0, _), (1, _)] dJ5_getNode_76 (by decide) rfl ?_
            refine ww_ifnullN 148 dJ5_getNode_78 (by decide) ?_
            refine ww_null dJ5_getNode_148 ?_
            exact ww_aretq (a := none) hQ dJ5_getNode_149 rfl rfl (Nat.le_of_ble_eq_true rfl) (Nat.le_of_ble_eq_true rfl) ⟨none, rfl, rfl, Or.inl ⟨Bool.eq_false_iff.mpr (fun z => by have h9 := hI.2 c z; rw [hl1, hl0] at h9; rcases List.mem_cons.mp h9 with h9 | h9; exact hdc h9.symm; cases h9), rfl⟩⟩
          · rw [hxd] at hp ⊢
            obtain ⟨l2, hl2, hp2⟩ := hp.cons
            subst hl2
            refine ww_dup dJ5_getNode_75 rfl ?_
            refine ww_astore [(4, _), (3, _), (6, _), (5, _), (2, _), (0, _), (1, _)] dJ5_getNode_76 (by decide) rfl ?_
            refine ww_ifnull dJ5_getNode_78 ?_
            refine ww_aload_n 1 dJ5_getNode_81 rfl ?_
            refine ww_instNo dJ5_getNode_82 hNd rfl q866 no_tn rfl ?_
            refine ww_if_eq 99 dJ5_getNode_85 (by decide) (inI.mk (by decide) (by decide)) (fun c_85 => ?_) (fun c_85 => ?_)
            · have loop_99 : ∀ (f : Nat) (d : Nat) (l : List Nat), (Pth X (X d) l) → (∀ x ∈ d :: l, lvo of x = true) → (lvo of c = true → c ∈ d :: l) → (l.length < f) → WW G E (MJ5_getNode 2 41 0 0) h 0 0 99 [(1, .ref kx), (4, .ref (A d)), (6, .int (iI (c : Int)))] [] := by
                intro f
                induction f with
                | zero => intro d l hp hal hin hf; exact absurd hf (by omega)
                | succ f ih =>
                  intro d l hp hal hin hf
                  have hld := hal d List.mem_cons_self
                  have hNd := (h3 d hld).1.1
                  have hKd := (h3 d hld).1.2
                  have hd8 := (lvo_lt hld).1
                  refine ww_aload 1 dJ5_getNode_99 rfl ?_
                  refine ww_getf gf_J5_168 rfl dJ5_getNode_101 hNd rfl ?_
                  refine ww_iload 2 dJ5_getNode_104 rfl ?_
                  refine ww_icmp_ne 137 dJ5_getNode_106 (by decide) (inI.mk (by omega) (by omega)) (inI.mk (by omega) (by omega)) (fun c_106 => ?_) (fun c_106 => ?_)
                  · have hdc : ¬ d = c := by omega
                    refine ww_aload 1 dJ5_getNode_137 rfl ?_
                    refine ww_getf gf_J5_177 rfl dJ5_getNode_139 hNd rfl ?_
                    have hxx : X d = none ∨ ∃ e, X d = some e := by cases X d with | none => exact Or.inl rfl | some e => exact Or.inr ⟨e, rfl⟩
                    rcases hxx with hxd | ⟨e, hxd⟩
                    · rw [hxd] at hp ⊢
                      have hl0 := hp.nil
                      refine ww_dup dJ5_getNode_142 rfl ?_
                      refine ww_astoreN [(4, _), (1, _), (6, _)] dJ5_getNode_143 (by decide) rfl ?_
                      refine ww_ifnonnullN dJ5_getNode_145 ?_
                      refine ww_null dJ5_getNode_148 ?_
                      exact ww_aretq (a := none) hQ dJ5_getNode_149 rfl rfl (Nat.le_of_ble_eq_true rfl) (Nat.le_of_ble_eq_true rfl) ⟨none, rfl, rfl, Or.inl ⟨Bool.eq_false_iff.mpr (fun z => by have h9 := hin z; rw [hl0] at h9; rcases List.mem_cons.mp h9 with h9 | h9; exact hdc h9.symm; cases h9), rfl⟩⟩
                    · rw [hxd] at hp ⊢
                      obtain ⟨l2, hl2, hp2⟩ := hp.cons
                      subst hl2
                      refine ww_dup dJ5_getNode_142 rfl ?_
                      refine ww_astore [(4, _), (1, _), (6, _)] dJ5_getNode_143 (by decide) rfl ?_
                      refine ww_ifnonnull 99 dJ5_getNode_145 (by decide) ?_
                      refine ww_sub [1, 0, 2] rfl ?_
                      exact ih e l2 hp2 (fun x hx => hal x (List.mem_cons_of_mem _ hx)) (fun hl => by rcases List.mem_cons.mp (hin hl) with h9 | h9; exact absurd h9.symm hdc; exact h9) (by simp only [List.length_cons] at hf; omega)
                  · have hdc : d = c := by omega
                    subst hdc
                    refine ww_aload 1 dJ5_getNode_109 rfl ?_
                    refine ww_getf gf_J5_170 rfl dJ5_getNode_111 hNd rfl ?_
                    refine ww_dup dJ5_getNode_114 rfl ?_
                    refine ww_astore [(7, _), (1, _), (4, _), (6, _)] dJ5_getNode_115 (by decide) rfl ?_
                    refine ww_aload_n 1 dJ5_getNode_117 rfl ?_
                    refine ww_acmp_eqR 134 dJ5_getNode_118 (by decide) (fun c_118 => ?_) (fun c_118 => ?_)
                    · refine ww_aload 2 dJ5_getNode_134 rfl ?_
                      exact ww_aret hQ dJ5_getNode_136 rfl rfl (Nat.le_of_ble_eq_true rfl) (Nat.le_of_ble_eq_true rfl) ⟨some _, rfl, rfl, Or.inr ⟨hld, rfl⟩⟩
                    · refine ww_aload_n 1 dJ5_getNode_121 rfl ?_
                      refine ww_ifnull dJ5_getNode_122 ?_
                      refine ww_aload_n 1 dJ5_getNode_125 rfl ?_
                      refine ww_aload 0 dJ5_getNode_126 rfl ?_
                      refine cr_pi (cr_O (ct_X7_equals hG hk hKd (inI.mk (by omega) (by omega)) (inI.mk (by omega) (by omega)) (inI.mk (by omega) (by omega)) (inI.mk (by omega) (by omega))) so_J5_173_X7 rfl dJ5_getNode_128 hk rfl rfl rfl rfl ⟨by decide, by decide⟩ (Nat.le_of_ble_eq_true rfl) (Nat.le_of_ble_eq_true rfl) (Nat.le_of_ble_eq_true rfl)) ?_
                      refine ww_ifb_eq 137 dJ5_getNode_131 (by decide) (fun c_131 => ?_) (fun c_131 => ?_)
                      · exact absurd ⟨rfl, rfl⟩ c_131
                      · refine ww_aload 2 dJ5_getNode_134 rfl ?_
                        exact ww_aret hQ dJ5_getNode_136 rfl rfl (Nat.le_of_ble_eq_true rfl) (Nat.le_of_ble_eq_true rfl) ⟨some _, rfl, rfl, Or.inr ⟨hld, rfl⟩⟩
              refine ww_sub [6, 0, 2] rfl ?_
              exact loop_99 (l2.length + 1) e l2 hp2 (fun x hx => (hbk x (by rw [hl1]; exact List.mem_cons_of_mem _ hx)).1) (fun hl => by have h9 := hI.2 c hl; rw [hl1] at h9; rcases List.mem_cons.mp h9 with h9 | h9; exact absurd h9.symm hdc; exact h9) (by omega)
            · exact absurd c_85 (by decide)
        · have hdc : d = c := by omega
          subst hdc
          refine ww_aload_n 0 dJ5_getNode_45 rfl ?_
          refine ww_getf gf_J5_170 rfl dJ5_getNode_46 hNd rfl ?_
          refine ww_dup dJ5_getNode_49 rfl ?_
          refine ww_astore [(7, _), (3, _), (6, _), (5, _), (2, _), (0, _), (1, _)] dJ5_getNode_50 (by decide) rfl ?_
          refine ww_aload_n 6 dJ5_getNode_52 rfl ?_
          refine ww_acmp_eqR 69 dJ5_getNode_53 (by decide) (fun c_53 => ?_) (fun c_53 => ?_)
          · refine ww_aload_n 1 dJ5_getNode_69 rfl ?_
            exact ww_aret hQ dJ5_getNode_70 rfl rfl (Nat.le_of_ble_eq_true rfl) (Nat.le_of_ble_eq_true rfl) ⟨some _, rfl, rfl, Or.inr ⟨hld, rfl⟩⟩
          · refine ww_aload_n 6 dJ5_getNode_56 rfl ?_
            refine ww_ifnull dJ5_getNode_57 ?_
            refine ww_aload_n 6 dJ5_getNode_60 rfl ?_
            refine ww_aload 0 dJ5_getNode_61 rfl ?_
            refine cr_pi (cr_O (ct_X7_equals hG hk hKd (inI.mk (by omega) (by omega)) (inI.mk (by omega) (by omega)) (inI.mk (by omega) (by omega)) (inI.mk (by omega) (by omega))) so_J5_173_X7 rfl dJ5_getNode_63 hk rfl rfl rfl rfl ⟨by decide, by decide⟩ (Nat.le_of_ble_eq_true rfl) (Nat.le_of_ble_eq_true rfl) (Nat.le_of_ble_eq_true rfl)) ?_
            refine ww_ifb_eq 71 dJ5_getNode_66 (by decide) (fun c_66 => ?_) (fun c_66 => ?_)
            · exact absurd ⟨rfl, rfl⟩ c_66
            · refine ww_aload_n 1 dJ5_getNode_69 rfl ?_
              exact ww_aret hQ dJ5_getNode_70 rfl rfl (Nat.le_of_ble_eq_true rfl) (Nat.le_of_ble_eq_true rfl) ⟨some _, rfl, rfl, Or.inr ⟨hld, rfl⟩⟩

set_option maxHeartbeats 4000000 in
theorem ct_J5_get {G : GT} {h : AH} (hG : GOK G) {o a N : Nat} {tr : Option Nat} {sz mc : Int} {tb X : Nat → Option Nat} {A K V : Nat → Nat} {bk : Nat → List Nat} {of : Int → Int → Int} (hM : HMd G h o a N tr sz mc tb X A K V bk of) (c : Nat) (hc : c < 128) {kx : Nat} {u : Tg} (hk : h kx = some (u, ob 6 [.int (iI ((c / 16 : Nat) : Int)), .int (iI ((c % 16 : Nat) : Int))])) : CT G (MJ5_get 3 68 0 0) h [.ref a, .ref kx] (pO (fun r h' => h' = h ∧ ((lvo of c = false ∧ r = none) ∨ (lvo of c = true ∧ r = some (V c))))) := by
  refine CT.of rfl hG (Nat.le_of_ble_eq_true rfl) rfl (fun E hQ => ?_)
  have hM0 := hM
  obtain ⟨ho, ha, h2, h3⟩ := hM
  refine ww_aload_n 0 dJ5_get_0 rfl ?_
  refine ww_aload_n 1 dJ5_get_1 rfl ?_
  refine cr_o (cr_V (ct_J5_getNode hG hM0 c hc hk) sv_J5_158 rfl dJ5_get_2 ha rfl rfl rfl rfl ⟨by decide, by decide⟩ (Nat.le_of_ble_eq_true rfl) (Nat.le_of_ble_eq_true rfl) (Nat.le_of_ble_eq_true rfl)) (fun r_2 h_2 hp_2 => ?_)
  obtain ⟨eh_2, hcs⟩ := hp_2
  subst eh_2
  rcases hcs with ⟨hl, hr⟩ | ⟨hl, hr⟩
  · subst hr
    refine ww_dup dJ5_get_5 rfl ?_
    refine ww_astore_nN [(2, _), (0, _), (1, _)] dJ5_get_6 (by decide) rfl ?_
    refine ww_ifnonnullN dJ5_get_7 ?_
    refine ww_null dJ5_get_10 ?_
    refine ww_goto 18 dJ5_get_11 (by decide) ?_
    exact ww_aretq (a := none) hQ dJ5_get_18 rfl rfl (Nat.le_of_ble_eq_true rfl) (Nat.le_of_ble_eq_true rfl) ⟨none, rfl, rfl, Or.inl ⟨hl, rfl⟩⟩
  · subst hr
    have hNc := (h3 c hl).1.1
    refine ww_dup dJ5_get_5 rfl ?_
    refine ww_astore_n [(2, _), (0, _), (1, _)] dJ5_get_6 (by decide) rfl ?_
    refine ww_ifnonnull 14 dJ5_get_7 (by decide) ?_
    refine ww_aload_n 0 dJ5_get_14 rfl ?_
    refine ww_getf gf_J5_162 rfl dJ5_get_15 hNc rfl ?_
    exact ww_aret hQ dJ5_get_18 rfl rfl (Nat.le_of_ble_eq_true rfl) (Nat.le_of_ble_eq_true rfl) ⟨some _, rfl, rfl, Or.inr ⟨hl, rfl⟩⟩

set_option maxHeartbeats 4000000 in
theorem ct_J24_init {G : GT} {h : AH} (hG : GOK G) {o k a : Nat} (ho : o ≠ 0) {y1 y2 y3 y4 : Value} (ha : h a = some ((o, k), ob 12 [y1, y2, y3, y4])) (z : Int) (kx vx : Nat) : CT G (MJ24_init 1 20 0 0) h [.ref a, .int (iI z), .ref kx, .ref vx, .null] (pV (fun h' => h' a = some ((o, k), ob 12 [.int (iI z), .ref kx, .ref vx, .null]) ∧ KT a (o, k) h h')) := by
  refine CT.of rfl hG (Nat.le_of_ble_eq_true rfl) rfl (fun E hQ => ?_)
  refine ww_aload_n 0 dJ24_init_0 rfl ?_
  refine ww_objInit q1551 q128 q129 rfl dJ24_init_1 (Nat.le_of_ble_eq_true rfl) (Nat.le_of_ble_eq_true rfl) ?_
  refine ww_aload_n 0 dJ24_init_4 rfl ?_
  refine ww_iload_n 1 dJ24_init_5 rfl ?_
  refine wx_putF pf_J24_7 rfl rfl dJ24_init_6 ha ho (Nat.le_of_ble_eq_true rfl) rfl rfl (fun h_6 ha f_6 => ?_)
  refine ww_aload_n 0 dJ24_init_9 rfl ?_
  refine ww_aload_n 2 dJ24_init_10 rfl ?_
  refine wx_putF pf_J24_13 rfl rfl dJ24_init_11 ha ho (Nat.le_of_ble_eq_true rfl) rfl rfl (fun h_11 ha f_11 => ?_)
  refine ww_aload_n 0 dJ24_init_14 rfl ?_
  refine ww_aload_n 3 dJ24_init_15 rfl ?_
  refine wx_putf pf_J24_17 rfl dJ24_init_16 ha ho (Nat.le_of_ble_eq_true rfl) rfl rfl (fun h_16 ha f_16 => ?_)
  refine ww_aload_n 0 dJ24_init_19 rfl ?_
  refine ww_aloadN 4 dJ24_init_20 rfl ?_
  refine wx_putf pf_J24_20 rfl dJ24_init_22 ha ho (Nat.le_of_ble_eq_true rfl) rfl rfl (fun h_22 ha f_22 => ?_)
  exact ww_vret hQ dJ24_init_25 rfl (Nat.le_of_ble_eq_true rfl) (Nat.le_of_ble_eq_true rfl) ⟨rfl, ha, fun b u x hb hu => f_22 b u x (f_16 b u x (f_11 b u x (f_6 b u x hb hu) hu) hu) hu⟩

set_option maxHeartbeats 4000000 in
theorem ct_J5_newNode {G : GT} {h : AH} (hG : GOK G) {o a : Nat} (ho : o ≠ 0) {y : AE} (ha : h a = some ((o, 10200), y)) (c kx vx : Nat) : CT G (MJ5_newNode 2 44 1 4) h [.ref a, .int (iI (c : Int)), .ref kx, .ref vx, .null] (pR (fun q h' => Nw h q ∧ Ex h h' ∧ h' q = some ((o, 10202 + c), ob 12 [.int (iI (c : Int)), .ref kx, .ref vx, .null]))) := by
  refine CT.of rfl hG (Nat.le_of_ble_eq_true rfl) rfl (fun E hQ => ?_)
  refine wx_new (fun _ => (o, 10202 + c)) nw_J5_163 rfl dJ5_newNode_0 (fun q hq => ⟨ho, Nat.le_of_lt (hq.2 _ _ _ ha).2⟩) (Nat.le_of_ble_eq_true rfl) (Nat.le_of_ble_eq_true rfl) (fun q_0 h_0 n_0 e_0 hq => ?_)
  refine ww_dup dJ5_newNode_3 rfl ?_
  refine ww_iload_n 1 dJ5_newNode_4 rfl ?_
  refine ww_aload_n 2 dJ5_newNode_5 rfl ?_
  refine ww_aload_n 3 dJ5_newNode_6 rfl ?_
  refine ww_aloadN 4 dJ5_newNode_7 rfl ?_
  refine cr_v (cr_I (ct_J24_init hG ho hq (c : Int) kx vx) si_J5_375 rfl rfl dJ5_newNode_9 rfl rfl ⟨by decide, by decide⟩ (Nat.le_of_ble_eq_true rfl) (Nat.le_of_ble_eq_true rfl) (Nat.le_of_ble_eq_true rfl)) (fun h_9 hp_9 => ?_)
  obtain ⟨hq, f_9⟩ := hp_9
  exact ww_aret hQ dJ5_newNode_12 rfl rfl (Nat.le_of_ble_eq_true rfl) (Nat.le_of_ble_eq_true rfl) ⟨_, rfl, n_0, f_9.nw e_0 n_0, hq⟩
