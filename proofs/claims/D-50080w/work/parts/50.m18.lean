set_option maxRecDepth 100000
set_option maxHeartbeats 4000000 in
theorem ct_X3_init {G : GT} {h0 h : AH} {m : Nat} (hG : GOK G) (hM : MB G h0 h m (fun _ => none) 0) : CT G (MX3_init 1 30 46 17456) h [.ref m] (pV (fun h' => ∃ A B, MWF G h h' m A B (iup (fun _ => 0) 0 50) σN)) := by
  refine CT.of rfl hG (Nat.le_of_ble_eq_true rfl) rfl (fun E hQ => ?_)
  have hM : MB G h h m (fun _ => none) 0 := ⟨hM.1, hM.2.1, hM.2.2.1, hM.2.2.2.1, hM.2.2.2.2.1, Fr.rf⟩
  refine ww_aload_n 0 dX3_init_0 rfl ?_
  refine ww_objInit q2030 q128 q129 rfl dX3_init_1 (Nat.le_of_ble_eq_true rfl) (Nat.le_of_ble_eq_true rfl) ?_
  refine ww_aload_n 0 dX3_init_4 rfl ?_
  refine ww_sipush dX3_init_5 (by decide) ?_
  refine mb_newA hM pf_X3_9 rfl rfl dX3_init_8 dX3_init_10 rfl q794 rfl (by decide) (Nat.le_of_ble_eq_true rfl) (Nat.le_of_ble_eq_true rfl) (fun hh q_1 hM => ?_)
  refine ww_aload_n 0 dX3_init_13 rfl ?_
  refine ww_iconst dX3_init_14 ?_
  refine mb_putI hM pf_X3_13 rfl dX3_init_15 (fun hh hM => ?_)
  refine ww_aload_n 0 dX3_init_18 rfl ?_
  refine ww_sipush dX3_init_19 (by decide) ?_
  refine mb_newA hM pf_X3_17 rfl rfl dX3_init_22 dX3_init_24 rfl q794 rfl (by decide) (Nat.le_of_ble_eq_true rfl) (Nat.le_of_ble_eq_true rfl) (fun hh q_8 hM => ?_)
  refine ww_aload_n 0 dX3_init_27 rfl ?_
  refine ww_sipush dX3_init_28 (by decide) ?_
  refine mb_newA hM pf_X3_20 rfl rfl dX3_init_31 dX3_init_33 rfl q794 rfl (by decide) (Nat.le_of_ble_eq_true rfl) (Nat.le_of_ble_eq_true rfl) (fun hh q_9 hM => ?_)
  refine ww_aload_n 0 dX3_init_36 rfl ?_
  refine ww_bipush dX3_init_37 (by decide) ?_
  refine ww_sipush dX3_init_39 (by decide) ?_
  refine mb_grid hM pf_X3_25 rfl rfl dX3_init_42 dX3_init_46 rfl q2031 q734 q794 rfl rfl (by decide) (by decide) (Nat.le_of_ble_eq_true rfl) (Nat.le_of_ble_eq_true rfl) (fun hh q_10 hM => ?_)
  refine ww_aload_n 0 dX3_init_49 rfl ?_
  refine ww_bipush dX3_init_50 (by decide) ?_
  refine mb_newL hM pf_X3_28 rfl rfl dX3_init_52 dX3_init_54 rfl q2114 rfl (by decide) (Nat.le_of_ble_eq_true rfl) (Nat.le_of_ble_eq_true rfl) (fun hh q_15 hM => ?_)
  refine ww_aload_n 0 dX3_init_57 rfl ?_
  refine ww_bipush dX3_init_58 (by decide) ?_
  refine mb_newL hM pf_X3_32 rfl rfl dX3_init_60 dX3_init_62 rfl q2114 rfl (by decide) (Nat.le_of_ble_eq_true rfl) (Nat.le_of_ble_eq_true rfl) (fun hh q_16 hM => ?_)
  refine ww_aload_n 0 dX3_init_65 rfl ?_
  refine ww_sipush dX3_init_66 (by decide) ?_
  refine mb_newL hM pf_X3_35 rfl rfl dX3_init_69 dX3_init_71 rfl q2114 rfl (by decide) (Nat.le_of_ble_eq_true rfl) (Nat.le_of_ble_eq_true rfl) (fun hh q_18 hM => ?_)
  refine ww_aload_n 0 dX3_init_74 rfl ?_
  refine ww_bipush dX3_init_75 (by decide) ?_
  refine mb_newA hM pf_X3_38 rfl rfl dX3_init_77 dX3_init_79 rfl q794 rfl (by decide) (Nat.le_of_ble_eq_true rfl) (Nat.le_of_ble_eq_true rfl) (fun hh q_19 hM => ?_)
  refine ww_aload_n 0 dX3_init_82 rfl ?_
  refine ww_bipush dX3_init_83 (by decide) ?_
  refine mb_newA hM pf_X3_41 rfl rfl dX3_init_85 dX3_init_87 rfl q794 rfl (by decide) (Nat.le_of_ble_eq_true rfl) (Nat.le_of_ble_eq_true rfl) (fun hh q_20 hM => ?_)
  refine ww_aload_n 0 dX3_init_90 rfl ?_
  refine ww_bipush dX3_init_91 (by decide) ?_
  refine mb_newA hM pf_X3_44 rfl rfl dX3_init_93 dX3_init_95 rfl q794 rfl (by decide) (Nat.le_of_ble_eq_true rfl) (Nat.le_of_ble_eq_true rfl) (fun hh q_21 hM => ?_)
  refine ww_aload_n 0 dX3_init_98 rfl ?_
  refine ww_bipush dX3_init_99 (by decide) ?_
  refine ww_bipush dX3_init_101 (by decide) ?_
  refine mb_grid hM pf_X3_47 rfl rfl dX3_init_103 dX3_init_107 rfl q2031 q734 q794 rfl rfl (by decide) (by decide) (Nat.le_of_ble_eq_true rfl) (Nat.le_of_ble_eq_true rfl) (fun hh q_22 hM => ?_)
  refine ww_aload_n 0 dX3_init_110 rfl ?_
  refine ww_bipush dX3_init_111 (by decide) ?_
  refine ww_bipush dX3_init_113 (by decide) ?_
  refine mb_grid hM pf_X3_50 rfl rfl dX3_init_115 dX3_init_119 rfl q2031 q734 q794 rfl rfl (by decide) (by decide) (Nat.le_of_ble_eq_true rfl) (Nat.le_of_ble_eq_true rfl) (fun hh q_23 hM => ?_)
  refine ww_aload_n 0 dX3_init_122 rfl ?_
  refine ww_bipush dX3_init_123 (by decide) ?_
  refine ww_bipush dX3_init_125 (by decide) ?_
  refine mb_grid hM pf_X3_53 rfl rfl dX3_init_127 dX3_init_131 rfl q2031 q734 q794 rfl rfl (by decide) (by decide) (Nat.le_of_ble_eq_true rfl) (Nat.le_of_ble_eq_true rfl) (fun hh q_24 hM => ?_)
  refine ww_aload_n 0 dX3_init_134 rfl ?_
  refine ww_bipush dX3_init_135 (by decide) ?_
  refine mb_newA hM pf_X3_56 rfl rfl dX3_init_137 dX3_init_139 rfl q794 rfl (by decide) (Nat.le_of_ble_eq_true rfl) (Nat.le_of_ble_eq_true rfl) (fun hh q_25 hM => ?_)
  have hM := hM.done (fun j a b => by rcases mRf_or a b with rfl | rfl | rfl | rfl | rfl | rfl | rfl | rfl | rfl | rfl | rfl | rfl | rfl | rfl <;> exact ⟨_, rfl⟩)
  refine ww_aload_n 0 dX3_init_142 rfl ?_
  refine ww_getf gf_X3_17 rfl dX3_init_143 hM.obj rfl ?_
  refine ww_iconst dX3_init_146 ?_
  refine ww_bipush dX3_init_147 (by decide) ?_
  refine mw_stD dX3_init_149 hM (by omega) (by omega) (by first | exact hM.rd _ | exact hM.ri rfl _ _ | exact ⟨by omega, by omega⟩ | assumption | exact bI_in _ | exact inI.mk (by omega) (by omega)) (fun hh hM => ?_)
  exact ww_vret hQ dX3_init_150 rfl (Nat.le_of_ble_eq_true rfl) (Nat.le_of_ble_eq_true rfl) ⟨rfl, _, _, hM⟩
