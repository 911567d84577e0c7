set_option maxRecDepth 100000
/-- what a helper of the law leaves: the answer in the long at o, or the number of what was thrown -/
def HPo (h : AH) (o : Nat) (G : GT) (f0 : Int → Int) (p : Int → AH → Prop) (xp : String → Nat → AH → Prop) (N1 N2 : String) : Int → AH → Prop := fun c h' => (c = 0 ∧ ∃ z g, p z g ∧ h' o = some ((o, 10800), aJ G 1 (iup f0 0 z)) ∧ KT o (o, 10800) g h') ∨ (c = 1 ∧ ∃ q, xp N1 q h') ∨ (c = 2 ∧ ∃ q, xp N2 q h')
theorem nc_iaN : Cond.not (.castable iaN ioN) ∈ flatC (Jvm.Cond.and given_1 narrow_1) := by decide +kernel
theorem nc_isN : Cond.not (.castable isN ioN) ∈ flatC (Jvm.Cond.and given_1 narrow_1) := by decide +kernel
set_option maxHeartbeats 4000000 in
theorem ct_X0_load {G : GT} {h : AH} (hG : GOK G) {x o mc ms : Nat} {t : Tg} {fsx : List Value} (hx : h x = some (t, ob 0 fsx)) {f0 : Int → Int} (ho0 : o ≠ 0) (n : Int) {p : Int → AH → Prop} {xp : String → Nat → AH → Prop} (hCt : CXH G (MX1_load 40 6000 mc ms) [((24 : Nat), (44 : Nat), (45 : Nat), (143 : Nat))] h [.ref x, .int (iI n)] (pI p) xp) (hpi : ∀ z g, p z g → inI z ∧ g o = some ((o, 10800), aJ G 1 f0)) (hxn : ∀ X q g, xp X q g → X = iaN) : CXH G (MX0_load 41 6022 mc ms) [((0 : Nat), (9 : Nat), (12 : Nat), (13 : Nat))] h [.ref x, .int (iI n), .ref o] (pI (HPo h o G f0 p xp iaN isN)) (fun _ _ _ => False) := by
  refine CXH.of rfl hG (Nat.le_of_ble_eq_true rfl) rfl (fun E hQ hT => ?_)
  refine ww_aload_n 2 dX0_load_0 rfl ?_
  refine ww_iconst dX0_load_1 ?_
  refine ww_aload_n 0 dX0_load_2 rfl ?_
  refine ww_iload_n 1 dX0_load_3 rfl ?_
  refine cx_i (cx_VH hCt svh_X0_7 rfl dX0_load_4 hx rfl rfl rfl rfl ⟨Nat.le_of_ble_eq_true rfl, Nat.le_of_ble_eq_true rfl⟩ (Nat.le_of_ble_eq_true rfl) (by show 0 + mc ≤ mc; omega) (by show 0 + ms ≤ ms; omega)) (fun X_4 q_4 g_4 hx_4 => ?_) (fun r_4 h_4 hp_4 => ?_)
  · have eX := hxn _ _ _ hx_4
    subst eX
    refine wq_catch hT rfl rfl (by decide) q1228 rfl q283 ?_
    refine ww_astore_n [(3, _), (0, _), (1, _), (2, _)] dX0_load_12 (Nat.le_of_ble_eq_true rfl) rfl ?_
    refine ww_iconst dX0_load_13 ?_
    exact ww_x hQ (ww_iret rfl dX0_load_14 rfl (by show 0 + mc ≤ mc; omega) (by show 0 + ms ≤ ms; omega) ⟨_, rfl, Or.inr (Or.inl ⟨rfl, _, hx_4⟩)⟩)
  · obtain ⟨hzi, ho⟩ := hpi _ _ hp_4
    refine ww_i2l dX0_load_7 hzi ?_
    refine ww_last dX0_load_8 ho ho0 (by decide) (by decide) (by decide) ?_
    refine ww_goto 15 dX0_load_9 (by decide) ?_
    refine ww_iconst dX0_load_15 ?_
    exact ww_x hQ (ww_iret rfl dX0_load_16 rfl (by show 0 + mc ≤ mc; omega) (by show 0 + ms ≤ ms; omega) ⟨_, rfl, Or.inl ⟨rfl, _, _, hp_4, hset_s, KT.of ho⟩⟩)

set_option maxHeartbeats 4000000 in
theorem ct_X0_library {G : GT} {h : AH} (hG : GOK G) {x o mc ms : Nat} {t : Tg} {fsx : List Value} (hx : h x = some (t, ob 0 fsx)) {f0 : Int → Int} (ho0 : o ≠ 0) (k : Int) (w : Int) {p : Int → AH → Prop} {xp : String → Nat → AH → Prop} (hCt : CX G (MX1_library 1605 51445 mc ms) h [.ref x, .int (iI k), .int (iI w)] (pI p) xp) (hpi : ∀ z g, p z g → inI z ∧ g o = some ((o, 10800), aJ G 1 f0)) (hxn : ∀ X q g, xp X q g → X = ioN ∨ X = iaN) : CXH G (MX0_library 1606 51468 mc ms) [((0 : Nat), (10 : Nat), (13 : Nat), (19 : Nat)), ((0 : Nat), (10 : Nat), (17 : Nat), (13 : Nat))] h [.ref x, .int (iI k), .int (iI w), .ref o] (pI (HPo h o G f0 p xp ioN iaN)) (fun _ _ _ => False) := by
  refine CXH.of rfl hG (Nat.le_of_ble_eq_true rfl) rfl (fun E hQ hT => ?_)
  refine ww_aload_n 3 dX0_library_0 rfl ?_
  refine ww_iconst dX0_library_1 ?_
  refine ww_aload_n 0 dX0_library_2 rfl ?_
  refine ww_iload_n 1 dX0_library_3 rfl ?_
  refine ww_iload_n 2 dX0_library_4 rfl ?_
  refine cx_i (cx_V hCt sv_X0_15 rfl dX0_library_5 hx rfl rfl rfl rfl ⟨Nat.le_of_ble_eq_true rfl, Nat.le_of_ble_eq_true rfl⟩ (Nat.le_of_ble_eq_true rfl) (by show 0 + mc ≤ mc; omega) (by show 0 + ms ≤ ms; omega)) (fun X_5 q_5 g_5 hx_5 => ?_) (fun r_5 h_5 hp_5 => ?_)
  · rcases hxn _ _ _ hx_5 with rfl | rfl
    · refine wq_catch hT rfl rfl (by decide) q1767 rfl q1799 ?_
      refine ww_astore [(4, _), (0, _), (1, _), (2, _), (3, _)] dX0_library_13 (Nat.le_of_ble_eq_true rfl) rfl ?_
      refine ww_iconst dX0_library_15 ?_
      exact ww_x hQ (ww_iret rfl dX0_library_16 rfl (by show 0 + mc ≤ mc; omega) (by show 0 + ms ≤ ms; omega) ⟨_, rfl, Or.inr (Or.inl ⟨rfl, _, hx_5⟩)⟩)
    · refine wq_catch2 hT rfl (by decide) q1767 nc_iaN rfl (by decide) q1228 rfl q283 ?_
      refine ww_astore [(4, _), (0, _), (1, _), (2, _), (3, _)] dX0_library_17 (Nat.le_of_ble_eq_true rfl) rfl ?_
      refine ww_iconst dX0_library_19 ?_
      exact ww_x hQ (ww_iret rfl dX0_library_20 rfl (by show 0 + mc ≤ mc; omega) (by show 0 + ms ≤ ms; omega) ⟨_, rfl, Or.inr (Or.inr ⟨rfl, _, hx_5⟩)⟩)
  · obtain ⟨hzi, ho⟩ := hpi _ _ hp_5
    refine ww_i2l dX0_library_8 hzi ?_
    refine ww_last dX0_library_9 ho ho0 (by decide) (by decide) (by decide) ?_
    refine ww_goto 21 dX0_library_10 (by decide) ?_
    refine ww_iconst dX0_library_21 ?_
    exact ww_x hQ (ww_iret rfl dX0_library_22 rfl (by show 0 + mc ≤ mc; omega) (by show 0 + ms ≤ ms; omega) ⟨_, rfl, Or.inl ⟨rfl, _, _, hp_5, hset_s, KT.of ho⟩⟩)

set_option maxHeartbeats 4000000 in
theorem ct_X0_offer {G : GT} {h : AH} (hG : GOK G) {x o mc ms : Nat} {t : Tg} {fsx : List Value} (hx : h x = some (t, ob 0 fsx)) {f0 : Int → Int} (ho0 : o ≠ 0) (k : Int) (n : Int) {p : Int → AH → Prop} {xp : String → Nat → AH → Prop} (hCt : CX G (MX1_offer 10 184 mc ms) h [.ref x, .int (iI k), .int (iI n)] (pI p) xp) (hpi : ∀ z g, p z g → inI z ∧ g o = some ((o, 10800), aJ G 1 f0)) (hxn : ∀ X q g, xp X q g → X = ioN) : CXH G (MX0_offer 11 206 mc ms) [((0 : Nat), (10 : Nat), (13 : Nat), (19 : Nat))] h [.ref x, .int (iI k), .int (iI n), .ref o] (pI (HPo h o G f0 p xp ioN isN)) (fun _ _ _ => False) := by
  refine CXH.of rfl hG (Nat.le_of_ble_eq_true rfl) rfl (fun E hQ hT => ?_)
  refine ww_aload_n 3 dX0_offer_0 rfl ?_
  refine ww_iconst dX0_offer_1 ?_
  refine ww_aload_n 0 dX0_offer_2 rfl ?_
  refine ww_iload_n 1 dX0_offer_3 rfl ?_
  refine ww_iload_n 2 dX0_offer_4 rfl ?_
  refine cx_i (cx_V hCt sv_X0_21 rfl dX0_offer_5 hx rfl rfl rfl rfl ⟨Nat.le_of_ble_eq_true rfl, Nat.le_of_ble_eq_true rfl⟩ (Nat.le_of_ble_eq_true rfl) (by show 0 + mc ≤ mc; omega) (by show 0 + ms ≤ ms; omega)) (fun X_5 q_5 g_5 hx_5 => ?_) (fun r_5 h_5 hp_5 => ?_)
  · have eX := hxn _ _ _ hx_5
    subst eX
    refine wq_catch hT rfl rfl (by decide) q1767 rfl q1799 ?_
    refine ww_astore [(4, _), (0, _), (1, _), (2, _), (3, _)] dX0_offer_13 (Nat.le_of_ble_eq_true rfl) rfl ?_
    refine ww_iconst dX0_offer_15 ?_
    exact ww_x hQ (ww_iret rfl dX0_offer_16 rfl (by show 0 + mc ≤ mc; omega) (by show 0 + ms ≤ ms; omega) ⟨_, rfl, Or.inr (Or.inl ⟨rfl, _, hx_5⟩)⟩)
  · obtain ⟨hzi, ho⟩ := hpi _ _ hp_5
    refine ww_i2l dX0_offer_8 hzi ?_
    refine ww_last dX0_offer_9 ho ho0 (by decide) (by decide) (by decide) ?_
    refine ww_goto 17 dX0_offer_10 (by decide) ?_
    refine ww_iconst dX0_offer_17 ?_
    exact ww_x hQ (ww_iret rfl dX0_offer_18 rfl (by show 0 + mc ≤ mc; omega) (by show 0 + ms ≤ ms; omega) ⟨_, rfl, Or.inl ⟨rfl, _, _, hp_5, hset_s, KT.of ho⟩⟩)

set_option maxHeartbeats 4000000 in
theorem ct_X0_vote {G : GT} {h : AH} (hG : GOK G) {x o mc ms : Nat} {t : Tg} {fsx : List Value} (hx : h x = some (t, ob 0 fsx)) {f0 : Int → Int} (ho0 : o ≠ 0) (k : Int) (n : Int) {p : Int → AH → Prop} {xp : String → Nat → AH → Prop} (hCt : CX G (MX1_vote 1605 51445 mc ms) h [.ref x, .int (iI k), .int (iI n)] (pI p) xp) (hpi : ∀ z g, p z g → inI z ∧ g o = some ((o, 10800), aJ G 1 f0)) (hxn : ∀ X q g, xp X q g → X = ioN) : CXH G (MX0_vote 1606 51467 mc ms) [((0 : Nat), (10 : Nat), (13 : Nat), (19 : Nat))] h [.ref x, .int (iI k), .int (iI n), .ref o] (pI (HPo h o G f0 p xp ioN isN)) (fun _ _ _ => False) := by
  refine CXH.of rfl hG (Nat.le_of_ble_eq_true rfl) rfl (fun E hQ hT => ?_)
  refine ww_aload_n 3 dX0_vote_0 rfl ?_
  refine ww_iconst dX0_vote_1 ?_
  refine ww_aload_n 0 dX0_vote_2 rfl ?_
  refine ww_iload_n 1 dX0_vote_3 rfl ?_
  refine ww_iload_n 2 dX0_vote_4 rfl ?_
  refine cx_i (cx_V hCt sv_X0_27 rfl dX0_vote_5 hx rfl rfl rfl rfl ⟨Nat.le_of_ble_eq_true rfl, Nat.le_of_ble_eq_true rfl⟩ (Nat.le_of_ble_eq_true rfl) (by show 0 + mc ≤ mc; omega) (by show 0 + ms ≤ ms; omega)) (fun X_5 q_5 g_5 hx_5 => ?_) (fun r_5 h_5 hp_5 => ?_)
  · have eX := hxn _ _ _ hx_5
    subst eX
    refine wq_catch hT rfl rfl (by decide) q1767 rfl q1799 ?_
    refine ww_astore [(4, _), (0, _), (1, _), (2, _), (3, _)] dX0_vote_13 (Nat.le_of_ble_eq_true rfl) rfl ?_
    refine ww_iconst dX0_vote_15 ?_
    exact ww_x hQ (ww_iret rfl dX0_vote_16 rfl (by show 0 + mc ≤ mc; omega) (by show 0 + ms ≤ ms; omega) ⟨_, rfl, Or.inr (Or.inl ⟨rfl, _, hx_5⟩)⟩)
  · obtain ⟨hzi, ho⟩ := hpi _ _ hp_5
    refine ww_i2l dX0_vote_8 hzi ?_
    refine ww_last dX0_vote_9 ho ho0 (by decide) (by decide) (by decide) ?_
    refine ww_goto 17 dX0_vote_10 (by decide) ?_
    refine ww_iconst dX0_vote_17 ?_
    exact ww_x hQ (ww_iret rfl dX0_vote_18 rfl (by show 0 + mc ≤ mc; omega) (by show 0 + ms ≤ ms; omega) ⟨_, rfl, Or.inl ⟨rfl, _, _, hp_5, hset_s, KT.of ho⟩⟩)

set_option maxHeartbeats 4000000 in
theorem ct_X0_support {G : GT} {h : AH} (hG : GOK G) {x o mc ms : Nat} {t : Tg} {fsx : List Value} (hx : h x = some (t, ob 0 fsx)) {f0 : Int → Int} (ho0 : o ≠ 0) (k : Int) (n : Int) {p : Int → AH → Prop} {xp : String → Nat → AH → Prop} (hCt : CX G (MX1_support 1605 51445 mc ms) h [.ref x, .int (iI k), .int (iI n)] (pI p) xp) (hpi : ∀ z g, p z g → inI z ∧ g o = some ((o, 10800), aJ G 1 f0)) (hxn : ∀ X q g, xp X q g → X = ioN) : CXH G (MX0_support 1606 51468 mc ms) [((0 : Nat), (10 : Nat), (13 : Nat), (19 : Nat))] h [.ref x, .int (iI k), .int (iI n), .ref o] (pI (HPo h o G f0 p xp ioN isN)) (fun _ _ _ => False) := by
  refine CXH.of rfl hG (Nat.le_of_ble_eq_true rfl) rfl (fun E hQ hT => ?_)
  refine ww_aload_n 3 dX0_support_0 rfl ?_
  refine ww_iconst dX0_support_1 ?_
  refine ww_aload_n 0 dX0_support_2 rfl ?_
  refine ww_iload_n 1 dX0_support_3 rfl ?_
  refine ww_iload_n 2 dX0_support_4 rfl ?_
  refine cx_i (cx_V hCt sv_X0_30 rfl dX0_support_5 hx rfl rfl rfl rfl ⟨Nat.le_of_ble_eq_true rfl, Nat.le_of_ble_eq_true rfl⟩ (Nat.le_of_ble_eq_true rfl) (by show 0 + mc ≤ mc; omega) (by show 0 + ms ≤ ms; omega)) (fun X_5 q_5 g_5 hx_5 => ?_) (fun r_5 h_5 hp_5 => ?_)
  · have eX := hxn _ _ _ hx_5
    subst eX
    refine wq_catch hT rfl rfl (by decide) q1767 rfl q1799 ?_
    refine ww_astore [(4, _), (0, _), (1, _), (2, _), (3, _)] dX0_support_13 (Nat.le_of_ble_eq_true rfl) rfl ?_
    refine ww_iconst dX0_support_15 ?_
    exact ww_x hQ (ww_iret rfl dX0_support_16 rfl (by show 0 + mc ≤ mc; omega) (by show 0 + ms ≤ ms; omega) ⟨_, rfl, Or.inr (Or.inl ⟨rfl, _, hx_5⟩)⟩)
  · obtain ⟨hzi, ho⟩ := hpi _ _ hp_5
    refine ww_i2l dX0_support_8 hzi ?_
    refine ww_last dX0_support_9 ho ho0 (by decide) (by decide) (by decide) ?_
    refine ww_goto 17 dX0_support_10 (by decide) ?_
    refine ww_iconst dX0_support_17 ?_
    exact ww_x hQ (ww_iret rfl dX0_support_18 rfl (by show 0 + mc ≤ mc; omega) (by show 0 + ms ≤ ms; omega) ⟨_, rfl, Or.inl ⟨rfl, _, _, hp_5, hset_s, KT.of ho⟩⟩)

set_option maxHeartbeats 4000000 in
theorem ct_X0_binding {G : GT} {h : AH} (hG : GOK G) {x o mc ms : Nat} {t : Tg} {fsx : List Value} (hx : h x = some (t, ob 0 fsx)) {f0 : Int → Int} (ho0 : o ≠ 0) (k : Int) (n : Int) {p : Int → AH → Prop} {xp : String → Nat → AH → Prop} (hCt : CX G (MX1_binding 1605 51445 mc ms) h [.ref x, .int (iI k), .int (iI n)] (pI p) xp) (hpi : ∀ z g, p z g → inI z ∧ g o = some ((o, 10800), aJ G 1 f0)) (hxn : ∀ X q g, xp X q g → X = ioN) : CXH G (MX0_binding 1606 51467 mc ms) [((0 : Nat), (10 : Nat), (13 : Nat), (19 : Nat))] h [.ref x, .int (iI k), .int (iI n), .ref o] (pI (HPo h o G f0 p xp ioN isN)) (fun _ _ _ => False) := by
  refine CXH.of rfl hG (Nat.le_of_ble_eq_true rfl) rfl (fun E hQ hT => ?_)
  refine ww_aload_n 3 dX0_binding_0 rfl ?_
  refine ww_iconst dX0_binding_1 ?_
  refine ww_aload_n 0 dX0_binding_2 rfl ?_
  refine ww_iload_n 1 dX0_binding_3 rfl ?_
  refine ww_iload_n 2 dX0_binding_4 rfl ?_
  refine cx_i (cx_V hCt sv_X0_39 rfl dX0_binding_5 hx rfl rfl rfl rfl ⟨Nat.le_of_ble_eq_true rfl, Nat.le_of_ble_eq_true rfl⟩ (Nat.le_of_ble_eq_true rfl) (by show 0 + mc ≤ mc; omega) (by show 0 + ms ≤ ms; omega)) (fun X_5 q_5 g_5 hx_5 => ?_) (fun r_5 h_5 hp_5 => ?_)
  · have eX := hxn _ _ _ hx_5
    subst eX
    refine wq_catch hT rfl rfl (by decide) q1767 rfl q1799 ?_
    refine ww_astore [(4, _), (0, _), (1, _), (2, _), (3, _)] dX0_binding_13 (Nat.le_of_ble_eq_true rfl) rfl ?_
    refine ww_iconst dX0_binding_15 ?_
    exact ww_x hQ (ww_iret rfl dX0_binding_16 rfl (by show 0 + mc ≤ mc; omega) (by show 0 + ms ≤ ms; omega) ⟨_, rfl, Or.inr (Or.inl ⟨rfl, _, hx_5⟩)⟩)
  · obtain ⟨hzi, ho⟩ := hpi _ _ hp_5
    refine ww_i2l dX0_binding_8 hzi ?_
    refine ww_last dX0_binding_9 ho ho0 (by decide) (by decide) (by decide) ?_
    refine ww_goto 17 dX0_binding_10 (by decide) ?_
    refine ww_iconst dX0_binding_17 ?_
    exact ww_x hQ (ww_iret rfl dX0_binding_18 rfl (by show 0 + mc ≤ mc; omega) (by show 0 + ms ≤ ms; omega) ⟨_, rfl, Or.inl ⟨rfl, _, _, hp_5, hset_s, KT.of ho⟩⟩)

set_option maxHeartbeats 4000000 in
theorem ct_X0_call {G : GT} {h : AH} (hG : GOK G) {x o mc ms : Nat} {t : Tg} {fsx : List Value} (hx : h x = some (t, ob 0 fsx)) {f0 : Int → Int} (ho0 : o ≠ 0) (k : Int) (n : Int) {p : Int → AH → Prop} {xp : String → Nat → AH → Prop} (hCt : CX G (MX1_call 1605 51445 mc ms) h [.ref x, .int (iI k), .int (iI n)] (pI p) xp) (hpi : ∀ z g, p z g → inI z ∧ g o = some ((o, 10800), aJ G 1 f0)) (hxn : ∀ X q g, xp X q g → X = ioN) : CXH G (MX0_call 1606 51467 mc ms) [((0 : Nat), (10 : Nat), (13 : Nat), (19 : Nat))] h [.ref x, .int (iI k), .int (iI n), .ref o] (pI (HPo h o G f0 p xp ioN isN)) (fun _ _ _ => False) := by
  refine CXH.of rfl hG (Nat.le_of_ble_eq_true rfl) rfl (fun E hQ hT => ?_)
  refine ww_aload_n 3 dX0_call_0 rfl ?_
  refine ww_iconst dX0_call_1 ?_
  refine ww_aload_n 0 dX0_call_2 rfl ?_
  refine ww_iload_n 1 dX0_call_3 rfl ?_
  refine ww_iload_n 2 dX0_call_4 rfl ?_
  refine cx_i (cx_V hCt sv_X0_45 rfl dX0_call_5 hx rfl rfl rfl rfl ⟨Nat.le_of_ble_eq_true rfl, Nat.le_of_ble_eq_true rfl⟩ (Nat.le_of_ble_eq_true rfl) (by show 0 + mc ≤ mc; omega) (by show 0 + ms ≤ ms; omega)) (fun X_5 q_5 g_5 hx_5 => ?_) (fun r_5 h_5 hp_5 => ?_)
  · have eX := hxn _ _ _ hx_5
    subst eX
    refine wq_catch hT rfl rfl (by decide) q1767 rfl q1799 ?_
    refine ww_astore [(4, _), (0, _), (1, _), (2, _), (3, _)] dX0_call_13 (Nat.le_of_ble_eq_true rfl) rfl ?_
    refine ww_iconst dX0_call_15 ?_
    exact ww_x hQ (ww_iret rfl dX0_call_16 rfl (by show 0 + mc ≤ mc; omega) (by show 0 + ms ≤ ms; omega) ⟨_, rfl, Or.inr (Or.inl ⟨rfl, _, hx_5⟩)⟩)
  · obtain ⟨hzi, ho⟩ := hpi _ _ hp_5
    refine ww_i2l dX0_call_8 hzi ?_
    refine ww_last dX0_call_9 ho ho0 (by decide) (by decide) (by decide) ?_
    refine ww_goto 17 dX0_call_10 (by decide) ?_
    refine ww_iconst dX0_call_17 ?_
    exact ww_x hQ (ww_iret rfl dX0_call_18 rfl (by show 0 + mc ≤ mc; omega) (by show 0 + ms ≤ ms; omega) ⟨_, rfl, Or.inl ⟨rfl, _, _, hp_5, hset_s, KT.of ho⟩⟩)

set_option maxHeartbeats 4000000 in
theorem ct_X0_steps {G : GT} {h : AH} (hG : GOK G) {x o mc ms : Nat} {t : Tg} {fsx : List Value} (hx : h x = some (t, ob 0 fsx)) {f0 : Int → Int} (ho0 : o ≠ 0) (k : Int) (n : Int) {p : Int → AH → Prop} {xp : String → Nat → AH → Prop} (hCt : CX G (MX1_steps 1605 51445 mc ms) h [.ref x, .int (iI k), .int (iI n)] (pI p) xp) (hpi : ∀ z g, p z g → inI z ∧ g o = some ((o, 10800), aJ G 1 f0)) (hxn : ∀ X q g, xp X q g → X = ioN) : CXH G (MX0_steps 1606 51467 mc ms) [((0 : Nat), (10 : Nat), (13 : Nat), (19 : Nat))] h [.ref x, .int (iI k), .int (iI n), .ref o] (pI (HPo h o G f0 p xp ioN isN)) (fun _ _ _ => False) := by
  refine CXH.of rfl hG (Nat.le_of_ble_eq_true rfl) rfl (fun E hQ hT => ?_)
  refine ww_aload_n 3 dX0_steps_0 rfl ?_
  refine ww_iconst dX0_steps_1 ?_
  refine ww_aload_n 0 dX0_steps_2 rfl ?_
  refine ww_iload_n 1 dX0_steps_3 rfl ?_
  refine ww_iload_n 2 dX0_steps_4 rfl ?_
  refine cx_i (cx_V hCt sv_X0_48 rfl dX0_steps_5 hx rfl rfl rfl rfl ⟨Nat.le_of_ble_eq_true rfl, Nat.le_of_ble_eq_true rfl⟩ (Nat.le_of_ble_eq_true rfl) (by show 0 + mc ≤ mc; omega) (by show 0 + ms ≤ ms; omega)) (fun X_5 q_5 g_5 hx_5 => ?_) (fun r_5 h_5 hp_5 => ?_)
  · have eX := hxn _ _ _ hx_5
    subst eX
    refine wq_catch hT rfl rfl (by decide) q1767 rfl q1799 ?_
    refine ww_astore [(4, _), (0, _), (1, _), (2, _), (3, _)] dX0_steps_13 (Nat.le_of_ble_eq_true rfl) rfl ?_
    refine ww_iconst dX0_steps_15 ?_
    exact ww_x hQ (ww_iret rfl dX0_steps_16 rfl (by show 0 + mc ≤ mc; omega) (by show 0 + ms ≤ ms; omega) ⟨_, rfl, Or.inr (Or.inl ⟨rfl, _, hx_5⟩)⟩)
  · obtain ⟨hzi, ho⟩ := hpi _ _ hp_5
    refine ww_i2l dX0_steps_8 hzi ?_
    refine ww_last dX0_steps_9 ho ho0 (by decide) (by decide) (by decide) ?_
    refine ww_goto 17 dX0_steps_10 (by decide) ?_
    refine ww_iconst dX0_steps_17 ?_
    exact ww_x hQ (ww_iret rfl dX0_steps_18 rfl (by show 0 + mc ≤ mc; omega) (by show 0 + ms ≤ ms; omega) ⟨_, rfl, Or.inl ⟨rfl, _, _, hp_5, hset_s, KT.of ho⟩⟩)

set_option maxHeartbeats 4000000 in
theorem ct_X0_users {G : GT} {h : AH} (hG : GOK G) {x o mc ms : Nat} {t : Tg} {fsx : List Value} (hx : h x = some (t, ob 0 fsx)) {f0 : Int → Int} (ho0 : o ≠ 0) (k : Int) (n : Int) {p : Int → AH → Prop} {xp : String → Nat → AH → Prop} (hCt : CX G (MX1_users 1605 51445 mc ms) h [.ref x, .int (iI k), .int (iI n)] (pI p) xp) (hpi : ∀ z g, p z g → inI z ∧ g o = some ((o, 10800), aJ G 1 f0)) (hxn : ∀ X q g, xp X q g → X = ioN) : CXH G (MX0_users 1606 51467 mc ms) [((0 : Nat), (10 : Nat), (13 : Nat), (19 : Nat))] h [.ref x, .int (iI k), .int (iI n), .ref o] (pI (HPo h o G f0 p xp ioN isN)) (fun _ _ _ => False) := by
  refine CXH.of rfl hG (Nat.le_of_ble_eq_true rfl) rfl (fun E hQ hT => ?_)
  refine ww_aload_n 3 dX0_users_0 rfl ?_
  refine ww_iconst dX0_users_1 ?_
  refine ww_aload_n 0 dX0_users_2 rfl ?_
  refine ww_iload_n 1 dX0_users_3 rfl ?_
  refine ww_iload_n 2 dX0_users_4 rfl ?_
  refine cx_i (cx_V hCt sv_X0_51 rfl dX0_users_5 hx rfl rfl rfl rfl ⟨Nat.le_of_ble_eq_true rfl, Nat.le_of_ble_eq_true rfl⟩ (Nat.le_of_ble_eq_true rfl) (by show 0 + mc ≤ mc; omega) (by show 0 + ms ≤ ms; omega)) (fun X_5 q_5 g_5 hx_5 => ?_) (fun r_5 h_5 hp_5 => ?_)
  · have eX := hxn _ _ _ hx_5
    subst eX
    refine wq_catch hT rfl rfl (by decide) q1767 rfl q1799 ?_
    refine ww_astore [(4, _), (0, _), (1, _), (2, _), (3, _)] dX0_users_13 (Nat.le_of_ble_eq_true rfl) rfl ?_
    refine ww_iconst dX0_users_15 ?_
    exact ww_x hQ (ww_iret rfl dX0_users_16 rfl (by show 0 + mc ≤ mc; omega) (by show 0 + ms ≤ ms; omega) ⟨_, rfl, Or.inr (Or.inl ⟨rfl, _, hx_5⟩)⟩)
  · obtain ⟨hzi, ho⟩ := hpi _ _ hp_5
    refine ww_i2l dX0_users_8 hzi ?_
    refine ww_last dX0_users_9 ho ho0 (by decide) (by decide) (by decide) ?_
    refine ww_goto 17 dX0_users_10 (by decide) ?_
    refine ww_iconst dX0_users_17 ?_
    exact ww_x hQ (ww_iret rfl dX0_users_18 rfl (by show 0 + mc ≤ mc; omega) (by show 0 + ms ≤ ms; omega) ⟨_, rfl, Or.inl ⟨rfl, _, _, hp_5, hset_s, KT.of ho⟩⟩)

set_option maxHeartbeats 4000000 in
theorem ct_X0_candidates {G : GT} {h : AH} (hG : GOK G) {x o mc ms : Nat} {t : Tg} {fsx : List Value} (hx : h x = some (t, ob 0 fsx)) {f0 : Int → Int} (ho0 : o ≠ 0) (n : Int) {p : Int → AH → Prop} {xp : String → Nat → AH → Prop} (hCt : CX G (MX1_candidates 1605 51445 mc ms) h [.ref x, .int (iI n)] (pI p) xp) (hpi : ∀ z g, p z g → inI z ∧ g o = some ((o, 10800), aJ G 1 f0)) (hxn : ∀ X q g, xp X q g → X = ioN) : CXH G (MX0_candidates 1606 51466 mc ms) [((0 : Nat), (9 : Nat), (12 : Nat), (19 : Nat))] h [.ref x, .int (iI n), .ref o] (pI (HPo h o G f0 p xp ioN isN)) (fun _ _ _ => False) := by
  refine CXH.of rfl hG (Nat.le_of_ble_eq_true rfl) rfl (fun E hQ hT => ?_)
  refine ww_aload_n 2 dX0_candidates_0 rfl ?_
  refine ww_iconst dX0_candidates_1 ?_
  refine ww_aload_n 0 dX0_candidates_2 rfl ?_
  refine ww_iload_n 1 dX0_candidates_3 rfl ?_
  refine cx_i (cx_V hCt sv_X0_24 rfl dX0_candidates_4 hx rfl rfl rfl rfl ⟨Nat.le_of_ble_eq_true rfl, Nat.le_of_ble_eq_true rfl⟩ (Nat.le_of_ble_eq_true rfl) (by show 0 + mc ≤ mc; omega) (by show 0 + ms ≤ ms; omega)) (fun X_4 q_4 g_4 hx_4 => ?_) (fun r_4 h_4 hp_4 => ?_)
  · have eX := hxn _ _ _ hx_4
    subst eX
    refine wq_catch hT rfl rfl (by decide) q1767 rfl q1799 ?_
    refine ww_astore_n [(3, _), (0, _), (1, _), (2, _)] dX0_candidates_12 (Nat.le_of_ble_eq_true rfl) rfl ?_
    refine ww_iconst dX0_candidates_13 ?_
    exact ww_x hQ (ww_iret rfl dX0_candidates_14 rfl (by show 0 + mc ≤ mc; omega) (by show 0 + ms ≤ ms; omega) ⟨_, rfl, Or.inr (Or.inl ⟨rfl, _, hx_4⟩)⟩)
  · obtain ⟨hzi, ho⟩ := hpi _ _ hp_4
    refine ww_i2l dX0_candidates_7 hzi ?_
    refine ww_last dX0_candidates_8 ho ho0 (by decide) (by decide) (by decide) ?_
    refine ww_goto 15 dX0_candidates_9 (by decide) ?_
    refine ww_iconst dX0_candidates_15 ?_
    exact ww_x hQ (ww_iret rfl dX0_candidates_16 rfl (by show 0 + mc ≤ mc; omega) (by show 0 + ms ≤ ms; omega) ⟨_, rfl, Or.inl ⟨rfl, _, _, hp_4, hset_s, KT.of ho⟩⟩)

set_option maxHeartbeats 4000000 in
theorem ct_X0_winner {G : GT} {h : AH} (hG : GOK G) {x o mc ms : Nat} {t : Tg} {fsx : List Value} (hx : h x = some (t, ob 0 fsx)) {f0 : Int → Int} (ho0 : o ≠ 0) (n : Int) {p : Int → AH → Prop} {xp : String → Nat → AH → Prop} (hCt : CX G (MX1_winner 1605 51445 mc ms) h [.ref x, .int (iI n)] (pI p) xp) (hpi : ∀ z g, p z g → inI z ∧ g o = some ((o, 10800), aJ G 1 f0)) (hxn : ∀ X q g, xp X q g → X = ioN) : CXH G (MX0_winner 1606 51466 mc ms) [((0 : Nat), (9 : Nat), (12 : Nat), (19 : Nat))] h [.ref x, .int (iI n), .ref o] (pI (HPo h o G f0 p xp ioN isN)) (fun _ _ _ => False) := by
  refine CXH.of rfl hG (Nat.le_of_ble_eq_true rfl) rfl (fun E hQ hT => ?_)
  refine ww_aload_n 2 dX0_winner_0 rfl ?_
  refine ww_iconst dX0_winner_1 ?_
  refine ww_aload_n 0 dX0_winner_2 rfl ?_
  refine ww_iload_n 1 dX0_winner_3 rfl ?_
  refine cx_i (cx_V hCt sv_X0_33 rfl dX0_winner_4 hx rfl rfl rfl rfl ⟨Nat.le_of_ble_eq_true rfl, Nat.le_of_ble_eq_true rfl⟩ (Nat.le_of_ble_eq_true rfl) (by show 0 + mc ≤ mc; omega) (by show 0 + ms ≤ ms; omega)) (fun X_4 q_4 g_4 hx_4 => ?_) (fun r_4 h_4 hp_4 => ?_)
  · have eX := hxn _ _ _ hx_4
    subst eX
    refine wq_catch hT rfl rfl (by decide) q1767 rfl q1799 ?_
    refine ww_astore_n [(3, _), (0, _), (1, _), (2, _)] dX0_winner_12 (Nat.le_of_ble_eq_true rfl) rfl ?_
    refine ww_iconst dX0_winner_13 ?_
    exact ww_x hQ (ww_iret rfl dX0_winner_14 rfl (by show 0 + mc ≤ mc; omega) (by show 0 + ms ≤ ms; omega) ⟨_, rfl, Or.inr (Or.inl ⟨rfl, _, hx_4⟩)⟩)
  · obtain ⟨hzi, ho⟩ := hpi _ _ hp_4
    refine ww_i2l dX0_winner_7 hzi ?_
    refine ww_last dX0_winner_8 ho ho0 (by decide) (by decide) (by decide) ?_
    refine ww_goto 15 dX0_winner_9 (by decide) ?_
    refine ww_iconst dX0_winner_15 ?_
    exact ww_x hQ (ww_iret rfl dX0_winner_16 rfl (by show 0 + mc ≤ mc; omega) (by show 0 + ms ≤ ms; omega) ⟨_, rfl, Or.inl ⟨rfl, _, _, hp_4, hset_s, KT.of ho⟩⟩)

set_option maxHeartbeats 4000000 in
theorem ct_X0_margin {G : GT} {h : AH} (hG : GOK G) {x o mc ms : Nat} {t : Tg} {fsx : List Value} (hx : h x = some (t, ob 0 fsx)) {f0 : Int → Int} (ho0 : o ≠ 0) (n : Int) {p : Int → AH → Prop} {xp : String → Nat → AH → Prop} (hCt : CX G (MX1_margin 1605 51445 mc ms) h [.ref x, .int (iI n)] (pI p) xp) (hpi : ∀ z g, p z g → inI z ∧ g o = some ((o, 10800), aJ G 1 f0)) (hxn : ∀ X q g, xp X q g → X = ioN) : CXH G (MX0_margin 1606 51466 mc ms) [((0 : Nat), (9 : Nat), (12 : Nat), (19 : Nat))] h [.ref x, .int (iI n), .ref o] (pI (HPo h o G f0 p xp ioN isN)) (fun _ _ _ => False) := by
  refine CXH.of rfl hG (Nat.le_of_ble_eq_true rfl) rfl (fun E hQ hT => ?_)
  refine ww_aload_n 2 dX0_margin_0 rfl ?_
  refine ww_iconst dX0_margin_1 ?_
  refine ww_aload_n 0 dX0_margin_2 rfl ?_
  refine ww_iload_n 1 dX0_margin_3 rfl ?_
  refine cx_i (cx_V hCt sv_X0_36 rfl dX0_margin_4 hx rfl rfl rfl rfl ⟨Nat.le_of_ble_eq_true rfl, Nat.le_of_ble_eq_true rfl⟩ (Nat.le_of_ble_eq_true rfl) (by show 0 + mc ≤ mc; omega) (by show 0 + ms ≤ ms; omega)) (fun X_4 q_4 g_4 hx_4 => ?_) (fun r_4 h_4 hp_4 => ?_)
  · have eX := hxn _ _ _ hx_4
    subst eX
    refine wq_catch hT rfl rfl (by decide) q1767 rfl q1799 ?_
    refine ww_astore_n [(3, _), (0, _), (1, _), (2, _)] dX0_margin_12 (Nat.le_of_ble_eq_true rfl) rfl ?_
    refine ww_iconst dX0_margin_13 ?_
    exact ww_x hQ (ww_iret rfl dX0_margin_14 rfl (by show 0 + mc ≤ mc; omega) (by show 0 + ms ≤ ms; omega) ⟨_, rfl, Or.inr (Or.inl ⟨rfl, _, hx_4⟩)⟩)
  · obtain ⟨hzi, ho⟩ := hpi _ _ hp_4
    refine ww_i2l dX0_margin_7 hzi ?_
    refine ww_last dX0_margin_8 ho ho0 (by decide) (by decide) (by decide) ?_
    refine ww_goto 15 dX0_margin_9 (by decide) ?_
    refine ww_iconst dX0_margin_15 ?_
    exact ww_x hQ (ww_iret rfl dX0_margin_16 rfl (by show 0 + mc ≤ mc; omega) (by show 0 + ms ≤ ms; omega) ⟨_, rfl, Or.inl ⟨rfl, _, _, hp_4, hset_s, KT.of ho⟩⟩)

set_option maxHeartbeats 4000000 in
theorem ct_X0_minority {G : GT} {h : AH} (hG : GOK G) {x o mc ms : Nat} {t : Tg} {fsx : List Value} (hx : h x = some (t, ob 0 fsx)) {f0 : Int → Int} (ho0 : o ≠ 0) (n : Int) {p : Int → AH → Prop} {xp : String → Nat → AH → Prop} (hCt : CX G (MX1_minority 1605 51445 mc ms) h [.ref x, .int (iI n)] (pI p) xp) (hpi : ∀ z g, p z g → inI z ∧ g o = some ((o, 10800), aJ G 1 f0)) (hxn : ∀ X q g, xp X q g → X = ioN) : CXH G (MX0_minority 1606 51467 mc ms) [((0 : Nat), (9 : Nat), (12 : Nat), (19 : Nat))] h [.ref x, .int (iI n), .ref o] (pI (HPo h o G f0 p xp ioN isN)) (fun _ _ _ => False) := by
  refine CXH.of rfl hG (Nat.le_of_ble_eq_true rfl) rfl (fun E hQ hT => ?_)
  refine ww_aload_n 2 dX0_minority_0 rfl ?_
  refine ww_iconst dX0_minority_1 ?_
  refine ww_aload_n 0 dX0_minority_2 rfl ?_
  refine ww_iload_n 1 dX0_minority_3 rfl ?_
  refine cx_i (cx_V hCt sv_X0_42 rfl dX0_minority_4 hx rfl rfl rfl rfl ⟨Nat.le_of_ble_eq_true rfl, Nat.le_of_ble_eq_true rfl⟩ (Nat.le_of_ble_eq_true rfl) (by show 0 + mc ≤ mc; omega) (by show 0 + ms ≤ ms; omega)) (fun X_4 q_4 g_4 hx_4 => ?_) (fun r_4 h_4 hp_4 => ?_)
  · have eX := hxn _ _ _ hx_4
    subst eX
    refine wq_catch hT rfl rfl (by decide) q1767 rfl q1799 ?_
    refine ww_astore_n [(3, _), (0, _), (1, _), (2, _)] dX0_minority_12 (Nat.le_of_ble_eq_true rfl) rfl ?_
    refine ww_iconst dX0_minority_13 ?_
    exact ww_x hQ (ww_iret rfl dX0_minority_14 rfl (by show 0 + mc ≤ mc; omega) (by show 0 + ms ≤ ms; omega) ⟨_, rfl, Or.inr (Or.inl ⟨rfl, _, hx_4⟩)⟩)
  · obtain ⟨hzi, ho⟩ := hpi _ _ hp_4
    refine ww_i2l dX0_minority_7 hzi ?_
    refine ww_last dX0_minority_8 ho ho0 (by decide) (by decide) (by decide) ?_
    refine ww_goto 15 dX0_minority_9 (by decide) ?_
    refine ww_iconst dX0_minority_15 ?_
    exact ww_x hQ (ww_iret rfl dX0_minority_16 rfl (by show 0 + mc ≤ mc; omega) (by show 0 + ms ≤ ms; omega) ⟨_, rfl, Or.inl ⟨rfl, _, _, hp_4, hset_s, KT.of ho⟩⟩)

set_option maxHeartbeats 4000000 in
theorem ct_X0_unload {G : GT} {h : AH} (hG : GOK G) {x o mc ms : Nat} {t : Tg} {fsx : List Value} (hx : h x = some (t, ob 0 fsx)) {f0 : Int → Int} (ho0 : o ≠ 0) (k : Int) {p : Int → AH → Prop} {xp : String → Nat → AH → Prop} (hCt : CX G (MX1_unload 1605 51445 mc ms) h [.ref x, .int (iI k)] (pI p) xp) (hpi : ∀ z g, p z g → inI z ∧ g o = some ((o, 10800), aJ G 1 f0)) (hxn : ∀ X q g, xp X q g → X = ioN ∨ X = isN) : CXH G (MX0_unload 1606 51468 mc ms) [((0 : Nat), (9 : Nat), (12 : Nat), (19 : Nat)), ((0 : Nat), (9 : Nat), (15 : Nat), (57 : Nat))] h [.ref x, .int (iI k), .ref o] (pI (HPo h o G f0 p xp ioN isN)) (fun _ _ _ => False) := by
  refine CXH.of rfl hG (Nat.le_of_ble_eq_true rfl) rfl (fun E hQ hT => ?_)
  refine ww_aload_n 2 dX0_unload_0 rfl ?_
  refine ww_iconst dX0_unload_1 ?_
  refine ww_aload_n 0 dX0_unload_2 rfl ?_
  refine ww_iload_n 1 dX0_unload_3 rfl ?_
  refine cx_i (cx_V hCt sv_X0_54 rfl dX0_unload_4 hx rfl rfl rfl rfl ⟨Nat.le_of_ble_eq_true rfl, Nat.le_of_ble_eq_true rfl⟩ (Nat.le_of_ble_eq_true rfl) (by show 0 + mc ≤ mc; omega) (by show 0 + ms ≤ ms; omega)) (fun X_4 q_4 g_4 hx_4 => ?_) (fun r_4 h_4 hp_4 => ?_)
  · rcases hxn _ _ _ hx_4 with rfl | rfl
    · refine wq_catch hT rfl rfl (by decide) q1767 rfl q1799 ?_
      refine ww_astore_n [(3, _), (0, _), (1, _), (2, _)] dX0_unload_12 (Nat.le_of_ble_eq_true rfl) rfl ?_
      refine ww_iconst dX0_unload_13 ?_
      exact ww_x hQ (ww_iret rfl dX0_unload_14 rfl (by show 0 + mc ≤ mc; omega) (by show 0 + ms ≤ ms; omega) ⟨_, rfl, Or.inr (Or.inl ⟨rfl, _, hx_4⟩)⟩)
    · refine wq_catch2 hT rfl (by decide) q1767 nc_isN rfl (by decide) q1916 rfl q1747 ?_
      refine ww_astore_n [(3, _), (0, _), (1, _), (2, _)] dX0_unload_15 (Nat.le_of_ble_eq_true rfl) rfl ?_
      refine ww_iconst dX0_unload_16 ?_
      exact ww_x hQ (ww_iret rfl dX0_unload_17 rfl (by show 0 + mc ≤ mc; omega) (by show 0 + ms ≤ ms; omega) ⟨_, rfl, Or.inr (Or.inr ⟨rfl, _, hx_4⟩)⟩)
  · obtain ⟨hzi, ho⟩ := hpi _ _ hp_4
    refine ww_i2l dX0_unload_7 hzi ?_
    refine ww_last dX0_unload_8 ho ho0 (by decide) (by decide) (by decide) ?_
    refine ww_goto 18 dX0_unload_9 (by decide) ?_
    refine ww_iconst dX0_unload_18 ?_
    exact ww_x hQ (ww_iret rfl dX0_unload_19 rfl (by show 0 + mc ≤ mc; omega) (by show 0 + ms ≤ ms; omega) ⟨_, rfl, Or.inl ⟨rfl, _, _, hp_4, hset_s, KT.of ho⟩⟩)

set_option maxHeartbeats 4000000 in
theorem ct_X0_reload {G : GT} {h : AH} (hG : GOK G) {x o mc ms : Nat} {t : Tg} {fsx : List Value} (hx : h x = some (t, ob 0 fsx)) {f0 : Int → Int} (ho0 : o ≠ 0) (k : Int) {p : Int → AH → Prop} {xp : String → Nat → AH → Prop} (hCt : CX G (MX1_reload 1605 51445 mc ms) h [.ref x, .int (iI k)] (pI p) xp) (hpi : ∀ z g, p z g → inI z ∧ g o = some ((o, 10800), aJ G 1 f0)) (hxn : ∀ X q g, xp X q g → X = ioN ∨ X = isN) : CXH G (MX0_reload 1606 51468 mc ms) [((0 : Nat), (9 : Nat), (12 : Nat), (19 : Nat)), ((0 : Nat), (9 : Nat), (15 : Nat), (57 : Nat))] h [.ref x, .int (iI k), .ref o] (pI (HPo h o G f0 p xp ioN isN)) (fun _ _ _ => False) := by
  refine CXH.of rfl hG (Nat.le_of_ble_eq_true rfl) rfl (fun E hQ hT => ?_)
  refine ww_aload_n 2 dX0_reload_0 rfl ?_
  refine ww_iconst dX0_reload_1 ?_
  refine ww_aload_n 0 dX0_reload_2 rfl ?_
  refine ww_iload_n 1 dX0_reload_3 rfl ?_
  refine cx_i (cx_V hCt sv_X0_59 rfl dX0_reload_4 hx rfl rfl rfl rfl ⟨Nat.le_of_ble_eq_true rfl, Nat.le_of_ble_eq_true rfl⟩ (Nat.le_of_ble_eq_true rfl) (by show 0 + mc ≤ mc; omega) (by show 0 + ms ≤ ms; omega)) (fun X_4 q_4 g_4 hx_4 => ?_) (fun r_4 h_4 hp_4 => ?_)
  · rcases hxn _ _ _ hx_4 with rfl | rfl
    · refine wq_catch hT rfl rfl (by decide) q1767 rfl q1799 ?_
      refine ww_astore_n [(3, _), (0, _), (1, _), (2, _)] dX0_reload_12 (Nat.le_of_ble_eq_true rfl) rfl ?_
      refine ww_iconst dX0_reload_13 ?_
      exact ww_x hQ (ww_iret rfl dX0_reload_14 rfl (by show 0 + mc ≤ mc; omega) (by show 0 + ms ≤ ms; omega) ⟨_, rfl, Or.inr (Or.inl ⟨rfl, _, hx_4⟩)⟩)
    · refine wq_catch2 hT rfl (by decide) q1767 nc_isN rfl (by decide) q1916 rfl q1747 ?_
      refine ww_astore_n [(3, _), (0, _), (1, _), (2, _)] dX0_reload_15 (Nat.le_of_ble_eq_true rfl) rfl ?_
      refine ww_iconst dX0_reload_16 ?_
      exact ww_x hQ (ww_iret rfl dX0_reload_17 rfl (by show 0 + mc ≤ mc; omega) (by show 0 + ms ≤ ms; omega) ⟨_, rfl, Or.inr (Or.inr ⟨rfl, _, hx_4⟩)⟩)
  · obtain ⟨hzi, ho⟩ := hpi _ _ hp_4
    refine ww_i2l dX0_reload_7 hzi ?_
    refine ww_last dX0_reload_8 ho ho0 (by decide) (by decide) (by decide) ?_
    refine ww_goto 18 dX0_reload_9 (by decide) ?_
    refine ww_iconst dX0_reload_18 ?_
    exact ww_x hQ (ww_iret rfl dX0_reload_19 rfl (by show 0 + mc ≤ mc; omega) (by show 0 + ms ≤ ms; omega) ⟨_, rfl, Or.inl ⟨rfl, _, _, hp_4, hset_s, KT.of ho⟩⟩)

set_option maxHeartbeats 4000000 in
theorem ct_X0_offerValue {G : GT} {h : AH} (hG : GOK G) {x o mc ms : Nat} {t : Tg} {fsx : List Value} (hx : h x = some (t, ob 0 fsx)) {f0 : Int → Int} (ho0 : o ≠ 0) (k : Int) (n : Int) (w : Int) {p : Int → AH → Prop} {xp : String → Nat → AH → Prop} (hCt : CX G (MX1_offerValue 1606 51468 mc ms) h [.ref x, .int (iI k), .int (iI n), .int (iI w)] (pI p) xp) (hpi : ∀ z g, p z g → inI z ∧ g o = some ((o, 10800), aJ G 1 f0)) (hxn : ∀ X q g, xp X q g → X = ioN ∨ X = iaN) : CXH G (MX0_offerValue 1607 51491 mc ms) [((0 : Nat), (12 : Nat), (15 : Nat), (19 : Nat)), ((0 : Nat), (12 : Nat), (19 : Nat), (13 : Nat))] h [.ref x, .int (iI k), .int (iI n), .int (iI w), .ref o] (pI (HPo h o G f0 p xp ioN iaN)) (fun _ _ _ => False) := by
  refine CXH.of rfl hG (Nat.le_of_ble_eq_true rfl) rfl (fun E hQ hT => ?_)
  refine ww_aload 4 dX0_offerValue_0 rfl ?_
  refine ww_iconst dX0_offerValue_2 ?_
  refine ww_aload_n 0 dX0_offerValue_3 rfl ?_
  refine ww_iload_n 1 dX0_offerValue_4 rfl ?_
  refine ww_iload_n 2 dX0_offerValue_5 rfl ?_
  refine ww_iload_n 3 dX0_offerValue_6 rfl ?_
  refine cx_i (cx_V hCt sv_X0_62 rfl dX0_offerValue_7 hx rfl rfl rfl rfl ⟨Nat.le_of_ble_eq_true rfl, Nat.le_of_ble_eq_true rfl⟩ (Nat.le_of_ble_eq_true rfl) (by show 0 + mc ≤ mc; omega) (by show 0 + ms ≤ ms; omega)) (fun X_7 q_7 g_7 hx_7 => ?_) (fun r_7 h_7 hp_7 => ?_)
  · rcases hxn _ _ _ hx_7 with rfl | rfl
    · refine wq_catch hT rfl rfl (by decide) q1767 rfl q1799 ?_
      refine ww_astore [(5, _), (0, _), (1, _), (2, _), (3, _), (4, _)] dX0_offerValue_15 (Nat.le_of_ble_eq_true rfl) rfl ?_
      refine ww_iconst dX0_offerValue_17 ?_
      exact ww_x hQ (ww_iret rfl dX0_offerValue_18 rfl (by show 0 + mc ≤ mc; omega) (by show 0 + ms ≤ ms; omega) ⟨_, rfl, Or.inr (Or.inl ⟨rfl, _, hx_7⟩)⟩)
    · refine wq_catch2 hT rfl (by decide) q1767 nc_iaN rfl (by decide) q1228 rfl q283 ?_
      refine ww_astore [(5, _), (0, _), (1, _), (2, _), (3, _), (4, _)] dX0_offerValue_19 (Nat.le_of_ble_eq_true rfl) rfl ?_
      refine ww_iconst dX0_offerValue_21 ?_
      exact ww_x hQ (ww_iret rfl dX0_offerValue_22 rfl (by show 0 + mc ≤ mc; omega) (by show 0 + ms ≤ ms; omega) ⟨_, rfl, Or.inr (Or.inr ⟨rfl, _, hx_7⟩)⟩)
  · obtain ⟨hzi, ho⟩ := hpi _ _ hp_7
    refine ww_i2l dX0_offerValue_10 hzi ?_
    refine ww_last dX0_offerValue_11 ho ho0 (by decide) (by decide) (by decide) ?_
    refine ww_goto 23 dX0_offerValue_12 (by decide) ?_
    refine ww_iconst dX0_offerValue_23 ?_
    exact ww_x hQ (ww_iret rfl dX0_offerValue_24 rfl (by show 0 + mc ≤ mc; omega) (by show 0 + ms ≤ ms; omega) ⟨_, rfl, Or.inl ⟨rfl, _, _, hp_7, hset_s, KT.of ho⟩⟩)

set_option maxHeartbeats 4000000 in
theorem ct_X0_offerForward {G : GT} {h : AH} (hG : GOK G) {x o mc ms : Nat} {t : Tg} {fsx : List Value} (hx : h x = some (t, ob 0 fsx)) {f0 : Int → Int} (ho0 : o ≠ 0) (k : Int) (n : Int) (w : Int) {p : Int → AH → Prop} {xp : String → Nat → AH → Prop} (hCt : CX G (MX1_offerForward 1606 51468 mc ms) h [.ref x, .int (iI k), .int (iI n), .int (iI w)] (pI p) xp) (hpi : ∀ z g, p z g → inI z ∧ g o = some ((o, 10800), aJ G 1 f0)) (hxn : ∀ X q g, xp X q g → X = ioN) : CXH G (MX0_offerForward 1607 51491 mc ms) [((0 : Nat), (12 : Nat), (15 : Nat), (19 : Nat))] h [.ref x, .int (iI k), .int (iI n), .int (iI w), .ref o] (pI (HPo h o G f0 p xp ioN isN)) (fun _ _ _ => False) := by
  refine CXH.of rfl hG (Nat.le_of_ble_eq_true rfl) rfl (fun E hQ hT => ?_)
  refine ww_aload 4 dX0_offerForward_0 rfl ?_
  refine ww_iconst dX0_offerForward_2 ?_
  refine ww_aload_n 0 dX0_offerForward_3 rfl ?_
  refine ww_iload_n 1 dX0_offerForward_4 rfl ?_
  refine ww_iload_n 2 dX0_offerForward_5 rfl ?_
  refine ww_iload_n 3 dX0_offerForward_6 rfl ?_
  refine cx_i (cx_V hCt sv_X0_66 rfl dX0_offerForward_7 hx rfl rfl rfl rfl ⟨Nat.le_of_ble_eq_true rfl, Nat.le_of_ble_eq_true rfl⟩ (Nat.le_of_ble_eq_true rfl) (by show 0 + mc ≤ mc; omega) (by show 0 + ms ≤ ms; omega)) (fun X_7 q_7 g_7 hx_7 => ?_) (fun r_7 h_7 hp_7 => ?_)
  · have eX := hxn _ _ _ hx_7
    subst eX
    refine wq_catch hT rfl rfl (by decide) q1767 rfl q1799 ?_
    refine ww_astore [(5, _), (0, _), (1, _), (2, _), (3, _), (4, _)] dX0_offerForward_15 (Nat.le_of_ble_eq_true rfl) rfl ?_
    refine ww_iconst dX0_offerForward_17 ?_
    exact ww_x hQ (ww_iret rfl dX0_offerForward_18 rfl (by show 0 + mc ≤ mc; omega) (by show 0 + ms ≤ ms; omega) ⟨_, rfl, Or.inr (Or.inl ⟨rfl, _, hx_7⟩)⟩)
  · obtain ⟨hzi, ho⟩ := hpi _ _ hp_7
    refine ww_i2l dX0_offerForward_10 hzi ?_
    refine ww_last dX0_offerForward_11 ho ho0 (by decide) (by decide) (by decide) ?_
    refine ww_goto 19 dX0_offerForward_12 (by decide) ?_
    refine ww_iconst dX0_offerForward_19 ?_
    exact ww_x hQ (ww_iret rfl dX0_offerForward_20 rfl (by show 0 + mc ≤ mc; omega) (by show 0 + ms ≤ ms; omega) ⟨_, rfl, Or.inl ⟨rfl, _, _, hp_7, hset_s, KT.of ho⟩⟩)

set_option maxHeartbeats 4000000 in
theorem ct_X0_withdraw {G : GT} {h : AH} (hG : GOK G) {x o mc ms : Nat} {t : Tg} {fsx : List Value} (hx : h x = some (t, ob 0 fsx)) {f0 : Int → Int} (ho0 : o ≠ 0) (k : Int) (n : Int) {p : Int → AH → Prop} {xp : String → Nat → AH → Prop} (hCt : CX G (MX1_withdraw 1606 51468 mc ms) h [.ref x, .int (iI k), .int (iI n)] (pI p) xp) (hpi : ∀ z g, p z g → inI z ∧ g o = some ((o, 10800), aJ G 1 f0)) (hxn : ∀ X q g, xp X q g → X = ioN ∨ X = isN) : CXH G (MX0_withdraw 1607 51490 mc ms) [((0 : Nat), (10 : Nat), (13 : Nat), (19 : Nat)), ((0 : Nat), (10 : Nat), (17 : Nat), (57 : Nat))] h [.ref x, .int (iI k), .int (iI n), .ref o] (pI (HPo h o G f0 p xp ioN isN)) (fun _ _ _ => False) := by
  refine CXH.of rfl hG (Nat.le_of_ble_eq_true rfl) rfl (fun E hQ hT => ?_)
  refine ww_aload_n 3 dX0_withdraw_0 rfl ?_
  refine ww_iconst dX0_withdraw_1 ?_
  refine ww_aload_n 0 dX0_withdraw_2 rfl ?_
  refine ww_iload_n 1 dX0_withdraw_3 rfl ?_
  refine ww_iload_n 2 dX0_withdraw_4 rfl ?_
  refine cx_i (cx_V hCt sv_X0_69 rfl dX0_withdraw_5 hx rfl rfl rfl rfl ⟨Nat.le_of_ble_eq_true rfl, Nat.le_of_ble_eq_true rfl⟩ (Nat.le_of_ble_eq_true rfl) (by show 0 + mc ≤ mc; omega) (by show 0 + ms ≤ ms; omega)) (fun X_5 q_5 g_5 hx_5 => ?_) (fun r_5 h_5 hp_5 => ?_)
  · rcases hxn _ _ _ hx_5 with rfl | rfl
    · refine wq_catch hT rfl rfl (by decide) q1767 rfl q1799 ?_
      refine ww_astore [(4, _), (0, _), (1, _), (2, _), (3, _)] dX0_withdraw_13 (Nat.le_of_ble_eq_true rfl) rfl ?_
      refine ww_iconst dX0_withdraw_15 ?_
      exact ww_x hQ (ww_iret rfl dX0_withdraw_16 rfl (by show 0 + mc ≤ mc; omega) (by show 0 + ms ≤ ms; omega) ⟨_, rfl, Or.inr (Or.inl ⟨rfl, _, hx_5⟩)⟩)
    · refine wq_catch2 hT rfl (by decide) q1767 nc_isN rfl (by decide) q1916 rfl q1747 ?_
      refine ww_astore [(4, _), (0, _), (1, _), (2, _), (3, _)] dX0_withdraw_17 (Nat.le_of_ble_eq_true rfl) rfl ?_
      refine ww_iconst dX0_withdraw_19 ?_
      exact ww_x hQ (ww_iret rfl dX0_withdraw_20 rfl (by show 0 + mc ≤ mc; omega) (by show 0 + ms ≤ ms; omega) ⟨_, rfl, Or.inr (Or.inr ⟨rfl, _, hx_5⟩)⟩)
  · obtain ⟨hzi, ho⟩ := hpi _ _ hp_5
    refine ww_i2l dX0_withdraw_8 hzi ?_
    refine ww_last dX0_withdraw_9 ho ho0 (by decide) (by decide) (by decide) ?_
    refine ww_goto 21 dX0_withdraw_10 (by decide) ?_
    refine ww_iconst dX0_withdraw_21 ?_
    exact ww_x hQ (ww_iret rfl dX0_withdraw_22 rfl (by show 0 + mc ≤ mc; omega) (by show 0 + ms ≤ ms; omega) ⟨_, rfl, Or.inl ⟨rfl, _, _, hp_5, hset_s, KT.of ho⟩⟩)

set_option maxHeartbeats 4000000 in
theorem ct_X0_setTrust {G : GT} {h : AH} (hG : GOK G) {x o mc ms : Nat} {t : Tg} {fsx : List Value} (hx : h x = some (t, ob 0 fsx)) {f0 : Int → Int} (ho0 : o ≠ 0) (k : Int) (w : Int) {p : Int → AH → Prop} {xp : String → Nat → AH → Prop} (hCt : CX G (MX1_setTrust 14 3286 mc ms) h [.ref x, .int (iI k), .int (iI w)] (pI p) xp) (hpi : ∀ z g, p z g → inI z ∧ g o = some ((o, 10800), aJ G 1 f0)) (hxn : ∀ X q g, xp X q g → X = ioN ∨ X = iaN) : CXH G (MX0_setTrust 15 3309 mc ms) [((0 : Nat), (10 : Nat), (13 : Nat), (19 : Nat)), ((0 : Nat), (10 : Nat), (17 : Nat), (13 : Nat))] h [.ref x, .int (iI k), .int (iI w), .ref o] (pI (HPo h o G f0 p xp ioN iaN)) (fun _ _ _ => False) := by
  refine CXH.of rfl hG (Nat.le_of_ble_eq_true rfl) rfl (fun E hQ hT => ?_)
  refine ww_aload_n 3 dX0_setTrust_0 rfl ?_
  refine ww_iconst dX0_setTrust_1 ?_
  refine ww_aload_n 0 dX0_setTrust_2 rfl ?_
  refine ww_iload_n 1 dX0_setTrust_3 rfl ?_
  refine ww_iload_n 2 dX0_setTrust_4 rfl ?_
  refine cx_i (cx_V hCt sv_X0_72 rfl dX0_setTrust_5 hx rfl rfl rfl rfl ⟨Nat.le_of_ble_eq_true rfl, Nat.le_of_ble_eq_true rfl⟩ (Nat.le_of_ble_eq_true rfl) (by show 0 + mc ≤ mc; omega) (by show 0 + ms ≤ ms; omega)) (fun X_5 q_5 g_5 hx_5 => ?_) (fun r_5 h_5 hp_5 => ?_)
  · rcases hxn _ _ _ hx_5 with rfl | rfl
    · refine wq_catch hT rfl rfl (by decide) q1767 rfl q1799 ?_
      refine ww_astore [(4, _), (0, _), (1, _), (2, _), (3, _)] dX0_setTrust_13 (Nat.le_of_ble_eq_true rfl) rfl ?_
      refine ww_iconst dX0_setTrust_15 ?_
      exact ww_x hQ (ww_iret rfl dX0_setTrust_16 rfl (by show 0 + mc ≤ mc; omega) (by show 0 + ms ≤ ms; omega) ⟨_, rfl, Or.inr (Or.inl ⟨rfl, _, hx_5⟩)⟩)
    · refine wq_catch2 hT rfl (by decide) q1767 nc_iaN rfl (by decide) q1228 rfl q283 ?_
      refine ww_astore [(4, _), (0, _), (1, _), (2, _), (3, _)] dX0_setTrust_17 (Nat.le_of_ble_eq_true rfl) rfl ?_
      refine ww_iconst dX0_setTrust_19 ?_
      exact ww_x hQ (ww_iret rfl dX0_setTrust_20 rfl (by show 0 + mc ≤ mc; omega) (by show 0 + ms ≤ ms; omega) ⟨_, rfl, Or.inr (Or.inr ⟨rfl, _, hx_5⟩)⟩)
  · obtain ⟨hzi, ho⟩ := hpi _ _ hp_5
    refine ww_i2l dX0_setTrust_8 hzi ?_
    refine ww_last dX0_setTrust_9 ho ho0 (by decide) (by decide) (by decide) ?_
    refine ww_goto 21 dX0_setTrust_10 (by decide) ?_
    refine ww_iconst dX0_setTrust_21 ?_
    exact ww_x hQ (ww_iret rfl dX0_setTrust_22 rfl (by show 0 + mc ≤ mc; omega) (by show 0 + ms ≤ ms; omega) ⟨_, rfl, Or.inl ⟨rfl, _, _, hp_5, hset_s, KT.of ho⟩⟩)

set_option maxHeartbeats 4000000 in
theorem ct_X0_setKeeps {G : GT} {h : AH} (hG : GOK G) {x o mc ms : Nat} {t : Tg} {fsx : List Value} (hx : h x = some (t, ob 0 fsx)) {f0 : Int → Int} (ho0 : o ≠ 0) (k : Int) (w : Int) {p : Int → AH → Prop} {xp : String → Nat → AH → Prop} (hCt : CX G (MX1_setKeeps 1605 51445 mc ms) h [.ref x, .int (iI k), .int (iI w)] (pI p) xp) (hpi : ∀ z g, p z g → inI z ∧ g o = some ((o, 10800), aJ G 1 f0)) (hxn : ∀ X q g, xp X q g → X = ioN) : CXH G (MX0_setKeeps 1606 51469 mc ms) [((0 : Nat), (10 : Nat), (13 : Nat), (19 : Nat))] h [.ref x, .int (iI k), .int (iI w), .ref o] (pI (HPo h o G f0 p xp ioN isN)) (fun _ _ _ => False) := by
  refine CXH.of rfl hG (Nat.le_of_ble_eq_true rfl) rfl (fun E hQ hT => ?_)
  refine ww_aload_n 3 dX0_setKeeps_0 rfl ?_
  refine ww_iconst dX0_setKeeps_1 ?_
  refine ww_aload_n 0 dX0_setKeeps_2 rfl ?_
  refine ww_iload_n 1 dX0_setKeeps_3 rfl ?_
  refine ww_iload_n 2 dX0_setKeeps_4 rfl ?_
  refine cx_i (cx_V hCt sv_X0_75 rfl dX0_setKeeps_5 hx rfl rfl rfl rfl ⟨Nat.le_of_ble_eq_true rfl, Nat.le_of_ble_eq_true rfl⟩ (Nat.le_of_ble_eq_true rfl) (by show 0 + mc ≤ mc; omega) (by show 0 + ms ≤ ms; omega)) (fun X_5 q_5 g_5 hx_5 => ?_) (fun r_5 h_5 hp_5 => ?_)
  · have eX := hxn _ _ _ hx_5
    subst eX
    refine wq_catch hT rfl rfl (by decide) q1767 rfl q1799 ?_
    refine ww_astore [(4, _), (0, _), (1, _), (2, _), (3, _)] dX0_setKeeps_13 (Nat.le_of_ble_eq_true rfl) rfl ?_
    refine ww_iconst dX0_setKeeps_15 ?_
    exact ww_x hQ (ww_iret rfl dX0_setKeeps_16 rfl (by show 0 + mc ≤ mc; omega) (by show 0 + ms ≤ ms; omega) ⟨_, rfl, Or.inr (Or.inl ⟨rfl, _, hx_5⟩)⟩)
  · obtain ⟨hzi, ho⟩ := hpi _ _ hp_5
    refine ww_i2l dX0_setKeeps_8 hzi ?_
    refine ww_last dX0_setKeeps_9 ho ho0 (by decide) (by decide) (by decide) ?_
    refine ww_goto 17 dX0_setKeeps_10 (by decide) ?_
    refine ww_iconst dX0_setKeeps_17 ?_
    exact ww_x hQ (ww_iret rfl dX0_setKeeps_18 rfl (by show 0 + mc ≤ mc; omega) (by show 0 + ms ≤ ms; omega) ⟨_, rfl, Or.inl ⟨rfl, _, _, hp_5, hset_s, KT.of ho⟩⟩)

set_option maxHeartbeats 4000000 in
theorem ct_X0_setShare {G : GT} {h : AH} (hG : GOK G) {x o mc ms : Nat} {t : Tg} {fsx : List Value} (hx : h x = some (t, ob 0 fsx)) {f0 : Int → Int} (ho0 : o ≠ 0) (w : Int) {p : Int → AH → Prop} {xp : String → Nat → AH → Prop} (hCt : CX G (MX1_setShare 1605 51445 mc ms) h [.ref x, .int (iI w)] (pI p) xp) (hpi : ∀ z g, p z g → inI z ∧ g o = some ((o, 10800), aJ G 1 f0)) (hxn : ∀ X q g, xp X q g → X = iaN) : CXH G (MX0_setShare 1606 51467 mc ms) [((0 : Nat), (9 : Nat), (12 : Nat), (13 : Nat))] h [.ref x, .int (iI w), .ref o] (pI (HPo h o G f0 p xp iaN isN)) (fun _ _ _ => False) := by
  refine CXH.of rfl hG (Nat.le_of_ble_eq_true rfl) rfl (fun E hQ hT => ?_)
  refine ww_aload_n 2 dX0_setShare_0 rfl ?_
  refine ww_iconst dX0_setShare_1 ?_
  refine ww_aload_n 0 dX0_setShare_2 rfl ?_
  refine ww_iload_n 1 dX0_setShare_3 rfl ?_
  refine cx_i (cx_V hCt sv_X0_79 rfl dX0_setShare_4 hx rfl rfl rfl rfl ⟨Nat.le_of_ble_eq_true rfl, Nat.le_of_ble_eq_true rfl⟩ (Nat.le_of_ble_eq_true rfl) (by show 0 + mc ≤ mc; omega) (by show 0 + ms ≤ ms; omega)) (fun X_4 q_4 g_4 hx_4 => ?_) (fun r_4 h_4 hp_4 => ?_)
  · have eX := hxn _ _ _ hx_4
    subst eX
    refine wq_catch hT rfl rfl (by decide) q1228 rfl q283 ?_
    refine ww_astore_n [(3, _), (0, _), (1, _), (2, _)] dX0_setShare_12 (Nat.le_of_ble_eq_true rfl) rfl ?_
    refine ww_iconst dX0_setShare_13 ?_
    exact ww_x hQ (ww_iret rfl dX0_setShare_14 rfl (by show 0 + mc ≤ mc; omega) (by show 0 + ms ≤ ms; omega) ⟨_, rfl, Or.inr (Or.inl ⟨rfl, _, hx_4⟩)⟩)
  · obtain ⟨hzi, ho⟩ := hpi _ _ hp_4
    refine ww_i2l dX0_setShare_7 hzi ?_
    refine ww_last dX0_setShare_8 ho ho0 (by decide) (by decide) (by decide) ?_
    refine ww_goto 15 dX0_setShare_9 (by decide) ?_
    refine ww_iconst dX0_setShare_15 ?_
    exact ww_x hQ (ww_iret rfl dX0_setShare_16 rfl (by show 0 + mc ≤ mc; omega) (by show 0 + ms ≤ ms; omega) ⟨_, rfl, Or.inl ⟨rfl, _, _, hp_4, hset_s, KT.of ho⟩⟩)
