/-! ===== bit rows ===== -/
set_option maxRecDepth 100000
theorem bt_s : ∀ n, n < 32 → ((nI n &&& 31).toBitVec.smod 32).toNat = n := by decide
theorem bt_nat (n : Nat) : iI (n : Int) = nI n := (iI_nat n).symm
theorem bt_or (a b : Nat) : nI a ||| nI b = nI (a ||| b) := Int32.toBitVec_inj.1 (by simp [nI, BitVec.ofNat_or])
section BT
variable {G : GT} {E : ET} {M : MT} {h : AH} {n k pc : Nat} {L : List (Nat × Value)} {st : List Value}
theorem ww_ishr {a b : Nat} (d : decode (mcc M) pc = .ok (.ishr, 1)) (ha : a < 2 ^ 31) (hb : b < 32) (kk : WW G E M h n k (pc + 1) L (.int (iI ((a / 2 ^ b : Nat) : Int)) :: st)) : WW G E M h n k pc L (.int (iI (b : Int)) :: .int (iI (a : Int)) :: st) := by
  intro hE H locs ls hR hS hl
  refine lv_ishr hE.x hE.b d ?_
  rw [bt_nat, bt_nat, pk_shrN ha _ b (bt_s b hb), ← bt_nat]
  exact kk hE H locs ls hR hS hl
theorem ww_ishl {a b : Nat} (d : decode (mcc M) pc = .ok (.ishl, 1)) (hb : b < 32) (hab : a * 2 ^ b < 2 ^ 32) (kk : WW G E M h n k (pc + 1) L (.int (iI ((a * 2 ^ b : Nat) : Int)) :: st)) : WW G E M h n k pc L (.int (iI (b : Int)) :: .int (iI (a : Int)) :: st) := by
  intro hE H locs ls hR hS hl
  refine lv_ishl hE.x hE.b d ?_
  rw [bt_nat, bt_nat, pk_shlN _ b (bt_s b hb) hab, ← bt_nat]
  exact kk hE H locs ls hR hS hl
theorem ww_iand {a m : Nat} {c : Int} (d : decode (mcc M) pc = .ok (.iand, 1)) (q : Nat) (hc : (iI c).toBitVec.toNat = 2 ^ q - 1) (ha : a < 2 ^ 32) (kk : WW G E M h n k (pc + 1) L (.int (iI ((a % 2 ^ q : Nat) : Int)) :: st)) : WW G E M h n k pc L (.int (iI c) :: .int (iI (a : Int)) :: st) := by
  intro hE H locs ls hR hS hl
  refine lv_iand hE.x hE.b d ?_
  rw [bt_nat, pk_andN ha q hc, ← bt_nat]
  exact kk hE H locs ls hR hS hl
theorem ww_ior {a b : Nat} (d : decode (mcc M) pc = .ok (.ior, 1)) (kk : WW G E M h n k (pc + 1) L (.int (iI ((a ||| b : Nat) : Int)) :: st)) : WW G E M h n k pc L (.int (iI (b : Int)) :: .int (iI (a : Int)) :: st) := by
  intro hE H locs ls hR hS hl
  refine lv_ior hE.x hE.b d ?_
  rw [bt_nat, bt_nat, bt_or, ← bt_nat]
  exact kk hE H locs ls hR hS hl
theorem bt_toNat {a : Int} : (iI a).toBitVec.toNat = (a % 4294967296).toNat := by
  show (BitVec.ofInt 32 a).toNat = _
  rw [BitVec.toNat_ofInt]
  rfl
theorem ww_ishrI {a : Int} {b : Nat} {c : Int} (hc : c = (b : Int)) (d : decode (mcc M) pc = .ok (.ishr, 1)) (ha : inI a) (hb : b < 32) (kk : WW G E M h n k (pc + 1) L (.int (iI (a / 2 ^ b)) :: st)) : WW G E M h n k pc L (.int (iI c) :: .int (iI a) :: st) := by
  intro hE H locs ls hR hS hl
  subst hc
  refine lv_ishr hE.x hE.b d ?_
  have e : iI a >>> (iI (b : Int) &&& 31) = iI (a / 2 ^ b) := by
    rw [← Int32.toInt_inj, bt_nat, pk_shr _ _ b (bt_s b hb), iI_toInt ha, Int.shiftRight_eq_div_pow]
    have hp : (1 : Int) ≤ 2 ^ b := by
      have h3 : 0 < 2 ^ b := Nat.two_pow_pos b
      have h4 : ((2 ^ b : Nat) : Int) = (2 : Int) ^ b := by simp
      rw [← h4]
      omega
    have h2 : ((2 ^ b : Nat) : Int) = (2 : Int) ^ b := by simp
    have hin : inI (a / 2 ^ b) := by
      have h1 := ha.1
      have h3 := ha.2
      have e1 : a / (2 : Int) ^ b * 2 ^ b ≤ a := Int.ediv_mul_le a (by omega)
      have e2 : a < a / (2 : Int) ^ b * 2 ^ b + 2 ^ b := by
        have q := Int.lt_ediv_add_one_mul_self a (show (0 : Int) < 2 ^ b by omega)
        rw [Int.add_mul, Int.one_mul] at q; exact q
      generalize hq : a / (2 : Int) ^ b = q at e1 e2 ⊢
      generalize (2 : Int) ^ b = p at hp e1 e2
      constructor
      · by_cases hneg : -2147483648 ≤ q
        · exact hneg
        · have : (q + 1) * p ≤ (-2147483648) * 1 := by
            have a1 : (q + 1) * p ≤ (q + 1) * 1 := Int.mul_le_mul_of_nonpos_left (by omega) hp
            omega
          rw [Int.add_mul, Int.one_mul] at this
          omega
      · by_cases hpos : q ≤ 2147483647
        · exact hpos
        · have : (2147483648 : Int) * 1 ≤ q * p := Int.mul_le_mul (by omega) hp (by omega) (by omega)
          omega
    rw [iI_toInt hin, h2]
  rw [e]
  exact kk hE H locs ls hR hS hl
theorem ww_iandI {a c : Int} (d : decode (mcc M) pc = .ok (.iand, 1)) (hc : c = 255) (kk : WW G E M h n k (pc + 1) L (.int (iI (a % 256)) :: st)) : WW G E M h n k pc L (.int (iI c) :: .int (iI a) :: st) := by
  intro hE H locs ls hR hS hl
  subst hc
  refine lv_iand hE.x hE.b d ?_
  have e : iI a &&& iI 255 = iI (a % 256) := by
    rw [pk_and (iI a) (m := iI 255) 8 (by decide), bt_toNat, ← bt_nat]
    congr 1
    omega
  rw [e]
  exact kk hE H locs ls hR hS hl
theorem ww_irem {a b : Int} (d : decode (mcc M) pc = .ok (.irem, 1)) (ha : inI a) (ha0 : 0 ≤ a) (hb : inI b) (hb0 : 0 < b) (kk : WW G E M h n k (pc + 1) L (.int (iI (a % b)) :: st)) : WW G E M h n k pc L (.int (iI b) :: .int (iI a) :: st) := by
  intro hE H locs ls hR hS hl
  refine lv_irem hE.x hE.b d (fun e => ?_) ?_
  · have := (iI_eq hb z0).mp e
    omega
  · have e : iI a / iI b = iI (a.tdiv b) := (Int32.ofInt_tdiv ha.1 ha.2 hb.1 hb.2).symm
    rw [e, iI_mul, iI_sub, Int.tdiv_eq_ediv_of_nonneg ha0]
    have e2 : a - a / b * b = a % b := by rw [Int.emod_def, Int.mul_comm]
    rw [e2]
    exact kk hE H locs ls hR hS hl
end BT
