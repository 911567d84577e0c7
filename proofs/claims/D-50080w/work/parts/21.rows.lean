/-! ===== rows of WW: plain instructions ===== -/
section RWA
variable {G : GT} {E : ET} {M : MT} {h : AH} {n k pc : Nat} {L : List (Nat × Value)} {st : List Value}
theorem ww_iconst {z : Int} (d : decode (mcc M) pc = .ok (.iconst z, 1)) (kk : WW G E M h n k (pc + 1) L (.int (iI z) :: st)) : WW G E M h n k pc L st :=
  fun hE H locs ls hR hS hl => lv_iconst hE.x hE.b d rfl (kk hE H locs ls hR hS hl)
theorem ww_bipush {z : Int} (d : decode (mcc M) pc = .ok (.bipush z, 2)) (hz : (Int8.ofInt z).toInt32 = iI z) (kk : WW G E M h n k (pc + 2) L (.int (iI z) :: st)) : WW G E M h n k pc L st :=
  fun hE H locs ls hR hS hl => lv_bipush hE.x hE.b d hz (kk hE H locs ls hR hS hl)
theorem ww_sipush {z : Int} (d : decode (mcc M) pc = .ok (.sipush z, 3)) (hz : (Int16.ofInt z).toInt32 = iI z) (kk : WW G E M h n k (pc + 3) L (.int (iI z) :: st)) : WW G E M h n k pc L st :=
  fun hE H locs ls hR hS hl => lv_sipush hE.x hE.b d hz (kk hE H locs ls hR hS hl)
theorem ww_lconst {z : Fin 2} (zz : Int) (d : decode (mcc M) pc = .ok (.lconst z, 1)) (hz : ((z : Nat) : Int) = zz) (kk : WW G E M h n k (pc + 1) L (.long (lI zz) :: st)) : WW G E M h n k pc L st :=
  fun hE H locs ls hR hS hl => lv_lconst hE.x hE.b d (by rw [← hz]; exact Int64.ofInt_eq_ofNat.symm) (kk hE H locs ls hR hS hl)
theorem ww_ldc {index : Nat} {v : Int32} {z : Int} (hc : Jvm.Cond.constant (my M).cls index v ∈ lw_all) (d : decode (mcc M) pc = .ok (.ldc index, 2)) (hz : v = iI z) (kk : WW G E M h n k (pc + 2) L (.int (iI z) :: st)) : WW G E M h n k pc L st :=
  fun hE H locs ls hR hS hl => lv_ldc hE.x hE.b hE.own (hE.ts _ hc) d (hz ▸ kk hE H locs ls hR hS hl)
theorem ww_ldc2 {index : Nat} {v : Int64} {z : Int} (hc : Jvm.Cond.constantLong (my M).cls index v ∈ lw_all) (d : decode (mcc M) pc = .ok (.ldc2_w index, 3)) (hz : v = lI z) (kk : WW G E M h n k (pc + 3) L (.long (lI z) :: st)) : WW G E M h n k pc L st :=
  fun hE H locs ls hR hS hl => lv_ldc2 hE.x hE.b hE.own (hE.ts _ hc) d (hz ▸ kk hE H locs ls hR hS hl)
theorem ww_null (d : decode (mcc M) pc = .ok (.aconst_null, 1)) (kk : WW G E M h n k (pc + 1) L (.null :: st)) : WW G E M h n k pc L st :=
  fun hE H locs ls hR hS hl => lv_null hE.x hE.b d (kk hE H locs ls hR hS hl)
/-- loads: j is the place in L -/
theorem ww_iload_n {i : Fin 4} {z : Int32} (j : Nat) (d : decode (mcc M) pc = .ok (.iload_n i, 1)) (hj : L[j]? = some ((i : Nat), .int z)) (kk : WW G E M h n k (pc + 1) L (.int z :: st)) : WW G E M h n k pc L st :=
  fun hE H locs ls hR hS hl => lv_iload_n hE.x hE.b d rfl (lv_at hl j hj) (kk hE H locs ls hR hS hl)
theorem ww_iload {i : Nat} {z : Int32} (j : Nat) (d : decode (mcc M) pc = .ok (.iload i, 2)) (hj : L[j]? = some (i, .int z)) (kk : WW G E M h n k (pc + 2) L (.int z :: st)) : WW G E M h n k pc L st :=
  fun hE H locs ls hR hS hl => lv_iload hE.x hE.b d (lv_at hl j hj) (kk hE H locs ls hR hS hl)
theorem ww_lload_n {i : Fin 4} {z : Int64} (j : Nat) (d : decode (mcc M) pc = .ok (.lload_n i, 1)) (hj : L[j]? = some ((i : Nat), .long z)) (kk : WW G E M h n k (pc + 1) L (.long z :: st)) : WW G E M h n k pc L st :=
  fun hE H locs ls hR hS hl => lv_lload_n hE.x hE.b d rfl (lv_at hl j hj) (kk hE H locs ls hR hS hl)
theorem ww_lload {i : Nat} {z : Int64} (j : Nat) (d : decode (mcc M) pc = .ok (.lload i, 2)) (hj : L[j]? = some (i, .long z)) (kk : WW G E M h n k (pc + 2) L (.long z :: st)) : WW G E M h n k pc L st :=
  fun hE H locs ls hR hS hl => lv_lload hE.x hE.b d (lv_at hl j hj) (kk hE H locs ls hR hS hl)
theorem ww_aload_n {i : Fin 4} {a : Nat} (j : Nat) (d : decode (mcc M) pc = .ok (.aload_n i, 1)) (hj : L[j]? = some ((i : Nat), .ref a)) (kk : WW G E M h n k (pc + 1) L (.ref a :: st)) : WW G E M h n k pc L st :=
  fun hE H locs ls hR hS hl => lv_aload_n hE.x hE.b d rfl (lv_at hl j hj) (kk hE H locs ls hR hS hl)
theorem ww_aload {i : Nat} {a : Nat} (j : Nat) (d : decode (mcc M) pc = .ok (.aload i, 2)) (hj : L[j]? = some (i, .ref a)) (kk : WW G E M h n k (pc + 2) L (.ref a :: st)) : WW G E M h n k pc L st :=
  fun hE H locs ls hR hS hl => lv_aload hE.x hE.b d (lv_at hl j hj) (kk hE H locs ls hR hS hl)
theorem ww_aload_nN {i : Fin 4} (j : Nat) (d : decode (mcc M) pc = .ok (.aload_n i, 1)) (hj : L[j]? = some ((i : Nat), .null)) (kk : WW G E M h n k (pc + 1) L (.null :: st)) : WW G E M h n k pc L st :=
  fun hE H locs ls hR hS hl => lv_aload_nN hE.x hE.b d rfl (lv_at hl j hj) (kk hE H locs ls hR hS hl)
theorem ww_aloadN {i : Nat} (j : Nat) (d : decode (mcc M) pc = .ok (.aload i, 2)) (hj : L[j]? = some (i, .null)) (kk : WW G E M h n k (pc + 2) L (.null :: st)) : WW G E M h n k pc L st :=
  fun hE H locs ls hR hS hl => lv_aloadN hE.x hE.b d (lv_at hl j hj) (kk hE H locs ls hR hS hl)
/-- a ref or null, as va_rf -/
theorem ww_aload_nq {i : Fin 4} {r : Option Nat} (j : Nat) (d : decode (mcc M) pc = .ok (.aload_n i, 1)) (hj : L[j]? = some ((i : Nat), va_rf r)) (kk : WW G E M h n k (pc + 1) L (va_rf r :: st)) : WW G E M h n k pc L st := by
  cases r with
  | none => exact ww_aload_nN j d hj kk
  | some a => exact ww_aload_n j d hj kk
theorem ww_aloadq {i : Nat} {r : Option Nat} (j : Nat) (d : decode (mcc M) pc = .ok (.aload i, 2)) (hj : L[j]? = some (i, va_rf r)) (kk : WW G E M h n k (pc + 2) L (va_rf r :: st)) : WW G E M h n k pc L st := by
  cases r with
  | none => exact ww_aloadN j d hj kk
  | some a => exact ww_aload j d hj kk
abbrev ls1 (L : List (Nat × Value)) (i : Nat) (v : Value) : List (Nat × Value) := (i, v) :: L.filter (fun q => !(q.1 == i) && !(q.1 + 1 == i && q.2.category == 2))
abbrev ls2 (L : List (Nat × Value)) (i : Nat) (v : Value) : List (Nat × Value) := (i, v) :: L.filter (fun q => !(q.1 == i) && (!(q.1 == i + 1) && !(q.1 + 1 == i && q.2.category == 2)))
theorem ww_istore_n {i : Fin 4} {x : Int32} (L' : List (Nat × Value)) (d : decode (mcc M) pc = .ok (.istore_n i, 1)) (hn : (i : Nat) < mnL M) (hl' : ls1 L i (.int x) = L') (kk : WW G E M h n k (pc + 1) L' st) : WW G E M h n k pc L (.int x :: st) :=
  fun hE H locs ls hR hS hl => lv_istore_n hE.x hE.b d rfl hl hn hl' (fun ls' hl2 => kk hE H locs ls' hR hS hl2)
theorem ww_istore {i : Nat} {x : Int32} (L' : List (Nat × Value)) (d : decode (mcc M) pc = .ok (.istore i, 2)) (hn : i < mnL M) (hl' : ls1 L i (.int x) = L') (kk : WW G E M h n k (pc + 2) L' st) : WW G E M h n k pc L (.int x :: st) :=
  fun hE H locs ls hR hS hl => lv_istore hE.x hE.b d hl hn hl' (fun ls' hl2 => kk hE H locs ls' hR hS hl2)
theorem ww_lstore_n {i : Fin 4} {x : Int64} (L' : List (Nat × Value)) (d : decode (mcc M) pc = .ok (.lstore_n i, 1)) (hn : (i : Nat) + 1 < mnL M) (hl' : ls2 L i (.long x) = L') (kk : WW G E M h n k (pc + 1) L' st) : WW G E M h n k pc L (.long x :: st) :=
  fun hE H locs ls hR hS hl => lv_lstore_n hE.x hE.b d rfl hl hn hl' (fun ls' hl2 => kk hE H locs ls' hR hS hl2)
theorem ww_lstore {i : Nat} {x : Int64} (L' : List (Nat × Value)) (d : decode (mcc M) pc = .ok (.lstore i, 2)) (hn : i + 1 < mnL M) (hl' : ls2 L i (.long x) = L') (kk : WW G E M h n k (pc + 2) L' st) : WW G E M h n k pc L (.long x :: st) :=
  fun hE H locs ls hR hS hl => lv_lstore hE.x hE.b d hl hn hl' (fun ls' hl2 => kk hE H locs ls' hR hS hl2)
theorem ww_astore_n {i : Fin 4} {x : Nat} (L' : List (Nat × Value)) (d : decode (mcc M) pc = .ok (.astore_n i, 1)) (hn : (i : Nat) < mnL M) (hl' : ls1 L i (.ref x) = L') (kk : WW G E M h n k (pc + 1) L' st) : WW G E M h n k pc L (.ref x :: st) :=
  fun hE H locs ls hR hS hl => lv_astore_n hE.x hE.b d rfl hl hn hl' (fun ls' hl2 => kk hE H locs ls' hR hS hl2)
theorem ww_astore {i : Nat} {x : Nat} (L' : List (Nat × Value)) (d : decode (mcc M) pc = .ok (.astore i, 2)) (hn : i < mnL M) (hl' : ls1 L i (.ref x) = L') (kk : WW G E M h n k (pc + 2) L' st) : WW G E M h n k pc L (.ref x :: st) :=
  fun hE H locs ls hR hS hl => lv_astore hE.x hE.b d hl hn hl' (fun ls' hl2 => kk hE H locs ls' hR hS hl2)
theorem ww_astore_nN {i : Fin 4} (L' : List (Nat × Value)) (d : decode (mcc M) pc = .ok (.astore_n i, 1)) (hn : (i : Nat) < mnL M) (hl' : ls1 L i .null = L') (kk : WW G E M h n k (pc + 1) L' st) : WW G E M h n k pc L (.null :: st) :=
  fun hE H locs ls hR hS hl => lv_astore_nN hE.x hE.b d rfl hl hn hl' (fun ls' hl2 => kk hE H locs ls' hR hS hl2)
theorem ww_astoreN {i : Nat} (L' : List (Nat × Value)) (d : decode (mcc M) pc = .ok (.astore i, 2)) (hn : i < mnL M) (hl' : ls1 L i .null = L') (kk : WW G E M h n k (pc + 2) L' st) : WW G E M h n k pc L (.null :: st) :=
  fun hE H locs ls hR hS hl => lv_astoreN hE.x hE.b d hl hn hl' (fun ls' hl2 => kk hE H locs ls' hR hS hl2)
theorem ww_astore_nq {i : Fin 4} {r : Option Nat} (L' : List (Nat × Value)) (d : decode (mcc M) pc = .ok (.astore_n i, 1)) (hn : (i : Nat) < mnL M) (hl' : ls1 L i (va_rf r) = L') (kk : WW G E M h n k (pc + 1) L' st) : WW G E M h n k pc L (va_rf r :: st) := by
  cases r with
  | none => exact ww_astore_nN L' d hn hl' kk
  | some a => exact ww_astore_n L' d hn hl' kk
theorem ww_astoreq {i : Nat} {r : Option Nat} (L' : List (Nat × Value)) (d : decode (mcc M) pc = .ok (.astore i, 2)) (hn : i < mnL M) (hl' : ls1 L i (va_rf r) = L') (kk : WW G E M h n k (pc + 2) L' st) : WW G E M h n k pc L (va_rf r :: st) := by
  cases r with
  | none => exact ww_astoreN L' d hn hl' kk
  | some a => exact ww_astore L' d hn hl' kk
theorem ww_iinc {i j : Nat} {c z : Int} (L' : List (Nat × Value)) (d : decode (mcc M) pc = .ok (.iinc i c, 3)) (hj : L[j]? = some (i, .int (iI z))) (hn : i < mnL M) (hl' : ls1 L i (.int (iI (z + c))) = L') (kk : WW G E M h n k (pc + 3) L' st) : WW G E M h n k pc L st :=
  fun hE H locs ls hR hS hl => lv_iinc hE.x hE.b d hl hj (iI_add z c) hn hl' (fun ls' hl2 => kk hE H locs ls' hR hS hl2)
theorem ww_iadd {a b : Int} (d : decode (mcc M) pc = .ok (.iadd, 1)) (kk : WW G E M h n k (pc + 1) L (.int (iI (a + b)) :: st)) : WW G E M h n k pc L (.int (iI b) :: .int (iI a) :: st) :=
  fun hE H locs ls hR hS hl => lv_iadd hE.x hE.b d (by rw [iI_add]; exact kk hE H locs ls hR hS hl)
theorem ww_isub {a b : Int} (d : decode (mcc M) pc = .ok (.isub, 1)) (kk : WW G E M h n k (pc + 1) L (.int (iI (a - b)) :: st)) : WW G E M h n k pc L (.int (iI b) :: .int (iI a) :: st) :=
  fun hE H locs ls hR hS hl => lv_isub hE.x hE.b d (by rw [iI_sub]; exact kk hE H locs ls hR hS hl)
theorem ww_imul {a b : Int} (d : decode (mcc M) pc = .ok (.imul, 1)) (kk : WW G E M h n k (pc + 1) L (.int (iI (a * b)) :: st)) : WW G E M h n k pc L (.int (iI b) :: .int (iI a) :: st) :=
  fun hE H locs ls hR hS hl => lv_imul hE.x hE.b d (by rw [iI_mul]; exact kk hE H locs ls hR hS hl)
theorem ww_ladd {a b : Int} (d : decode (mcc M) pc = .ok (.ladd, 1)) (kk : WW G E M h n k (pc + 1) L (.long (lI (a + b)) :: st)) : WW G E M h n k pc L (.long (lI b) :: .long (lI a) :: st) :=
  fun hE H locs ls hR hS hl => lv_ladd hE.x hE.b d (by rw [lI_add]; exact kk hE H locs ls hR hS hl)
theorem ww_lsub {a b : Int} (d : decode (mcc M) pc = .ok (.lsub, 1)) (kk : WW G E M h n k (pc + 1) L (.long (lI (a - b)) :: st)) : WW G E M h n k pc L (.long (lI b) :: .long (lI a) :: st) :=
  fun hE H locs ls hR hS hl => lv_lsub hE.x hE.b d (by rw [lI_sub]; exact kk hE H locs ls hR hS hl)
theorem ww_lmul {a b : Int} (d : decode (mcc M) pc = .ok (.lmul, 1)) (kk : WW G E M h n k (pc + 1) L (.long (lI (a * b)) :: st)) : WW G E M h n k pc L (.long (lI b) :: .long (lI a) :: st) :=
  fun hE H locs ls hR hS hl => lv_lmul hE.x hE.b d (by rw [lI_mul]; exact kk hE H locs ls hR hS hl)
theorem ww_i2l {a : Int} (d : decode (mcc M) pc = .ok (.i2l, 1)) (ha : inI a) (kk : WW G E M h n k (pc + 1) L (.long (lI a) :: st)) : WW G E M h n k pc L (.int (iI a) :: st) :=
  fun hE H locs ls hR hS hl => lv_i2l hE.x hE.b d (iI_l ha) (kk hE H locs ls hR hS hl)
theorem ww_l2i {a : Int} (d : decode (mcc M) pc = .ok (.l2i, 1)) (kk : WW G E M h n k (pc + 1) L (.int (iI a) :: st)) : WW G E M h n k pc L (.long (lI a) :: st) :=
  fun hE H locs ls hR hS hl => lv_l2i hE.x hE.b d (lI_i a) (kk hE H locs ls hR hS hl)
theorem ww_dup {v : Value} (d : decode (mcc M) pc = .ok (.dup, 1)) (hv : v.category = 1) (kk : WW G E M h n k (pc + 1) L (v :: v :: st)) : WW G E M h n k pc L (v :: st) :=
  fun hE H locs ls hR hS hl => lv_dup hE.x hE.b d hv (kk hE H locs ls hR hS hl)
theorem ww_pop {v : Value} (d : decode (mcc M) pc = .ok (.pop, 1)) (hv : v.category = 1) (kk : WW G E M h n k (pc + 1) L st) : WW G E M h n k pc L (v :: st) :=
  fun hE H locs ls hR hS hl => lv_pop hE.x hE.b d hv (kk hE H locs ls hR hS hl)
theorem ww_dup_x1 {v w : Value} (d : decode (mcc M) pc = .ok (.dup_x1, 1)) (hv : v.category = 1) (hw : w.category = 1) (kk : WW G E M h n k (pc + 1) L (v :: w :: v :: st)) : WW G E M h n k pc L (v :: w :: st) :=
  fun hE H locs ls hR hS hl => lv_dup_x1 hE.x hE.b d hv hw (kk hE H locs ls hR hS hl)
theorem ww_dup2 {v w : Value} (d : decode (mcc M) pc = .ok (.dup2, 1)) (hv : v.category = 1) (hw : w.category = 1) (kk : WW G E M h n k (pc + 1) L (v :: w :: v :: w :: st)) : WW G E M h n k pc L (v :: w :: st) :=
  fun hE H locs ls hR hS hl => lv_dup2_11 hE.x hE.b d hv hw (kk hE H locs ls hR hS hl)
theorem ww_goto {off : Int} (tgt : Nat) (d : decode (mcc M) pc = .ok (.goto off, 3)) (ht : (pc : Int) + off = (tgt : Int)) (kk : WW G E M h n k tgt L st) : WW G E M h n k pc L st :=
  fun hE H locs ls hR hS hl => lv_goto hE.x hE.b d ht (kk hE H locs ls hR hS hl)
/-- branches -/
theorem z0 : inI 0 := ⟨by decide, by decide⟩
theorem ww_if_eq {off a : Int} (tgt : Nat) (d : decode (mcc M) pc = .ok (.ifCond .eq off, 3)) (ht : (pc : Int) + off = (tgt : Int)) (ha : inI a) (kt : a = 0 → WW G E M h n k tgt L st) (kf : ¬ a = 0 → WW G E M h n k (pc + 3) L st) : WW G E M h n k pc L (.int (iI a) :: st) :=
  fun hE H locs ls hR hS hl => lv_if_eq hE.x hE.b d ht (fun c => kt ((iI_eq ha z0).mp c) hE H locs ls hR hS hl) (fun c => kf (fun z => c ((iI_eq ha z0).mpr z)) hE H locs ls hR hS hl)
theorem ww_icmp_eq {off a b : Int} (tgt : Nat) (d : decode (mcc M) pc = .ok (.if_icmp .eq off, 3)) (ht : (pc : Int) + off = (tgt : Int)) (ha : inI a) (hb : inI b) (kt : a = b → WW G E M h n k tgt L st) (kf : ¬ a = b → WW G E M h n k (pc + 3) L st) : WW G E M h n k pc L (.int (iI b) :: .int (iI a) :: st) :=
  fun hE H locs ls hR hS hl => lv_icmp_eq hE.x hE.b d ht (fun c => kt ((iI_eq ha hb).mp c) hE H locs ls hR hS hl) (fun c => kf (fun z => c ((iI_eq ha hb).mpr z)) hE H locs ls hR hS hl)
theorem ww_if_ne {off a : Int} (tgt : Nat) (d : decode (mcc M) pc = .ok (.ifCond .ne off, 3)) (ht : (pc : Int) + off = (tgt : Int)) (ha : inI a) (kt : ¬ a = 0 → WW G E M h n k tgt L st) (kf : a = 0 → WW G E M h n k (pc + 3) L st) : WW G E M h n k pc L (.int (iI a) :: st) :=
  fun hE H locs ls hR hS hl => lv_if_ne hE.x hE.b d ht (fun c => kt (fun z => c ((iI_eq ha z0).mpr z)) hE H locs ls hR hS hl) (fun c => kf ((iI_eq ha z0).mp c) hE H locs ls hR hS hl)
theorem ww_icmp_ne {off a b : Int} (tgt : Nat) (d : decode (mcc M) pc = .ok (.if_icmp .ne off, 3)) (ht : (pc : Int) + off = (tgt : Int)) (ha : inI a) (hb : inI b) (kt : ¬ a = b → WW G E M h n k tgt L st) (kf : a = b → WW G E M h n k (pc + 3) L st) : WW G E M h n k pc L (.int (iI b) :: .int (iI a) :: st) :=
  fun hE H locs ls hR hS hl => lv_icmp_ne hE.x hE.b d ht (fun c => kt (fun z => c ((iI_eq ha hb).mpr z)) hE H locs ls hR hS hl) (fun c => kf ((iI_eq ha hb).mp c) hE H locs ls hR hS hl)
theorem ww_if_lt {off a : Int} (tgt : Nat) (d : decode (mcc M) pc = .ok (.ifCond .lt off, 3)) (ht : (pc : Int) + off = (tgt : Int)) (ha : inI a) (kt : a < 0 → WW G E M h n k tgt L st) (kf : ¬ a < 0 → WW G E M h n k (pc + 3) L st) : WW G E M h n k pc L (.int (iI a) :: st) :=
  fun hE H locs ls hR hS hl => lv_if_lt hE.x hE.b d ht (fun c => kt ((iI_lt ha z0).mp c) hE H locs ls hR hS hl) (fun c => kf (fun z => c ((iI_lt ha z0).mpr z)) hE H locs ls hR hS hl)
theorem ww_icmp_lt {off a b : Int} (tgt : Nat) (d : decode (mcc M) pc = .ok (.if_icmp .lt off, 3)) (ht : (pc : Int) + off = (tgt : Int)) (ha : inI a) (hb : inI b) (kt : a < b → WW G E M h n k tgt L st) (kf : ¬ a < b → WW G E M h n k (pc + 3) L st) : WW G E M h n k pc L (.int (iI b) :: .int (iI a) :: st) :=
  fun hE H locs ls hR hS hl => lv_icmp_lt hE.x hE.b d ht (fun c => kt ((iI_lt ha hb).mp c) hE H locs ls hR hS hl) (fun c => kf (fun z => c ((iI_lt ha hb).mpr z)) hE H locs ls hR hS hl)
theorem ww_if_ge {off a : Int} (tgt : Nat) (d : decode (mcc M) pc = .ok (.ifCond .ge off, 3)) (ht : (pc : Int) + off = (tgt : Int)) (ha : inI a) (kt : 0 ≤ a → WW G E M h n k tgt L st) (kf : ¬ 0 ≤ a → WW G E M h n k (pc + 3) L st) : WW G E M h n k pc L (.int (iI a) :: st) :=
  fun hE H locs ls hR hS hl => lv_if_ge hE.x hE.b d ht (fun c => kt ((iI_le z0 ha).mp c) hE H locs ls hR hS hl) (fun c => kf (fun z => c ((iI_le z0 ha).mpr z)) hE H locs ls hR hS hl)
theorem ww_icmp_ge {off a b : Int} (tgt : Nat) (d : decode (mcc M) pc = .ok (.if_icmp .ge off, 3)) (ht : (pc : Int) + off = (tgt : Int)) (ha : inI a) (hb : inI b) (kt : b ≤ a → WW G E M h n k tgt L st) (kf : ¬ b ≤ a → WW G E M h n k (pc + 3) L st) : WW G E M h n k pc L (.int (iI b) :: .int (iI a) :: st) :=
  fun hE H locs ls hR hS hl => lv_icmp_ge hE.x hE.b d ht (fun c => kt ((iI_le hb ha).mp c) hE H locs ls hR hS hl) (fun c => kf (fun z => c ((iI_le hb ha).mpr z)) hE H locs ls hR hS hl)
theorem ww_if_gt {off a : Int} (tgt : Nat) (d : decode (mcc M) pc = .ok (.ifCond .gt off, 3)) (ht : (pc : Int) + off = (tgt : Int)) (ha : inI a) (kt : 0 < a → WW G E M h n k tgt L st) (kf : ¬ 0 < a → WW G E M h n k (pc + 3) L st) : WW G E M h n k pc L (.int (iI a) :: st) :=
  fun hE H locs ls hR hS hl => lv_if_gt hE.x hE.b d ht (fun c => kt ((iI_lt z0 ha).mp c) hE H locs ls hR hS hl) (fun c => kf (fun z => c ((iI_lt z0 ha).mpr z)) hE H locs ls hR hS hl)
theorem ww_icmp_gt {off a b : Int} (tgt : Nat) (d : decode (mcc M) pc = .ok (.if_icmp .gt off, 3)) (ht : (pc : Int) + off = (tgt : Int)) (ha : inI a) (hb : inI b) (kt : b < a → WW G E M h n k tgt L st) (kf : ¬ b < a → WW G E M h n k (pc + 3) L st) : WW G E M h n k pc L (.int (iI b) :: .int (iI a) :: st) :=
  fun hE H locs ls hR hS hl => lv_icmp_gt hE.x hE.b d ht (fun c => kt ((iI_lt hb ha).mp c) hE H locs ls hR hS hl) (fun c => kf (fun z => c ((iI_lt hb ha).mpr z)) hE H locs ls hR hS hl)
theorem ww_if_le {off a : Int} (tgt : Nat) (d : decode (mcc M) pc = .ok (.ifCond .le off, 3)) (ht : (pc : Int) + off = (tgt : Int)) (ha : inI a) (kt : a ≤ 0 → WW G E M h n k tgt L st) (kf : ¬ a ≤ 0 → WW G E M h n k (pc + 3) L st) : WW G E M h n k pc L (.int (iI a) :: st) :=
  fun hE H locs ls hR hS hl => lv_if_le hE.x hE.b d ht (fun c => kt ((iI_le ha z0).mp c) hE H locs ls hR hS hl) (fun c => kf (fun z => c ((iI_le ha z0).mpr z)) hE H locs ls hR hS hl)
theorem ww_icmp_le {off a b : Int} (tgt : Nat) (d : decode (mcc M) pc = .ok (.if_icmp .le off, 3)) (ht : (pc : Int) + off = (tgt : Int)) (ha : inI a) (hb : inI b) (kt : a ≤ b → WW G E M h n k tgt L st) (kf : ¬ a ≤ b → WW G E M h n k (pc + 3) L st) : WW G E M h n k pc L (.int (iI b) :: .int (iI a) :: st) :=
  fun hE H locs ls hR hS hl => lv_icmp_le hE.x hE.b d ht (fun c => kt ((iI_le ha hb).mp c) hE H locs ls hR hS hl) (fun c => kf (fun z => c ((iI_le ha hb).mpr z)) hE H locs ls hR hS hl)
/-- a truth value on the stack -/
def bI (P : Prop) [Decidable P] : Int := if P then 1 else 0
theorem bI_in (P : Prop) [Decidable P] : inI (bI P) := by unfold bI; split <;> exact ⟨by decide, by decide⟩
theorem bI_t {P : Prop} [Decidable P] (h : P) : bI P = 1 := if_pos h
theorem bI_f {P : Prop} [Decidable P] (h : ¬ P) : bI P = 0 := if_neg h
theorem ww_ifb_eq {P : Prop} [Decidable P] {off : Int} (tgt : Nat) (d : decode (mcc M) pc = .ok (.ifCond .eq off, 3)) (ht : (pc : Int) + off = (tgt : Int)) (kt : ¬ P → WW G E M h n k tgt L st) (kf : P → WW G E M h n k (pc + 3) L st) : WW G E M h n k pc L (.int (iI (bI P)) :: st) := by
  refine ww_if_eq tgt d ht (bI_in P) (fun c => kt (fun hp => ?_)) (fun c => kf ?_)
  · rw [bI_t hp] at c; cases c
  · exact Classical.byContradiction fun hn => c (bI_f hn)
theorem ww_ifb_ne {P : Prop} [Decidable P] {off : Int} (tgt : Nat) (d : decode (mcc M) pc = .ok (.ifCond .ne off, 3)) (ht : (pc : Int) + off = (tgt : Int)) (kt : P → WW G E M h n k tgt L st) (kf : ¬ P → WW G E M h n k (pc + 3) L st) : WW G E M h n k pc L (.int (iI (bI P)) :: st) := by
  refine ww_if_ne tgt d ht (bI_in P) (fun c => kt ?_) (fun c => kf (fun hp => ?_))
  · exact Classical.byContradiction fun hn => c (bI_f hn)
  · rw [bI_t hp] at c; cases c
theorem ww_ifnull {x : Nat} {off : Int} (d : decode (mcc M) pc = .ok (.ifnull off, 3)) (kk : WW G E M h n k (pc + 3) L st) : WW G E M h n k pc L (.ref x :: st) :=
  fun hE H locs ls hR hS hl => lv_ifnull hE.x hE.b d (kk hE H locs ls hR hS hl)
theorem ww_ifnullN {off : Int} (tgt : Nat) (d : decode (mcc M) pc = .ok (.ifnull off, 3)) (ht : (pc : Int) + off = (tgt : Int)) (kk : WW G E M h n k tgt L st) : WW G E M h n k pc L (.null :: st) :=
  fun hE H locs ls hR hS hl => lv_ifnullN hE.x hE.b d ht (kk hE H locs ls hR hS hl)
theorem ww_ifnonnull {x : Nat} {off : Int} (tgt : Nat) (d : decode (mcc M) pc = .ok (.ifnonnull off, 3)) (ht : (pc : Int) + off = (tgt : Int)) (kk : WW G E M h n k tgt L st) : WW G E M h n k pc L (.ref x :: st) :=
  fun hE H locs ls hR hS hl => lv_ifnonnull hE.x hE.b d ht (kk hE H locs ls hR hS hl)
theorem ww_ifnonnullN {off : Int} (d : decode (mcc M) pc = .ok (.ifnonnull off, 3)) (kk : WW G E M h n k (pc + 3) L st) : WW G E M h n k pc L (.null :: st) :=
  fun hE H locs ls hR hS hl => lv_ifnonnullN hE.x hE.b d (kk hE H locs ls hR hS hl)
theorem ww_acmp_eq {rx ry : Option Nat} {off : Int} (tgt : Nat) (d : decode (mcc M) pc = .ok (.if_acmp .eq off, 3)) (ht : (pc : Int) + off = (tgt : Int)) (kt : rx = ry → WW G E M h n k tgt L st) (kf : ¬ rx = ry → WW G E M h n k (pc + 3) L st) : WW G E M h n k pc L (va_rf ry :: va_rf rx :: st) :=
  fun hE H locs ls hR hS hl => lv_acmp_eq hE.x hE.b d ht (fun c => kt c hE H locs ls hR hS hl) (fun c => kf c hE H locs ls hR hS hl)
theorem ww_acmp_ne {rx ry : Option Nat} {off : Int} (tgt : Nat) (d : decode (mcc M) pc = .ok (.if_acmp .ne off, 3)) (ht : (pc : Int) + off = (tgt : Int)) (kt : ¬ rx = ry → WW G E M h n k tgt L st) (kf : rx = ry → WW G E M h n k (pc + 3) L st) : WW G E M h n k pc L (va_rf ry :: va_rf rx :: st) :=
  fun hE H locs ls hR hS hl => lv_acmp_ne hE.x hE.b d ht (fun c => kt c hE H locs ls hR hS hl) (fun c => kf c hE H locs ls hR hS hl)
/-- the three answers of lcmp -/
def cI (a b : Int) : Int := if b < a then 1 else if a < b then -1 else 0
theorem cI_in (a b : Int) : inI (cI a b) := by unfold cI; split <;> (try split) <;> exact ⟨by decide, by decide⟩
theorem ww_lcmp {a b : Int} (d : decode (mcc M) pc = .ok (.lcmp, 1)) (ha : inL a) (hb : inL b) (kk : WW G E M h n k (pc + 1) L (.int (iI (cI a b)) :: st)) : WW G E M h n k pc L (.long (lI b) :: .long (lI a) :: st) := by
  intro hE H locs ls hR hS hl
  refine W.lcmp hE.x hE.b d ?_
  have e : lg_cmp (lI a) (lI b) = iI (cI a b) := by
    unfold lg_cmp cI
    by_cases h1 : b < a
    · have : ¬ a < b := by omega
      simp [lI_lt, ha, hb, h1, this]; rfl
    · by_cases h2 : a < b
      · have h3 : ¬ a = b := by omega
        simp [lI_lt, lI_eq, ha, hb, h1, h2, h3]; rfl
      · have h3 : a = b := by omega
        simp [lI_lt, lI_eq, ha, hb, h1, h2, h3]; rfl
  rw [e]
  exact kk hE H locs ls hR hS hl
/-- lcmp and the branch behind it, in one -/
theorem cI_iff (a b : Int) : (cI a b = 0 ↔ a = b) ∧ (cI a b < 0 ↔ a < b) ∧ (0 ≤ cI a b ↔ b ≤ a) ∧ (0 < cI a b ↔ b < a) ∧ (cI a b ≤ 0 ↔ a ≤ b) := by
  unfold cI
  split
  · simp; omega
  · split
    · simp; omega
    · simp; omega
theorem ww_lif_eq {off a b : Int} (tgt : Nat) (d1 : decode (mcc M) pc = .ok (.lcmp, 1)) (d2 : decode (mcc M) (pc + 1) = .ok (.ifCond .eq off, 3)) (ht : ((pc + 1 : Nat) : Int) + off = (tgt : Int)) (ha : inL a) (hb : inL b) (kt : a = b → WW G E M h n k tgt L st) (kf : ¬ a = b → WW G E M h n k (pc + 1 + 3) L st) : WW G E M h n k pc L (.long (lI b) :: .long (lI a) :: st) :=
  ww_lcmp d1 ha hb (ww_if_eq tgt d2 ht (cI_in a b) (fun c => kt ((cI_iff a b).1.mp c)) (fun c => kf (fun z => c ((cI_iff a b).1.mpr z))))
theorem ww_lif_ne {off a b : Int} (tgt : Nat) (d1 : decode (mcc M) pc = .ok (.lcmp, 1)) (d2 : decode (mcc M) (pc + 1) = .ok (.ifCond .ne off, 3)) (ht : ((pc + 1 : Nat) : Int) + off = (tgt : Int)) (ha : inL a) (hb : inL b) (kt : ¬ a = b → WW G E M h n k tgt L st) (kf : a = b → WW G E M h n k (pc + 1 + 3) L st) : WW G E M h n k pc L (.long (lI b) :: .long (lI a) :: st) :=
  ww_lcmp d1 ha hb (ww_if_ne tgt d2 ht (cI_in a b) (fun c => kt (fun z => c ((cI_iff a b).1.mpr z))) (fun c => kf ((cI_iff a b).1.mp c)))
theorem ww_lif_lt {off a b : Int} (tgt : Nat) (d1 : decode (mcc M) pc = .ok (.lcmp, 1)) (d2 : decode (mcc M) (pc + 1) = .ok (.ifCond .lt off, 3)) (ht : ((pc + 1 : Nat) : Int) + off = (tgt : Int)) (ha : inL a) (hb : inL b) (kt : a < b → WW G E M h n k tgt L st) (kf : ¬ a < b → WW G E M h n k (pc + 1 + 3) L st) : WW G E M h n k pc L (.long (lI b) :: .long (lI a) :: st) :=
  ww_lcmp d1 ha hb (ww_if_lt tgt d2 ht (cI_in a b) (fun c => kt ((cI_iff a b).2.1.mp c)) (fun c => kf (fun z => c ((cI_iff a b).2.1.mpr z))))
theorem ww_lif_ge {off a b : Int} (tgt : Nat) (d1 : decode (mcc M) pc = .ok (.lcmp, 1)) (d2 : decode (mcc M) (pc + 1) = .ok (.ifCond .ge off, 3)) (ht : ((pc + 1 : Nat) : Int) + off = (tgt : Int)) (ha : inL a) (hb : inL b) (kt : b ≤ a → WW G E M h n k tgt L st) (kf : ¬ b ≤ a → WW G E M h n k (pc + 1 + 3) L st) : WW G E M h n k pc L (.long (lI b) :: .long (lI a) :: st) :=
  ww_lcmp d1 ha hb (ww_if_ge tgt d2 ht (cI_in a b) (fun c => kt ((cI_iff a b).2.2.1.mp c)) (fun c => kf (fun z => c ((cI_iff a b).2.2.1.mpr z))))
theorem ww_lif_gt {off a b : Int} (tgt : Nat) (d1 : decode (mcc M) pc = .ok (.lcmp, 1)) (d2 : decode (mcc M) (pc + 1) = .ok (.ifCond .gt off, 3)) (ht : ((pc + 1 : Nat) : Int) + off = (tgt : Int)) (ha : inL a) (hb : inL b) (kt : b < a → WW G E M h n k tgt L st) (kf : ¬ b < a → WW G E M h n k (pc + 1 + 3) L st) : WW G E M h n k pc L (.long (lI b) :: .long (lI a) :: st) :=
  ww_lcmp d1 ha hb (ww_if_gt tgt d2 ht (cI_in a b) (fun c => kt ((cI_iff a b).2.2.2.1.mp c)) (fun c => kf (fun z => c ((cI_iff a b).2.2.2.1.mpr z))))
theorem ww_lif_le {off a b : Int} (tgt : Nat) (d1 : decode (mcc M) pc = .ok (.lcmp, 1)) (d2 : decode (mcc M) (pc + 1) = .ok (.ifCond .le off, 3)) (ht : ((pc + 1 : Nat) : Int) + off = (tgt : Int)) (ha : inL a) (hb : inL b) (kt : a ≤ b → WW G E M h n k tgt L st) (kf : ¬ a ≤ b → WW G E M h n k (pc + 1 + 3) L st) : WW G E M h n k pc L (.long (lI b) :: .long (lI a) :: st) :=
  ww_lcmp d1 ha hb (ww_if_le tgt d2 ht (cI_in a b) (fun c => kt ((cI_iff a b).2.2.2.2.mp c)) (fun c => kf (fun z => c ((cI_iff a b).2.2.2.2.mpr z))))
theorem ww_ldiv {a b : Int} (d : decode (mcc M) pc = .ok (.ldiv, 1)) (ha : inL a) (hb : inL b) (h0 : b ≠ 0) (kk : WW G E M h n k (pc + 1) L (.long (lI (a.tdiv b)) :: st)) : WW G E M h n k pc L (.long (lI b) :: .long (lI a) :: st) := by
  intro hE H locs ls hR hS hl
  refine lv_ldiv hE.x hE.b d (fun e => h0 ((lI_eq hb ⟨by decide, by decide⟩).mp e)) ?_
  have e : lI a / lI b = lI (a.tdiv b) := (Int64.ofInt_tdiv ha.1 ha.2 hb.1 hb.2).symm
  rw [e]
  exact kk hE H locs ls hR hS hl
theorem ww_widen {n' k' : Nat} (h1 : n ≤ n') (h2 : k ≤ k') (kk : WW G E M h n' k' pc L st) : WW G E M h n k pc L st :=
  fun hE H locs ls hR hS hl => W.widen h1 h2 (kk hE H locs ls hR hS hl)
theorem ww_pc {pc' : Nat} (e : pc = pc') (kk : WW G E M h n k pc' L st) : WW G E M h n k pc L st := e ▸ kk
/-- forget locals: by places -/
theorem ww_sub {L' : List (Nat × Value)} (ks : List Nat) (hl' : lv_pick L ks = L') (kk : WW G E M h n k pc L' st) : WW G E M h n k pc L st :=
  fun hE H locs ls hR hS hl => kk hE H locs ls hR hS (lv_sub hl ks hl')
/-- ends -/
theorem ww_iret {post : Option Value → AH → Prop} {v : Int32} (hQ : EQ G E M post) (d : decode (mcc M) pc = .ok (.ireturn, 1)) (hr : mret M = some .int) (hn : n ≤ mmc M) (hk : k ≤ mms M) (hp : post (some (.int v)) h) : WW G E M h n k pc L [.int v] := by
  intro hE H locs ls hR hS hl
  rw [hQ]
  exact W.widen hn hk (W.iret hE.x hE.b (hE.r.trans hr) (fun t ht _ => ⟨_, h, rfl, by rw [ht]; exact hR, hp⟩) hS d hE.lk)
theorem ww_zret {post : Option Value → AH → Prop} {z : Int} (hQ : EQ G E M post) (d : decode (mcc M) pc = .ok (.ireturn, 1)) (hr : mret M = some .boolean) (hn : n ≤ mmc M) (hk : k ≤ mms M) (hz : z = 0 ∨ z = 1) (hp : post (some (.int (iI z))) h) : WW G E M h n k pc L [.int (iI z)] := by
  intro hE H locs ls hR hS hl
  rw [hQ]
  exact W.widen hn hk (W.zret hE.x hE.b (hE.r.trans hr) (by rcases hz with rfl | rfl <;> rfl) (fun t ht _ => ⟨_, h, rfl, by rw [ht]; exact hR, hp⟩) hS d hE.lk)
theorem ww_lret {post : Option Value → AH → Prop} {v : Int64} (hQ : EQ G E M post) (d : decode (mcc M) pc = .ok (.lreturn, 1)) (hr : mret M = some .long) (hn : n ≤ mmc M) (hk : k ≤ mms M) (hp : post (some (.long v)) h) : WW G E M h n k pc L [.long v] := by
  intro hE H locs ls hR hS hl
  rw [hQ]
  exact W.widen hn hk (W.lret hE.x hE.b (hE.r.trans hr) (fun t ht _ => ⟨_, h, rfl, by rw [ht]; exact hR, hp⟩) hS d hE.lk)
theorem ww_vret {post : Option Value → AH → Prop} (hQ : EQ G E M post) (d : decode (mcc M) pc = .ok (.return_, 1)) (hr : mret M = none) (hn : n ≤ mmc M) (hk : k ≤ mms M) (hp : post none h) : WW G E M h n k pc L [] := by
  intro hE H locs ls hR hS hl
  rw [hQ]
  exact W.widen hn hk (W.vret hE.x hE.b (hE.r.trans hr) (fun t ht _ => ⟨_, h, rfl, by rw [ht]; exact hR, hp⟩) hS d hE.lk)
end RWA
