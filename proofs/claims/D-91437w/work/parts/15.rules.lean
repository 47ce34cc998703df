/-! CORE 6: rules, printed by gen/mk_rules.py -/
section OX1
variable {G : OhG} {d : Nat} {Y : OhM} {pc : Nat} {ls : List (Nat × OhV)} {st : List OhV} {h : OhH} {k : Nat × Nat} {Φ : OhP} {Ψ : OhX}
theorem oX_bipush {i : Int} {v : Int32} (dc : decode Y.2.1 pc = .ok (.bipush i, 2)) (hv : (Int8.ofInt i).toInt32 = v) (kk : oX G d Y (pc + 2) ls (vI v :: st) h k Φ Ψ) : oX G d Y pc ls st h k Φ Ψ :=
  oX_st (fun H => oW_i H) (fun ad _ _ _ _ _ _ _ _ _ _ _ _ _ _ _ B w => lv_bipush B.1 B.2.1 dc hv w) kk
theorem oX_sipush {i : Int} {v : Int32} (dc : decode Y.2.1 pc = .ok (.sipush i, 3)) (hv : (Int16.ofInt i).toInt32 = v) (kk : oX G d Y (pc + 3) ls (vI v :: st) h k Φ Ψ) : oX G d Y pc ls st h k Φ Ψ :=
  oX_st (fun H => oW_i H) (fun ad _ _ _ _ _ _ _ _ _ _ _ _ _ _ _ B w => lv_sipush B.1 B.2.1 dc hv w) kk
theorem oX_lconst {i : Fin 2} {v : Int64} (dc : decode Y.2.1 pc = .ok (.lconst i, 1)) (hv : Int64.ofNat (i : Nat) = v) (kk : oX G d Y (pc + 1) ls (vL v :: st) h k Φ Ψ) : oX G d Y pc ls st h k Φ Ψ :=
  oX_st (fun H => oW_l H) (fun ad _ _ _ _ _ _ _ _ _ _ _ _ _ _ _ B w => lv_lconst B.1 B.2.1 dc hv w) kk
theorem oX_ldc {i : Nat} {v : Int32} (hq : Cond.constant Y.1.cls i v ∈ lw_all) (dc : decode Y.2.1 pc = .ok (.ldc i, 2)) (kk : oX G d Y (pc + 2) ls (vI v :: st) h k Φ Ψ) : oX G d Y pc ls st h k Φ Ψ :=
  oX_st (fun H => oW_i H) (fun ad _ _ _ _ _ _ _ _ _ _ _ _ _ _ _ B w => lv_ldc B.1 B.2.1 B.2.2.2.2.2.1 (B.2.2.2.2.2.2.1 _ hq) dc w) kk
theorem oX_ldcw {i : Nat} {v : Int32} (hq : Cond.constant Y.1.cls i v ∈ lw_all) (dc : decode Y.2.1 pc = .ok (.ldc_w i, 3)) (kk : oX G d Y (pc + 3) ls (vI v :: st) h k Φ Ψ) : oX G d Y pc ls st h k Φ Ψ :=
  oX_st (fun H => oW_i H) (fun ad _ _ _ _ _ _ _ _ _ _ _ _ _ _ _ B w => lv_ldcw B.1 B.2.1 B.2.2.2.2.2.1 (B.2.2.2.2.2.2.1 _ hq) dc w) kk
theorem oX_ldc2 {i : Nat} {v : Int64} (hq : Cond.constantLong Y.1.cls i v ∈ lw_all) (dc : decode Y.2.1 pc = .ok (.ldc2_w i, 3)) (kk : oX G d Y (pc + 3) ls (vL v :: st) h k Φ Ψ) : oX G d Y pc ls st h k Φ Ψ :=
  oX_st (fun H => oW_l H) (fun ad _ _ _ _ _ _ _ _ _ _ _ _ _ _ _ B w => lv_ldc2 B.1 B.2.1 B.2.2.2.2.2.1 (B.2.2.2.2.2.2.1 _ hq) dc w) kk
theorem oX_iadd {x y : Int32} (dc : decode Y.2.1 pc = .ok (.iadd, 1)) (kk : oX G d Y (pc + 1) ls (vI (x + y) :: st) h k Φ Ψ) : oX G d Y pc ls (vI y :: vI x :: st) h k Φ Ψ :=
  oX_st (fun H => oW_i (oW_t (oW_t H))) (fun ad _ _ _ _ _ _ _ _ _ _ _ _ _ _ _ B w => lv_iadd B.1 B.2.1 dc w) kk
theorem oX_isub {x y : Int32} (dc : decode Y.2.1 pc = .ok (.isub, 1)) (kk : oX G d Y (pc + 1) ls (vI (x - y) :: st) h k Φ Ψ) : oX G d Y pc ls (vI y :: vI x :: st) h k Φ Ψ :=
  oX_st (fun H => oW_i (oW_t (oW_t H))) (fun ad _ _ _ _ _ _ _ _ _ _ _ _ _ _ _ B w => lv_isub B.1 B.2.1 dc w) kk
theorem oX_imul {x y : Int32} (dc : decode Y.2.1 pc = .ok (.imul, 1)) (kk : oX G d Y (pc + 1) ls (vI (x * y) :: st) h k Φ Ψ) : oX G d Y pc ls (vI y :: vI x :: st) h k Φ Ψ :=
  oX_st (fun H => oW_i (oW_t (oW_t H))) (fun ad _ _ _ _ _ _ _ _ _ _ _ _ _ _ _ B w => lv_imul B.1 B.2.1 dc w) kk
theorem oX_iand {x y : Int32} (dc : decode Y.2.1 pc = .ok (.iand, 1)) (kk : oX G d Y (pc + 1) ls (vI (x &&& y) :: st) h k Φ Ψ) : oX G d Y pc ls (vI y :: vI x :: st) h k Φ Ψ :=
  oX_st (fun H => oW_i (oW_t (oW_t H))) (fun ad _ _ _ _ _ _ _ _ _ _ _ _ _ _ _ B w => lv_iand B.1 B.2.1 dc w) kk
theorem oX_ior {x y : Int32} (dc : decode Y.2.1 pc = .ok (.ior, 1)) (kk : oX G d Y (pc + 1) ls (vI (x ||| y) :: st) h k Φ Ψ) : oX G d Y pc ls (vI y :: vI x :: st) h k Φ Ψ :=
  oX_st (fun H => oW_i (oW_t (oW_t H))) (fun ad _ _ _ _ _ _ _ _ _ _ _ _ _ _ _ B w => lv_ior B.1 B.2.1 dc w) kk
theorem oX_ixor {x y : Int32} (dc : decode Y.2.1 pc = .ok (.ixor, 1)) (kk : oX G d Y (pc + 1) ls (vI (x ^^^ y) :: st) h k Φ Ψ) : oX G d Y pc ls (vI y :: vI x :: st) h k Φ Ψ :=
  oX_st (fun H => oW_i (oW_t (oW_t H))) (fun ad _ _ _ _ _ _ _ _ _ _ _ _ _ _ _ B w => lv_ixor B.1 B.2.1 dc w) kk
theorem oX_ishl {x y : Int32} (dc : decode Y.2.1 pc = .ok (.ishl, 1)) (kk : oX G d Y (pc + 1) ls (vI (x <<< (y &&& 31)) :: st) h k Φ Ψ) : oX G d Y pc ls (vI y :: vI x :: st) h k Φ Ψ :=
  oX_st (fun H => oW_i (oW_t (oW_t H))) (fun ad _ _ _ _ _ _ _ _ _ _ _ _ _ _ _ B w => lv_ishl B.1 B.2.1 dc w) kk
theorem oX_ishr {x y : Int32} (dc : decode Y.2.1 pc = .ok (.ishr, 1)) (kk : oX G d Y (pc + 1) ls (vI (x >>> (y &&& 31)) :: st) h k Φ Ψ) : oX G d Y pc ls (vI y :: vI x :: st) h k Φ Ψ :=
  oX_st (fun H => oW_i (oW_t (oW_t H))) (fun ad _ _ _ _ _ _ _ _ _ _ _ _ _ _ _ B w => lv_ishr B.1 B.2.1 dc w) kk
theorem oX_idiv {x y : Int32} (dc : decode Y.2.1 pc = .ok (.idiv, 1)) (hne : ¬ y = 0) (kk : oX G d Y (pc + 1) ls (vI (x / y) :: st) h k Φ Ψ) : oX G d Y pc ls (vI y :: vI x :: st) h k Φ Ψ :=
  oX_st (fun H => oW_i (oW_t (oW_t H))) (fun ad _ _ _ _ _ _ _ _ _ _ _ _ _ _ _ B w => lv_idiv B.1 B.2.1 dc hne w) kk
theorem oX_irem {x y : Int32} (dc : decode Y.2.1 pc = .ok (.irem, 1)) (hne : ¬ y = 0) (kk : oX G d Y (pc + 1) ls (vI (x - x / y * y) :: st) h k Φ Ψ) : oX G d Y pc ls (vI y :: vI x :: st) h k Φ Ψ :=
  oX_st (fun H => oW_i (oW_t (oW_t H))) (fun ad _ _ _ _ _ _ _ _ _ _ _ _ _ _ _ B w => lv_irem B.1 B.2.1 dc hne w) kk
theorem oX_iushr {x y : Int32} (dc : decode Y.2.1 pc = .ok (.iushr, 1)) (kk : oX G d Y (pc + 1) ls (vI (x.toUInt32 >>> (y.toUInt32 &&& Int32.toUInt32 31)).toInt32 :: st) h k Φ Ψ) : oX G d Y pc ls (vI y :: vI x :: st) h k Φ Ψ :=
  oX_st (fun H => oW_i (oW_t (oW_t H))) (fun ad _ _ _ _ _ _ _ _ _ _ _ _ _ _ _ B w => lv_iushr B.1 B.2.1 dc rfl w) kk
theorem oX_ineg {x : Int32} (dc : decode Y.2.1 pc = .ok (.ineg, 1)) (kk : oX G d Y (pc + 1) ls (vI (-x) :: st) h k Φ Ψ) : oX G d Y pc ls (vI x :: st) h k Φ Ψ :=
  oX_st (fun H => oW_i (oW_t H)) (fun ad _ _ _ _ _ _ _ _ _ _ _ _ _ _ _ B w => lv_ineg B.1 B.2.1 dc w) kk
theorem oX_i2b {x : Int32} (dc : decode Y.2.1 pc = .ok (.i2b, 1)) (kk : oX G d Y (pc + 1) ls (vI x.toInt8.toInt32 :: st) h k Φ Ψ) : oX G d Y pc ls (vI x :: st) h k Φ Ψ :=
  oX_st (fun H => oW_i (oW_t H)) (fun ad _ _ _ _ _ _ _ _ _ _ _ _ _ _ _ B w => lv_i2b B.1 B.2.1 dc rfl w) kk
theorem oX_i2c {x : Int32} (dc : decode Y.2.1 pc = .ok (.i2c, 1)) (kk : oX G d Y (pc + 1) ls (vI (x.toUInt32 % 65536).toInt32 :: st) h k Φ Ψ) : oX G d Y pc ls (vI x :: st) h k Φ Ψ :=
  oX_st (fun H => oW_i (oW_t H)) (fun ad _ _ _ _ _ _ _ _ _ _ _ _ _ _ _ B w => lv_i2c B.1 B.2.1 dc rfl w) kk
theorem oX_i2l {x : Int32} (dc : decode Y.2.1 pc = .ok (.i2l, 1)) (kk : oX G d Y (pc + 1) ls (vL x.toInt64 :: st) h k Φ Ψ) : oX G d Y pc ls (vI x :: st) h k Φ Ψ :=
  oX_st (fun H => oW_l (oW_t H)) (fun ad _ _ _ _ _ _ _ _ _ _ _ _ _ _ _ B w => lv_i2l B.1 B.2.1 dc rfl w) kk
theorem oX_l2i {x : Int64} (dc : decode Y.2.1 pc = .ok (.l2i, 1)) (kk : oX G d Y (pc + 1) ls (vI x.toInt32 :: st) h k Φ Ψ) : oX G d Y pc ls (vL x :: st) h k Φ Ψ :=
  oX_st (fun H => oW_i (oW_t H)) (fun ad _ _ _ _ _ _ _ _ _ _ _ _ _ _ _ B w => lv_l2i B.1 B.2.1 dc rfl w) kk
theorem oX_lor {x y : Int64} (dc : decode Y.2.1 pc = .ok (.lor, 1)) (kk : oX G d Y (pc + 1) ls (vL (x ||| y) :: st) h k Φ Ψ) : oX G d Y pc ls (vL y :: vL x :: st) h k Φ Ψ :=
  oX_st (fun H => oW_l (oW_t (oW_t H))) (fun ad _ _ _ _ _ _ _ _ _ _ _ _ _ _ _ B w => lv_lor B.1 B.2.1 dc w) kk
theorem oX_lshl {x : Int64} {y : Int32} (dc : decode Y.2.1 pc = .ok (.lshl, 1)) (kk : oX G d Y (pc + 1) ls (vL (x <<< (y.toInt64 &&& 63)) :: st) h k Φ Ψ) : oX G d Y pc ls (vI y :: vL x :: st) h k Φ Ψ :=
  oX_st (fun H => oW_l (oW_t (oW_t H))) (fun ad _ _ _ _ _ _ _ _ _ _ _ _ _ _ _ B w => lv_lshl B.1 B.2.1 dc rfl w) kk
theorem oX_lcmp {x y : Int64} (dc : decode Y.2.1 pc = .ok (.lcmp, 1)) (kk : oX G d Y (pc + 1) ls (vI (lg_cmp x y) :: st) h k Φ Ψ) : oX G d Y pc ls (vL y :: vL x :: st) h k Φ Ψ :=
  oX_st (fun H => oW_i (oW_t (oW_t H))) (fun ad _ _ _ _ _ _ _ _ _ _ _ _ _ _ _ B w => W.lcmp B.1 B.2.1 dc w) kk
def oC1 (a : OhV) : Prop := match a with
  | .inr (.inl _) => False
  | _ => True
theorem oC1_cat {a : OhV} (ha : oC1 a) (ad : Nat → Nat → Nat) : (gVl ad a).category = 1 := by
  rcases a with x | x | r
  · rfl
  · exact ha.elim
  · cases r <;> rfl
theorem oX_dup {a : OhV} (dc : decode Y.2.1 pc = .ok (.dup, 1)) (ha : oC1 a) (kk : oX G d Y (pc + 1) ls (a :: a :: st) h k Φ Ψ) : oX G d Y pc ls (a :: st) h k Φ Ψ :=
  oX_st (fun H => oW_c (oW_h H) H) (fun ad _ _ _ _ _ _ _ _ _ _ _ _ _ _ _ B w => lv_dup B.1 B.2.1 dc (oC1_cat ha ad) w) kk
theorem oX_dup_x1 {a b : OhV} (dc : decode Y.2.1 pc = .ok (.dup_x1, 1)) (ha : oC1 a) (hb : oC1 b) (kk : oX G d Y (pc + 1) ls (a :: b :: a :: st) h k Φ Ψ) : oX G d Y pc ls (a :: b :: st) h k Φ Ψ :=
  oX_st (fun H => oW_c (oW_h H) (oW_c (oW_h (oW_t H)) (oW_c (oW_h H) (oW_t (oW_t H))))) (fun ad _ _ _ _ _ _ _ _ _ _ _ _ _ _ _ B w => lv_dup_x1 B.1 B.2.1 dc (oC1_cat ha ad) (oC1_cat hb ad) w) kk
theorem oX_dup2 {a b : OhV} (dc : decode Y.2.1 pc = .ok (.dup2, 1)) (ha : oC1 a) (hb : oC1 b) (kk : oX G d Y (pc + 1) ls (a :: b :: a :: b :: st) h k Φ Ψ) : oX G d Y pc ls (a :: b :: st) h k Φ Ψ :=
  oX_st (fun H => oW_c (oW_h H) (oW_c (oW_h (oW_t H)) H)) (fun ad _ _ _ _ _ _ _ _ _ _ _ _ _ _ _ B w => lv_dup2_11 B.1 B.2.1 dc (oC1_cat ha ad) (oC1_cat hb ad) w) kk
theorem oX_pop {a : OhV} (dc : decode Y.2.1 pc = .ok (.pop, 1)) (ha : oC1 a) (kk : oX G d Y (pc + 1) ls st h k Φ Ψ) : oX G d Y pc ls (a :: st) h k Φ Ψ :=
  oX_st (fun H => oW_t H) (fun ad _ _ _ _ _ _ _ _ _ _ _ _ _ _ _ B w => lv_pop B.1 B.2.1 dc (oC1_cat ha ad) w) kk
theorem oX_goto {off : Int} {tgt : Nat} (dc : decode Y.2.1 pc = .ok (.goto off, 3)) (ht : (pc : Int) + off = (tgt : Int)) (kk : oX G d Y tgt ls st h k Φ Ψ) : oX G d Y pc ls st h k Φ Ψ :=
  oX_st (fun H => H) (fun ad _ _ _ _ _ _ _ _ _ _ _ _ _ _ _ B w => lv_goto B.1 B.2.1 dc ht w) kk
theorem oX_null (dc : decode Y.2.1 pc = .ok (.aconst_null, 1)) (kk : oX G d Y (pc + 1) ls (vR none :: st) h k Φ Ψ) : oX G d Y pc ls st h k Φ Ψ :=
  oX_st (fun H => oW_r (fun _ h9 => by cases h9) H) (fun ad _ _ _ _ _ _ _ _ _ _ _ _ _ _ _ B w => lv_null B.1 B.2.1 dc w) kk
/-- icmp eq: x = y -/
theorem oX_icmp_eq {x y : Int32} {off : Int} {tgt : Nat} (dc : decode Y.2.1 pc = .ok (.if_icmp .eq off, 3)) (ht : (pc : Int) + off = (tgt : Int)) (k1 : x = y → oX G d Y tgt ls st h k Φ Ψ) (k2 : ¬ (x = y) → oX G d Y (pc + 3) ls st h k Φ Ψ) : oX G d Y pc ls (vI y :: vI x :: st) h k Φ Ψ :=
  oX_br (fun H => oW_t (oW_t H)) (fun ad _ _ _ _ _ _ _ _ _ _ _ _ _ _ _ B w1 w2 => lv_icmp_eq B.1 B.2.1 dc ht w1 w2) k1 k2
/-- if eq: x = 0 -/
theorem oX_if_eq {x : Int32} {off : Int} {tgt : Nat} (dc : decode Y.2.1 pc = .ok (.ifCond .eq off, 3)) (ht : (pc : Int) + off = (tgt : Int)) (k1 : x = 0 → oX G d Y tgt ls st h k Φ Ψ) (k2 : ¬ (x = 0) → oX G d Y (pc + 3) ls st h k Φ Ψ) : oX G d Y pc ls (vI x :: st) h k Φ Ψ :=
  oX_br (fun H => oW_t H) (fun ad _ _ _ _ _ _ _ _ _ _ _ _ _ _ _ B w1 w2 => lv_if_eq B.1 B.2.1 dc ht w1 w2) k1 k2
/-- icmp ne: x = y -/
theorem oX_icmp_ne {x y : Int32} {off : Int} {tgt : Nat} (dc : decode Y.2.1 pc = .ok (.if_icmp .ne off, 3)) (ht : (pc : Int) + off = (tgt : Int)) (k1 : x = y → oX G d Y (pc + 3) ls st h k Φ Ψ) (k2 : ¬ (x = y) → oX G d Y tgt ls st h k Φ Ψ) : oX G d Y pc ls (vI y :: vI x :: st) h k Φ Ψ :=
  oX_br (fun H => oW_t (oW_t H)) (fun ad _ _ _ _ _ _ _ _ _ _ _ _ _ _ _ B w1 w2 => lv_icmp_ne B.1 B.2.1 dc ht w2 w1) k1 k2
/-- if ne: x = 0 -/
theorem oX_if_ne {x : Int32} {off : Int} {tgt : Nat} (dc : decode Y.2.1 pc = .ok (.ifCond .ne off, 3)) (ht : (pc : Int) + off = (tgt : Int)) (k1 : x = 0 → oX G d Y (pc + 3) ls st h k Φ Ψ) (k2 : ¬ (x = 0) → oX G d Y tgt ls st h k Φ Ψ) : oX G d Y pc ls (vI x :: st) h k Φ Ψ :=
  oX_br (fun H => oW_t H) (fun ad _ _ _ _ _ _ _ _ _ _ _ _ _ _ _ B w1 w2 => lv_if_ne B.1 B.2.1 dc ht w2 w1) k1 k2
/-- icmp lt: x < y -/
theorem oX_icmp_lt {x y : Int32} {off : Int} {tgt : Nat} (dc : decode Y.2.1 pc = .ok (.if_icmp .lt off, 3)) (ht : (pc : Int) + off = (tgt : Int)) (k1 : x < y → oX G d Y tgt ls st h k Φ Ψ) (k2 : ¬ (x < y) → oX G d Y (pc + 3) ls st h k Φ Ψ) : oX G d Y pc ls (vI y :: vI x :: st) h k Φ Ψ :=
  oX_br (fun H => oW_t (oW_t H)) (fun ad _ _ _ _ _ _ _ _ _ _ _ _ _ _ _ B w1 w2 => lv_icmp_lt B.1 B.2.1 dc ht w1 w2) k1 k2
/-- if lt: x < 0 -/
theorem oX_if_lt {x : Int32} {off : Int} {tgt : Nat} (dc : decode Y.2.1 pc = .ok (.ifCond .lt off, 3)) (ht : (pc : Int) + off = (tgt : Int)) (k1 : x < 0 → oX G d Y tgt ls st h k Φ Ψ) (k2 : ¬ (x < 0) → oX G d Y (pc + 3) ls st h k Φ Ψ) : oX G d Y pc ls (vI x :: st) h k Φ Ψ :=
  oX_br (fun H => oW_t H) (fun ad _ _ _ _ _ _ _ _ _ _ _ _ _ _ _ B w1 w2 => lv_if_lt B.1 B.2.1 dc ht w1 w2) k1 k2
/-- icmp ge: y ≤ x -/
theorem oX_icmp_ge {x y : Int32} {off : Int} {tgt : Nat} (dc : decode Y.2.1 pc = .ok (.if_icmp .ge off, 3)) (ht : (pc : Int) + off = (tgt : Int)) (k1 : y ≤ x → oX G d Y tgt ls st h k Φ Ψ) (k2 : ¬ (y ≤ x) → oX G d Y (pc + 3) ls st h k Φ Ψ) : oX G d Y pc ls (vI y :: vI x :: st) h k Φ Ψ :=
  oX_br (fun H => oW_t (oW_t H)) (fun ad _ _ _ _ _ _ _ _ _ _ _ _ _ _ _ B w1 w2 => lv_icmp_ge B.1 B.2.1 dc ht w1 w2) k1 k2
/-- if ge: 0 ≤ x -/
theorem oX_if_ge {x : Int32} {off : Int} {tgt : Nat} (dc : decode Y.2.1 pc = .ok (.ifCond .ge off, 3)) (ht : (pc : Int) + off = (tgt : Int)) (k1 : 0 ≤ x → oX G d Y tgt ls st h k Φ Ψ) (k2 : ¬ (0 ≤ x) → oX G d Y (pc + 3) ls st h k Φ Ψ) : oX G d Y pc ls (vI x :: st) h k Φ Ψ :=
  oX_br (fun H => oW_t H) (fun ad _ _ _ _ _ _ _ _ _ _ _ _ _ _ _ B w1 w2 => lv_if_ge B.1 B.2.1 dc ht w1 w2) k1 k2
/-- icmp gt: y < x -/
theorem oX_icmp_gt {x y : Int32} {off : Int} {tgt : Nat} (dc : decode Y.2.1 pc = .ok (.if_icmp .gt off, 3)) (ht : (pc : Int) + off = (tgt : Int)) (k1 : y < x → oX G d Y tgt ls st h k Φ Ψ) (k2 : ¬ (y < x) → oX G d Y (pc + 3) ls st h k Φ Ψ) : oX G d Y pc ls (vI y :: vI x :: st) h k Φ Ψ :=
  oX_br (fun H => oW_t (oW_t H)) (fun ad _ _ _ _ _ _ _ _ _ _ _ _ _ _ _ B w1 w2 => lv_icmp_gt B.1 B.2.1 dc ht w1 w2) k1 k2
/-- if gt: 0 < x -/
theorem oX_if_gt {x : Int32} {off : Int} {tgt : Nat} (dc : decode Y.2.1 pc = .ok (.ifCond .gt off, 3)) (ht : (pc : Int) + off = (tgt : Int)) (k1 : 0 < x → oX G d Y tgt ls st h k Φ Ψ) (k2 : ¬ (0 < x) → oX G d Y (pc + 3) ls st h k Φ Ψ) : oX G d Y pc ls (vI x :: st) h k Φ Ψ :=
  oX_br (fun H => oW_t H) (fun ad _ _ _ _ _ _ _ _ _ _ _ _ _ _ _ B w1 w2 => lv_if_gt B.1 B.2.1 dc ht w1 w2) k1 k2
/-- icmp le: x ≤ y -/
theorem oX_icmp_le {x y : Int32} {off : Int} {tgt : Nat} (dc : decode Y.2.1 pc = .ok (.if_icmp .le off, 3)) (ht : (pc : Int) + off = (tgt : Int)) (k1 : x ≤ y → oX G d Y tgt ls st h k Φ Ψ) (k2 : ¬ (x ≤ y) → oX G d Y (pc + 3) ls st h k Φ Ψ) : oX G d Y pc ls (vI y :: vI x :: st) h k Φ Ψ :=
  oX_br (fun H => oW_t (oW_t H)) (fun ad _ _ _ _ _ _ _ _ _ _ _ _ _ _ _ B w1 w2 => lv_icmp_le B.1 B.2.1 dc ht w1 w2) k1 k2
/-- if le: x ≤ 0 -/
theorem oX_if_le {x : Int32} {off : Int} {tgt : Nat} (dc : decode Y.2.1 pc = .ok (.ifCond .le off, 3)) (ht : (pc : Int) + off = (tgt : Int)) (k1 : x ≤ 0 → oX G d Y tgt ls st h k Φ Ψ) (k2 : ¬ (x ≤ 0) → oX G d Y (pc + 3) ls st h k Φ Ψ) : oX G d Y pc ls (vI x :: st) h k Φ Ψ :=
  oX_br (fun H => oW_t H) (fun ad _ _ _ _ _ _ _ _ _ _ _ _ _ _ _ B w1 w2 => lv_if_le B.1 B.2.1 dc ht w1 w2) k1 k2
theorem oX_ifnull {r : OhR} {off : Int} {tgt : Nat} (dc : decode Y.2.1 pc = .ok (.ifnull off, 3)) (ht : (pc : Int) + off = (tgt : Int)) (k1 : r = none → oX G d Y tgt ls st h k Φ Ψ) (k2 : ¬ (r = none) → oX G d Y (pc + 3) ls st h k Φ Ψ) : oX G d Y pc ls (vR r :: st) h k Φ Ψ := by
  refine oX_br (fun H => oW_t H) (fun ad _ _ _ _ _ _ _ _ _ _ _ _ _ _ _ B w1 w2 => ?_) k1 k2
  cases r with
  | none => exact lv_ifnullN B.1 B.2.1 dc ht (w1 rfl)
  | some a => exact lv_ifnull B.1 B.2.1 dc (w2 (by intro h9; cases h9))
theorem oX_ifnonnull {r : OhR} {off : Int} {tgt : Nat} (dc : decode Y.2.1 pc = .ok (.ifnonnull off, 3)) (ht : (pc : Int) + off = (tgt : Int)) (k1 : r = none → oX G d Y (pc + 3) ls st h k Φ Ψ) (k2 : ¬ (r = none) → oX G d Y tgt ls st h k Φ Ψ) : oX G d Y pc ls (vR r :: st) h k Φ Ψ := by
  refine oX_br (fun H => oW_t H) (fun ad _ _ _ _ _ _ _ _ _ _ _ _ _ _ _ B w1 w2 => ?_) k1 k2
  cases r with
  | none => exact lv_ifnonnullN B.1 B.2.1 dc (w1 rfl)
  | some a => exact lv_ifnonnull B.1 B.2.1 dc ht (w2 (by intro h9; cases h9))
end OX1
