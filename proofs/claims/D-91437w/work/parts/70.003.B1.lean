noncomputable section
set_option linter.unusedVariables false
/-! PLAIN 3b: bits -/
def bt (x : Int32) (k : Nat) : Bool := x.toBitVec.getLsbD k
theorem jm31 : ∀ k : Fin 32, J (k.1 : Int) &&& J 31 = J (k.1 : Int) := by simp only [J_def]; decide +kernel
theorem jsm : ∀ k : Fin 32, ((J (k.1 : Int)).toBitVec.smod 32).toNat = k.1 := by simp only [J_def]; decide +kernel
theorem bt_sh (x : Int32) {k : Nat} (hk : k < 32) : ((x >>> (J k &&& J 31)).toBitVec &&& 1#32) = (BitVec.ofBool (bt x k)).setWidth 32 := by
  rw [jm31 ⟨k, hk⟩, BitVec.and_one_eq_setWidth_ofBool_getLsbD, Int32.toBitVec_shiftRight, BitVec.sshiftRight_eq', jsm ⟨k, hk⟩, BitVec.getLsbD_sshiftRight]
  congr 2
  simp [hk, bt]
theorem J1bv : (J 1).toBitVec = 1#32 := by rw [J_def]; decide +kernel
theorem J0bv : (J 0).toBitVec = 0#32 := by rw [J_def]; decide +kernel
theorem bt_ask (x : Int32) {k : Nat} (hk : k < 32) : (((x >>> (J k &&& J 31)) &&& J 1) = J 1) = (bt x k = true) := by
  rw [← Int32.toBitVec_inj, Int32.toBitVec_and, J1bv, bt_sh x hk]
  cases bt x k <;> decide
theorem bt_ask0 (x : Int32) {k : Nat} (hk : k < 32) : (((x >>> (J k &&& J 31)) &&& J 1) = J 0) = (bt x k = false) := by
  rw [← Int32.toBitVec_inj, Int32.toBitVec_and, J1bv, J0bv, bt_sh x hk]
  cases bt x k <;> decide
theorem bt_or (x y : Int32) (k : Nat) : bt (x ||| y) k = (bt x k || bt y k) := by simp [bt]
theorem bt_and (x y : Int32) (k : Nat) : bt (x &&& y) k = (bt x k && bt y k) := by simp [bt]
theorem bt_0 (k : Nat) : bt (J 0) k = false := by simp [bt, J0bv]
theorem bt_shl {k j : Nat} (hk : k < 32) (hj : j < 32) : bt (J 1 <<< (J k &&& J 31)) j = decide (j = k) := by
  rw [jm31 ⟨k, hk⟩, bt, Int32.toBitVec_shiftLeft, BitVec.shiftLeft_eq', jsm ⟨k, hk⟩, J1bv, BitVec.getLsbD_shiftLeft, BitVec.getLsbD_one]
  by_cases e : j = k
  · subst e; simp [hj]
  · simp only [e, decide_false]
    by_cases h : j < k
    · simp [h]
    · have : j - k ≠ 0 := by omega
      simp [this, hj, h]
theorem bt_ext {x y : Int32} (h : ∀ k, k < 32 → bt x k = bt y k) : x = y := by
  rw [← Int32.toBitVec_inj]
  exact BitVec.eq_of_getLsbD_eq h
theorem bt_eq0 {x : Int32} : (x = J 0) ↔ ∀ k, k < 32 → bt x k = false := by
  constructor
  · rintro rfl k _; exact bt_0 k
  · intro h; exact bt_ext fun k hk => by rw [h k hk, bt_0]
theorem bt_xor (x y : Int32) (k : Nat) : bt (x ^^^ y) k = (bt x k ^^ bt y k) := by simp [bt]
theorem bt_m1a : ∀ k : Fin 32, bt (J (-1)) k.1 = true := by rw [J_def]; decide +kernel
theorem bt_m1 {k : Nat} (hk : k < 32) : bt (J (-1)) k = true := bt_m1a ⟨k, hk⟩
end
