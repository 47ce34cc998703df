noncomputable section
set_option linter.unusedVariables false
set_option linter.unusedSimpArgs false
/-! PLAIN 78: bits are counted -/
def bcA (a : Nat) : Bool := decide (mJ18_bitCount (Int32.ofInt ((128 * a : Nat) : Int)) = some (Int32.ofInt (sumN 15 fun j => b01 ((128 * a).testBit (j + 1)))))
def bcB (a : Nat) : Bool := decide (mJ18_bitCount (Int32.ofInt ((2 * a : Nat) : Int)) = some (Int32.ofInt (sumN 15 fun j => b01 ((2 * a).testBit (j + 1)))))
theorem bcA_all : (List.range 512).all bcA = true := by decide +kernel
theorem bcB_all : (List.range 64).all bcB = true := by decide +kernel
theorem bt_nat (x : Int32) (k : Nat) : bt x k = x.toBitVec.toNat.testBit k := by unfold bt; rw [BitVec.testBit_toNat]
theorem i32_nat (x : Int32) : x = Int32.ofInt ((x.toBitVec.toNat : Nat) : Int) := by
  rw [← Int32.toBitVec_inj]
  apply BitVec.eq_of_toNat_eq
  rw [Int32.toBitVec_ofInt]
  simp
theorem h_bc {x : Int32} (h0 : bt x 0 = false) (h : ∀ j, j < 32 → 16 ≤ j → bt x j = false) (hh : (∀ j, j < 7 → bt x j = false) ∨ (∀ j, j < 32 → 7 ≤ j → bt x j = false)) : mJ18_bitCount x = some (J (sumN 15 fun j => b01 (bt x (j + 1)))) := by
  have hl : ∀ j, 32 ≤ j → x.toBitVec.toNat.testBit j = false := fun j hj => Nat.testBit_lt_two_pow (Nat.lt_of_lt_of_le x.toBitVec.isLt (Nat.pow_le_pow_right (by decide) hj))
  have e1 : (sumN 15 fun j => b01 (bt x (j + 1))) = sumN 15 fun j => b01 (x.toBitVec.toNat.testBit (j + 1)) := sumN_congr fun k _ => by rw [bt_nat]
  rw [e1, J_def]
  have e2 := i32_nat x
  generalize hn : x.toBitVec.toNat = m at *
  have hb : ∀ j, bt x j = m.testBit j := fun j => by rw [bt_nat, hn]
  rw [e2]
  rcases hh with hh | hh
  · have h128 : m % 2 ^ 7 = 0 := by
      apply Nat.eq_of_testBit_eq
      intro i
      rw [Nat.testBit_mod_two_pow, Nat.zero_testBit]
      by_cases q : i < 7
      · rw [← hb, hh i q]; simp
      · simp [q]
    have h16 : m < 2 ^ 16 := Nat.lt_pow_two_of_testBit m fun i hi => by
      by_cases q : i < 32
      · rw [← hb]; exact h i q hi
      · exact hl i (by omega)
    have a := List.all_eq_true.mp bcA_all (m / 128) (List.mem_range.mpr (by omega))
    have e : 128 * (m / 128) = m := by omega
    unfold bcA at a
    rw [e] at a
    exact of_decide_eq_true a
  · have h7 : m < 2 ^ 7 := Nat.lt_pow_two_of_testBit m fun i hi => by
      by_cases q : i < 32
      · rw [← hb]; exact hh i q hi
      · exact hl i (by omega)
    have h2 : m % 2 ^ 1 = 0 := by
      apply Nat.eq_of_testBit_eq
      intro i
      rw [Nat.testBit_mod_two_pow, Nat.zero_testBit]
      by_cases q : i < 1
      · have : i = 0 := by omega
        subst this
        rw [← hb, h0]; simp
      · simp [q]
    have a := List.all_eq_true.mp bcB_all (m / 2) (List.mem_range.mpr (by omega))
    have e : 2 * (m / 2) = m := by omega
    unfold bcB at a
    rw [e] at a
    exact of_decide_eq_true a
section
variable {T : PTb} {A : OhI}
theorem WrA.bc (w : WrA T A) {c r : Nat} (hc : c < T.all) (hr : r < 9) : mJ18_bitCount (A 422 c r) = some (J (sumN 15 fun j => b01 (T.wbit c r (j + 1)))) := by
  have e : (sumN 15 fun j => b01 (bt (A 422 c r) (j + 1))) = sumN 15 fun j => b01 (T.wbit c r (j + 1)) := sumN_congr fun k hk => by rw [w c r (k + 1) hc hr (by omega)]
  rw [← e]
  have b8 : ∀ j, ¬ (1 ≤ j ∧ j ≤ 6) → T.wbit c 8 j = false := fun j q => by rw [wbit_8, decide_eq_false q]; rfl
  have br : r ≠ 8 → ∀ j, ¬ (7 ≤ j ∧ j ≤ 15) → T.wbit c r j = false := fun n j q => by rw [wbit_r T j n]; unfold PTb.rbit; rw [decide_eq_false q]; simp
  by_cases e8 : r = 8
  · subst e8
    exact h_bc (by rw [w c 8 0 hc hr (by omega)]; exact b8 0 (by omega)) (fun j h1 h2 => by rw [w c 8 j hc hr h1]; exact b8 j (by omega)) (.inr fun j h1 h2 => by rw [w c 8 j hc hr h1]; exact b8 j (by omega))
  · exact h_bc (by rw [w c r 0 hc hr (by omega)]; exact br e8 0 (by omega)) (fun j h1 h2 => by rw [w c r j hc hr h1]; exact br e8 j (by omega)) (.inl fun j h1 => by rw [w c r j hc hr (by omega)]; exact br e8 j (by omega))
end
end
