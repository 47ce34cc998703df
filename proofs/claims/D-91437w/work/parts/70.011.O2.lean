noncomputable section
set_option linter.unusedVariables false
/-! PLAIN 5: by places in the order, by numbers -/
section
variable {T : PTb}
theorem sumN_cut {f : Nat → Int} : ∀ {k n : Nat}, k ≤ n → sumN n (fun i => if i < k then f i else 0) = sumN k f
  | k, 0, h => by have : k = 0 := by omega
                  subst this; rfl
  | k, n + 1, h => by
    by_cases e : k = n + 1
    · subst e; exact sumN_congr fun i hi => by rw [if_pos hi]
    · show sumN n _ + (if n < k then f n else 0) = _
      rw [sumN_cut (by omega), if_neg (by omega), Int.add_zero]
theorem sum_pos (hT : PTbOk T) {f : Nat → Int} {k : Nat} (hk : k ≤ T.all) : sumN k (fun i => f (T.ord i)) = sumN T.all (fun d => if T.pos d < k then f d else 0) := by
  rw [← hT.sum]
  rw [← sumN_cut (f := fun i => f (T.ord i)) hk]
  exact sumN_congr fun i hi => by rw [hT.po i hi]
theorem any_pos (hT : PTbOk T) {p : Nat → Bool} {k : Nat} (hk : k ≤ T.all) : anyN k (fun i => p (T.ord i)) = anyN T.all (fun d => decide (T.pos d < k) && p d) := by
  rw [Bool.eq_iff_iff, anyN_iff, anyN_iff]
  constructor
  · rintro ⟨i, hi, h⟩
    refine ⟨T.ord i, hT.ord i (by omega), ?_⟩
    rw [hT.po i (by omega)]; simp [hi, h]
  · rintro ⟨d, hd, h⟩
    simp only [Bool.and_eq_true, decide_eq_true_eq] at h
    exact ⟨T.pos d, h.1, by rw [hT.op d hd]; exact h.2⟩
end
end
