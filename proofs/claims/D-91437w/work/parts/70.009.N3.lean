noncomputable section
set_option linter.unusedVariables false
/-! PLAIN 3g: all that is wrong, row by row of the table of bits -/
def PTb.rbit (T : PTb) (c r j : Nat) : Bool := decide (7 ≤ j ∧ j ≤ 15) && T.isW j c r
def PTb.wbit (T : PTb) (c r j : Nat) : Bool := if r = 8 then decide (1 ≤ j ∧ j ≤ 6) && T.wc T.bad j c else decide (r < T.nr c) && T.rbit c r j
def PTb.wRow (T : PTb) (w c : Nat) : Nat → List PNt
  | 0 => []
  | r + 1 => T.wRow w c r ++ (if T.wbit c r w = true then [(w, c, if r = 8 then -1 else (r : Int))] else [])
def PTb.wKind (T : PTb) (c : Nat) : Nat → List PNt
  | 0 => []
  | k + 1 => T.wKind c k ++ T.wRow (k + 1) c 9
def PTb.wAll (T : PTb) : Nat → List PNt
  | 0 => []
  | k + 1 => T.wAll k ++ T.wKind (T.ord k) 15
theorem wbit_8 (T : PTb) (c j : Nat) : T.wbit c 8 j = (decide (1 ≤ j ∧ j ≤ 6) && T.wc T.bad j c) := if_pos rfl
theorem wbit_r (T : PTb) {c r : Nat} (j : Nat) (h : r ≠ 8) : T.wbit c r j = (decide (r < T.nr c) && T.rbit c r j) := if_neg h
theorem wRow_lo0 (T : PTb) {w c : Nat} (h2 : w ≤ 6) : ∀ r, r ≤ 8 → T.wRow w c r = []
  | 0, _ => rfl
  | r + 1, h => by
    have e : T.wbit c r w = false := by
      rw [wbit_r T w (by omega)]
      unfold PTb.rbit
      rw [decide_eq_false (show ¬ (7 ≤ w ∧ w ≤ 15) by omega)]; simp
    simp only [PTb.wRow, wRow_lo0 T h2 r (by omega), e, List.nil_append]
    simp
theorem wRow_lo (T : PTb) {w c : Nat} (h1 : 1 ≤ w) (h2 : w ≤ 6) : T.wRow w c 9 = if T.wc T.bad w c = true then [(w, c, -1)] else [] := by
  show T.wRow w c 8 ++ (if T.wbit c 8 w = true then [(w, c, if 8 = 8 then -1 else (8 : Int))] else []) = _
  rw [wRow_lo0 T h2 8 (by omega), wbit_8, decide_eq_true (show 1 ≤ w ∧ w ≤ 6 from ⟨h1, h2⟩), Bool.true_and, List.nil_append]
  simp
theorem wRow_hi0 (T : PTb) {w c : Nat} (h1 : 7 ≤ w) (h2 : w ≤ 15) : ∀ r, r ≤ 8 → T.wRow w c r = T.nRole w c (min r (T.nr c))
  | 0, _ => by rw [Nat.zero_min]; rfl
  | r + 1, h => by
    have ih := wRow_hi0 T (c := c) h1 h2 r (by omega)
    simp only [PTb.wRow, ih]
    rw [wbit_r T w (by omega)]
    unfold PTb.rbit
    rw [decide_eq_true (show 7 ≤ w ∧ w ≤ 15 from ⟨h1, h2⟩), Bool.true_and]
    by_cases q : r < T.nr c
    · rw [Nat.min_eq_left (show r ≤ T.nr c by omega), Nat.min_eq_left (show r + 1 ≤ T.nr c by omega), decide_eq_true q, Bool.true_and, if_neg (show ¬ r = 8 by omega)]
      rfl
    · rw [Nat.min_eq_right (show T.nr c ≤ r by omega), Nat.min_eq_right (show T.nr c ≤ r + 1 by omega), decide_eq_false q]
      simp
theorem wRow_hi (T : PTb) {w c : Nat} (h1 : 7 ≤ w) (h2 : w ≤ 15) (h8 : T.nr c ≤ 8) : T.wRow w c 9 = T.nRole w c (T.nr c) := by
  show T.wRow w c 8 ++ (if T.wbit c 8 w = true then [(w, c, if 8 = 8 then -1 else (8 : Int))] else []) = _
  rw [wRow_hi0 T h1 h2 8 (by omega), wbit_8, decide_eq_false (show ¬ (1 ≤ w ∧ w ≤ 6) by omega), Nat.min_eq_right h8]
  simp
theorem wKind_lo (T : PTb) (c : Nat) : ∀ k, k ≤ 6 → T.wKind c k = T.nCall T.bad c k
  | 0, _ => rfl
  | k + 1, h => by
    simp only [PTb.wKind, PTb.nCall, wKind_lo T c k (by omega), wRow_lo T (show 1 ≤ k + 1 by omega) h]
theorem wKind_hi (T : PTb) {c : Nat} (h8 : T.nr c ≤ 8) : ∀ k, k ≤ 9 → T.wKind c (6 + k) = T.nCall T.bad c 6 ++ T.nKind c k
  | 0, _ => by rw [Nat.add_zero, wKind_lo T c 6 (by omega)]; simp [PTb.nKind]
  | k + 1, h => by
    show T.wKind c (6 + k) ++ T.wRow (6 + k + 1) c 9 = _
    rw [wKind_hi T h8 k (by omega), show 6 + k + 1 = 7 + k by omega, wRow_hi T (by omega) (by omega) h8, List.append_assoc]
    rfl
theorem wAll_eq (T : PTb) (h8 : ∀ k, k < T.all → T.nr (T.ord k) ≤ 8) : ∀ k, k ≤ T.all → T.wAll k = T.nAll T.bad k
  | 0, _ => rfl
  | k + 1, h => by
    simp only [PTb.wAll, PTb.nAll, wAll_eq T h8 k (by omega)]
    rw [show (15 : Nat) = 6 + 9 from rfl, wKind_hi T (h8 k (by omega)) 9 (by omega)]
theorem notes_eq (T : PTb) (h8 : ∀ k, k < T.all → T.nr (T.ord k) ≤ 8) : T.notes = T.wAll T.all := (wAll_eq T h8 T.all (Nat.le_refl _)).symm
/-! how many -/
theorem sumN_add (n : Nat) (f g : Nat → Int) : sumN n (fun k => f k + g k) = sumN n f + sumN n g := by
  induction n with
  | zero => simp [sumN]
  | succ n ih => simp only [sumN, ih]; omega
theorem sumN_zero (n : Nat) : sumN n (fun _ => 0) = 0 := by
  induction n with
  | zero => rfl
  | succ n ih => simp only [sumN, ih]; omega
theorem sumN_swap (a b : Nat) (f : Nat → Nat → Int) : sumN a (fun i => sumN b (fun j => f i j)) = sumN b (fun j => sumN a (fun i => f i j)) := by
  induction a with
  | zero => simp only [sumN]; exact (sumN_zero b).symm
  | succ a ih => simp only [sumN, ih]; exact (sumN_add b _ _).symm
def b01 (b : Bool) : Int := if b = true then 1 else 0
theorem wRow_len (T : PTb) (w c : Nat) : ∀ m, ((T.wRow w c m).length : Int) = sumN m fun r => b01 (T.wbit c r w)
  | 0 => rfl
  | m + 1 => by
    simp only [PTb.wRow, sumN, List.length_append, Int.natCast_add, wRow_len T w c m, b01]
    split <;> simp
theorem wKind_len (T : PTb) (c : Nat) : ∀ m, ((T.wKind c m).length : Int) = sumN m fun k => sumN 9 fun r => b01 (T.wbit c r (k + 1))
  | 0 => rfl
  | m + 1 => by
    show ((T.wKind c m ++ T.wRow (m + 1) c 9).length : Int) = (sumN m fun k => sumN 9 fun r => b01 (T.wbit c r (k + 1))) + sumN 9 fun r => b01 (T.wbit c r (m + 1))
    rw [List.length_append, Int.natCast_add, wKind_len T c m, wRow_len]
theorem wAll_len (T : PTb) : ∀ m, ((T.wAll m).length : Int) = sumN m fun k => sumN 9 fun r => sumN 15 fun j => b01 (T.wbit (T.ord k) r (j + 1))
  | 0 => rfl
  | m + 1 => by
    show ((T.wAll m ++ T.wKind (T.ord m) 15).length : Int) = (sumN m fun k => sumN 9 fun r => sumN 15 fun j => b01 (T.wbit (T.ord k) r (j + 1))) + sumN 9 fun r => sumN 15 fun j => b01 (T.wbit (T.ord m) r (j + 1))
    rw [List.length_append, Int.natCast_add, wAll_len T m, wKind_len, sumN_swap 15 9]
/-- a note is a bit -/
theorem wRow_mem (T : PTb) {w c : Nat} {x : PNt} : ∀ {m}, x ∈ T.wRow w c m ↔ ∃ r, r < m ∧ T.wbit c r w = true ∧ x = (w, c, if r = 8 then -1 else (r : Int))
  | 0 => by simp [PTb.wRow]
  | m + 1 => by
    simp only [PTb.wRow, List.mem_append, wRow_mem T]
    constructor
    · rintro (⟨r, h1, h2⟩ | h)
      · exact ⟨r, by omega, h2⟩
      · split at h
        · rename_i q; simp only [List.mem_singleton] at h; exact ⟨m, by omega, q, h⟩
        · cases h
    · rintro ⟨r, h1, h2, h3⟩
      by_cases e : r = m
      · subst e; right; rw [if_pos h2]; simp [h3]
      · left; exact ⟨r, by omega, h2, h3⟩
theorem wKind_mem (T : PTb) {c : Nat} {x : PNt} : ∀ {m}, x ∈ T.wKind c m ↔ ∃ k, k < m ∧ x ∈ T.wRow (k + 1) c 9
  | 0 => by simp [PTb.wKind]
  | m + 1 => by
    simp only [PTb.wKind, List.mem_append, wKind_mem T]
    constructor
    · rintro (⟨k, h1, h2⟩ | h)
      · exact ⟨k, by omega, h2⟩
      · exact ⟨m, by omega, h⟩
    · rintro ⟨k, h1, h2⟩
      by_cases e : k = m
      · subst e; exact .inr h2
      · exact .inl ⟨k, by omega, h2⟩
theorem wAll_mem (T : PTb) {x : PNt} : ∀ {m}, x ∈ T.wAll m ↔ ∃ k, k < m ∧ x ∈ T.wKind (T.ord k) 15
  | 0 => by simp [PTb.wAll]
  | m + 1 => by
    simp only [PTb.wAll, List.mem_append, wAll_mem T]
    constructor
    · rintro (⟨k, h1, h2⟩ | h)
      · exact ⟨k, by omega, h2⟩
      · exact ⟨m, by omega, h⟩
    · rintro ⟨k, h1, h2⟩
      by_cases e : k = m
      · subst e; exact .inr h2
      · exact .inl ⟨k, by omega, h2⟩
theorem notes_mem {T : PTb} (hT : PTbOk T) (h8 : ∀ k, k < T.all → T.nr (T.ord k) ≤ 8) {x : PNt} : x ∈ T.notes ↔ ∃ c r w, c < T.all ∧ r < 9 ∧ 1 ≤ w ∧ w ≤ 15 ∧ T.wbit c r w = true ∧ x = (w, c, if r = 8 then -1 else (r : Int)) := by
  rw [notes_eq T h8, wAll_mem]
  constructor
  · rintro ⟨k, hk, h⟩
    obtain ⟨j, hj, h⟩ := (wKind_mem T).mp h
    obtain ⟨r, h1, h2, h3⟩ := (wRow_mem T).mp h
    exact ⟨T.ord k, r, j + 1, hT.ord k hk, h1, by omega, by omega, h2, h3⟩
  · rintro ⟨c, r, w, h1, h2, h3, h4, h5, h6⟩
    refine ⟨T.pos c, hT.pos c h1, ?_⟩
    rw [hT.op c h1, wKind_mem]
    refine ⟨w - 1, by omega, ?_⟩
    rw [show w - 1 + 1 = w by omega, wRow_mem]
    exact ⟨r, h2, h5, h6⟩
end
