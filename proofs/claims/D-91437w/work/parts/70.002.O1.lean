noncomputable section
set_option linter.unusedVariables false
/-! PLAIN 3: the order of calls; the table as of a day -/
/-- where one that begins at b comes in among the first j -/
def insAt (bg : Nat → Int) (od : Nat → Nat) (b : Int) : Nat → Nat
  | 0 => 0
  | j + 1 => if b < bg (od j) then insAt bg od b j else j + 1
def ordN (bg : Nat → Int) : Nat → Nat → Nat
  | 0 => fun k => k
  | n + 1 => fun k => if k < insAt bg (ordN bg n) (bg n) n then ordN bg n k else if k = insAt bg (ordN bg n) (bg n) n then n else ordN bg n (k - 1)
def posN (bg : Nat → Int) : Nat → Nat → Nat
  | 0 => fun k => k
  | n + 1 => fun c => if c = n then insAt bg (ordN bg n) (bg n) n else if posN bg n c < insAt bg (ordN bg n) (bg n) n then posN bg n c else posN bg n c + 1
section
variable {bg : Nat → Int} {od : Nat → Nat} {b : Int}
theorem insAt_le : ∀ n, insAt bg od b n ≤ n
  | 0 => Nat.le_refl _
  | n + 1 => by
    simp only [insAt]
    split
    · exact Nat.le_succ_of_le (insAt_le n)
    · exact Nat.le_refl _
theorem insAt_above : ∀ n k, insAt bg od b n ≤ k → k < n → b < bg (od k)
  | 0, k, _, h => by omega
  | n + 1, k, h1, h2 => by
    simp only [insAt] at h1
    split at h1
    · by_cases e : k = n
      · subst e; assumption
      · exact insAt_above n k h1 (by omega)
    · omega
theorem insAt_below : ∀ n, insAt bg od b n = 0 ∨ bg (od (insAt bg od b n - 1)) ≤ b
  | 0 => .inl rfl
  | n + 1 => by
    simp only [insAt]
    split
    · exact insAt_below n
    · right; rw [Nat.add_sub_cancel]; omega
theorem sumN_ins {g : Nat → Int} {v : Int} : ∀ {n j : Nat}, j ≤ n → sumN (n + 1) (fun k => if k < j then g k else if k = j then v else g (k - 1)) = sumN n g + v
  | 0, j, h => by
    have : j = 0 := by omega
    subst this
    simp [sumN]
  | n + 1, j, h => by
    by_cases e : j = n + 1
    · subst e
      have e1 : sumN (n + 1) (fun k => if k < n + 1 then g k else if k = n + 1 then v else g (k - 1)) = sumN (n + 1) g := sumN_congr fun k hk => by rw [if_pos hk]
      show sumN (n + 1) _ + _ = _
      rw [e1]
      simp
    · have ih := sumN_ins (g := g) (v := v) (n := n) (j := j) (by omega)
      show sumN (n + 1) _ + (if n + 1 < j then g (n + 1) else if n + 1 = j then v else g (n + 1 - 1)) = sumN n g + g n + v
      rw [ih, if_neg (by omega), if_neg (by omega), Nat.add_sub_cancel]
      omega
theorem ordN_all (bg : Nat → Int) : ∀ n, (∀ k, k < n → ordN bg n k < n) ∧ (∀ c, c < n → posN bg n c < n) ∧ (∀ c, c < n → ordN bg n (posN bg n c) = c) ∧ (∀ k, k < n → posN bg n (ordN bg n k) = k) ∧ (∀ i j, i ≤ j → j < n → bg (ordN bg n i) ≤ bg (ordN bg n j)) ∧ (∀ f : Nat → Int, sumN n (fun k => f (ordN bg n k)) = sumN n f)
  | 0 => ⟨fun k h => by omega, fun k h => by omega, fun k h => by omega, fun k h => by omega, fun i j h h2 => by omega, fun f => rfl⟩
  | n + 1 => by
    obtain ⟨h1, h2, h3, h4, h5, h6⟩ := ordN_all bg n
    have hj := insAt_le (bg := bg) (od := ordN bg n) (b := bg n) n
    have ha := insAt_above (bg := bg) (od := ordN bg n) (b := bg n) n
    have hb := insAt_below (bg := bg) (od := ordN bg n) (b := bg n) n
    generalize hJ : insAt bg (ordN bg n) (bg n) n = j at hj ha hb
    have eo : ∀ k, ordN bg (n + 1) k = if k < j then ordN bg n k else if k = j then n else ordN bg n (k - 1) := fun k => by simp only [ordN, hJ]
    have ep : ∀ c, posN bg (n + 1) c = if c = n then j else if posN bg n c < j then posN bg n c else posN bg n c + 1 := fun k => by simp only [posN, hJ]
    refine ⟨fun k hk => ?_, fun c hc => ?_, fun c hc => ?_, fun k hk => ?_, fun x y hxy hy => ?_, fun f => ?_⟩
    · rw [eo]; split
      · have := h1 k (by omega); omega
      · split
        · omega
        · have := h1 (k - 1) (by omega); omega
    · rw [ep]; split
      · omega
      · have := h2 c (by omega); split <;> omega
    · rw [ep]; split
      · rw [eo, if_neg (by omega), if_pos rfl]; omega
      · have e3 := h3 c (by omega)
        split
        · rw [eo, if_pos (by omega)]; exact e3
        · rw [eo, if_neg (by omega), if_neg (by omega), Nat.add_sub_cancel]; exact e3
    · rw [eo]; split
      · have e4 := h4 k (by omega); have := h1 k (by omega)
        rw [ep, if_neg (by omega), if_pos (by omega)]; exact e4
      · split
        · rw [ep, if_pos rfl]; omega
        · have e4 := h4 (k - 1) (by omega); have := h1 (k - 1) (by omega)
          rw [ep, if_neg (by omega), if_neg (by omega), e4]; omega
    · rw [eo, eo]
      by_cases c1 : y < j
      · rw [if_pos (by omega), if_pos c1]; exact h5 x y hxy (by omega)
      · by_cases c2 : y = j
        · rw [if_neg c1, if_pos c2]
          by_cases c3 : x < j
          · rw [if_pos c3]
            have := h5 x (j - 1) (by omega) (by omega)
            omega
          · rw [if_neg c3, if_pos (by omega)]; exact Int.le_refl _
        · rw [if_neg c1, if_neg c2]
          have := ha (y - 1) (by omega) (by omega)
          by_cases c3 : x < j
          · rw [if_pos c3]; exact h5 x (y - 1) (by omega) (by omega)
          · by_cases c4 : x = j
            · rw [if_neg c3, if_pos c4]; omega
            · rw [if_neg c3, if_neg c4]; exact h5 (x - 1) (y - 1) (by omega) (by omega)
    · have : sumN (n + 1) (fun k => f (ordN bg (n + 1) k)) = sumN (n + 1) (fun k => if k < j then f (ordN bg n k) else if k = j then f n else f (ordN bg n (k - 1)))  := by
        refine sumN_congr fun k hk => ?_
        rw [eo]; split
        · rfl
        · split <;> rfl
      rw [this, sumN_ins (g := fun k => f (ordN bg n k)) (v := f n) hj, h6]
      rfl
end
/-- a place of a table is overwritten -/
def upT (f : Nat → Nat → Int) (c r : Nat) (v : Int) : Nat → Nat → Int := fun c' r' => if c' = c ∧ r' = r then v else f c' r'
/-- what is told up to the k-th, as of a day: cast, ahead, cover -/
def tabN (S : PSt) (t : Int) : Nat → (Nat → Nat → Int) × (Nat → Nat → Int) × (Nat → Nat → Int)
  | 0 => (fun _ _ => -1, fun _ _ => -1, fun _ _ => -1)
  | k + 1 => if t < (S.pt k).day then tabN S t k
    else if (S.pt k).cover = true then ((tabN S t k).1, (tabN S t k).2.1, upT (tabN S t k).2.2 (S.pt k).call (S.pt k).role (S.pt k).who)
    else (upT (tabN S t k).1 (S.pt k).call (S.pt k).role (S.pt k).who, upT (tabN S t k).2.1 (S.pt k).call (S.pt k).role ((tabN S t k).1 (S.pt k).call (S.pt k).role), (tabN S t k).2.2)
def mkTb (S : PSt) (all : Nat) (ca : Nat → PCa) (cast ahead cover : Nat → Nat → Int) (t : Int) : PTb := PTb.mk (S := S) (all := all) (ca := ca) (ord := ordN (fun c => (ca c).beg) all) (pos := posN (fun c => (ca c).beg) all) (cast := cast) (ahead := ahead) (cover := cover) (asOf := t)
theorem mkTb_ok {S : PSt} {all : Nat} {ca : Nat → PCa} {cast ahead cover : Nat → Nat → Int} {t : Int} (hS : PStOk S) (h66 : all ≤ 66) (hca : ∀ c, c < all → PCaOk S (ca c)) (h1 : ∀ c r, c < all → r < 8 → -1 ≤ cast c r ∧ cast c r < S.nS) (h2 : ∀ c r, c < all → r < 8 → -1 ≤ ahead c r ∧ ahead c r < S.nS) (h3 : ∀ c r, c < all → r < 8 → -1 ≤ cover c r ∧ cover c r < S.nS) (ht : -2147483648 ≤ t ∧ t < 2147483648) : PTbOk (mkTb S all ca cast ahead cover t) := by
  obtain ⟨a1, a2, a3, a4, a5, a6⟩ := ordN_all (fun c => (ca c).beg) all
  exact ⟨hS, h66, hca, a1, a2, a3, a4, a5, a6, h1, h2, h3, ht⟩
theorem tabN_b {S : PSt} (hS : PStOk S) {t : Int} : ∀ k, k ≤ S.nP → ∀ c r, (-1 ≤ (tabN S t k).1 c r ∧ (tabN S t k).1 c r < S.nS) ∧ (-1 ≤ (tabN S t k).2.1 c r ∧ (tabN S t k).2.1 c r < S.nS) ∧ (-1 ≤ (tabN S t k).2.2 c r ∧ (tabN S t k).2.2 c r < S.nS)
  | 0, _, c, r => by simp only [tabN]; omega
  | k + 1, hk, c, r => by
    have ih := tabN_b hS (t := t) k (by omega)
    have h1 := hS.pt k (by omega)
    have i1 := ih c r
    have i2 := ih (S.pt k).call (S.pt k).role
    simp only [tabN]
    split
    · exact i1
    · split <;> simp only [upT] <;> refine ⟨?_, ?_, ?_⟩ <;> first | omega | (split <;> omega)
/-- the table as of a day -/
def tbl (S : PSt) (t : Int) : PTb := mkTb S S.nC S.ca (tabN S t S.nP).1 (tabN S t S.nP).2.1 (tabN S t S.nP).2.2 t
theorem tbl_ok {S : PSt} (hS : PStOk S) {t : Int} (ht : -2147483648 ≤ t ∧ t < 2147483648) : PTbOk (tbl S t) :=
  mkTb_ok hS (by have := hS.nC; omega) hS.ca (fun c r _ _ => (tabN_b hS _ (Nat.le_refl _) c r).1) (fun c r _ _ => (tabN_b hS _ (Nat.le_refl _) c r).2.1) (fun c r _ _ => (tabN_b hS _ (Nat.le_refl _) c r).2.2) ht
end
