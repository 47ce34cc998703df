/-! START 3: the first pure heap -/
def oFR0 : OhQ := fun s i k => if 41 ≤ s ∧ s < 55 ∧ i = 0 ∧ k = 0 then some (s + 30, 0) else none
def oAI0 (xs : Nat → Int32) : OhI := fun s _ j => if s = 3 then xs j else if 71 ≤ s ∧ s < 85 then (ohByts.getD (s - 71) []).getD j 0 else 0
def oAN0 (L : Nat) : OhN := fun s _ => if s = 3 then L else if 71 ≤ s ∧ s < 85 then ohLens.getD (s - 71) 0 else 0
def oC0 : OhC := fun s => if s = 3 ∨ s = 40 ∨ s = 58 ∨ (41 ≤ s ∧ s < 55) ∨ (71 ≤ s ∧ s < 85) then 1 else 0
def oh0 (L : Nat) (xs : Nat → Int32) : OhH := (fun _ _ _ => 0, fun _ _ _ => 0, oFR0, fun _ _ _ => none, oAI0 xs, fun _ _ _ => 0, fun _ _ _ => none, fun _ _ _ => none, oAN0 L, oC0)
def oPad (b t mi : Nat) (adK adV : Nat → Nat) : Nat → Nat → Nat := fun s _ => if s = 3 then b else if s = 40 then t else if s = 58 then mi else if 41 ≤ s ∧ s < 55 then adK (s - 41) else if 71 ≤ s ∧ s < 85 then adV (s - 71) else 0
def oG0 (l : Launch) (D : va_G) (aI : Nat → ClassId) (s : State) (L : Nat) (xs : Nat → Int32) (b t mi : Nat) (adK adV : Nat → Nat) : OhG := (l, D, aI, s.heap.size, s.heap, oPad b t mi adK adV, oh0 L xs)
theorem oC0_pre {s i : Nat} (h : i < oC0 s) : ohPre s = true ∧ i = 0 := by
  unfold oC0 at h
  by_cases h1 : s = 3 ∨ s = 40 ∨ s = 58 ∨ (41 ≤ s ∧ s < 55) ∨ (71 ≤ s ∧ s < 85)
  · rw [if_pos h1] at h
    refine ⟨?_, by omega⟩
    have h2 : s < 85 := by omega
    have key : ∀ s, s < 85 → (s = 3 ∨ s = 40 ∨ s = 58 ∨ (41 ≤ s ∧ s < 55) ∨ (71 ≤ s ∧ s < 85)) → ohPre s = true := by decide
    exact key s h2 h1
  · rw [if_neg h1] at h
    omega
theorem oh0_wf {L : Nat} {xs : Nat → Int32} : ohWf (oh0 L xs) := by
  intro s i
  refine ⟨fun k a h => ?_, fun k a h => (by cases h), fun k a h => (by cases h), fun k a h => (by cases h)⟩
  have h : oFR0 s i k = some a := h
  unfold oFR0 at h
  by_cases h1 : 41 ≤ s ∧ s < 55 ∧ i = 0 ∧ k = 0
  · rw [if_pos h1] at h
    cases h
    show 0 < oC0 (s + 30)
    unfold oC0
    rw [if_pos (by omega)]; omega
  · rw [if_neg h1] at h; cases h
theorem oSt_Cz {l : Launch} {D : va_G} {aI : Nat → ClassId} {s : State} {L : Nat} {xs : Nat → Int32} {b t mi : Nat} {adK adV : Nat → Nat} (hlt : ∀ z i, i < oC0 z → ohKd z ≠ 140 → oPad b t mi adK adV z i < s.heap.size)
    (hinj : ∀ z z', 0 < oC0 z → 0 < oC0 z' → ohKd z ≠ 140 → ohKd z' ≠ 140 → oPad b t mi adK adV z 0 = oPad b t mi adK adV z' 0 → z = z') : ohCz (oG0 l D aI s L xs b t mi adK adV) (oPad b t mi adK adV) (oh0 L xs) s.heap := by
  refine ⟨Nat.le_refl _, fun q _ => rfl, fun z i hi hp => ?_, fun z i hp => ⟨rfl, ohEq.rf⟩, fun z hp => ⟨rfl, fun i hi hk => hlt z i hi hk⟩, fun z i z' i' hi hi' n1 n2 e => ?_, oh0_wf⟩
  · have h1 := (oC0_pre (s := z) (i := i) hi).1
    rw [hp] at h1; cases h1
  · obtain ⟨-, rfl⟩ := oC0_pre (s := z) (i := i) hi
    obtain ⟨-, rfl⟩ := oC0_pre (s := z') (i := i') hi'
    exact ⟨hinj z z' hi hi' n1 n2 e, rfl⟩
