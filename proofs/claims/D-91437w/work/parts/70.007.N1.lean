noncomputable section
set_option linter.unusedVariables false
/-! PLAIN 3e: all that is wrong, in its order -/
def PTb.isW (T : PTb) (what c r : Nat) : Bool := if what = 7 then decide (T.cast c r < 0) else decide (0 ≤ T.cast c r) && T.wr what (T.cast c r).toNat c r
abbrev PNt := Nat × Nat × Int
def PTb.nCall (T : PTb) (bad : Nat → Bool) (c : Nat) : Nat → List PNt
  | 0 => []
  | k + 1 => T.nCall bad c k ++ (if T.wc bad (k + 1) c = true then [(k + 1, c, -1)] else [])
def PTb.nRole (T : PTb) (what c : Nat) : Nat → List PNt
  | 0 => []
  | r + 1 => T.nRole what c r ++ (if T.isW what c r = true then [(what, c, (r : Int))] else [])
def PTb.nKind (T : PTb) (c : Nat) : Nat → List PNt
  | 0 => []
  | k + 1 => T.nKind c k ++ T.nRole (7 + k) c (T.nr c)
def PTb.nAll (T : PTb) (bad : Nat → Bool) : Nat → List PNt
  | 0 => []
  | k + 1 => T.nAll bad k ++ (T.nCall bad (T.ord k) 6 ++ T.nKind (T.ord k) 9)
def PTb.notes (T : PTb) : List PNt := T.nAll T.bad T.all
theorem nCall_len (T : PTb) (bad : Nat → Bool) (c : Nat) : ∀ k, (T.nCall bad c k).length ≤ k
  | 0 => Nat.le_refl _
  | k + 1 => by
    have := nCall_len T bad c k
    simp only [PTb.nCall, List.length_append]
    split <;> simp <;> omega
theorem nRole_len (T : PTb) (w c : Nat) : ∀ k, (T.nRole w c k).length ≤ k
  | 0 => Nat.le_refl _
  | k + 1 => by
    have := nRole_len T w c k
    simp only [PTb.nRole, List.length_append]
    split <;> simp <;> omega
theorem nKind_len (T : PTb) (c : Nat) (h : T.nr c ≤ 8) : ∀ k, (T.nKind c k).length ≤ 8 * k
  | 0 => Nat.le_refl _
  | k + 1 => by
    have := nKind_len T c h k
    have h2 := nRole_len T (7 + k) c (T.nr c)
    simp only [PTb.nKind, List.length_append]
    omega
theorem nAll_len (T : PTb) (bad : Nat → Bool) (h : ∀ k, k < T.all → T.nr (T.ord k) ≤ 8) : ∀ k, k ≤ T.all → (T.nAll bad k).length ≤ 78 * k
  | 0, _ => Nat.le_refl _
  | k + 1, hk => by
    have h0 := nAll_len T bad h k (by omega)
    have h1 := nCall_len T bad (T.ord k) 6
    have h2 := nKind_len T (T.ord k) (h k (by omega)) 9
    simp only [PTb.nAll, List.length_append]
    omega
end
