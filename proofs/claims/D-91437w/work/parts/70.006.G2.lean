noncomputable section
set_option linter.unusedVariables false
theorem anyN_succ (n : Nat) (p : Nat → Bool) : anyN (n + 1) p = (anyN n p || p n) := rfl
theorem anyN_zero (p : Nat → Bool) : anyN 0 p = false := rfl
/-! PLAIN 3d: sets in time, whatever the ways of standing are kept as -/
def PWg (β : Type) : Type := (β → β) × (β → Bool) × (β → Nat → Bool) × (β → Nat → β) × (β)
def PWg.mk {β : Type} (go : β → β) (mo : β → Bool) (can : β → Nat → Bool) (only : β → Nat → β) (first : β) : PWg β := (go, mo, can, only, first)
def PWg.go {β : Type} (x : PWg β) : β → β := x.1
def PWg.mo {β : Type} (x : PWg β) : β → Bool := x.2.1
def PWg.can {β : Type} (x : PWg β) : β → Nat → Bool := x.2.2.1
def PWg.only {β : Type} (x : PWg β) : β → Nat → β := x.2.2.2.1
def PWg.first {β : Type} (x : PWg β) : β := x.2.2.2.2
theorem PWg.g_go {β : Type} {go : β → β} {mo : β → Bool} {can : β → Nat → Bool} {only : β → Nat → β} {first : β} : (PWg.mk go mo can only first).go = go := rfl
theorem PWg.g_mo {β : Type} {go : β → β} {mo : β → Bool} {can : β → Nat → Bool} {only : β → Nat → β} {first : β} : (PWg.mk go mo can only first).mo = mo := rfl
theorem PWg.g_can {β : Type} {go : β → β} {mo : β → Bool} {can : β → Nat → Bool} {only : β → Nat → β} {first : β} : (PWg.mk go mo can only first).can = can := rfl
theorem PWg.g_only {β : Type} {go : β → β} {mo : β → Bool} {can : β → Nat → Bool} {only : β → Nat → β} {first : β} : (PWg.mk go mo can only first).only = only := rfl
theorem PWg.g_first {β : Type} {go : β → β} {mo : β → Bool} {can : β → Nat → Bool} {only : β → Nat → β} {first : β} : (PWg.mk go mo can only first).first = first := rfl
def PTb.bzy (T : PTb) (h : Nat) : Bool := anyN T.all fun c => decide ((T.ca c).kind ≠ 0 ∧ (T.ca c).beg ≤ (h : Int) ∧ (h : Int) < (T.ca c).fin)
def hrs {β : Type} (W : PWg β) (bz : Nat → Bool) : Nat → Nat → Bool × β → Bool × β
  | 0, _, z => z
  | k + 1, h, z => hrs W bz k (h + 1) (if z.1 = true ∧ bz h = false then (W.mo z.2, W.go z.2) else z)
def setB (f : Nat → Bool) (c : Nat) (b : Bool) : Nat → Bool := fun d => if d = c then b else f d
def PTb.rollN {β : Type} (T : PTb) (W : PWg β) : Nat → Nat × β × (Nat → Bool)
  | 0 => (0, W.first, fun _ => false)
  | k + 1 =>
    let z := T.rollN W k
    let c := T.ord k
    if (T.ca c).kind < 2 then (z.1, z.2.1, setB z.2.2 c false)
    else
      let w := (hrs W T.bzy ((T.ca c).beg.toNat - z.1) z.1 (true, z.2.1)).2
      let b := !W.can w (T.o c).set.toNat
      (max z.1 (T.ca c).beg.toNat, if b = true then w else W.only w (T.o c).set.toNat, setB z.2.2 c b)
def WM : PWg (Nat → Bool) := ⟨goOnS, moreS, canS, onlyS, first625⟩
def PTb.bad (T : PTb) : Nat → Bool := (T.rollN WM T.all).2.2
end
