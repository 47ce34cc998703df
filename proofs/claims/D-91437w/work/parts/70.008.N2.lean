noncomputable section
set_option linter.unusedVariables false
/-! PLAIN 3f: who comes instead -/
def PTb.give (T : PTb) (c r : Nat) (s : Int) : PTb := ((T.s_cast (upT T.cast c r s)).s_ahead (upT T.ahead c r (T.cast c r)))
def PTb.val (T : PTb) (s : Nat) (w c r : Nat) : Bool := T.cast c r == (s : Int) && w != 9 && T.wr w s c r
def PTb.newW (T T' : PTb) (s : Nat) : Bool := anyN T'.all fun c => anyN (T'.nr c) fun r => T'.cast c r == (s : Int) && anyN 8 fun k => T'.val s (8 + k) c r && !T.val s (8 + k) c r
def PTb.mayHave (T : PTb) (s c r : Nat) : Bool := !(decide ((T.ca c).day < T.S.today) || T.isCast s c) && !T.newW (T.give c r s) s
def PTb.harmOf (T : PTb) (s c r : Nat) : Int :=
  (if T.cover c r = (s : Int) then 0 else 100) + (if 0 < (T.o c).need - T.learned s (T.ca c).op r (T.ca c).beg then 10 * ((T.o c).need - T.learned s (T.ca c).op r (T.ca c).beg) else 0)
  + 3 * (if ((T.o c).ro r).size ≤ (T.S.sg s).size then (T.S.sg s).size - ((T.o c).ro r).size else ((T.o c).ro r).size - (T.S.sg s).size) + (T.give c r s).fee s c / 100
def PTb.harm (T : PTb) (s c r : Nat) : Int := if T.isCast s c = true then -1 else T.harmOf s c r
/-- best and least among the first -/
def PTb.best (T : PTb) (c r : Nat) : Nat → Int × Int
  | 0 => (-1, 0)
  | s + 1 => if T.mayHave s c r = true ∧ ((T.best c r s).1 < 0 ∨ T.harm s c r < (T.best c r s).2) then ((s : Int), T.harm s c r) else T.best c r s
theorem give_ok {T : PTb} (hT : PTbOk T) {c r : Nat} {s : Int} (hs : -1 ≤ s ∧ s < T.S.nS) (hc : c < T.all) (hr : r < 8) : PTbOk (T.give c r s) := by
  refine ⟨hT.S, hT.all, hT.ca, hT.ord, hT.pos, hT.op, hT.po, hT.sorted, hT.sum, fun c2 r2 h1 h2 => ?_, fun c2 r2 h1 h2 => ?_, hT.cover, hT.asOf⟩
  · simp only [PTb.give, PTb.S_s_cast, PTb.all_s_cast, PTb.ca_s_cast, PTb.ord_s_cast, PTb.pos_s_cast, PTb.cast_s_cast, PTb.ahead_s_cast, PTb.cover_s_cast, PTb.asOf_s_cast, PTb.S_s_ahead, PTb.all_s_ahead, PTb.ca_s_ahead, PTb.ord_s_ahead, PTb.pos_s_ahead, PTb.cast_s_ahead, PTb.ahead_s_ahead, PTb.cover_s_ahead, PTb.asOf_s_ahead, upT]
    split
    · exact hs
    · exact hT.cast c2 r2 h1 h2
  · simp only [PTb.give, PTb.S_s_cast, PTb.all_s_cast, PTb.ca_s_cast, PTb.ord_s_cast, PTb.pos_s_cast, PTb.cast_s_cast, PTb.ahead_s_cast, PTb.cover_s_cast, PTb.asOf_s_cast, PTb.S_s_ahead, PTb.all_s_ahead, PTb.ca_s_ahead, PTb.ord_s_ahead, PTb.pos_s_ahead, PTb.cast_s_ahead, PTb.ahead_s_ahead, PTb.cover_s_ahead, PTb.asOf_s_ahead, upT]
    split
    · exact hT.cast c r hc hr
    · exact hT.ahead c2 r2 h1 h2
end
