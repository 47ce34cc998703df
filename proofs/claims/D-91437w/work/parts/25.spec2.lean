/-! CORE 14: the length of an array that may be the empty one of before -/
def oD2 (t : Nat) (r : OhR) : OhR := match r with
  | none => none
  | some a => if ohKd a.1 = 100 + t ∨ ohKd a.1 = 120 + t then some a else none
theorem oD2_some {t : Nat} {r : OhR} {a : Nat × Nat} (e : oD2 t r = some a) : r = some a ∧ (ohKd a.1 = 100 + t ∨ ohKd a.1 = 120 + t) := by
  cases r with
  | none => cases e
  | some b =>
    unfold oD2 at e
    by_cases h9 : ohKd b.1 = 100 + t ∨ ohKd b.1 = 120 + t
    · simp only [if_pos h9] at e
      cases e
      exact ⟨rfl, h9⟩
    · simp only [if_neg h9] at e
      cases e
section OS2
variable {G : OhG} {d : Nat} {Y : OhM} {pc : Nat} {ls : List (Nat × OhV)} {st : List OhV} {k : Nat × Nat} {Φ : OhP} {Ψ : OhX} {h : OhH}
variable {FI AI : OhI} {FL AL : OhL} {FR GR AR BR : OhQ} {AN : OhN} {C : OhC}
theorem oX_alen2 (t : Nat) (h7 : t < 7) {r : OhR} {a : Nat × Nat} (hr : oD2 t r = some a) (dc : decode Y.2.1 pc = .ok (.arraylength, 1))
    (kk : oX G d Y (pc + 1) ls (vI (Int32.ofNat (AN a.1 a.2)) :: st) (FI, FL, FR, GR, AI, AL, AR, BR, AN, C) k Φ Ψ) : oX G d Y pc ls (vR r :: st) (FI, FL, FR, GR, AI, AL, AR, BR, AN, C) k Φ Ψ := by
  obtain ⟨rfl, h9 | h9⟩ := oD2_some hr
  · exact oX_alen t h7 (oD_t h9) dc kk
  · exact oX_alenP t h7 (oD_t h9) dc kk
end OS2
