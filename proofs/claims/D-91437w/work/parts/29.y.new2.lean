/-! CORE 20: a new object with followed references alone -/
section OHQ
variable {G : OhG} {d : Nat} {Y : OhM} {pc : Nat} {ls : List (Nat × OhV)} {st : List OhV} {k : Nat × Nat} {Φ : OhP} {Ψ : OhX}
variable {FI AI : OhI} {FL AL : OhL} {FR GR AR BR : OhQ} {AN : OhN} {C : OhC}
theorem oX_newQ {idx ci N s9 : Nat} (q : oCn Y.1.cls idx ci N) (hk : ohKd s9 = ci) (hf : (List.range N).all (fun j => !(ohTrk ci j) || ohFk ci j == 3) = true) (dc : decode Y.2.1 pc = .ok (.new idx, 3))
    {GR2 : OhQ} (eGR : GR2 = sA GR s9 (C s9) (fun _ => none)) {C2 : OhC} (eC : C2 = uA C s9 (C s9 + 1)) (kk : oX G d Y (pc + 3) ls (vR (some (s9, C s9)) :: st) (FI, FL, FR, GR2, AI, AL, AR, BR, AN, C2) k Φ Ψ) : oX G d Y pc ls st (FI, FL, FR, GR, AI, AL, AR, BR, AN, C) (1 + k.1, N + k.2) Φ Ψ := by
  subst eGR; subst eC
  refine oX_newG (h' := (FI, FL, FR, sA GR s9 (C s9) (fun _ => none), AI, AL, AR, BR, AN, uA C s9 (C s9 + 1))) q hk dc rfl (fun s' i' hh9 => oEq_of (rfl) (rfl) (rfl) (sA_ne _ _ hh9) (rfl) (rfl) (rfl) (rfl) (rfl)) (fun j hj ht => ?_) ?_ kk
  · have hf9 := List.all_eq_true.mp hf j (List.mem_range.mpr hj)
    rw [ht] at hf9
    simp only [Bool.not_true, Bool.false_or, Bool.or_eq_true, beq_iff_eq, Bool.false_eq_true] at hf9
    refine ⟨fun g => ?_, fun g => ?_, fun g => ?_, fun g0 g1 g2 => ?_⟩
    · omega
    · omega
    · omega
    · dsimp only [hC]; rw [sA_same]
  · intro hw s i
    have hmono : ∀ s, C s ≤ uA C s9 (C s9 + 1) s := fun s => by
      by_cases h9 : s = s9
      · subst h9; rw [uA_same]; omega
      · rw [uA_ne _ _ h9]; exact Nat.le_refl _
    have h9 := hw s i
    refine ⟨fun j => ?_, fun j => ?_, fun j => ohWr_mono hmono (h9.2.2.1 j), fun j => ohWr_mono hmono (h9.2.2.2 j)⟩
    · exact ohWr_mono hmono (h9.1 j)
    · show ohWr _ (sA GR s9 (C s9) (fun _ => none) s i j)
      by_cases hs : s = s9 ∧ i = C s9
      · obtain ⟨rfl, rfl⟩ := hs
        rw [sA_same]; exact fun a ha => by cases ha
      · rw [sA_ne _ _ hs]; exact ohWr_mono hmono (h9.2.1 j)
end OHQ
