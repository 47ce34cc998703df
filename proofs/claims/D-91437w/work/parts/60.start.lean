/-! START 1: the tables at the law's entry -/
section OSTART
variable {s : State} {args : Array Value}
theorem oKn_all (hts : ∀ w ∈ lw_tbl, w.before args s = true) : ∀ (c : Nat) (q : vw_C), ohCL[c]? = some q → ∃ (cC : ClassId) (iS : Nat → Nat), u_Kn s q.1 q.2.1 q.2.2 cC iS := by
  have hta : ∀ w ∈ lw_all, w.before args s = true := fun w h => hts w (List.mem_filter.mp h).1
  intro c q h
  match c, h with
  | 0, h => cases h; exact u_known (n := 37) hta in_X1 (hta _ q171)
  | 1, h => cases h; exact u_known (n := 101) hta in_X4 (hta _ q1703)
  | 2, h => cases h; exact u_known (n := 4) hta in_X2 (hta _ q207)
  | 3, h => cases h; exact u_known (n := 7) hta in_X3 (hta _ q258)
  | 4, h => cases h; exact u_known (n := 7) hta in_X5 (hta _ q435)
  | 5, h => cases h; exact u_known (n := 4) hta in_X6 (hta _ q473)
  | 6, h => cases h; exact u_known (n := 5) hta in_X7 (hta _ q566)
  | 7, h => cases h; exact u_known (n := 7) hta in_X8 (hta _ q572)
  | 8, h => cases h; exact u_known (n := 12) hta in_X9 (hta _ q663)
  | 9, h => cases h; exact u_known (n := 8) hta in_X10 (hta _ q989)
  | 10, h => cases h; exact u_known (n := 2) hta in_X11 (hta _ q1065)
  | 11, h => cases h; exact u_known (n := 2) hta in_X12 (hta _ q1083)
  | 12, h => cases h; exact u_known (n := 5) hta in_X13 (hta _ q1223)
  | 13, h => cases h; exact u_known (n := 5) hta in_X14 (hta _ q1272)
  | 14, h => cases h; exact u_known (n := 7) hta in_X15 (hta _ q1309)
  | 15, h => cases h; exact u_known (n := 5) hta in_X16 (hta _ q1358)
  | 16, h => cases h; exact u_known (n := 4) hta in_X17 (hta _ q1392)
  | 17, h => cases h; exact u_known (n := 3) hta in_J2 (hta _ q179)
  | 18, h => cases h; exact u_known (n := 4) hta in_J8 (hta _ q911)
  | 19, h => cases h; exact u_known (n := 4) hta in_J13 (hta _ q810)
  | 20, h => cases h; exact u_known (n := 6) hta in_J20 (hta _ q1683)
  | c + 21, h => simp [ohCL] at h
theorem oKn_D (h : ∀ (c : Nat) (q : vw_C), ohCL[c]? = some q → ∃ (cC : ClassId) (iS : Nat → Nat), u_Kn s q.1 q.2.1 q.2.2 cC iS) : ∃ D : va_G, ∀ (c : Nat) (q : vw_C), ohCL[c]? = some q → u_Kn s q.1 q.2.1 q.2.2 (D.1 c) (D.2 c) := by
  have h2 : ∀ c : Nat, ∃ z : ClassId × (Nat → Nat), ∀ q : vw_C, ohCL[c]? = some q → u_Kn s q.1 q.2.1 q.2.2 z.1 z.2 := fun c => by
    cases hc : ohCL[c]? with
    | none => exact ⟨(0, fun _ => 0), fun q h => by cases h⟩
    | some q =>
      obtain ⟨a, b, k⟩ := h c q hc
      exact ⟨(a, b), fun q' h' => by cases h'; exact k⟩
  exact ⟨(fun c => (Classical.choose (h2 c)).1, fun c => (Classical.choose (h2 c)).2), fun c q hq => Classical.choose_spec (h2 c) q hq⟩
theorem oAr_p {ty : FieldType} (h : (Cond.arrayClass ty).before args s = true) (hp : ∀ c, s.vm.findClass ("[" ++ ty.toString) = some c → va_RA s c ty) : ∃ cA, ArrOfT s cA ty ∧ va_RA s cA ty := by
  obtain ⟨c, k, comp, h1, h2, h3⟩ := Cond.arrayClass_spec h
  exact ⟨c, fun n z => ⟨fun _ e => (by cases e), k, h2, comp, h3⟩, hp c h1⟩
theorem oAr_o {C : String} (h : (Cond.arrayOver (.object C)).before args s = true) : ∃ cA, ArrOfT s cA (.object C) ∧ va_RA s cA (.object C) := by
  obtain ⟨comp, c, k, h1, -, h3, h4, h5⟩ := Cond.arrayOver_spec h
  exact ⟨c, fun n z => ⟨fun _ e => (by cases e), k, h3, comp, h4⟩, k, comp, h3, h4, h1, h5⟩
theorem oAr_a (h : (Cond.arrayOver (.array .int)).before args s = true) : ∃ cA, ArrOfT s cA (.array .int) ∧ va_RA s cA (.array .int) := by
  simp only [Cond.before, Cond.holds, Cond.value, beq_iff_eq] at h
  cases hc : s.vm.findClass (FieldType.array .int).toString with
  | none => simp [hc] at h
  | some comp =>
    simp only [hc, Option.bind_some, Option.bind_eq_some_iff, Option.map_eq_some_iff] at h
    obtain ⟨c, hi, k, hk, hb⟩ := h
    obtain ⟨hlt, hp, -⟩ := Array.findIdx?_eq_some_iff_getElem.mp hi
    have hkk : s.vm.classes[c] = k := (Array.getElem?_eq_some_iff.mp hk).2
    rw [hkk] at hp
    cases hkind : k.kind with
    | array component ty =>
      rw [hkind] at hb hp
      simp at hb hp
      exact ⟨c, fun n z => ⟨fun _ e => (by cases e), k, hk, comp, by rw [hkind, hp, hb.1]⟩, hb.2⟩
    | _ => rw [hkind] at hb; simp at hb
/-- the tables' own part of what the layer asks -/
theorem oSt_K (hts : ∀ w ∈ lw_tbl, w.before args s = true) : ∃ (D : va_G) (aI : Nat → ClassId), va_K D ohCL (List.zipIdx ohTys |>.map fun q => (aI q.2, q.1)) s := by
  have hta : ∀ w ∈ lw_all, w.before args s = true := fun w h => hts w (List.mem_filter.mp h).1
  obtain ⟨D, hD⟩ := oKn_D (oKn_all hts)
  obtain ⟨c0, a0, r0⟩ := oAr_p (s := s) (ty := .int) (hta _ q205) (fun c h => h)
  obtain ⟨c1, a1, r1⟩ := oAr_p (s := s) (ty := .boolean) (hta _ q292) (fun c h => h)
  obtain ⟨c2, a2, r2⟩ := oAr_p (s := s) (ty := .byte) (hta _ q204) (fun c h => h)
  obtain ⟨c3, a3, r3⟩ := oAr_p (s := s) (ty := .long) (hta _ q2453) (fun c h => h)
  obtain ⟨c4, a4, r4⟩ := oAr_a (s := s) (hts _ q213)
  obtain ⟨c5, a5, r5⟩ := oAr_o (s := s) (C := "OperaHouse$Call") (hts _ q255)
  obtain ⟨c6, a6, r6⟩ := oAr_o (s := s) (C := "java/lang/Object") (hts _ q553)
  refine ⟨D, fun t => [c0, c1, c2, c3, c4, c5, c6].getD t 0, hD, fun k q h => ?_⟩
  match k, h with
  | 0, h => cases h; exact ⟨a0, r0⟩
  | 1, h => cases h; exact ⟨a1, r1⟩
  | 2, h => cases h; exact ⟨a2, r2⟩
  | 3, h => cases h; exact ⟨a3, r3⟩
  | 4, h => cases h; exact ⟨a4, r4⟩
  | 5, h => cases h; exact ⟨a5, r5⟩
  | 6, h => cases h; exact ⟨a6, r6⟩
  | k + 7, h => simp [ohTys] at h
theorem oSt_Nw (hts : ∀ w ∈ lw_tbl, w.before args s = true) : ohNw s :=
  ⟨fun a i b n d h hw => va_Nw.of rfl (hts _ hw), fun a i x h hw => va_Nw.of rfl (hts _ hw), fun a b hw => va_Nw.of rfl (hts _ hw), fun x hw => va_Nw.of rfl (hts _ hw), fun C hw => (show (Cond.arrayOver (.object C)).before #[] s = true from hts _ hw)⟩
end OSTART
