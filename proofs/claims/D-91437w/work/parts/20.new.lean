/-! CORE 11: Object.<init>, new objects and arrays, references stored, casts, throws, statics: printed by gen/mk_new.py -/
section OH3
variable {G : OhG} {d : Nat} {Y : OhM} {pc : Nat} {ls : List (Nat × OhV)} {st : List OhV} {k : Nat × Nat} {Φ : OhP} {Ψ : OhX} {h : OhH}
variable {FI AI : OhI} {FL AL : OhL} {FR GR AR BR : OhQ} {AN : OhN} {C : OhC}
theorem oX_objInit {idx : Nat} {r : OhR} {a : Nat × Nat} (hr : r = some a) (w1 : Cond.methodLink Y.1.cls idx Lib.objectInit ∈ lw_all) (w2 : Cond.instanceMethod Lib.objectInit ∈ lw_all) (w3 : Cond.code Lib.objectInit ⟨#[0xb1]⟩ 1 none ∈ lw_all) (dc : decode Y.2.1 pc = .ok (.invokespecial idx, 3)) (hd : 1 ≤ d) (h8 : (st.map fun v => if oIsL v = true then 2 else 1).sum ≤ 8)
    (kk : oX G d Y (pc + 3) ls st h k Φ Ψ) : oX G d Y pc ls (vR r :: st) h k Φ Ψ := by
  subst hr
  intro p e s m args below meth c mc ms ad0 h0 ad H locs cells slots Ls B hE hz hl1 hs1 hS hl hk1 hk2
  have K := kk p e s m args below meth c mc ms ad0 h0 ad H locs cells slots Ls B hE hz hl1 (oW_t hs1) hS hl hk1 hk2
  have h9 : ((st.map (gVl ad)).map fun v => v.category).sum ≤ 8 := oSumLe h8
  exact W.objInit (own := Y.1.cls) B.1 B.2.1 B.2.2.2.2.2.1 (B.2.2.2.2.2.2.1 _ w1) (B.2.2.2.2.2.2.1 _ w2) (B.2.2.2.2.2.2.1 _ w3) rfl (hl.1.trans B.2.2.2.2.1.symm) rfl dc (by show 1 ≤ d; exact hd) (by show 2 * 0 + ((st.map (gVl ad)).map fun v => v.category).sum + 12 ≤ 64 * d; omega) K
/-- the cell of a new object -/
theorem oNew_at {ad : Nat → Nat → Nat} {h' : OhH} {H1 : Heap} {s : State} {args : Array Value} {sit i ci N : Nat} {Cn : String} {T : u_T} {tyf : Nat → FieldType} {kC : Class} (hEnv : ohEnv G s) (hts : ∀ w ∈ lw_all, w.before args s = true) (hk : ohKd sit = ci) (h100 : ci < 100) (hc : ohCL[ci]? = some (Cn, T, N)) (hN : ohNf ci = N) (hin : ∀ w ∈ u_ws Cn T N, w ∈ lw_all) (hty : ∀ k, k < N → parseFieldDescriptor (T k).2.2.1 = some (tyf k))
    (hkC : s.vm.classes[G.2.1.1 ci]? = some kC) (e1 : H1[ad sit i]? = some (blank (G.2.1.1 ci) kC)) (hdf : ∀ j, j < N → ohTrk ci j = true → defaultValue (tyf j) = ohFv ad h' ci sit i j) : ohAt G ad h' H1 sit i := by
  unfold ohAt
  rw [hk, if_pos h100, hN]
  exact ⟨_, u_born tyf hts hin (hEnv.1.1 ci _ hc) hkC e1 hty, hdf, ⟨_, e1, rfl, rfl⟩⟩
/-- what 'new' needs to know of a class -/
def oCn (own : String) (idx ci N : Nat) : Prop := ∃ (Cn : String) (T : u_T) (tyf : Nat → FieldType), ohCL[ci]? = some (Cn, T, N) ∧ ohNf ci = N ∧ ci < 100 ∧ (∀ w ∈ u_ws Cn T N, w ∈ lw_all) ∧ (∀ j, j < N → parseFieldDescriptor (T j).2.2.1 = some (tyf j)) ∧ (∀ j, j < N → ohTrk ci j = true → match ohFk ci j with
    | 0 => defaultValue (tyf j) = .int 0
    | 1 => defaultValue (tyf j) = .long 0
    | _ => defaultValue (tyf j) = .null) ∧
  Cond.classLink own idx Cn ∈ lw_all ∧ Cond.instantiable Cn N ∈ lw_all ∧ Cond.initialized Cn ∈ lw_all
theorem oX_newG {h' : OhH} {idx ci N s9 : Nat} (q : oCn Y.1.cls idx ci N) (hk : ohKd s9 = ci) (dc : decode Y.2.1 pc = .ok (.new idx, 3)) (hC' : hC h' = uA (hC h) s9 (hC h s9 + 1)) (ho : ∀ s' i', ¬ (s' = s9 ∧ i' = hC h s9) → ohEq h h' s' i')
    (hdf : ∀ j, j < N → ohTrk ci j = true → (ohFk ci j = 0 → h'.1 s9 (hC h s9) j = 0) ∧ (ohFk ci j = 1 → h'.2.1 s9 (hC h s9) j = 0) ∧ (ohFk ci j = 2 → h'.2.2.1 s9 (hC h s9) j = none) ∧ (ohFk ci j ≠ 0 → ohFk ci j ≠ 1 → ohFk ci j ≠ 2 → h'.2.2.2.1 s9 (hC h s9) j = none)) (hw : ohWf h → ohWf h')
    (kk : oX G d Y (pc + 3) ls (vR (some (s9, hC h s9)) :: st) h' k Φ Ψ) : oX G d Y pc ls st h (1 + k.1, N + k.2) Φ Ψ := by
  intro p e s m args below meth c mc ms ad0 h0 ad H locs cells slots Ls B hE hz hl1 hs1 hS hl hk1 hk2
  obtain ⟨Cn, T, tyf, q1, q2, q3, q4, q5, q6, q7, q8, q9⟩ := q
  have hp : ohPre s9 = false := oPre_lt hk q3
  have hKn := B.2.2.2.2.2.2.2.1.1.1 ci _ q1
  refine W.newcK B.1 B.2.1 B.2.2.2.2.2.1 (B.2.2.2.2.2.2.1 _ q7) (B.2.2.2.2.2.2.1 _ q8) (B.2.2.2.2.2.2.1 _ q9) rfl dc (by show cells + 1 ≤ mc; omega) (by show slots + N ≤ ms; omega) hKn.2.1 rfl fun H1 kC hkC e1 z1 o1 => ?_
  have hat : ohAt G (sA ad s9 (hC h s9) H.size) h' H1 s9 (hC h s9) := by
    refine oNew_at (tyf := tyf) B.2.2.2.2.2.2.2.1 B.2.2.2.2.2.2.1 hk q3 q1 q2 q4 q5 hkC (by rw [sA_same]; exact e1) fun j hj ht => ?_
    have h6 := q6 j hj ht
    obtain ⟨d1, d2, d3, d4⟩ := hdf j hj ht
    unfold ohFv
    by_cases g0 : ohFk ci j = 0
    · rw [if_pos g0, d1 g0]; rw [g0] at h6; exact h6
    · rw [if_neg g0]
      by_cases g1 : ohFk ci j = 1
      · rw [if_pos g1, d2 g1]; rw [g1] at h6; exact h6
      · rw [if_neg g1]
        have h7 : defaultValue (tyf j) = .null := by
          revert h6
          split
          · rename_i g; exact fun _ => absurd g g0
          · rename_i g; exact fun _ => absurd g g1
          · exact id
        by_cases g2 : ohFk ci j = 2
        · rw [if_pos g2, d3 g2]; exact h7
        · rw [if_neg g2, d4 g0 g1 g2]; exact h7
  have hz' := ohCz_new hz hp hC' z1 o1 ho hat (hw hz.2.2.2.2.2.2)
  have hag : ∀ s i, i < hC h s → sA ad s9 (hC h s9) H.size s i = ad s i := fun s i hi => sA_ne _ _ (fun e9 => by obtain ⟨rfl, rfl⟩ := e9; omega)
  have hmono : ∀ s, hC h s ≤ hC h' s := fun s => by
    rw [hC']
    by_cases h9 : s = s9
    · subst h9; rw [uA_same]; omega
    · rw [uA_ne _ _ h9]; exact Nat.le_refl _
  have hE' : ohExt ad h (sA ad s9 (hC h s9) H.size) h' := ⟨hag, hmono⟩
  have hlm : (ls.map fun q => (q.1, gVl ad q.2)) = ls.map fun q => (q.1, gVl (sA ad s9 (hC h s9) H.size) q.2) := List.map_congr_left fun x hx => by rw [gVl_congr (hl1 x hx) hag]
  have hsm : st.map (gVl ad) = st.map (gVl (sA ad s9 (hC h s9) H.size)) := List.map_congr_left fun x hx => (gVl_congr (hs1 x hx) hag).symm
  rw [hlm] at hl
  have K := kk p e s m args below meth c mc ms ad0 h0 (sA ad s9 (hC h s9) H.size) H1 locs (cells + 1) (slots + N) Ls B (ohExt_trans hE hE') hz' (fun q hq => ohWv_mono hmono (hl1 q hq)) (oW_r (fun a ha => by cases ha; show hC h s9 < hC h' s9; rw [hC', uA_same]; omega) (fun v hv => ohWv_mono hmono (hs1 v hv))) ⟨Nat.le_trans hS.1 (by omega), fun x h1 h2 => (o1 x (Nat.lt_of_lt_of_le h1 hS.1)).trans (hS.2.1 x h1 h2), hS.2.2⟩ hl (by omega) (by omega)
  rw [List.map_cons, gVl_r] at K
  simp only [gRf, Option.map, sA_same, va_rf] at K
  rw [← hsm] at K
  exact K
theorem oX_newN {idx ci N s9 : Nat} (q : oCn Y.1.cls idx ci N) (hk : ohKd s9 = ci) (hf : (List.range N).all (fun j => !(ohTrk ci j) || false) = true) (dc : decode Y.2.1 pc = .ok (.new idx, 3))
    {C2 : OhC} (eC : C2 = uA C s9 (C s9 + 1)) (kk : oX G d Y (pc + 3) ls (vR (some (s9, C s9)) :: st) (FI, FL, FR, GR, AI, AL, AR, BR, AN, C2) k Φ Ψ) : oX G d Y pc ls st (FI, FL, FR, GR, AI, AL, AR, BR, AN, C) (1 + k.1, N + k.2) Φ Ψ := by
  subst eC
  refine oX_newG (h' := (FI, FL, FR, GR, AI, AL, AR, BR, AN, uA C s9 (C s9 + 1))) q hk dc rfl (fun s' i' hh9 => oEq_of (rfl) (rfl) (rfl) (rfl) (rfl) (rfl) (rfl) (rfl) (rfl)) (fun j hj ht => ?_) ?_ kk
  · have hf9 := List.all_eq_true.mp hf j (List.mem_range.mpr hj)
    rw [ht] at hf9
    simp only [Bool.not_true, Bool.false_or, Bool.or_eq_true, beq_iff_eq, Bool.false_eq_true] at hf9
  · intro hw s i
    have hmono : ∀ s, C s ≤ uA C s9 (C s9 + 1) s := fun s => by
      by_cases h9 : s = s9
      · subst h9; rw [uA_same]; omega
      · rw [uA_ne _ _ h9]; exact Nat.le_refl _
    have h9 := hw s i
    refine ⟨fun j => ?_, fun j => ?_, fun j => ohWr_mono hmono (h9.2.2.1 j), fun j => ohWr_mono hmono (h9.2.2.2 j)⟩
    · exact ohWr_mono hmono (h9.1 j)
    · exact ohWr_mono hmono (h9.2.1 j)
theorem oX_newI {idx ci N s9 : Nat} (q : oCn Y.1.cls idx ci N) (hk : ohKd s9 = ci) (hf : (List.range N).all (fun j => !(ohTrk ci j) || ohFk ci j == 0) = true) (dc : decode Y.2.1 pc = .ok (.new idx, 3))
    {FI2 : OhI} (eFI : FI2 = sA FI s9 (C s9) (fun _ => 0)) {C2 : OhC} (eC : C2 = uA C s9 (C s9 + 1)) (kk : oX G d Y (pc + 3) ls (vR (some (s9, C s9)) :: st) (FI2, FL, FR, GR, AI, AL, AR, BR, AN, C2) k Φ Ψ) : oX G d Y pc ls st (FI, FL, FR, GR, AI, AL, AR, BR, AN, C) (1 + k.1, N + k.2) Φ Ψ := by
  subst eFI; subst eC
  refine oX_newG (h' := (sA FI s9 (C s9) (fun _ => 0), FL, FR, GR, AI, AL, AR, BR, AN, uA C s9 (C s9 + 1))) q hk dc rfl (fun s' i' hh9 => oEq_of (sA_ne _ _ hh9) (rfl) (rfl) (rfl) (rfl) (rfl) (rfl) (rfl) (rfl)) (fun j hj ht => ?_) ?_ kk
  · have hf9 := List.all_eq_true.mp hf j (List.mem_range.mpr hj)
    rw [ht] at hf9
    simp only [Bool.not_true, Bool.false_or, Bool.or_eq_true, beq_iff_eq, Bool.false_eq_true] at hf9
    refine ⟨fun g => ?_, fun g => ?_, fun g => ?_, fun g0 g1 g2 => ?_⟩
    · dsimp only [hC]; rw [sA_same]
    · omega
    · omega
    · omega
  · intro hw s i
    have hmono : ∀ s, C s ≤ uA C s9 (C s9 + 1) s := fun s => by
      by_cases h9 : s = s9
      · subst h9; rw [uA_same]; omega
      · rw [uA_ne _ _ h9]; exact Nat.le_refl _
    have h9 := hw s i
    refine ⟨fun j => ?_, fun j => ?_, fun j => ohWr_mono hmono (h9.2.2.1 j), fun j => ohWr_mono hmono (h9.2.2.2 j)⟩
    · exact ohWr_mono hmono (h9.1 j)
    · exact ohWr_mono hmono (h9.2.1 j)
theorem oX_newIF {idx ci N s9 : Nat} (q : oCn Y.1.cls idx ci N) (hk : ohKd s9 = ci) (hf : (List.range N).all (fun j => !(ohTrk ci j) || ohFk ci j == 0 || ohFk ci j == 2) = true) (dc : decode Y.2.1 pc = .ok (.new idx, 3))
    {FI2 : OhI} (eFI : FI2 = sA FI s9 (C s9) (fun _ => 0)) {FR2 : OhQ} (eFR : FR2 = sA FR s9 (C s9) (fun _ => none)) {C2 : OhC} (eC : C2 = uA C s9 (C s9 + 1)) (kk : oX G d Y (pc + 3) ls (vR (some (s9, C s9)) :: st) (FI2, FL, FR2, GR, AI, AL, AR, BR, AN, C2) k Φ Ψ) : oX G d Y pc ls st (FI, FL, FR, GR, AI, AL, AR, BR, AN, C) (1 + k.1, N + k.2) Φ Ψ := by
  subst eFI; subst eFR; subst eC
  refine oX_newG (h' := (sA FI s9 (C s9) (fun _ => 0), FL, sA FR s9 (C s9) (fun _ => none), GR, AI, AL, AR, BR, AN, uA C s9 (C s9 + 1))) q hk dc rfl (fun s' i' hh9 => oEq_of (sA_ne _ _ hh9) (rfl) (sA_ne _ _ hh9) (rfl) (rfl) (rfl) (rfl) (rfl) (rfl)) (fun j hj ht => ?_) ?_ kk
  · have hf9 := List.all_eq_true.mp hf j (List.mem_range.mpr hj)
    rw [ht] at hf9
    simp only [Bool.not_true, Bool.false_or, Bool.or_eq_true, beq_iff_eq, Bool.false_eq_true] at hf9
    refine ⟨fun g => ?_, fun g => ?_, fun g => ?_, fun g0 g1 g2 => ?_⟩
    · dsimp only [hC]; rw [sA_same]
    · omega
    · dsimp only [hC]; rw [sA_same]
    · omega
  · intro hw s i
    have hmono : ∀ s, C s ≤ uA C s9 (C s9 + 1) s := fun s => by
      by_cases h9 : s = s9
      · subst h9; rw [uA_same]; omega
      · rw [uA_ne _ _ h9]; exact Nat.le_refl _
    have h9 := hw s i
    refine ⟨fun j => ?_, fun j => ?_, fun j => ohWr_mono hmono (h9.2.2.1 j), fun j => ohWr_mono hmono (h9.2.2.2 j)⟩
    · show ohWr _ (sA FR s9 (C s9) (fun _ => none) s i j)
      by_cases hs : s = s9 ∧ i = C s9
      · obtain ⟨rfl, rfl⟩ := hs
        rw [sA_same]; exact fun a ha => by cases ha
      · rw [sA_ne _ _ hs]; exact ohWr_mono hmono (h9.1 j)
    · exact ohWr_mono hmono (h9.2.1 j)
theorem oX_newIG {idx ci N s9 : Nat} (q : oCn Y.1.cls idx ci N) (hk : ohKd s9 = ci) (hf : (List.range N).all (fun j => !(ohTrk ci j) || ohFk ci j == 0 || ohFk ci j == 3) = true) (dc : decode Y.2.1 pc = .ok (.new idx, 3))
    {FI2 : OhI} (eFI : FI2 = sA FI s9 (C s9) (fun _ => 0)) {GR2 : OhQ} (eGR : GR2 = sA GR s9 (C s9) (fun _ => none)) {C2 : OhC} (eC : C2 = uA C s9 (C s9 + 1)) (kk : oX G d Y (pc + 3) ls (vR (some (s9, C s9)) :: st) (FI2, FL, FR, GR2, AI, AL, AR, BR, AN, C2) k Φ Ψ) : oX G d Y pc ls st (FI, FL, FR, GR, AI, AL, AR, BR, AN, C) (1 + k.1, N + k.2) Φ Ψ := by
  subst eFI; subst eGR; subst eC
  refine oX_newG (h' := (sA FI s9 (C s9) (fun _ => 0), FL, FR, sA GR s9 (C s9) (fun _ => none), AI, AL, AR, BR, AN, uA C s9 (C s9 + 1))) q hk dc rfl (fun s' i' hh9 => oEq_of (sA_ne _ _ hh9) (rfl) (rfl) (sA_ne _ _ hh9) (rfl) (rfl) (rfl) (rfl) (rfl)) (fun j hj ht => ?_) ?_ kk
  · have hf9 := List.all_eq_true.mp hf j (List.mem_range.mpr hj)
    rw [ht] at hf9
    simp only [Bool.not_true, Bool.false_or, Bool.or_eq_true, beq_iff_eq, Bool.false_eq_true] at hf9
    refine ⟨fun g => ?_, fun g => ?_, fun g => ?_, fun g0 g1 g2 => ?_⟩
    · dsimp only [hC]; rw [sA_same]
    · omega
    · omega
    · dsimp only [hC]; rw [sA_same]
  · intro hw s i
    have hmono : ∀ s, C s ≤ uA C s9 (C s9 + 1) s := fun s => by
      by_cases h9 : s = s9
      · subst h9; rw [uA_same]; omega
      · rw [uA_ne _ _ h9]; exact Nat.le_refl _
    have h9 := hw s i
    refine ⟨fun j => ?_, fun j => ?_, fun j => ohWr_mono hmono (h9.2.2.1 j), fun j => ohWr_mono hmono (h9.2.2.2 j)⟩
    · exact ohWr_mono hmono (h9.1 j)
    · show ohWr _ (sA GR s9 (C s9) (fun _ => none) s i j)
      by_cases hs : s = s9 ∧ i = C s9
      · obtain ⟨rfl, rfl⟩ := hs
        rw [sA_same]; exact fun a ha => by cases ha
      · rw [sA_ne _ _ hs]; exact ohWr_mono hmono (h9.2.1 j)
theorem oX_newIFG {idx ci N s9 : Nat} (q : oCn Y.1.cls idx ci N) (hk : ohKd s9 = ci) (hf : (List.range N).all (fun j => !(ohTrk ci j) || ohFk ci j == 0 || ohFk ci j == 2 || ohFk ci j == 3) = true) (dc : decode Y.2.1 pc = .ok (.new idx, 3))
    {FI2 : OhI} (eFI : FI2 = sA FI s9 (C s9) (fun _ => 0)) {FR2 : OhQ} (eFR : FR2 = sA FR s9 (C s9) (fun _ => none)) {GR2 : OhQ} (eGR : GR2 = sA GR s9 (C s9) (fun _ => none)) {C2 : OhC} (eC : C2 = uA C s9 (C s9 + 1)) (kk : oX G d Y (pc + 3) ls (vR (some (s9, C s9)) :: st) (FI2, FL, FR2, GR2, AI, AL, AR, BR, AN, C2) k Φ Ψ) : oX G d Y pc ls st (FI, FL, FR, GR, AI, AL, AR, BR, AN, C) (1 + k.1, N + k.2) Φ Ψ := by
  subst eFI; subst eFR; subst eGR; subst eC
  refine oX_newG (h' := (sA FI s9 (C s9) (fun _ => 0), FL, sA FR s9 (C s9) (fun _ => none), sA GR s9 (C s9) (fun _ => none), AI, AL, AR, BR, AN, uA C s9 (C s9 + 1))) q hk dc rfl (fun s' i' hh9 => oEq_of (sA_ne _ _ hh9) (rfl) (sA_ne _ _ hh9) (sA_ne _ _ hh9) (rfl) (rfl) (rfl) (rfl) (rfl)) (fun j hj ht => ?_) ?_ kk
  · have hf9 := List.all_eq_true.mp hf j (List.mem_range.mpr hj)
    rw [ht] at hf9
    simp only [Bool.not_true, Bool.false_or, Bool.or_eq_true, beq_iff_eq, Bool.false_eq_true] at hf9
    refine ⟨fun g => ?_, fun g => ?_, fun g => ?_, fun g0 g1 g2 => ?_⟩
    · dsimp only [hC]; rw [sA_same]
    · omega
    · dsimp only [hC]; rw [sA_same]
    · dsimp only [hC]; rw [sA_same]
  · intro hw s i
    have hmono : ∀ s, C s ≤ uA C s9 (C s9 + 1) s := fun s => by
      by_cases h9 : s = s9
      · subst h9; rw [uA_same]; omega
      · rw [uA_ne _ _ h9]; exact Nat.le_refl _
    have h9 := hw s i
    refine ⟨fun j => ?_, fun j => ?_, fun j => ohWr_mono hmono (h9.2.2.1 j), fun j => ohWr_mono hmono (h9.2.2.2 j)⟩
    · show ohWr _ (sA FR s9 (C s9) (fun _ => none) s i j)
      by_cases hs : s = s9 ∧ i = C s9
      · obtain ⟨rfl, rfl⟩ := hs
        rw [sA_same]; exact fun a ha => by cases ha
      · rw [sA_ne _ _ hs]; exact ohWr_mono hmono (h9.1 j)
    · show ohWr _ (sA GR s9 (C s9) (fun _ => none) s i j)
      by_cases hs : s = s9 ∧ i = C s9
      · obtain ⟨rfl, rfl⟩ := hs
        rw [sA_same]; exact fun a ha => by cases ha
      · rw [sA_ne _ _ hs]; exact ohWr_mono hmono (h9.2.1 j)
theorem oX_newILF {idx ci N s9 : Nat} (q : oCn Y.1.cls idx ci N) (hk : ohKd s9 = ci) (hf : (List.range N).all (fun j => !(ohTrk ci j) || ohFk ci j == 0 || ohFk ci j == 1 || ohFk ci j == 2) = true) (dc : decode Y.2.1 pc = .ok (.new idx, 3))
    {FI2 : OhI} (eFI : FI2 = sA FI s9 (C s9) (fun _ => 0)) {FL2 : OhL} (eFL : FL2 = sA FL s9 (C s9) (fun _ => 0)) {FR2 : OhQ} (eFR : FR2 = sA FR s9 (C s9) (fun _ => none)) {C2 : OhC} (eC : C2 = uA C s9 (C s9 + 1)) (kk : oX G d Y (pc + 3) ls (vR (some (s9, C s9)) :: st) (FI2, FL2, FR2, GR, AI, AL, AR, BR, AN, C2) k Φ Ψ) : oX G d Y pc ls st (FI, FL, FR, GR, AI, AL, AR, BR, AN, C) (1 + k.1, N + k.2) Φ Ψ := by
  subst eFI; subst eFL; subst eFR; subst eC
  refine oX_newG (h' := (sA FI s9 (C s9) (fun _ => 0), sA FL s9 (C s9) (fun _ => 0), sA FR s9 (C s9) (fun _ => none), GR, AI, AL, AR, BR, AN, uA C s9 (C s9 + 1))) q hk dc rfl (fun s' i' hh9 => oEq_of (sA_ne _ _ hh9) (sA_ne _ _ hh9) (sA_ne _ _ hh9) (rfl) (rfl) (rfl) (rfl) (rfl) (rfl)) (fun j hj ht => ?_) ?_ kk
  · have hf9 := List.all_eq_true.mp hf j (List.mem_range.mpr hj)
    rw [ht] at hf9
    simp only [Bool.not_true, Bool.false_or, Bool.or_eq_true, beq_iff_eq, Bool.false_eq_true] at hf9
    refine ⟨fun g => ?_, fun g => ?_, fun g => ?_, fun g0 g1 g2 => ?_⟩
    · dsimp only [hC]; rw [sA_same]
    · dsimp only [hC]; rw [sA_same]
    · dsimp only [hC]; rw [sA_same]
    · omega
  · intro hw s i
    have hmono : ∀ s, C s ≤ uA C s9 (C s9 + 1) s := fun s => by
      by_cases h9 : s = s9
      · subst h9; rw [uA_same]; omega
      · rw [uA_ne _ _ h9]; exact Nat.le_refl _
    have h9 := hw s i
    refine ⟨fun j => ?_, fun j => ?_, fun j => ohWr_mono hmono (h9.2.2.1 j), fun j => ohWr_mono hmono (h9.2.2.2 j)⟩
    · show ohWr _ (sA FR s9 (C s9) (fun _ => none) s i j)
      by_cases hs : s = s9 ∧ i = C s9
      · obtain ⟨rfl, rfl⟩ := hs
        rw [sA_same]; exact fun a ha => by cases ha
      · rw [sA_ne _ _ hs]; exact ohWr_mono hmono (h9.1 j)
    · exact ohWr_mono hmono (h9.2.1 j)
end OH3
