/-! CORE 10: puts, arrays, new: printed by gen/mk_heap.py -/
section OH2
variable {G : OhG} {d : Nat} {Y : OhM} {pc : Nat} {ls : List (Nat × OhV)} {st : List OhV} {k : Nat × Nat} {Φ : OhP} {Ψ : OhX}
variable {FI AI : OhI} {FL AL : OhL} {FR GR AR BR : OhQ} {AN : OhN} {C : OhC}
theorem oEq_of {h h' : OhH} {s i : Nat} (e1 : h'.1 s i = h.1 s i) (e2 : h'.2.1 s i = h.2.1 s i) (e3 : h'.2.2.1 s i = h.2.2.1 s i) (e4 : h'.2.2.2.1 s i = h.2.2.2.1 s i) (e5 : h'.2.2.2.2.1 s i = h.2.2.2.2.1 s i) (e6 : h'.2.2.2.2.2.1 s i = h.2.2.2.2.2.1 s i) (e7 : h'.2.2.2.2.2.2.1 s i = h.2.2.2.2.2.2.1 s i) (e8 : h'.2.2.2.2.2.2.2.1 s i = h.2.2.2.2.2.2.2.1 s i) (e9 : hN h' s i = hN h s i) : ohEq h h' s i := ⟨e1, e2, e3, e4, e5, e6, e7, e8, e9⟩
theorem oWr_C {h h' : OhH} (e : hC h' = hC h) {r : OhR} (w : ohWr h r) : ohWr h' r := fun a ha => by have := w a ha; unfold ohLive at this ⊢; rw [e]; exact this
theorem oNar_r {ty : FieldType} (ht : (∃ n, ty = .object n) ∨ ∃ t, ty = .array t) (ad : Nat → Nat → Nat) (r : OhR) : narrow ty (gRf ad r) = gRf ad r ∧ fits ty (gRf ad r) = true := by
  rcases ht with ⟨n, rfl⟩ | ⟨t, rfl⟩ <;> cases r <;> exact ⟨rfl, rfl⟩
theorem oX_putI {idx ci k9 : Nat} {ty : FieldType} {fin : Bool} {x : Int32} (f : oFl Y.1.cls idx ci k9 ty fin true) (hf : ohFk ci k9 = 0) (hini : fin = true → Y.1.name = "<init>") {r : OhR} {a : Nat × Nat} (hr : oD ci r = some a) (dc : decode Y.2.1 pc = .ok (.putfield idx, 3)) (hn : narrow ty (.int x) = .int x ∧ fits ty (.int x) = true)
    {FI2 : OhI} (e9 : FI2 = sA FI a.1 a.2 (uA (FI a.1 a.2) k9 x)) (kk : oX G d Y (pc + 3) ls st (FI2, FL, FR, GR, AI, AL, AR, BR, AN, C) k Φ Ψ) : oX G d Y pc ls (vI x :: vR r :: st) (FI, FL, FR, GR, AI, AL, AR, BR, AN, C) k Φ Ψ := by
  subst e9
  refine oFl_put (h' := (sA FI a.1 a.2 (uA (FI a.1 a.2) k9 x), FL, FR, GR, AI, AL, AR, BR, AN, C)) f hini hr dc (v := vI x) (fun ad => hn) rfl (fun s' i' hh9 => oEq_of (sA_ne _ _ hh9) (rfl) (rfl) (rfl) (rfl) (rfl) (rfl) (rfl) (rfl)) (fun ad j => ?_) ?_ kk
  · unfold ohFv
    dsimp only
    by_cases hj : j = k9
    · subst hj
      simp [hf, sA_same, uA_same, gVl]
    · simp only [if_neg hj, sA_same, uA_ne _ _ hj]
  · intro hw _ s i
    exact hw s i
theorem oX_putL {idx ci k9 : Nat} {ty : FieldType} {fin : Bool} {x : Int64} (f : oFl Y.1.cls idx ci k9 ty fin true) (hf : ohFk ci k9 = 1) (hini : fin = true → Y.1.name = "<init>") {r : OhR} {a : Nat × Nat} (hr : oD ci r = some a) (dc : decode Y.2.1 pc = .ok (.putfield idx, 3)) (hn : ty = .long)
    {FL2 : OhL} (e9 : FL2 = sA FL a.1 a.2 (uA (FL a.1 a.2) k9 x)) (kk : oX G d Y (pc + 3) ls st (FI, FL2, FR, GR, AI, AL, AR, BR, AN, C) k Φ Ψ) : oX G d Y pc ls (vL x :: vR r :: st) (FI, FL, FR, GR, AI, AL, AR, BR, AN, C) k Φ Ψ := by
  subst e9
  refine oFl_put (h' := (FI, sA FL a.1 a.2 (uA (FL a.1 a.2) k9 x), FR, GR, AI, AL, AR, BR, AN, C)) f hini hr dc (v := vL x) (fun ad => by subst hn; exact ⟨rfl, rfl⟩) rfl (fun s' i' hh9 => oEq_of (rfl) (sA_ne _ _ hh9) (rfl) (rfl) (rfl) (rfl) (rfl) (rfl) (rfl)) (fun ad j => ?_) ?_ kk
  · unfold ohFv
    dsimp only
    by_cases hj : j = k9
    · subst hj
      simp [hf, sA_same, uA_same, gVl]
    · simp only [if_neg hj, sA_same, uA_ne _ _ hj]
  · intro hw _ s i
    exact hw s i
theorem oX_putF {idx ci k9 : Nat} {ty : FieldType} {fin : Bool} {x : OhR} (f : oFl Y.1.cls idx ci k9 ty fin true) (hf : ohFk ci k9 = 2) (hini : fin = true → Y.1.name = "<init>") {r : OhR} {a : Nat × Nat} (hr : oD ci r = some a) (dc : decode Y.2.1 pc = .ok (.putfield idx, 3)) (hn : (∃ n, ty = .object n) ∨ ∃ t, ty = .array t)
    {FR2 : OhQ} (e9 : FR2 = sA FR a.1 a.2 (uA (FR a.1 a.2) k9 x)) (kk : oX G d Y (pc + 3) ls st (FI, FL, FR2, GR, AI, AL, AR, BR, AN, C) k Φ Ψ) : oX G d Y pc ls (vR x :: vR r :: st) (FI, FL, FR, GR, AI, AL, AR, BR, AN, C) k Φ Ψ := by
  subst e9
  refine oFl_put (h' := (FI, FL, sA FR a.1 a.2 (uA (FR a.1 a.2) k9 x), GR, AI, AL, AR, BR, AN, C)) f hini hr dc (v := vR x) (fun ad => oNar_r hn ad x) rfl (fun s' i' hh9 => oEq_of (rfl) (rfl) (sA_ne _ _ hh9) (rfl) (rfl) (rfl) (rfl) (rfl) (rfl)) (fun ad j => ?_) ?_ kk
  · unfold ohFv
    dsimp only
    by_cases hj : j = k9
    · subst hj
      simp [hf, sA_same, uA_same, gVl]
    · simp only [if_neg hj, sA_same, uA_ne _ _ hj]
  · intro hw hx s i
    have h9 := hw s i
    refine ⟨?_, h9.2.1, h9.2.2.1, h9.2.2.2⟩
    intro j
    show ohWr (FI, FL, FR, GR, AI, AL, AR, BR, AN, C) (sA FR a.1 a.2 (uA (FR a.1 a.2) k9 x) s i j)
    by_cases hs : s = a.1 ∧ i = a.2
    · obtain ⟨rfl, rfl⟩ := hs
      rw [sA_same]
      by_cases hj : j = k9
      · subst hj; rw [uA_same]; exact hx
      · rw [uA_ne _ _ hj]; exact h9.1 j
    · rw [sA_ne _ _ hs]; exact h9.1 j
theorem oX_putG {idx ci k9 : Nat} {ty : FieldType} {fin : Bool} {x : OhR} (f : oFl Y.1.cls idx ci k9 ty fin true) (hf : ohFk ci k9 = 3) (hini : fin = true → Y.1.name = "<init>") {r : OhR} {a : Nat × Nat} (hr : oD ci r = some a) (dc : decode Y.2.1 pc = .ok (.putfield idx, 3)) (hn : (∃ n, ty = .object n) ∨ ∃ t, ty = .array t)
    {GR2 : OhQ} (e9 : GR2 = sA GR a.1 a.2 (uA (GR a.1 a.2) k9 x)) (kk : oX G d Y (pc + 3) ls st (FI, FL, FR, GR2, AI, AL, AR, BR, AN, C) k Φ Ψ) : oX G d Y pc ls (vR x :: vR r :: st) (FI, FL, FR, GR, AI, AL, AR, BR, AN, C) k Φ Ψ := by
  subst e9
  refine oFl_put (h' := (FI, FL, FR, sA GR a.1 a.2 (uA (GR a.1 a.2) k9 x), AI, AL, AR, BR, AN, C)) f hini hr dc (v := vR x) (fun ad => oNar_r hn ad x) rfl (fun s' i' hh9 => oEq_of (rfl) (rfl) (rfl) (sA_ne _ _ hh9) (rfl) (rfl) (rfl) (rfl) (rfl)) (fun ad j => ?_) ?_ kk
  · unfold ohFv
    dsimp only
    by_cases hj : j = k9
    · subst hj
      simp [hf, sA_same, uA_same, gVl]
    · simp only [if_neg hj, sA_same, uA_ne _ _ hj]
  · intro hw hx s i
    have h9 := hw s i
    refine ⟨h9.1, ?_, h9.2.2.1, h9.2.2.2⟩
    intro j
    show ohWr (FI, FL, FR, GR, AI, AL, AR, BR, AN, C) (sA GR a.1 a.2 (uA (GR a.1 a.2) k9 x) s i j)
    by_cases hs : s = a.1 ∧ i = a.2
    · obtain ⟨rfl, rfl⟩ := hs
      rw [sA_same]
      by_cases hj : j = k9
      · subst hj; rw [uA_same]; exact hx
      · rw [uA_ne _ _ hj]; exact h9.2.1 j
    · rw [sA_ne _ _ hs]; exact h9.2.1 j
theorem oArr {t : Nat} {ty : FieldType} {ad : Nat → Nat → Nat} {h : OhH} {H : Heap} {s : State} {a : Nat × Nat} (ht : ohTys[t]? = some ty) (hEnv : ohEnv G s) (hz : ohCz G ad h H) (hla : ohLive h a) (hk : ohKd a.1 = 100 + t) (h7 : t < 7) :
    H[ad a.1 a.2]? = some (arrV (G.2.2.1 t) (hN h a.1 a.2) (fun j => ohAv ad h t a.1 a.2 j)) ∧ ArrOfT s (G.2.2.1 t) ty ∧ va_RA s (G.2.2.1 t) ty ∧ ohPre a.1 = false := by
  have hp : ohPre a.1 = false := by unfold ohPre; rw [hk]; exact decide_eq_false (by omega)
  have h1 := (hz.2.2.1 a.1 a.2 hla hp).1
  unfold ohAt at h1
  rw [hk, if_neg (by omega), if_pos (by omega), show 100 + t - 100 = t by omega] at h1
  have h2 := hEnv.1.2 t (G.2.2.1 t, ty) (by rw [List.getElem?_map, List.getElem?_zipIdx, ht]; simp)
  exact ⟨h1, h2.1, h2.2, hp⟩
theorem oX_iald {x : Int32} {r : OhR} {a : Nat × Nat} (hr : oD 100 r = some a) (hin : vp_in x (AN a.1 a.2)) (dc : decode Y.2.1 pc = .ok (.iaload, 1))
    (kk : oX G d Y (pc + 1) ls (vI (AI a.1 a.2 x.toNatClampNeg) :: st) (FI, FL, FR, GR, AI, AL, AR, BR, AN, C) k Φ Ψ) : oX G d Y pc ls (vI x :: vR r :: st) (FI, FL, FR, GR, AI, AL, AR, BR, AN, C) k Φ Ψ := by
  intro p e s m args below meth c mc ms ad0 h0 ad H locs cells slots Ls B hE hz hl1 hs1 hS hl hk1 hk2
  obtain ⟨rfl, hkd⟩ := oD_some hr
  have hla : ohLive (FI, FL, FR, GR, AI, AL, AR, BR, AN, C) a := oW_h (oW_t hs1) a rfl
  obtain ⟨hc, hA, -, -⟩ := oArr (t := 0) rfl B.2.2.2.2.2.2.2.1 hz hla hkd (by decide)
  have hlt : x.toNatClampNeg < AN a.1 a.2 := Nat.not_le.mp fun q => hin (Or.inr q)
  have hv : ohAv ad (FI, FL, FR, GR, AI, AL, AR, BR, AN, C) 0 a.1 a.2 x.toNatClampNeg = gVl ad (vI (AI a.1 a.2 x.toNatClampNeg)) := rfl
  refine W.iald (v := gVl ad (vI (AI a.1 a.2 x.toNatClampNeg))) B.1 B.2.1 hc (hA _ _) (fun q => by cases q) (by show ¬ (x < 0 ∨ (arrV _ _ _).slots.size ≤ _); rw [arrV_size]; exact hin) (by show (arrV _ _ _).slots[_]? = _; rw [arrV_read _ _ hlt, hv]) rfl rfl dc ?_
  exact kk p e s m args below meth c mc ms ad0 h0 ad H locs cells slots Ls B hE hz hl1 (oW_i (oW_t (oW_t hs1))) hS hl hk1 hk2
theorem oX_zald {x : Int32} {r : OhR} {a : Nat × Nat} (hr : oD 101 r = some a) (hin : vp_in x (AN a.1 a.2)) (dc : decode Y.2.1 pc = .ok (.baload, 1))
    (kk : oX G d Y (pc + 1) ls (vI (AI a.1 a.2 x.toNatClampNeg) :: st) (FI, FL, FR, GR, AI, AL, AR, BR, AN, C) k Φ Ψ) : oX G d Y pc ls (vI x :: vR r :: st) (FI, FL, FR, GR, AI, AL, AR, BR, AN, C) k Φ Ψ := by
  intro p e s m args below meth c mc ms ad0 h0 ad H locs cells slots Ls B hE hz hl1 hs1 hS hl hk1 hk2
  obtain ⟨rfl, hkd⟩ := oD_some hr
  have hla : ohLive (FI, FL, FR, GR, AI, AL, AR, BR, AN, C) a := oW_h (oW_t hs1) a rfl
  obtain ⟨hc, hA, -, -⟩ := oArr (t := 1) rfl B.2.2.2.2.2.2.2.1 hz hla hkd (by decide)
  have hlt : x.toNatClampNeg < AN a.1 a.2 := Nat.not_le.mp fun q => hin (Or.inr q)
  have hv : ohAv ad (FI, FL, FR, GR, AI, AL, AR, BR, AN, C) 1 a.1 a.2 x.toNatClampNeg = gVl ad (vI (AI a.1 a.2 x.toNatClampNeg)) := rfl
  refine W.zald (v := gVl ad (vI (AI a.1 a.2 x.toNatClampNeg))) B.1 B.2.1 hc (hA _ _) (fun q => by cases q) (by show ¬ (x < 0 ∨ (arrV _ _ _).slots.size ≤ _); rw [arrV_size]; exact hin) (by show (arrV _ _ _).slots[_]? = _; rw [arrV_read _ _ hlt, hv]) rfl rfl dc ?_
  exact kk p e s m args below meth c mc ms ad0 h0 ad H locs cells slots Ls B hE hz hl1 (oW_i (oW_t (oW_t hs1))) hS hl hk1 hk2
theorem oX_bald {x : Int32} {r : OhR} {a : Nat × Nat} (hr : oD 102 r = some a) (hin : vp_in x (AN a.1 a.2)) (dc : decode Y.2.1 pc = .ok (.baload, 1))
    (kk : oX G d Y (pc + 1) ls (vI (AI a.1 a.2 x.toNatClampNeg) :: st) (FI, FL, FR, GR, AI, AL, AR, BR, AN, C) k Φ Ψ) : oX G d Y pc ls (vI x :: vR r :: st) (FI, FL, FR, GR, AI, AL, AR, BR, AN, C) k Φ Ψ := by
  intro p e s m args below meth c mc ms ad0 h0 ad H locs cells slots Ls B hE hz hl1 hs1 hS hl hk1 hk2
  obtain ⟨rfl, hkd⟩ := oD_some hr
  have hla : ohLive (FI, FL, FR, GR, AI, AL, AR, BR, AN, C) a := oW_h (oW_t hs1) a rfl
  obtain ⟨hc, hA, -, -⟩ := oArr (t := 2) rfl B.2.2.2.2.2.2.2.1 hz hla hkd (by decide)
  have hlt : x.toNatClampNeg < AN a.1 a.2 := Nat.not_le.mp fun q => hin (Or.inr q)
  have hv : ohAv ad (FI, FL, FR, GR, AI, AL, AR, BR, AN, C) 2 a.1 a.2 x.toNatClampNeg = gVl ad (vI (AI a.1 a.2 x.toNatClampNeg)) := rfl
  refine W.bald (v := gVl ad (vI (AI a.1 a.2 x.toNatClampNeg))) B.1 B.2.1 hc (hA _ _) (fun q => by cases q) (by show ¬ (x < 0 ∨ (arrV _ _ _).slots.size ≤ _); rw [arrV_size]; exact hin) (by show (arrV _ _ _).slots[_]? = _; rw [arrV_read _ _ hlt, hv]) rfl rfl dc ?_
  exact kk p e s m args below meth c mc ms ad0 h0 ad H locs cells slots Ls B hE hz hl1 (oW_i (oW_t (oW_t hs1))) hS hl hk1 hk2
theorem oX_lald {x : Int32} {r : OhR} {a : Nat × Nat} (hr : oD 103 r = some a) (hin : vp_in x (AN a.1 a.2)) (dc : decode Y.2.1 pc = .ok (.laload, 1))
    (kk : oX G d Y (pc + 1) ls (vL (AL a.1 a.2 x.toNatClampNeg) :: st) (FI, FL, FR, GR, AI, AL, AR, BR, AN, C) k Φ Ψ) : oX G d Y pc ls (vI x :: vR r :: st) (FI, FL, FR, GR, AI, AL, AR, BR, AN, C) k Φ Ψ := by
  intro p e s m args below meth c mc ms ad0 h0 ad H locs cells slots Ls B hE hz hl1 hs1 hS hl hk1 hk2
  obtain ⟨rfl, hkd⟩ := oD_some hr
  have hla : ohLive (FI, FL, FR, GR, AI, AL, AR, BR, AN, C) a := oW_h (oW_t hs1) a rfl
  obtain ⟨hc, hA, -, -⟩ := oArr (t := 3) rfl B.2.2.2.2.2.2.2.1 hz hla hkd (by decide)
  have hlt : x.toNatClampNeg < AN a.1 a.2 := Nat.not_le.mp fun q => hin (Or.inr q)
  have hv : ohAv ad (FI, FL, FR, GR, AI, AL, AR, BR, AN, C) 3 a.1 a.2 x.toNatClampNeg = gVl ad (vL (AL a.1 a.2 x.toNatClampNeg)) := rfl
  refine W.lald (v := gVl ad (vL (AL a.1 a.2 x.toNatClampNeg))) B.1 B.2.1 hc (hA _ _) (fun q => by cases q) (by show ¬ (x < 0 ∨ (arrV _ _ _).slots.size ≤ _); rw [arrV_size]; exact hin) (by show (arrV _ _ _).slots[_]? = _; rw [arrV_read _ _ hlt, hv]) rfl rfl dc ?_
  exact kk p e s m args below meth c mc ms ad0 h0 ad H locs cells slots Ls B hE hz hl1 (oW_l (oW_t (oW_t hs1))) hS hl hk1 hk2
theorem oX_aaldR {x : Int32} {r : OhR} {a : Nat × Nat} (hr : oD 104 r = some a) (hin : vp_in x (AN a.1 a.2)) (dc : decode Y.2.1 pc = .ok (.aaload, 1)) {r2 : OhR} (e2 : AR a.1 a.2 x.toNatClampNeg = r2)
    (kk : oX G d Y (pc + 1) ls (vR r2 :: st) (FI, FL, FR, GR, AI, AL, AR, BR, AN, C) k Φ Ψ) : oX G d Y pc ls (vI x :: vR r :: st) (FI, FL, FR, GR, AI, AL, AR, BR, AN, C) k Φ Ψ := by
  subst e2
  intro p e s m args below meth c mc ms ad0 h0 ad H locs cells slots Ls B hE hz hl1 hs1 hS hl hk1 hk2
  obtain ⟨rfl, hkd⟩ := oD_some hr
  have hla : ohLive (FI, FL, FR, GR, AI, AL, AR, BR, AN, C) a := oW_h (oW_t hs1) a rfl
  obtain ⟨hc, hA, -, -⟩ := oArr (t := 4) rfl B.2.2.2.2.2.2.2.1 hz hla hkd (by decide)
  have hlt : x.toNatClampNeg < AN a.1 a.2 := Nat.not_le.mp fun q => hin (Or.inr q)
  have hv : ohAv ad (FI, FL, FR, GR, AI, AL, AR, BR, AN, C) 4 a.1 a.2 x.toNatClampNeg = gVl ad (vR (AR a.1 a.2 x.toNatClampNeg)) := rfl
  refine W.aald (v := gVl ad (vR (AR a.1 a.2 x.toNatClampNeg))) B.1 B.2.1 hc (hA _ _) rfl (fun q => by cases q) (by show ¬ (x < 0 ∨ (arrV _ _ _).slots.size ≤ _); rw [arrV_size]; exact hin) (by show (arrV _ _ _).slots[_]? = _; rw [arrV_read _ _ hlt, hv]) rfl rfl dc ?_
  exact kk p e s m args below meth c mc ms ad0 h0 ad H locs cells slots Ls B hE hz hl1 (oW_r ((hz.2.2.2.2.2.2 a.1 a.2).2.2.1 x.toNatClampNeg) (oW_t (oW_t hs1))) hS hl hk1 hk2
theorem oX_aaldC {x : Int32} {r : OhR} {a : Nat × Nat} (hr : oD 105 r = some a) (hin : vp_in x (AN a.1 a.2)) (dc : decode Y.2.1 pc = .ok (.aaload, 1)) {r2 : OhR} (e2 : BR a.1 a.2 x.toNatClampNeg = r2)
    (kk : oX G d Y (pc + 1) ls (vR r2 :: st) (FI, FL, FR, GR, AI, AL, AR, BR, AN, C) k Φ Ψ) : oX G d Y pc ls (vI x :: vR r :: st) (FI, FL, FR, GR, AI, AL, AR, BR, AN, C) k Φ Ψ := by
  subst e2
  intro p e s m args below meth c mc ms ad0 h0 ad H locs cells slots Ls B hE hz hl1 hs1 hS hl hk1 hk2
  obtain ⟨rfl, hkd⟩ := oD_some hr
  have hla : ohLive (FI, FL, FR, GR, AI, AL, AR, BR, AN, C) a := oW_h (oW_t hs1) a rfl
  obtain ⟨hc, hA, -, -⟩ := oArr (t := 5) rfl B.2.2.2.2.2.2.2.1 hz hla hkd (by decide)
  have hlt : x.toNatClampNeg < AN a.1 a.2 := Nat.not_le.mp fun q => hin (Or.inr q)
  have hv : ohAv ad (FI, FL, FR, GR, AI, AL, AR, BR, AN, C) 5 a.1 a.2 x.toNatClampNeg = gVl ad (vR (BR a.1 a.2 x.toNatClampNeg)) := rfl
  refine W.aald (v := gVl ad (vR (BR a.1 a.2 x.toNatClampNeg))) B.1 B.2.1 hc (hA _ _) rfl (fun q => by cases q) (by show ¬ (x < 0 ∨ (arrV _ _ _).slots.size ≤ _); rw [arrV_size]; exact hin) (by show (arrV _ _ _).slots[_]? = _; rw [arrV_read _ _ hlt, hv]) rfl rfl dc ?_
  exact kk p e s m args below meth c mc ms ad0 h0 ad H locs cells slots Ls B hE hz hl1 (oW_r ((hz.2.2.2.2.2.2 a.1 a.2).2.2.2 x.toNatClampNeg) (oW_t (oW_t hs1))) hS hl hk1 hk2
theorem oX_aaldO {x : Int32} {r : OhR} {a : Nat × Nat} (hr : oD 106 r = some a) (hin : vp_in x (AN a.1 a.2)) (dc : decode Y.2.1 pc = .ok (.aaload, 1)) {r2 : OhR} (e2 : BR a.1 a.2 x.toNatClampNeg = r2)
    (kk : oX G d Y (pc + 1) ls (vR r2 :: st) (FI, FL, FR, GR, AI, AL, AR, BR, AN, C) k Φ Ψ) : oX G d Y pc ls (vI x :: vR r :: st) (FI, FL, FR, GR, AI, AL, AR, BR, AN, C) k Φ Ψ := by
  subst e2
  intro p e s m args below meth c mc ms ad0 h0 ad H locs cells slots Ls B hE hz hl1 hs1 hS hl hk1 hk2
  obtain ⟨rfl, hkd⟩ := oD_some hr
  have hla : ohLive (FI, FL, FR, GR, AI, AL, AR, BR, AN, C) a := oW_h (oW_t hs1) a rfl
  obtain ⟨hc, hA, -, -⟩ := oArr (t := 6) rfl B.2.2.2.2.2.2.2.1 hz hla hkd (by decide)
  have hlt : x.toNatClampNeg < AN a.1 a.2 := Nat.not_le.mp fun q => hin (Or.inr q)
  have hv : ohAv ad (FI, FL, FR, GR, AI, AL, AR, BR, AN, C) 6 a.1 a.2 x.toNatClampNeg = gVl ad (vR (BR a.1 a.2 x.toNatClampNeg)) := rfl
  refine W.aald (v := gVl ad (vR (BR a.1 a.2 x.toNatClampNeg))) B.1 B.2.1 hc (hA _ _) rfl (fun q => by cases q) (by show ¬ (x < 0 ∨ (arrV _ _ _).slots.size ≤ _); rw [arrV_size]; exact hin) (by show (arrV _ _ _).slots[_]? = _; rw [arrV_read _ _ hlt, hv]) rfl rfl dc ?_
  exact kk p e s m args below meth c mc ms ad0 h0 ad H locs cells slots Ls B hE hz hl1 (oW_r ((hz.2.2.2.2.2.2 a.1 a.2).2.2.2 x.toNatClampNeg) (oW_t (oW_t hs1))) hS hl hk1 hk2
theorem oPreArr {t : Nat} {ty : FieldType} {ad : Nat → Nat → Nat} {h : OhH} {H : Heap} {s : State} {a : Nat × Nat} (ht : ohTys[t]? = some ty) (hEnv : ohEnv G s) (hz : ohCz G ad h H) (hla : ohLive h a) (hk : ohKd a.1 = 120 + t) (h7 : t < 7) :
    ∃ cell : Cell, H[ad a.1 a.2]? = some cell ∧ s.isArrayOf cell ty ∧ cell.vm ≠ .unknown ∧ cell.slots.size = hN h a.1 a.2 ∧ (∀ j, j < hN h a.1 a.2 → cell.slots[j]? = some (ohAv G.2.2.2.2.2.1 h t a.1 a.2 j)) ∧ ohPre a.1 = true ∧ cell.vm.isStatics = false := by
  have hp : ohPre a.1 = true := by unfold ohPre; rw [hk]; exact decide_eq_true (by omega)
  obtain ⟨e1, e2⟩ := hz.2.2.2.1 a.1 a.2 hp
  have hl : a.2 < hC G.2.2.2.2.2.2 a.1 := by have := hla; unfold ohLive at this; rw [(hz.2.2.2.2.1 a.1 hp).1] at this; exact this
  obtain ⟨cell, g1, g2, g3, g4, g5, -⟩ := hEnv.2.2.1 a.1 a.2 hp (by omega) hl
  obtain ⟨ty', j1, j2, j3, j4⟩ := g5 (by omega)
  rw [hk, show 120 + t - 120 = t by omega] at j1 j4
  cases j1.symm.trans ht
  refine ⟨cell, by rw [e1, hz.2.1 _ g4]; exact g1, j2, g2, by rw [j3]; exact e2.2.2.2.2.2.2.2.2.symm, fun j hj => ?_, hp, g3⟩
  rw [e2.2.2.2.2.2.2.2.2] at hj
  rw [j4 j hj, ohAv_congr e2]
theorem oX_ialdP {x : Int32} {r : OhR} {a : Nat × Nat} (hr : oD 120 r = some a) (hin : vp_in x (AN a.1 a.2)) (dc : decode Y.2.1 pc = .ok (.iaload, 1))
    (kk : oX G d Y (pc + 1) ls (vI (AI a.1 a.2 x.toNatClampNeg) :: st) (FI, FL, FR, GR, AI, AL, AR, BR, AN, C) k Φ Ψ) : oX G d Y pc ls (vI x :: vR r :: st) (FI, FL, FR, GR, AI, AL, AR, BR, AN, C) k Φ Ψ := by
  intro p e s m args below meth c mc ms ad0 h0 ad H locs cells slots Ls B hE hz hl1 hs1 hS hl hk1 hk2
  obtain ⟨rfl, hkd⟩ := oD_some hr
  have hla : ohLive (FI, FL, FR, GR, AI, AL, AR, BR, AN, C) a := oW_h (oW_t hs1) a rfl
  obtain ⟨cell, g1, g2, g3, g4, g5, g6, g7⟩ := oPreArr (t := 0) rfl B.2.2.2.2.2.2.2.1 hz hla hkd (by decide)
  have hlt : x.toNatClampNeg < AN a.1 a.2 := Nat.not_le.mp fun q => hin (Or.inr q)
  refine W.iald (v := gVl ad (vI (AI a.1 a.2 x.toNatClampNeg))) B.1 B.2.1 g1 g2 g3 (by rw [g4]; exact hin) (by rw [g5 _ hlt]; rfl) rfl rfl dc ?_
  exact kk p e s m args below meth c mc ms ad0 h0 ad H locs cells slots Ls B hE hz hl1 (oW_i (oW_t (oW_t hs1))) hS hl hk1 hk2
theorem oX_baldP {x : Int32} {r : OhR} {a : Nat × Nat} (hr : oD 122 r = some a) (hin : vp_in x (AN a.1 a.2)) (dc : decode Y.2.1 pc = .ok (.baload, 1))
    (kk : oX G d Y (pc + 1) ls (vI (AI a.1 a.2 x.toNatClampNeg) :: st) (FI, FL, FR, GR, AI, AL, AR, BR, AN, C) k Φ Ψ) : oX G d Y pc ls (vI x :: vR r :: st) (FI, FL, FR, GR, AI, AL, AR, BR, AN, C) k Φ Ψ := by
  intro p e s m args below meth c mc ms ad0 h0 ad H locs cells slots Ls B hE hz hl1 hs1 hS hl hk1 hk2
  obtain ⟨rfl, hkd⟩ := oD_some hr
  have hla : ohLive (FI, FL, FR, GR, AI, AL, AR, BR, AN, C) a := oW_h (oW_t hs1) a rfl
  obtain ⟨cell, g1, g2, g3, g4, g5, g6, g7⟩ := oPreArr (t := 2) rfl B.2.2.2.2.2.2.2.1 hz hla hkd (by decide)
  have hlt : x.toNatClampNeg < AN a.1 a.2 := Nat.not_le.mp fun q => hin (Or.inr q)
  refine W.bald (v := gVl ad (vI (AI a.1 a.2 x.toNatClampNeg))) B.1 B.2.1 g1 g2 g3 (by rw [g4]; exact hin) (by rw [g5 _ hlt]; rfl) rfl rfl dc ?_
  exact kk p e s m args below meth c mc ms ad0 h0 ad H locs cells slots Ls B hE hz hl1 (oW_i (oW_t (oW_t hs1))) hS hl hk1 hk2
theorem oX_alen (t : Nat) (h7 : t < 7) {r : OhR} {a : Nat × Nat} (hr : oD (100 + t) r = some a) (dc : decode Y.2.1 pc = .ok (.arraylength, 1))
    (kk : oX G d Y (pc + 1) ls (vI (Int32.ofNat (AN a.1 a.2)) :: st) (FI, FL, FR, GR, AI, AL, AR, BR, AN, C) k Φ Ψ) : oX G d Y pc ls (vR r :: st) (FI, FL, FR, GR, AI, AL, AR, BR, AN, C) k Φ Ψ := by
  intro p e s m args below meth c mc ms ad0 h0 ad H locs cells slots Ls B hE hz hl1 hs1 hS hl hk1 hk2
  obtain ⟨rfl, hkd⟩ := oD_some hr
  have hla : ohLive (FI, FL, FR, GR, AI, AL, AR, BR, AN, C) a := oW_h hs1 a rfl
  obtain ⟨ty, hty⟩ : ∃ ty, ohTys[t]? = some ty := ⟨_, List.getElem?_eq_getElem (by simpa [ohTys] using h7)⟩
  have K := kk p e s m args below meth c mc ms ad0 h0 ad H locs cells slots Ls B hE hz hl1 (oW_i (oW_t hs1)) hS hl hk1 hk2
  obtain ⟨hc, hA, -, -⟩ := oArr (t := t) hty B.2.2.2.2.2.2.2.1 hz hla hkd h7
  exact W.alen (n := Int32.ofNat (AN a.1 a.2)) B.1 B.2.1 hc (hA _ _) (by rw [arrV_size] <;> rfl) rfl rfl dc K
theorem oX_alenP (t : Nat) (h7 : t < 7) {r : OhR} {a : Nat × Nat} (hr : oD (120 + t) r = some a) (dc : decode Y.2.1 pc = .ok (.arraylength, 1))
    (kk : oX G d Y (pc + 1) ls (vI (Int32.ofNat (AN a.1 a.2)) :: st) (FI, FL, FR, GR, AI, AL, AR, BR, AN, C) k Φ Ψ) : oX G d Y pc ls (vR r :: st) (FI, FL, FR, GR, AI, AL, AR, BR, AN, C) k Φ Ψ := by
  intro p e s m args below meth c mc ms ad0 h0 ad H locs cells slots Ls B hE hz hl1 hs1 hS hl hk1 hk2
  obtain ⟨rfl, hkd⟩ := oD_some hr
  have hla : ohLive (FI, FL, FR, GR, AI, AL, AR, BR, AN, C) a := oW_h hs1 a rfl
  obtain ⟨ty, hty⟩ : ∃ ty, ohTys[t]? = some ty := ⟨_, List.getElem?_eq_getElem (by simpa [ohTys] using h7)⟩
  have K := kk p e s m args below meth c mc ms ad0 h0 ad H locs cells slots Ls B hE hz hl1 (oW_i (oW_t hs1)) hS hl hk1 hk2
  obtain ⟨cell, g1, g2, g3, g4, g5, g6, g7⟩ := oPreArr (t := t) hty B.2.2.2.2.2.2.2.1 hz hla hkd h7
  exact W.alen (n := Int32.ofNat (AN a.1 a.2)) B.1 B.2.1 g1 g2 (by rw [g4] <;> rfl) rfl rfl dc K
theorem oX_iast {i : Int32} {x : Int32} {r : OhR} {a : Nat × Nat} (hr : oD 100 r = some a) (hin : vp_in i (AN a.1 a.2)) (dc : decode Y.2.1 pc = .ok (.iastore, 1))
    {AI2 : OhI} (e9 : AI2 = sA AI a.1 a.2 (uA (AI a.1 a.2) i.toNatClampNeg x)) (kk : oX G d Y (pc + 1) ls st (FI, FL, FR, GR, AI2, AL, AR, BR, AN, C) k Φ Ψ) : oX G d Y pc ls (vI x :: vI i :: vR r :: st) (FI, FL, FR, GR, AI, AL, AR, BR, AN, C) k Φ Ψ := by
  subst e9
  intro p e s m args below meth c mc ms ad0 h0 ad H locs cells slots Ls B hE hz hl1 hs1 hS hl hk1 hk2
  obtain ⟨rfl, hkd⟩ := oD_some hr
  have hla : ohLive (FI, FL, FR, GR, AI, AL, AR, BR, AN, C) a := oW_h (oW_t (oW_t hs1)) a rfl
  obtain ⟨hc, hA, -, hp⟩ := oArr (t := 0) rfl B.2.2.2.2.2.2.2.1 hz hla hkd (by decide)
  refine W.iast B.1 B.2.1 hc (hA _ _) (fun q => by cases q) (by show ¬ (i < 0 ∨ (arrV _ _ _).slots.size ≤ _); rw [arrV_size]; exact hin) rfl rfl dc fun H1 e1 e2 e3 => ?_
  have hat : ohAt G ad (FI, FL, FR, GR, sA AI a.1 a.2 (uA (AI a.1 a.2) i.toNatClampNeg x), AL, AR, BR, AN, C) H1 a.1 a.2 := by
    unfold ohAt
    rw [hkd, if_neg (by decide), if_pos (by decide)]
    rw [e1, arrV_store]
    show some (arrV _ (AN a.1 a.2) _) = some (arrV _ (AN a.1 a.2) _)
    congr 2
    funext q
    show (updV _ _ _ q) = _
    by_cases hq : q = i.toNatClampNeg
    · subst hq
      simp [updV, ohAv, sA_same, uA_same, vp_nar]
      try rfl
    · simp [updV, hq, ohAv, sA_same, uA_ne _ _ hq]
  exact kk p e s m args below meth c mc ms ad0 h0 ad H1 _ cells slots Ls B hE (ohCz_put hz hla hp rfl e2 e3 (fun s' i' hh9 => oEq_of (rfl) (rfl) (rfl) (rfl) (sA_ne _ _ hh9) (rfl) (rfl) (rfl) (rfl)) hat (fun s9 i9 => hz.2.2.2.2.2.2 s9 i9)) hl1 (oW_t (oW_t (oW_t hs1))) (hS.put e2 e3 (hz.2.2.1 a.1 a.2 hla hp).2) hl hk1 hk2
theorem oX_zast {i : Int32} {x : Int32} {r : OhR} {a : Nat × Nat} (hr : oD 101 r = some a) (hin : vp_in i (AN a.1 a.2)) (dc : decode Y.2.1 pc = .ok (.bastore, 1))
    {AI2 : OhI} (e9 : AI2 = sA AI a.1 a.2 (uA (AI a.1 a.2) i.toNatClampNeg (vp_nar .boolean x))) (kk : oX G d Y (pc + 1) ls st (FI, FL, FR, GR, AI2, AL, AR, BR, AN, C) k Φ Ψ) : oX G d Y pc ls (vI x :: vI i :: vR r :: st) (FI, FL, FR, GR, AI, AL, AR, BR, AN, C) k Φ Ψ := by
  subst e9
  intro p e s m args below meth c mc ms ad0 h0 ad H locs cells slots Ls B hE hz hl1 hs1 hS hl hk1 hk2
  obtain ⟨rfl, hkd⟩ := oD_some hr
  have hla : ohLive (FI, FL, FR, GR, AI, AL, AR, BR, AN, C) a := oW_h (oW_t (oW_t hs1)) a rfl
  obtain ⟨hc, hA, -, hp⟩ := oArr (t := 1) rfl B.2.2.2.2.2.2.2.1 hz hla hkd (by decide)
  refine W.zast B.1 B.2.1 hc (hA _ _) (fun q => by cases q) (by show ¬ (i < 0 ∨ (arrV _ _ _).slots.size ≤ _); rw [arrV_size]; exact hin) rfl rfl dc fun H1 e1 e2 e3 => ?_
  have hat : ohAt G ad (FI, FL, FR, GR, sA AI a.1 a.2 (uA (AI a.1 a.2) i.toNatClampNeg (vp_nar .boolean x)), AL, AR, BR, AN, C) H1 a.1 a.2 := by
    unfold ohAt
    rw [hkd, if_neg (by decide), if_pos (by decide)]
    rw [e1, arrV_store]
    show some (arrV _ (AN a.1 a.2) _) = some (arrV _ (AN a.1 a.2) _)
    congr 2
    funext q
    show (updV _ _ _ q) = _
    by_cases hq : q = i.toNatClampNeg
    · subst hq
      simp [updV, ohAv, sA_same, uA_same, vp_nar]
      try rfl
    · simp [updV, hq, ohAv, sA_same, uA_ne _ _ hq]
  exact kk p e s m args below meth c mc ms ad0 h0 ad H1 _ cells slots Ls B hE (ohCz_put hz hla hp rfl e2 e3 (fun s' i' hh9 => oEq_of (rfl) (rfl) (rfl) (rfl) (sA_ne _ _ hh9) (rfl) (rfl) (rfl) (rfl)) hat (fun s9 i9 => hz.2.2.2.2.2.2 s9 i9)) hl1 (oW_t (oW_t (oW_t hs1))) (hS.put e2 e3 (hz.2.2.1 a.1 a.2 hla hp).2) hl hk1 hk2
theorem oX_bast {i : Int32} {x : Int32} {r : OhR} {a : Nat × Nat} (hr : oD 102 r = some a) (hin : vp_in i (AN a.1 a.2)) (dc : decode Y.2.1 pc = .ok (.bastore, 1))
    {AI2 : OhI} (e9 : AI2 = sA AI a.1 a.2 (uA (AI a.1 a.2) i.toNatClampNeg (vp_nar .byte x))) (kk : oX G d Y (pc + 1) ls st (FI, FL, FR, GR, AI2, AL, AR, BR, AN, C) k Φ Ψ) : oX G d Y pc ls (vI x :: vI i :: vR r :: st) (FI, FL, FR, GR, AI, AL, AR, BR, AN, C) k Φ Ψ := by
  subst e9
  intro p e s m args below meth c mc ms ad0 h0 ad H locs cells slots Ls B hE hz hl1 hs1 hS hl hk1 hk2
  obtain ⟨rfl, hkd⟩ := oD_some hr
  have hla : ohLive (FI, FL, FR, GR, AI, AL, AR, BR, AN, C) a := oW_h (oW_t (oW_t hs1)) a rfl
  obtain ⟨hc, hA, -, hp⟩ := oArr (t := 2) rfl B.2.2.2.2.2.2.2.1 hz hla hkd (by decide)
  refine W.bast B.1 B.2.1 hc (hA _ _) (fun q => by cases q) (by show ¬ (i < 0 ∨ (arrV _ _ _).slots.size ≤ _); rw [arrV_size]; exact hin) rfl rfl dc fun H1 e1 e2 e3 => ?_
  have hat : ohAt G ad (FI, FL, FR, GR, sA AI a.1 a.2 (uA (AI a.1 a.2) i.toNatClampNeg (vp_nar .byte x)), AL, AR, BR, AN, C) H1 a.1 a.2 := by
    unfold ohAt
    rw [hkd, if_neg (by decide), if_pos (by decide)]
    rw [e1, arrV_store]
    show some (arrV _ (AN a.1 a.2) _) = some (arrV _ (AN a.1 a.2) _)
    congr 2
    funext q
    show (updV _ _ _ q) = _
    by_cases hq : q = i.toNatClampNeg
    · subst hq
      simp [updV, ohAv, sA_same, uA_same, vp_nar]
      try rfl
    · simp [updV, hq, ohAv, sA_same, uA_ne _ _ hq]
  exact kk p e s m args below meth c mc ms ad0 h0 ad H1 _ cells slots Ls B hE (ohCz_put hz hla hp rfl e2 e3 (fun s' i' hh9 => oEq_of (rfl) (rfl) (rfl) (rfl) (sA_ne _ _ hh9) (rfl) (rfl) (rfl) (rfl)) hat (fun s9 i9 => hz.2.2.2.2.2.2 s9 i9)) hl1 (oW_t (oW_t (oW_t hs1))) (hS.put e2 e3 (hz.2.2.1 a.1 a.2 hla hp).2) hl hk1 hk2
theorem oX_last {i : Int32} {x : Int64} {r : OhR} {a : Nat × Nat} (hr : oD 103 r = some a) (hin : vp_in i (AN a.1 a.2)) (dc : decode Y.2.1 pc = .ok (.lastore, 1))
    {AL2 : OhL} (e9 : AL2 = sA AL a.1 a.2 (uA (AL a.1 a.2) i.toNatClampNeg x)) (kk : oX G d Y (pc + 1) ls st (FI, FL, FR, GR, AI, AL2, AR, BR, AN, C) k Φ Ψ) : oX G d Y pc ls (vL x :: vI i :: vR r :: st) (FI, FL, FR, GR, AI, AL, AR, BR, AN, C) k Φ Ψ := by
  subst e9
  intro p e s m args below meth c mc ms ad0 h0 ad H locs cells slots Ls B hE hz hl1 hs1 hS hl hk1 hk2
  obtain ⟨rfl, hkd⟩ := oD_some hr
  have hla : ohLive (FI, FL, FR, GR, AI, AL, AR, BR, AN, C) a := oW_h (oW_t (oW_t hs1)) a rfl
  obtain ⟨hc, hA, -, hp⟩ := oArr (t := 3) rfl B.2.2.2.2.2.2.2.1 hz hla hkd (by decide)
  refine W.last B.1 B.2.1 hc (hA _ _) (fun q => by cases q) (by show ¬ (i < 0 ∨ (arrV _ _ _).slots.size ≤ _); rw [arrV_size]; exact hin) rfl rfl dc fun H1 e1 e2 e3 => ?_
  have hat : ohAt G ad (FI, FL, FR, GR, AI, sA AL a.1 a.2 (uA (AL a.1 a.2) i.toNatClampNeg x), AR, BR, AN, C) H1 a.1 a.2 := by
    unfold ohAt
    rw [hkd, if_neg (by decide), if_pos (by decide)]
    rw [e1, arrV_store]
    show some (arrV _ (AN a.1 a.2) _) = some (arrV _ (AN a.1 a.2) _)
    congr 2
    funext q
    show (updV _ _ _ q) = _
    by_cases hq : q = i.toNatClampNeg
    · subst hq
      simp [updV, ohAv, sA_same, uA_same, vp_nar]
      try rfl
    · simp [updV, hq, ohAv, sA_same, uA_ne _ _ hq]
  exact kk p e s m args below meth c mc ms ad0 h0 ad H1 _ cells slots Ls B hE (ohCz_put hz hla hp rfl e2 e3 (fun s' i' hh9 => oEq_of (rfl) (rfl) (rfl) (rfl) (rfl) (sA_ne _ _ hh9) (rfl) (rfl) (rfl)) hat (fun s9 i9 => hz.2.2.2.2.2.2 s9 i9)) hl1 (oW_t (oW_t (oW_t hs1))) (hS.put e2 e3 (hz.2.2.1 a.1 a.2 hla hp).2) hl hk1 hk2
end OH2
