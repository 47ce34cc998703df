/-! CORE 9: fields, arrays, new objects -/
section OH
variable {G : OhG} {d : Nat} {Y : OhM} {pc : Nat} {ls : List (Nat × OhV)} {st : List OhV} {k : Nat × Nat} {Φ : OhP} {Ψ : OhX}
variable {FI AI : OhI} {FL AL : OhL} {FR GR AR BR : OhQ} {AN : OhN} {C : OhC}
/-- the access 'idx' in the class own: field k of class ci, of type ty, final or not -/
def oFl (own : String) (idx ci k : Nat) (ty : FieldType) (fin wr : Bool) : Prop :=
  ∃ (Cn : String) (T : u_T) (N : Nat) (tyf : Nat → FieldType) (ref : String), ohCL[ci]? = some (Cn, T, N) ∧ ohNf ci = N ∧ ci < 100 ∧ (∀ w ∈ u_ws Cn T N, w ∈ lw_all) ∧ k < N ∧ ohTrk ci k = true ∧ (∀ j, j < N → parseFieldDescriptor (T j).2.2.1 = some (tyf j)) ∧
    (∀ a, a < N → ∀ b, b < N → a ≠ b → (T a).2.1 ≠ (T b).2.1) ∧ tyf k = ty ∧ (T k).2.2.2 = fin ∧ (fin = true → wr = true → (T k).1 = own) ∧
    (ref = (T k).1 ∨ Cond.sameField ref (T k).1 (T k).2.1 (T k).2.2.1 ∈ lw_all) ∧
    (Cond.fieldLink own idx ref (T k).2.1 (T k).2.2.1 ∈ lw_all ∨ ∃ host, Cond.fieldLinkNest own idx ref (T k).2.1 (T k).2.2.1 host ∈ lw_tbl)
theorem oFl_get {h : OhH} {idx ci k9 : Nat} {ty : FieldType} {fin wr : Bool} (f : oFl Y.1.cls idx ci k9 ty fin wr) {r : OhR} {a : Nat × Nat} (hr : oD ci r = some a) (dc : decode Y.2.1 pc = .ok (.getfield idx, 3))
    {v : OhV} (hv : ∀ ad, ohFv ad h ci a.1 a.2 k9 = gVl ad v) (hw : ohWf h → ohLive h a → ohWv h v) (kk : oX G d Y (pc + 3) ls (v :: st) h k Φ Ψ) : oX G d Y pc ls (vR r :: st) h k Φ Ψ := by
  intro p e s m args below meth c mc ms ad0 h0 ad H locs cells slots Ls B hE hz hl1 hs1 hS hl hk1 hk2
  obtain ⟨rfl, hkd⟩ := oD_some hr
  obtain ⟨Cn, T, N, tyf, ref, f1, f2, f3, f4, f5, f6, f7, f8, f9, f10, f11, f12, f13⟩ := f
  have hla : ohLive h a := oW_h hs1 a rfl
  have hp := oPre_lt hkd f3
  have hat := (hz.2.2.1 a.1 a.2 hla hp).1
  unfold ohAt at hat
  rw [hkd, if_pos f3, f2] at hat
  obtain ⟨V, ⟨cell, q1, q2, q3, q4⟩, hV, hMn⟩ := hat
  obtain ⟨hSl, hfc, kC, hkC, hkind⟩ := B.2.2.2.2.2.2.2.1.1.1 ci _ f1
  obtain ⟨cf, kf, fi, fd, hi, hsl⟩ := hSl k9 f5
  have hval : cell.slots[fd.slot]? = some (gVl ad v) := by rw [hsl, q4 k9 f5, hV k9 f5 f6, hv ad]
  have hst := (u_facts hfc hkC (u_lays B.2.2.2.2.2.2.1 f4 f5) hi).1
  have hsame : s.fieldFound? ref (T k9).2.1 (T k9).2.2.1 = some (cf, kf, fi, fd) := by
    rcases f12 with rfl | h9
    · exact hi
    · exact u_same (B.2.2.2.2.2.2.1 _ h9) _ hi
  have K := kk p e s m args below meth c mc ms ad0 h0 ad H locs cells slots Ls B hE hz hl1 (oW_c (hw hz.2.2.2.2.2.2 hla) (oW_t hs1)) hS hl hk1 hk2
  rcases f13 with h9 | ⟨host, h9⟩
  · exact W.getf B.1 B.2.1 B.2.2.2.2.2.1 (B.2.2.2.2.2.2.1 _ h9) hsame hst q1 (by rw [q3]; exact fun h => by cases h) hval rfl rfl dc K
  · exact va_Wgetf B.1 B.2.1 B.2.2.2.2.2.1 (va_Nw.use rfl (B.2.2.2.2.2.2.2.1.2.1.1 _ _ _ _ _ _ h9)) hsame hst q1 (by rw [q3]; exact fun h => by cases h) hval rfl rfl dc K
theorem oX_getI {idx ci k9 : Nat} {ty : FieldType} {fin wr : Bool} (f : oFl Y.1.cls idx ci k9 ty fin wr) (hf : ohFk ci k9 = 0) {r : OhR} {a : Nat × Nat} (hr : oD ci r = some a) (dc : decode Y.2.1 pc = .ok (.getfield idx, 3))
    (kk : oX G d Y (pc + 3) ls (vI (FI a.1 a.2 k9) :: st) (FI, FL, FR, GR, AI, AL, AR, BR, AN, C) k Φ Ψ) : oX G d Y pc ls (vR r :: st) (FI, FL, FR, GR, AI, AL, AR, BR, AN, C) k Φ Ψ :=
  oFl_get f hr dc (v := vI (FI a.1 a.2 k9)) (fun ad => by unfold ohFv; rw [if_pos hf]; rfl) (fun _ _ => trivial) kk
theorem oX_getL {idx ci k9 : Nat} {ty : FieldType} {fin wr : Bool} (f : oFl Y.1.cls idx ci k9 ty fin wr) (hf : ohFk ci k9 = 1) {r : OhR} {a : Nat × Nat} (hr : oD ci r = some a) (dc : decode Y.2.1 pc = .ok (.getfield idx, 3))
    (kk : oX G d Y (pc + 3) ls (vL (FL a.1 a.2 k9) :: st) (FI, FL, FR, GR, AI, AL, AR, BR, AN, C) k Φ Ψ) : oX G d Y pc ls (vR r :: st) (FI, FL, FR, GR, AI, AL, AR, BR, AN, C) k Φ Ψ :=
  oFl_get f hr dc (v := vL (FL a.1 a.2 k9)) (fun ad => by unfold ohFv; rw [if_neg (by rw [hf]; decide), if_pos hf]; rfl) (fun _ _ => trivial) kk
/-- a final reference; its value by another name -/
theorem oX_getF {idx ci k9 : Nat} {ty : FieldType} {fin wr : Bool} (f : oFl Y.1.cls idx ci k9 ty fin wr) (hf : ohFk ci k9 = 2) {r : OhR} {a : Nat × Nat} (hr : oD ci r = some a) (dc : decode Y.2.1 pc = .ok (.getfield idx, 3)) {r2 : OhR} (e2 : FR a.1 a.2 k9 = r2)
    (kk : oX G d Y (pc + 3) ls (vR r2 :: st) (FI, FL, FR, GR, AI, AL, AR, BR, AN, C) k Φ Ψ) : oX G d Y pc ls (vR r :: st) (FI, FL, FR, GR, AI, AL, AR, BR, AN, C) k Φ Ψ := by
  subst e2
  exact oFl_get f hr dc (v := vR (FR a.1 a.2 k9)) (fun ad => by unfold ohFv; rw [if_neg (by rw [hf]; decide), if_neg (by rw [hf]; decide), if_pos hf]; rfl) (fun hw hla => (hw a.1 a.2).1 k9) kk
theorem oX_getG {idx ci k9 : Nat} {ty : FieldType} {fin wr : Bool} (f : oFl Y.1.cls idx ci k9 ty fin wr) (hf : ohFk ci k9 = 3) {r : OhR} {a : Nat × Nat} (hr : oD ci r = some a) (dc : decode Y.2.1 pc = .ok (.getfield idx, 3))
    (kk : oX G d Y (pc + 3) ls (vR (GR a.1 a.2 k9) :: st) (FI, FL, FR, GR, AI, AL, AR, BR, AN, C) k Φ Ψ) : oX G d Y pc ls (vR r :: st) (FI, FL, FR, GR, AI, AL, AR, BR, AN, C) k Φ Ψ :=
  oFl_get f hr dc (v := vR (GR a.1 a.2 k9)) (fun ad => by unfold ohFv; rw [if_neg (by rw [hf]; decide), if_neg (by rw [hf]; decide), if_neg (by rw [hf]; decide)]; rfl) (fun hw hla => (hw a.1 a.2).2.1 k9) kk
/-- a field is written: in a method (not final) or, final, in its own constructor -/
theorem oMn_set {o : Nat} {H : Heap} {cell : Cell} {k9 : Nat} {v : Value} (h : H[o]? = some cell) (m : oMn o H) : (cell.setSlot k9 v).monitor.owner = none ∧ (cell.setSlot k9 v).monitor.count = 0 := by
  obtain ⟨c, h1, h2⟩ := m
  cases h.symm.trans h1
  exact h2
theorem oFl_put {h h' : OhH} {idx ci k9 : Nat} {ty : FieldType} {fin : Bool} (f : oFl Y.1.cls idx ci k9 ty fin true) (hini : fin = true → Y.1.name = "<init>") {r : OhR} {a : Nat × Nat} (hr : oD ci r = some a) (dc : decode Y.2.1 pc = .ok (.putfield idx, 3))
    {v : OhV} (hn : ∀ ad, narrow ty (gVl ad v) = gVl ad v ∧ fits ty (gVl ad v) = true) (hC' : hC h' = hC h) (ho : ∀ s' i', ¬ (s' = a.1 ∧ i' = a.2) → ohEq h h' s' i') (hN : ∀ ad j, ohFv ad h' ci a.1 a.2 j = if j = k9 then gVl ad v else ohFv ad h ci a.1 a.2 j) (hw : ohWf h → ohWv h v → ohWf h')
    (kk : oX G d Y (pc + 3) ls st h' k Φ Ψ) : oX G d Y pc ls (v :: vR r :: st) h k Φ Ψ := by
  intro p e s m args below meth c mc ms ad0 h0 ad H locs cells slots Ls B hE hz hl1 hs1 hS hl hk1 hk2
  obtain ⟨rfl, hkd⟩ := oD_some hr
  obtain ⟨Cn, T, N, tyf, ref, f1, f2, f3, f4, f5, f6, f7, f8, f9, f10, f11, f12, f13⟩ := f
  have hla : ohLive h a := oW_h (oW_t hs1) a rfl
  have hwv : ohWv h v := oW_h hs1
  have hp := oPre_lt hkd f3
  have hat0 := hz.2.2.1 a.1 a.2 hla hp
  have hat := hat0.1
  unfold ohAt at hat
  rw [hkd, if_pos f3, f2] at hat
  obtain ⟨V, ⟨cell, q1, q2, q3, q4⟩, hV, hMn⟩ := hat
  have hap := va_apart (own := Y.1.cls) B.2.2.2.2.2.2.1 f4 tyf f7 f8 B.2.2.2.2.2.2.2.1.1 f1
  obtain ⟨hSl, hfc, kC, hkC, hkind⟩ := B.2.2.2.2.2.2.2.1.1.1 ci _ f1
  obtain ⟨cf, kf, fi, fd, hi, hsl⟩ := hSl k9 f5
  have hst := (u_facts hfc hkC (u_lays B.2.2.2.2.2.2.1 f4 f5) hi).1
  have hsame : s.fieldFound? ref (T k9).2.1 (T k9).2.2.1 = some (cf, kf, fi, fd) := by
    rcases f12 with rfl | h9
    · exact hi
    · exact u_same (B.2.2.2.2.2.2.1 _ h9) _ hi
  have hty : parseFieldDescriptor (T k9).2.2.1 = some ty := by rw [f7 k9 f5, f9]
  have hfit := u_fits hfc hkC hkind (u_lays B.2.2.2.2.2.2.1 f4 f5) hi hty (hn ad).1 (hn ad).2
  have hlt : fd.slot < cell.slots.size := by rw [hsl]; exact k2_hasslot (q4 k9 f5)
  have fin' : ∀ H1 : Heap, H1[ad a.1 a.2]? = some (cell.setSlot fd.slot (gVl ad v)) → H1.size = H.size → (∀ q : Nat, q ≠ ad a.1 a.2 → H1[q]? = H[q]?) →
      W p G.1 e (ohRm d (mc, ms)) s m args below meth c H1 (locs ++ [⟨ad a.1 a.2, fd.slot⟩]) cells slots (vy_MQ below (ohQn G ad0 h0 Φ) (ohQx G ad0 h0 Ψ) args s mc ms (ohA G)) (F0 m (pc + 3) Ls (st.map (gVl ad))) := by
    intro H1 e1 e2 e3
    have hat' : ohAt G ad h' H1 a.1 a.2 := by
      unfold ohAt
      rw [hkd, if_pos f3, f2]
      refine ⟨updV V k9 (gVl ad v), ⟨_, e1, q2, q3, ?_⟩, fun j hj ht => ?_, ⟨_, e1, oMn_set q1 hMn⟩⟩
      · rw [hsl]
        exact t_set q4 hap f5 (gVl ad v)
      · rw [hN ad j]
        by_cases hjk : j = k9
        · rw [if_pos hjk]; simp [updV, hjk]
        · rw [if_neg hjk]; simp only [updV, if_neg hjk]; exact hV j hj ht
    have hCe : ∀ z, ohWv h z → ohWv h' z := fun z hz9 => ohWv_mono (fun s9 => by rw [hC']; exact Nat.le_refl _) hz9
    exact kk p e s m args below meth c mc ms ad0 h0 ad H1 _ cells slots Ls B ⟨hE.1, fun s9 => by rw [hC']; exact hE.2 s9⟩ (ohCz_put hz hla hp hC' e2 e3 ho hat' (hw hz.2.2.2.2.2.2 hwv)) (fun q hq => hCe _ (hl1 q hq)) (fun z hz9 => hCe _ (oW_t (oW_t hs1) z hz9)) (hS.put e2 e3 hat0.2) hl hk1 hk2
  by_cases hfin : fin = true
  · have hlay : (Cond.laysFinal Cn (T k9).1 (T k9).2.1 (T k9).2.2.1).before args s = true := by
      have h9 := B.2.2.2.2.2.2.1 _ (f4 _ (u_in_lay f5))
      unfold u_lay at h9
      rw [if_pos (f10.trans hfin)] at h9
      exact h9
    have hcf : m.cls = cf := by
      obtain ⟨_, _, c', _, _, _, -, -, hf', -, -, -, hown2, -⟩ := Cond.laysFinal_spec hlay
      have e1 : c' = cf := by have := hi.symm.trans hf'; simp at this; exact this.1.symm
      rw [f11 hfin rfl] at hown2
      rw [← e1]; exact Option.some.inj (B.2.2.2.2.2.1.symm.trans hown2)
    rcases f13 with h9 | ⟨host, h9⟩
    · exact W.putFinK B.1 B.2.1 B.2.2.2.2.2.1 (B.2.2.2.2.2.2.1 _ h9) hsame hst hcf (B.2.2.2.2.2.2.2.2.1.trans (hini hfin)) (by rw [q2]; exact hfit) q1 q3 hlt rfl rfl dc fin'
    · refine va_Wputf B.1 B.2.1 B.2.2.2.2.2.1 (va_Nw.use rfl (B.2.2.2.2.2.2.2.1.2.1.1 _ _ _ _ _ _ h9)) hsame hst (Or.inr ⟨hcf, B.2.2.2.2.2.2.2.2.1.trans (hini hfin)⟩) q1 (by rw [q3]; exact fun h => by cases h) hlt hfit.1 (by rw [q2, q3]; exact hfit.2) rfl rfl dc (fin' _ ?_ ?_ ?_)
      · rw [Array.getElem?_setIfInBounds_self_of_lt (Array.getElem?_eq_some_iff.mp q1).1]
      · exact Array.size_setIfInBounds
      · exact fun q hq => Array.getElem?_setIfInBounds_ne (Ne.symm hq)
  · have hlay : (Cond.lays Cn (T k9).1 (T k9).2.1 (T k9).2.2.1).before args s = true := by
      have h9 := B.2.2.2.2.2.2.1 _ (f4 _ (u_in_lay f5))
      unfold u_lay at h9
      rw [if_neg (by rw [f10]; exact hfin)] at h9
      exact h9
    have h6 := u_store hfc hkC hkind hlay hi hty (hn ad).1 (hn ad).2
    rcases f13 with h9 | ⟨host, h9⟩
    · exact W.putK B.1 B.2.1 (f := fd) ⟨B.2.2.2.2.2.1, B.2.2.2.2.2.2.1 _ h9, ⟨_, _, _, hsame⟩, hst⟩ (by rw [q2]; exact h6) q1 q3 hlt rfl rfl dc fin'
    · refine va_Wputf B.1 B.2.1 B.2.2.2.2.2.1 (va_Nw.use rfl (B.2.2.2.2.2.2.2.1.2.1.1 _ _ _ _ _ _ h9)) hsame hst (Or.inl ?_) q1 (by rw [q3]; exact fun h => by cases h) hlt hfit.1 (by rw [q2, q3]; exact hfit.2) rfl rfl dc (fin' _ ?_ ?_ ?_)
      · exact h6.1
      · rw [Array.getElem?_setIfInBounds_self_of_lt (Array.getElem?_eq_some_iff.mp q1).1]
      · exact Array.size_setIfInBounds
      · exact fun q hq => Array.getElem?_setIfInBounds_ne (Ne.symm hq)
end OH
