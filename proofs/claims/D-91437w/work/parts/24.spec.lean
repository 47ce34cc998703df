/-! CORE 13: int[][], getClass and System.arraycopy of Object[] -/
def rA {α : Type} (F : Nat → Nat → α) (s lo n : Nat) (v : α) : Nat → Nat → α := fun s' i' => if s' = s ∧ lo ≤ i' ∧ i' < lo + n then v else F s' i'
theorem rA_in {α : Type} (F : Nat → Nat → α) {s lo n i : Nat} (v : α) (h1 : lo ≤ i) (h2 : i < lo + n) : rA F s lo n v s i = v := by simp [rA, h1, h2]
theorem rA_site {α : Type} (F : Nat → Nat → α) {s s' : Nat} (lo n : Nat) (v : α) (h : s' ≠ s) : rA F s lo n v s' = F s' := by funext i; simp [rA, h]
theorem rA_out {α : Type} (F : Nat → Nat → α) {s lo n s' i : Nat} (v : α) (h : ¬ (s' = s ∧ lo ≤ i ∧ i < lo + n)) : rA F s lo n v s' i = F s' i := by simp [rA, h]
theorem oOuter (c : ClassId) (N h0 : Nat) : ∀ i, Jvm.Free.Multi.outerC c N h0 i = arrV c N (fun j => if j < i then .ref (h0 + 1 + j) else .null)
  | 0 => by
    unfold Jvm.Free.Multi.outerC arrV
    congr 1
    exact Array.ext (by simp) (fun i h1 h2 => by simp)
  | i + 1 => by
    show (Jvm.Free.Multi.outerC c N h0 i).setSlot i _ = _
    rw [oOuter c N h0 i, arrV_store]
    unfold arrV
    congr 2
    funext j
    simp only [updV]
    by_cases h1 : j.val = i
    · rw [if_pos h1, if_pos (by omega), h1]
    · rw [if_neg h1]
      by_cases h2 : j.val < i
      · rw [if_pos h2, if_pos (by omega)]
      · rw [if_neg h2, if_neg (by omega)]
/-- a heap that grew by some cells -/
theorem ohCz_grow {G : OhG} {ad ad' : Nat → Nat → Nat} {h h' : OhH} {H H1 : Heap} (z : ohCz G ad h H) (hmono : ∀ s, hC h s ≤ hC h' s) (hpC : ∀ s, ohPre s = true → hC h' s = hC h s) (hag : ∀ s i, i < hC h s → ad' s i = ad s i) (hpa : ∀ s i, ohPre s = true → ad' s i = ad s i)
    (hsz : H.size ≤ H1.size) (hq : ∀ q : Nat, q < H.size → H1[q]? = H[q]?) (ho : ∀ s i, i < hC h s ∨ ohPre s = true → ohEq h h' s i)
    (hnew : ∀ s i, hC h s ≤ i → i < hC h' s → ohAt G ad' h' H1 s i ∧ H.size ≤ ad' s i) (hinj : ∀ s i s' i', hC h s ≤ i → i < hC h' s → hC h s' ≤ i' → i' < hC h' s' → ad' s i = ad' s' i' → s = s' ∧ i = i') (hw : ohWf h') : ohCz G ad' h' H1 := by
  have hlt := ohCz_lt z
  obtain ⟨z1, z2, z3, z4, z5, z6, z7⟩ := z
  refine ⟨Nat.le_trans z1 hsz, fun q hlt => ?_, fun s i hi hp => ?_, fun s i hp => ?_, fun s hp => ?_, fun s1 i1 s2 i2 h1 h2 n1 n2 e => ?_, hw⟩
  · rw [hq q (by omega)]; exact z2 q hlt
  · rcases Nat.lt_or_ge i (hC h s) with h1 | h1
    · refine ⟨ohAt_kept (ho s i (Or.inl h1)) ?_ (ohAt_ad z7 h1 hag (z3 s i h1 hp).1), ?_⟩
      · rw [hag s i h1]; exact hq _ (hlt s i h1 (oN140 hp))
      · rw [hag s i h1]; exact (z3 s i h1 hp).2
    · exact ⟨(hnew s i h1 hi).1, Nat.le_trans z1 (hnew s i h1 hi).2⟩
  · have e1 := (z4 s i hp).2
    have e2 := ho s i (Or.inr hp)
    refine ⟨by rw [hpa s i hp]; exact (z4 s i hp).1, ?_⟩
    exact ⟨e2.1.trans e1.1, e2.2.1.trans e1.2.1, e2.2.2.1.trans e1.2.2.1, e2.2.2.2.1.trans e1.2.2.2.1, e2.2.2.2.2.1.trans e1.2.2.2.2.1, e2.2.2.2.2.2.1.trans e1.2.2.2.2.2.1, e2.2.2.2.2.2.2.1.trans e1.2.2.2.2.2.2.1, e2.2.2.2.2.2.2.2.1.trans e1.2.2.2.2.2.2.2.1, e2.2.2.2.2.2.2.2.2.trans e1.2.2.2.2.2.2.2.2⟩
  · rw [hpC s hp]
    exact ⟨(z5 s hp).1, fun i hi hk => by rw [hpa s i hp]; exact (z5 s hp).2 i hi hk⟩
  · rcases Nat.lt_or_ge i1 (hC h s1) with g1 | g1
    · rcases Nat.lt_or_ge i2 (hC h s2) with g2 | g2
      · rw [hag _ _ g1, hag _ _ g2] at e
        exact z6 _ _ _ _ g1 g2 n1 n2 e
      · rw [hag _ _ g1] at e
        have := hlt _ _ g1 n1
        have := (hnew s2 i2 g2 h2).2
        omega
    · rcases Nat.lt_or_ge i2 (hC h s2) with g2 | g2
      · rw [hag _ _ g2] at e
        have := hlt _ _ g2 n2
        have := (hnew s1 i1 g1 h1).2
        omega
      · exact hinj _ _ _ _ g1 h1 g2 h2 e
section OS
variable {G : OhG} {d : Nat} {Y : OhM} {pc : Nat} {ls : List (Nat × OhV)} {st : List OhV} {k : Nat × Nat} {Φ : OhP} {Ψ : OhX} {h : OhH}
variable {FI AI : OhI} {FL AL : OhL} {FR GR AR BR : OhQ} {AN : OhN} {C : OhC}
theorem oX_multi {n w : Int32} {idx : Nat} (s1 s2 : Nat) (hkd : ohKd s1 = 104) (hkd2 : ohKd s2 = 100) (hq : Cond.classLink Y.1.cls idx "[[I" ∈ lw_all) (hq2 : Cond.arrayOver (.array .int) ∈ lw_tbl) (hq3 : Cond.arrayClass .int ∈ lw_all) (dc : decode Y.2.1 pc = .ok (.multianewarray idx 2, 4)) (hn : ¬ n < 0 ∧ n ≤ 1000) (hw : ¬ w < 0 ∧ w ≤ 1000)
    {AR2 : OhQ} (eAR : AR2 = sA AR s1 (C s1) (fun j => if j < n.toNatClampNeg then some (s2, C s2 + j) else none)) {AI2 : OhI} (eAI : AI2 = rA AI s2 (C s2) n.toNatClampNeg (fun _ => 0)) {AN2 : OhN} (eAN : AN2 = rA (sA AN s1 (C s1) n.toNatClampNeg) s2 (C s2) n.toNatClampNeg w.toNatClampNeg) {C2 : OhC} (eC : C2 = uA (uA C s1 (C s1 + 1)) s2 (C s2 + n.toNatClampNeg))
    (kk : oX G d Y (pc + 4) ls (vR (some (s1, C s1)) :: st) (FI, FL, FR, GR, AI2, AL, AR2, BR, AN2, C2) k Φ Ψ) : oX G d Y pc ls (vI w :: vI n :: st) (FI, FL, FR, GR, AI, AL, AR, BR, AN, C) (1 + n.toNatClampNeg + k.1, n.toNatClampNeg + n.toNatClampNeg * w.toNatClampNeg + k.2) Φ Ψ := by
  subst eAR; subst eAI; subst eAN; subst eC
  have hp1 : ohPre s1 = false := by unfold ohPre; rw [hkd]; rfl
  have hp2 : ohPre s2 = false := by unfold ohPre; rw [hkd2]; rfl
  have hne : s1 ≠ s2 := fun e => by rw [e, hkd2] at hkd; cases hkd
  intro p e s m args below meth c mc ms ad0 h0 ad H locs cells slots Ls B hE hz hl1 hs1 hS hl hk1 hk2
  have hnn : n.toNatClampNeg ≤ 1000 := by
    have h7 := Int32.le_iff_toInt_le.mp hn.2
    rw [show (1000 : Int32).toInt = 1000 from by decide] at h7
    show n.toInt.toNat ≤ 1000; omega
  have hww : w.toNatClampNeg ≤ 1000 := by
    have h7 := Int32.le_iff_toInt_le.mp hw.2
    rw [show (1000 : Int32).toInt = 1000 from by decide] at h7
    show w.toInt.toNat ≤ 1000; omega
  have hmono : ∀ s, C s ≤ uA (uA C s1 (C s1 + 1)) s2 (C s2 + n.toNatClampNeg) s := fun s => by
    by_cases h2 : s = s2
    · subst h2; rw [uA_same]; omega
    · rw [uA_ne _ _ h2]; exact oMono s
  let ad' : Nat → Nat → Nat := fun s i => if s = s1 ∧ i = C s1 then H.size else if s = s2 ∧ C s2 ≤ i ∧ i < C s2 + n.toNatClampNeg then H.size + 1 + (i - C s2) else ad s i
  have hag : ∀ s i, i < C s → ad' s i = ad s i := fun s i hi => by
    show (if _ then _ else _) = _
    rw [if_neg (fun e9 => by obtain ⟨rfl, rfl⟩ := e9; omega), if_neg (fun e9 => by obtain ⟨rfl, h8, -⟩ := e9; omega)]
  have hcase : ∀ s i, C s ≤ i → i < uA (uA C s1 (C s1 + 1)) s2 (C s2 + n.toNatClampNeg) s → (s = s1 ∧ i = C s1) ∨ (s = s2 ∧ C s2 ≤ i ∧ i < C s2 + n.toNatClampNeg) := fun s i h1 h2 => by
    by_cases g2 : s = s2
    · subst g2; rw [uA_same] at h2; exact Or.inr ⟨rfl, h1, h2⟩
    · rw [uA_ne _ _ g2] at h2
      by_cases g1 : s = s1
      · subst g1; rw [uA_same] at h2; exact Or.inl ⟨rfl, by omega⟩
      · rw [uA_ne _ _ g1] at h2; omega
  have hlm : (ls.map fun q => (q.1, gVl ad q.2)) = ls.map fun q => (q.1, gVl ad' q.2) := List.map_congr_left fun x hx => by rw [gVl_congr (hl1 x hx) hag]
  have hs1' := oW_t (oW_t hs1)
  have hsm : st.map (gVl ad) = st.map (gVl ad') := List.map_congr_left fun x hx => (gVl_congr (hs1' x hx) hag).symm
  rw [hlm] at hl
  intro T hT X
  obtain ⟨vm₁, cA, comp, hW, hfA, hfC, hO, hI, X1, stp⟩ := X.multianewarray2F (ty := .int) B.1 B.2.2.2.2.2.1 (B.2.2.2.2.2.2.1 _ hq) (B.2.2.2.2.2.2.2.1.2.2.2.2.2.2.2.2.1 : ohAI s) (B.2.2.2.2.2.2.1 _ hq3) (g := F0 m pc Ls (.int w :: .int n :: st.map (gVl ad))) rfl (by rw [B.2.1]; exact dc) rfl hn.1 hw.1 (by omega) (by show _ * 4 ≤ _; omega) (by omega) rfl rfl (by show cells + _ ≤ mc; omega) (by show slots + _ ≤ ms; omega)
  have hcA : cA = G.2.2.1 4 := Option.some.inj (hfA.symm.trans (B.2.2.2.2.2.2.2.1.1.2 4 (G.2.2.1 4, .array .int) rfl).2)
  have hcI : comp = G.2.2.1 0 := Option.some.inj (hfC.symm.trans (B.2.2.2.2.2.2.2.1.1.2 0 (G.2.2.1 0, .int) rfl).2)
  subst hcA; subst hcI
  generalize hU : Jvm.Free.Multi.fill (T.setVm vm₁) (G.2.2.1 4) (G.2.2.1 0) n.toNatClampNeg w.toNatClampNeg (defaultValue .int) n.toNatClampNeg = U at X1 stp
  have hTH : (T.setVm vm₁).heap = H := hT
  obtain ⟨f1, f2, f3, -⟩ := Jvm.Free.Multi.fill_facts (T.setVm vm₁) (G.2.2.1 4) (G.2.2.1 0) n.toNatClampNeg w.toNatClampNeg (defaultValue .int) n.toNatClampNeg
  rw [hU, hTH] at f1 f2
  have f4 : ∀ q : Nat, q < H.size → U.heap[q]? = H[q]? := fun q hq => by
    have := Jvm.Free.Multi.fill_old (T.setVm vm₁) (G.2.2.1 4) (G.2.2.1 0) n.toNatClampNeg w.toNatClampNeg (defaultValue .int) (a := q) (by rw [hTH]; exact hq) n.toNatClampNeg
    rw [hU, hTH] at this; exact this
  have f5 : ∀ j, j < n.toNatClampNeg → U.heap[H.size + 1 + j]? = some (arrV (G.2.2.1 0) w.toNatClampNeg (fun _ => .int 0)) := fun j hj => by
    have := Jvm.Free.Multi.fill_inner (T.setVm vm₁) (G.2.2.1 4) (G.2.2.1 0) n.toNatClampNeg w.toNatClampNeg (defaultValue .int) n.toNatClampNeg j hj
    rw [hU, hTH] at this
    rw [this]
    unfold Jvm.Free.Multi.innerC arrV
    congr 2
    exact Array.ext (by simp) (fun i h1 h2 => by simp; rfl)
  have hz' : ohCz G ad' (FI, FL, FR, GR, rA AI s2 (C s2) n.toNatClampNeg (fun _ => 0), AL, sA AR s1 (C s1) (fun j => if j < n.toNatClampNeg then some (s2, C s2 + j) else none), BR, rA (sA AN s1 (C s1) n.toNatClampNeg) s2 (C s2) n.toNatClampNeg w.toNatClampNeg, uA (uA C s1 (C s1 + 1)) s2 (C s2 + n.toNatClampNeg)) U.heap := by
    refine ohCz_grow hz hmono (fun s hps => ?_) hag (fun s i hps => ?_) (by omega) f4 (fun s i hsi => ?_) (fun s i g1 g2 => ?_) (fun s i s' i' g1 g2 g3 g4 e9 => ?_) (fun s i => ⟨fun j => ohWr_mono hmono ((hz.2.2.2.2.2.2 s i).1 j), fun j => ohWr_mono hmono ((hz.2.2.2.2.2.2 s i).2.1 j), fun j => ?_, fun j => ohWr_mono hmono ((hz.2.2.2.2.2.2 s i).2.2.2 j)⟩)
    · show uA (uA C s1 (C s1 + 1)) s2 (C s2 + n.toNatClampNeg) s = C s
      rw [uA_ne _ _ (fun e => by rw [e, hp2] at hps; cases hps), uA_ne _ _ (fun e => by rw [e, hp1] at hps; cases hps)]
    · show (if _ then _ else _) = _
      rw [if_neg (fun e => by rw [e.1, hp1] at hps; cases hps), if_neg (fun e => by rw [e.1, hp2] at hps; cases hps)]
    · have n1 : ¬ (s = s1 ∧ i = C s1) := fun e => by
        obtain ⟨rfl, rfl⟩ := e
        rcases hsi with h9 | h9
        · exact absurd h9 (Nat.lt_irrefl _)
        · rw [hp1] at h9; cases h9
      have n2 : ¬ (s = s2 ∧ C s2 ≤ i ∧ i < C s2 + n.toNatClampNeg) := fun e => by
        obtain ⟨rfl, h8, -⟩ := e
        rcases hsi with h9 | h9
        · exact absurd h9 (Nat.not_lt.mpr h8)
        · rw [hp2] at h9; cases h9
      exact oEq_of rfl rfl rfl rfl (rA_out _ _ n2) rfl (sA_ne _ _ n1) rfl ((rA_out _ _ n2).trans (sA_ne _ _ n1))
    · rcases hcase s i g1 g2 with ⟨rfl, rfl⟩ | ⟨rfl, h8, h9⟩
      · refine ⟨?_, by show _ ≤ (if _ then _ else _); rw [if_pos ⟨rfl, rfl⟩]; exact Nat.le_refl _⟩
        unfold ohAt
        rw [hkd, if_neg (by decide), if_pos (by decide)]
        have ea : ad' s (C s) = H.size := by show (if _ then _ else _) = _; rw [if_pos ⟨rfl, rfl⟩]
        have eN : hN (FI, FL, FR, GR, rA AI s2 (C s2) n.toNatClampNeg (fun _ => 0), AL, sA AR s (C s) (fun j => if j < n.toNatClampNeg then some (s2, C s2 + j) else none), BR, rA (sA AN s (C s) n.toNatClampNeg) s2 (C s2) n.toNatClampNeg w.toNatClampNeg, uA (uA C s (C s + 1)) s2 (C s2 + n.toNatClampNeg)) s (C s) = n.toNatClampNeg := by
          show rA _ _ _ _ _ s (C s) = _
          rw [rA_site _ _ _ _ hne, sA_same]
        rw [ea, eN, f2, oOuter]
        congr 1
        unfold arrV
        congr 1
        refine Array.ext (by simp) (fun j h1 h2 => ?_)
        have hj : j < n.toNatClampNeg := by simpa using h1
        simp only [Array.getElem_ofFn, if_pos hj]
        show Value.ref _ = gRf ad' (sA AR s (C s) _ s (C s) j)
        rw [sA_same, if_pos hj]
        show Value.ref _ = Value.ref (if _ then _ else _)
        rw [if_neg (fun e => hne e.1.symm), if_pos ⟨rfl, by show C s2 ≤ C s2 + j; omega, by show C s2 + j < _; omega⟩]
        show Value.ref (H.size + 1 + j) = Value.ref (H.size + 1 + (C s2 + j - C s2))
        rw [show C s2 + j - C s2 = j by omega]
      · refine ⟨?_, by show _ ≤ (if _ then _ else _); rw [if_neg (fun e => hne e.1.symm), if_pos ⟨rfl, h8, h9⟩]; omega⟩
        unfold ohAt
        rw [hkd2, if_neg (by decide), if_pos (by decide)]
        have ea : ad' s i = H.size + 1 + (i - C s) := by show (if _ then _ else _) = _; rw [if_neg (fun e => hne e.1.symm), if_pos ⟨rfl, h8, h9⟩]
        have eN : hN (FI, FL, FR, GR, rA AI s (C s) n.toNatClampNeg (fun _ => 0), AL, sA AR s1 (C s1) (fun j => if j < n.toNatClampNeg then some (s, C s + j) else none), BR, rA (sA AN s1 (C s1) n.toNatClampNeg) s (C s) n.toNatClampNeg w.toNatClampNeg, uA (uA C s1 (C s1 + 1)) s (C s + n.toNatClampNeg)) s i = w.toNatClampNeg := by
          show rA _ _ _ _ _ s i = _
          rw [rA_in _ _ h8 h9]
        rw [ea, eN, f5 _ (by omega)]
        congr 1
        unfold arrV
        congr 1
        refine Array.ext (by simp) (fun j h1 h2 => ?_)
        simp only [Array.getElem_ofFn]
        show Value.int 0 = Value.int (rA AI s (C s) _ _ s i j)
        rw [rA_in _ _ h8 h9]
    · rcases hcase s i g1 g2 with ⟨rfl, rfl⟩ | ⟨rfl, h8, h9⟩
      · rcases hcase s' i' g3 g4 with ⟨rfl, rfl⟩ | ⟨rfl, h8', h9'⟩
        · exact ⟨rfl, rfl⟩
        · exfalso
          have e1 : ad' s (C s) = H.size := by show (if _ then _ else _) = _; rw [if_pos ⟨rfl, rfl⟩]
          have e2 : ad' s' i' = H.size + 1 + (i' - C s') := by show (if _ then _ else _) = _; rw [if_neg (fun e => hne e.1.symm), if_pos ⟨rfl, h8', h9'⟩]
          omega
      · have e1 : ad' s i = H.size + 1 + (i - C s) := by show (if _ then _ else _) = _; rw [if_neg (fun e => hne e.1.symm), if_pos ⟨rfl, h8, h9⟩]
        rcases hcase s' i' g3 g4 with ⟨rfl, rfl⟩ | ⟨rfl, h8', h9'⟩
        · exfalso
          have e2 : ad' s' (C s') = H.size := by show (if _ then _ else _) = _; rw [if_pos ⟨rfl, rfl⟩]
          omega
        · have e2 : ad' s' i' = H.size + 1 + (i' - C s') := by show (if _ then _ else _) = _; rw [if_neg (fun e => hne e.1.symm), if_pos ⟨rfl, h8', h9'⟩]
          exact ⟨rfl, by omega⟩
    · show ohWr _ (sA AR s1 (C s1) _ s i j)
      by_cases hsi : s = s1 ∧ i = C s1
      · obtain ⟨rfl, rfl⟩ := hsi
        rw [sA_same]
        by_cases hj : j < n.toNatClampNeg
        · rw [if_pos hj]
          intro a ha
          cases ha
          show C s2 + j < uA _ s2 _ s2
          rw [uA_same]; omega
        · rw [if_neg hj]; intro a ha; cases ha
      · rw [sA_ne _ _ hsi]; exact ohWr_mono hmono ((hz.2.2.2.2.2.2 s i).2.2.1 j)
  obtain ⟨t, a1, b1⟩ := kk p e s m args below meth c mc ms ad0 h0 ad' U.heap locs (cells + 1 + n.toNatClampNeg) (slots + n.toNatClampNeg + n.toNatClampNeg * w.toNatClampNeg) Ls B (ohExt_trans hE ⟨hag, hmono⟩) hz' (fun q hq => ohWv_mono hmono (hl1 q hq)) (oW_r (fun a ha => by
      cases ha
      show C s1 < uA _ s2 _ s1
      rw [uA_ne _ _ hne, uA_same]; omega) (fun v hv => ohWv_mono hmono (hs1' v hv))) ⟨Nat.le_trans hS.1 (by omega), fun x h1 h2 => (f4 x (Nat.lt_of_lt_of_le h1 hS.1)).trans (hS.2.1 x h1 h2), hS.2.2⟩ hl (by omega) (by omega) U rfl X1
  refine ⟨t, stp t ?_, b1⟩
  rw [List.map_cons, gVl_r] at a1
  have e9 : gRf ad' (some (s1, C s1)) = .ref T.heap.size := by
    show Value.ref (if _ then _ else _) = _
    rw [if_pos ⟨rfl, rfl⟩, hT]
  rw [e9, ← hsm] at a1
  exact a1

/-- classes whose objects may lie in an Object[] -/
theorem ohObj : ∀ ci, ci < 17 → ∃ Cn T N, ohCL[ci]? = some (Cn, T, N) ∧ Cond.castable Cn "java/lang/Object" ∈ lw_tbl := fun ci h => match ci, h with
  | 0, _ => ⟨_, _, _, rfl, q2461⟩ | 1, _ => ⟨_, _, _, rfl, q2465⟩ | 2, _ => ⟨_, _, _, rfl, q2463⟩ | 3, _ => ⟨_, _, _, rfl, q2464⟩ | 4, _ => ⟨_, _, _, rfl, q2466⟩ | 5, _ => ⟨_, _, _, rfl, q2467⟩ | 6, _ => ⟨_, _, _, rfl, q2468⟩ | 7, _ => ⟨_, _, _, rfl, q2469⟩ | 8, _ => ⟨_, _, _, rfl, q2470⟩ | 9, _ => ⟨_, _, _, rfl, q2473⟩ | 10, _ => ⟨_, _, _, rfl, q2474⟩ | 11, _ => ⟨_, _, _, rfl, q2475⟩ | 12, _ => ⟨_, _, _, rfl, q2477⟩ | 13, _ => ⟨_, _, _, rfl, q2478⟩ | 14, _ => ⟨_, _, _, rfl, q2460⟩ | 15, _ => ⟨_, _, _, rfl, q2479⟩ | 16, _ => ⟨_, _, _, rfl, q2480⟩
  | n + 17, h => absurd h (by omega)
/-- an object of the system's own classes -/
def oOb (r : OhR) : Prop := ∃ a, r = some a ∧ ohKd a.1 < 17
theorem oX_aastO {i : Int32} {x : OhR} {r : OhR} {a : Nat × Nat} (hr : oD 106 r = some a) (hin : vp_in i (AN a.1 a.2)) (hx : oOb x) (dc : decode Y.2.1 pc = .ok (.aastore, 1))
    {BR2 : OhQ} (e9 : BR2 = sA BR a.1 a.2 (uA (BR a.1 a.2) i.toNatClampNeg x)) (kk : oX G d Y (pc + 1) ls st (FI, FL, FR, GR, AI, AL, AR, BR2, AN, C) k Φ Ψ) : oX G d Y pc ls (vR x :: vI i :: vR r :: st) (FI, FL, FR, GR, AI, AL, AR, BR, AN, C) k Φ Ψ := by
  obtain ⟨b, rfl, hb⟩ := hx
  obtain ⟨Cn, T, N, h1, h2⟩ := ohObj _ hb
  exact oX_aast6 hr hin (oD_t rfl) h1 (by omega) h2 dc e9 kk
theorem oX_getClassO {idx : Nat} {r : OhR} {a : Nat × Nat} (hr : oD 106 r = some a) (hlive : 0 < hC h 58) (w1 : Cond.methodLink Y.1.cls idx ⟨"java/lang/Object", "getClass", "()Ljava/lang/Class;"⟩ ∈ lw_all) (w2 : Cond.selects "[Ljava/lang/Object;" ⟨"java/lang/Object", "getClass", "()Ljava/lang/Class;"⟩ ⟨"java/lang/Object", "getClass", "()Ljava/lang/Class;"⟩ ∈ lw_all) (w3 : Cond.instanceMethod ⟨"java/lang/Object", "getClass", "()Ljava/lang/Class;"⟩ ∈ lw_all) (w4 : Cond.native ⟨"java/lang/Object", "getClass", "()Ljava/lang/Class;"⟩ ∈ lw_all) (dc : decode Y.2.1 pc = .ok (.invokevirtual idx, 3)) (hd : 1 ≤ d) (h8 : (st.map fun v => if oIsL v = true then 2 else 1).sum ≤ 8)
    (kk : oX G d Y (pc + 3) ls (vR (some (58, 0)) :: st) h k Φ Ψ) : oX G d Y pc ls (vR r :: st) h k Φ Ψ := by
  intro p e s m args below meth c mc ms ad0 h0 ad H locs cells slots Ls B hE hz hl1 hs1 hS hl hk1 hk2
  obtain ⟨rfl, hkd⟩ := oD_some hr
  have hla : ohLive h a := oW_h hs1 a rfl
  obtain ⟨hc, hA, hRA, hp⟩ := oArr (t := 6) rfl B.2.2.2.2.2.2.2.1 hz hla hkd (by decide)
  obtain ⟨kA, comp, k1, k2, k3, k4⟩ := hRA
  have had : ad 58 0 = G.2.2.2.2.2.1 58 0 := (hz.2.2.2.1 58 0 rfl).1
  have K := kk p e s m args below meth c mc ms ad0 h0 ad H locs cells slots Ls B hE hz hl1 (oW_r (fun a ha => by cases ha; exact hlive) (oW_t hs1)) hS hl hk1 hk2
  rw [List.map_cons, gVl_r, show gRf ad (some (58, 0)) = .ref (G.2.2.2.2.2.1 58 0) by rw [← had]; rfl] at K
  have h9 : ((st.map (gVl ad)).map fun v => v.category).sum ≤ 8 := oSumLe h8
  exact va_getC B.1 B.2.1 (B.2.2.2.2.1.trans hl.1.symm) B.2.2.2.2.2.1 (B.2.2.2.2.2.2.1 _ w1) (va_Nw.use rfl B.2.2.2.2.2.2.2.1.2.2.2.2.2.2.2.1) (B.2.2.2.2.2.2.1 _ w2) (B.2.2.2.2.2.2.1 _ w3) (B.2.2.2.2.2.2.1 _ w4) B.2.2.2.2.2.2.2.1.2.2.2.2.2.2.1 ⟨_, hc, rfl, k4⟩ (by show 1 ≤ d; exact hd) (by show _ ≤ 64 * d; omega) dc K
theorem oX_ldcM {idx : Nat} (hlive : 0 < hC h 58) (hq : Cond.classLink Y.1.cls idx "[Ljava/lang/Object;" ∈ lw_all) (dc : decode Y.2.1 pc = .ok (.ldc idx, 2)) (kk : oX G d Y (pc + 2) ls (vR (some (58, 0)) :: st) h k Φ Ψ) : oX G d Y pc ls st h k Φ Ψ := by
  intro p e s m args below meth c mc ms ad0 h0 ad H locs cells slots Ls B hE hz hl1 hs1 hS hl hk1 hk2
  have had : ad 58 0 = G.2.2.2.2.2.1 58 0 := (hz.2.2.2.1 58 0 rfl).1
  have K := kk p e s m args below meth c mc ms ad0 h0 ad H locs cells slots Ls B hE hz hl1 (oW_r (fun a ha => by cases ha; exact hlive) hs1) hS hl hk1 hk2
  rw [List.map_cons, gVl_r, show gRf ad (some (58, 0)) = .ref (G.2.2.2.2.2.1 58 0) by rw [← had]; rfl] at K
  exact va_ldcM B.1 B.2.1 B.2.2.2.2.2.1 (B.2.2.2.2.2.2.1 _ hq) B.2.2.2.2.2.2.2.1.2.2.2.2.2.2.1 dc K
/-- System.arraycopy of one Object[] into another -/
theorem oX_copyO {idx : Nat} {sp dp n : Int32} {rs rd : OhR} {a b : Nat × Nat} (ha : oD 106 rs = some a) (hb : oD 106 rd = some b) (h1 : ¬ sp < 0) (h2 : ¬ dp < 0) (h3 : ¬ n < 0) (h4 : sp.toNatClampNeg + n.toNatClampNeg ≤ AN a.1 a.2) (h5 : dp.toNatClampNeg + n.toNatClampNeg ≤ AN b.1 b.2) (hel : ∀ i : Nat, i < n.toNatClampNeg → ∀ y, BR a.1 a.2 (sp.toNatClampNeg + i) = some y → ohKd y.1 < 17)
    (w1 : Cond.methodLink Y.1.cls idx arraycopyName ∈ lw_all) (w2 : Cond.native arraycopyName ∈ lw_all) (w3 : Cond.static arraycopyName ∈ lw_all) (w4 : Cond.initialized "java/lang/System" ∈ lw_all) (dc : decode Y.2.1 pc = .ok (.invokestatic idx, 3)) (hd : 2 ≤ d) (h8 : (st.map fun v => if oIsL v = true then 2 else 1).sum ≤ 8)
    {BR2 : OhQ} (e9 : BR2 = sA BR b.1 b.2 (va_cpy (BR a.1 a.2) (BR b.1 b.2) sp.toNatClampNeg dp.toNatClampNeg n.toNatClampNeg))
    (kk : oX G d Y (pc + 3) ls st (FI, FL, FR, GR, AI, AL, AR, BR2, AN, C) k Φ Ψ) : oX G d Y pc ls (vI n :: vI dp :: vR rd :: vI sp :: vR rs :: st) (FI, FL, FR, GR, AI, AL, AR, BR, AN, C) k Φ Ψ := by
  subst e9
  intro p e s m args below meth c mc ms ad0 h0 ad H locs cells slots Ls B hE hz hl1 hs1 hS hl hk1 hk2
  obtain ⟨rfl, hka⟩ := oD_some ha
  obtain ⟨rfl, hkb⟩ := oD_some hb
  have hlb : ohLive (FI, FL, FR, GR, AI, AL, AR, BR, AN, C) b := oW_h (oW_t (oW_t hs1)) b rfl
  have hla : ohLive (FI, FL, FR, GR, AI, AL, AR, BR, AN, C) a := oW_h (oW_t (oW_t (oW_t (oW_t hs1)))) a rfl
  have hst : ∀ v ∈ st, ohWv (FI, FL, FR, GR, AI, AL, AR, BR, AN, C) v := oW_t (oW_t (oW_t (oW_t (oW_t hs1))))
  obtain ⟨hc0, hA0, hRA0, hp0⟩ := oArr (t := 6) rfl B.2.2.2.2.2.2.2.1 hz hla hka (by decide)
  obtain ⟨hc1, hA1, hRA1, hp1⟩ := oArr (t := 6) rfl B.2.2.2.2.2.2.2.1 hz hlb hkb (by decide)
  have nn : ∀ z : Int32, ¬ z < 0 → z.toInt = (z.toNatClampNeg : Int) := by
    intro z hz9
    have hz0 : (0 : Int) ≤ z.toInt := by
      have := Int32.not_lt.mp hz9
      simpa using Int32.le_iff_toInt_le.mp this
    show z.toInt = ((z.toInt.toNat : Nat) : Int)
    omega
  intro T hT X
  obtain ⟨-, k0, hk0, cm0, hkk0⟩ := hA0 (AN a.1 a.2) (fun j => gRf ad (BR a.1 a.2 j))
  obtain ⟨-, k1', hk1', cm1, hkk1⟩ := hA1 (AN b.1 b.2) (fun j => gRf ad (BR b.1 b.2 j))
  have hc0' : H[ad a.1 a.2]? = some (arrV (G.2.2.1 6) (AN a.1 a.2) (fun j => gRf ad (BR a.1 a.2 j))) := hc0
  have hc1' : H[ad b.1 b.2]? = some (arrV (G.2.2.1 6) (AN b.1 b.2) (fun j => gRf ad (BR b.1 b.2 j))) := hc1
  have h9 : ((st.map (gVl ad)).map fun v => v.category).sum ≤ 8 := oSumLe h8
  obtain ⟨vm', X', stp⟩ := X.arraycopy B.1 B.2.2.2.2.2.1 (B.2.2.2.2.2.2.1 _ w1) (B.2.2.2.2.2.2.1 _ w2) (B.2.2.2.2.2.2.1 _ w3) (B.2.2.2.2.2.2.1 _ w4) (src := ad a.1 a.2) (dst := ad b.1 b.2) (cs := arrV (G.2.2.1 6) (AN a.1 a.2) (fun j => gRf ad (BR a.1 a.2 j))) (cd := arrV (G.2.2.1 6) (AN b.1 b.2) (fun j => gRf ad (BR b.1 b.2 j))) (srcPos := sp) (destPos := dp) (n := n) (by rw [hT]; exact hc0') (by rw [hT]; exact hc1')
    (fun _ h => by cases h) (fun _ h => by cases h) (fun h => by cases h) (fun h => by cases h) hk0 hk1' hkk0 hkk1 rfl h1 h2 h3
    (by rw [nn sp h1, nn n h3, arrV_size]; omega)
    (by rw [nn dp h2, nn n h3, arrV_size]; omega)
    (fun vm₁ hal i hi => by
      have e : (arrV (G.2.2.1 6) (AN a.1 a.2) (fun j => gRf ad (BR a.1 a.2 j))).slots.getD (sp.toNatClampNeg + i) .null = gRf ad (BR a.1 a.2 (sp.toNatClampNeg + i)) := by
        rw [Array.getD_eq_getD_getElem?, arrV_read _ _ (by omega)]
        rfl
      rw [e]
      cases hy : BR a.1 a.2 (sp.toNatClampNeg + i) with
      | none => exact ⟨rfl, trivial⟩
      | some y =>
        have hky := hel i hi y hy
        obtain ⟨Cn, T9, N9, c1, c2⟩ := ohObj _ hky
        have hly : ohLive (FI, FL, FR, GR, AI, AL, AR, BR, AN, C) y := (hz.2.2.2.2.2.2 a.1 a.2).2.2.2 _ y hy
        obtain ⟨cellV, g1, g2, g3⟩ := oRecv (ci := ohKd y.1) B.2.2.2.2.2.2.2.1 hz hly (oPre_lt rfl (by omega)) rfl (by omega) c1
        obtain ⟨kA, comp, r1, r2, r3, -⟩ := hRA1
        cases hk1'.symm.trans r1
        cases hkk1.symm.trans r2
        obtain ⟨kE, hkE, -⟩ := Vm.findClass_spec r3
        obtain ⟨kC, hkC, -⟩ := Vm.findClass_spec g3
        obtain ⟨c3, c4, hc3, hc4, hasg⟩ := Cond.castable_spec (va_Nw.use (A := args) rfl (B.2.2.2.2.2.2.2.1.2.1.2.2.1 _ _ c2))
        cases Option.some.inj (hc3.symm.trans g3)
        cases Option.some.inj (hc4.symm.trans r3)
        obtain ⟨kC', hkC', -⟩ := hal.2.2 _ _ hkC
        obtain ⟨kE', hkE', -⟩ := hal.2.2 _ _ hkE
        refine ⟨rfl, cellV, (show T.heap[ad y.1 y.2]? = some cellV by rw [hT]; exact g1), (fun q h => by rw [h] at g2; cases g2), ⟨kC', hkC'⟩, ?_, ?_⟩
        · exact ⟨kE', hkE'⟩
        · show vm₁.assignable _ _ = true
          rw [hal.assignable]
          exact hasg)
    (g := F0 m pc Ls (.int n :: .int dp :: .ref (ad b.1 b.2) :: .int sp :: .ref (ad a.1 a.2) :: st.map (gVl ad))) rfl (by rw [B.2.2.2.2.1]; exact hl.1) (rest := st.map (gVl ad)) rfl (by rw [B.2.1]; exact dc) (by show 1 ≤ d; omega) (by
      have e5 : nativeFrameWords "java/lang/System" "arraycopy" 5 + 11 ≤ 100 := by decide
      show 2 * 0 + _ + _ ≤ 64 * d; omega)
  have e1 : copied (arrV (G.2.2.1 6) (AN a.1 a.2) (fun j => gRf ad (BR a.1 a.2 j))) (arrV (G.2.2.1 6) (AN b.1 b.2) (fun j => gRf ad (BR b.1 b.2 j))) sp dp n = arrV (G.2.2.1 6) (AN b.1 b.2) (fun j => gRf ad (va_cpy (BR a.1 a.2) (BR b.1 b.2) sp.toNatClampNeg dp.toNatClampNeg n.toNatClampNeg j)) :=
    va_copied (fun z => gRf ad z) _ _ (BR a.1 a.2) (BR b.1 b.2) h4
  rw [e1] at X' stp
  have hlt : ad b.1 b.2 < H.size := (Array.getElem?_eq_some_iff.mp hc1').1
  generalize hU : (T.setVm vm').setCell (ad b.1 b.2) (arrV (G.2.2.1 6) (AN b.1 b.2) (fun j => gRf ad (va_cpy (BR a.1 a.2) (BR b.1 b.2) sp.toNatClampNeg dp.toNatClampNeg n.toNatClampNeg j))) = U at X' stp
  have hheap : U.heap = H.setIfInBounds (ad b.1 b.2) (arrV (G.2.2.1 6) (AN b.1 b.2) (fun j => gRf ad (va_cpy (BR a.1 a.2) (BR b.1 b.2) sp.toNatClampNeg dp.toNatClampNeg n.toNatClampNeg j))) := by rw [← hU, ← hT]; rfl
  have hq1 : U.heap[ad b.1 b.2]? = some (arrV (G.2.2.1 6) (AN b.1 b.2) (fun j => gRf ad (va_cpy (BR a.1 a.2) (BR b.1 b.2) sp.toNatClampNeg dp.toNatClampNeg n.toNatClampNeg j))) := by rw [hheap]; simp [Array.getElem?_setIfInBounds, hlt]
  have hqo : ∀ q : Nat, q ≠ ad b.1 b.2 → U.heap[q]? = H[q]? := fun q hq => by rw [hheap]; simp [Array.getElem?_setIfInBounds, Ne.symm hq]
  have hqs : U.heap.size = H.size := by rw [hheap]; simp
  have hat : ohAt G ad (FI, FL, FR, GR, AI, AL, AR, sA BR b.1 b.2 (va_cpy (BR a.1 a.2) (BR b.1 b.2) sp.toNatClampNeg dp.toNatClampNeg n.toNatClampNeg), AN, C) U.heap b.1 b.2 := by
    unfold ohAt
    rw [hkb, if_neg (by decide), if_pos (by decide), hq1]
    show some (arrV _ (AN b.1 b.2) _) = some (arrV _ (AN b.1 b.2) _)
    congr 2
    funext q
    show _ = gRf ad (sA BR b.1 b.2 _ b.1 b.2 q)
    rw [sA_same]
  have hz' := ohCz_put hz hlb hp1 (h' := (FI, FL, FR, GR, AI, AL, AR, sA BR b.1 b.2 (va_cpy (BR a.1 a.2) (BR b.1 b.2) sp.toNatClampNeg dp.toNatClampNeg n.toNatClampNeg), AN, C)) rfl hqs hqo (fun s' i' hh9 => oEq_of rfl rfl rfl rfl rfl rfl rfl (sA_ne _ _ hh9) rfl) hat (fun s9 i9 => ⟨(hz.2.2.2.2.2.2 s9 i9).1, (hz.2.2.2.2.2.2 s9 i9).2.1, (hz.2.2.2.2.2.2 s9 i9).2.2.1, fun j => by
    show ohWr _ (sA BR b.1 b.2 _ s9 i9 j)
    by_cases hs : s9 = b.1 ∧ i9 = b.2
    · obtain ⟨rfl, rfl⟩ := hs
      rw [sA_same]
      unfold va_cpy
      split
      · exact (hz.2.2.2.2.2.2 a.1 a.2).2.2.2 _
      · exact (hz.2.2.2.2.2.2 _ _).2.2.2 j
    · rw [sA_ne _ _ hs]; exact (hz.2.2.2.2.2.2 s9 i9).2.2.2 j⟩)
  have hAb := (hz.2.2.1 b.1 b.2 hlb hp1).2
  obtain ⟨t, a1, b1⟩ := kk p e s m args below meth c mc ms ad0 h0 ad U.heap _ cells slots Ls B hE hz' hl1 hst ⟨by rw [hqs]; exact hS.1, fun q g1 g2 => by
      rw [hqo q (fun e => g2 (by rw [e]; exact hAb))]
      exact hS.2.1 q g1 g2, fun q hq => by
      rcases List.mem_append.mp hq with h | h
      · exact hS.2.2 q h
      · obtain ⟨z, -, hz9⟩ := List.mem_map.mp h
        rw [← hz9]
        exact hAb⟩ hl hk1 hk2 U rfl X'
  exact ⟨t, stp t a1, b1⟩
end OS
