/-! CORE 3: how the pure heap changes with the machine's -/
theorem ohAv_congr {ad : Nat → Nat → Nat} {h h' : OhH} {t s i : Nat} (e : ohEq h h' s i) (j : Nat) : ohAv ad h' t s i j = ohAv ad h t s i j := by
  obtain ⟨-, -, -, -, e5, e6, e7, e8, -⟩ := e
  unfold ohAv; rw [e5, e6, e7, e8]
theorem ohFv_congr {ad : Nat → Nat → Nat} {h h' : OhH} {ci s i : Nat} (e : ohEq h h' s i) (k : Nat) : ohFv ad h' ci s i k = ohFv ad h ci s i k := by
  obtain ⟨e1, e2, e3, e4, -⟩ := e
  unfold ohFv; rw [e1, e2, e3, e4]
theorem ohAt_kept {G : OhG} {ad : Nat → Nat → Nat} {h h' : OhH} {H H1 : Heap} {s i : Nat} (e : ohEq h h' s i) (hq : H1[ad s i]? = H[ad s i]?) (a : ohAt G ad h H s i) : ohAt G ad h' H1 s i := by
  unfold ohAt at a ⊢
  by_cases h1 : ohKd s < 100
  · rw [if_pos h1] at a ⊢
    obtain ⟨V, hV, hk, hm⟩ := a
    exact ⟨V, hV.kept hq, fun k h2 h3 => by rw [ohFv_congr e]; exact hk k h2 h3, hm.kept hq⟩
  · rw [if_neg h1] at a ⊢
    by_cases h2 : ohKd s < 107
    · rw [if_pos h2] at a ⊢
      rw [hq, a, e.2.2.2.2.2.2.2.2]
      congr 2
      funext j
      rw [ohAv_congr e]
    · rw [if_neg h2] at a
      exact a.elim
theorem ohAt_lt {G : OhG} {ad : Nat → Nat → Nat} {h : OhH} {H : Heap} {s i : Nat} (a : ohAt G ad h H s i) : ad s i < H.size := by
  unfold ohAt at a
  by_cases h1 : ohKd s < 100
  · rw [if_pos h1] at a
    obtain ⟨V, ⟨cell, hc, -⟩, -⟩ := a
    exact (Array.getElem?_eq_some_iff.mp hc).1
  · rw [if_neg h1] at a
    by_cases h2 : ohKd s < 107
    · rw [if_pos h2] at a
      exact (Array.getElem?_eq_some_iff.mp a).1
    · rw [if_neg h2] at a
      exact a.elim
theorem gRf_congr {ad ad' : Nat → Nat → Nat} {h : OhH} {r : OhR} (hw : ohWr h r) (e : ∀ s i, i < hC h s → ad' s i = ad s i) : gRf ad' r = gRf ad r := by
  cases r with
  | none => rfl
  | some a => simp only [gRf, Option.map]; rw [e a.1 a.2 (hw a rfl)]
theorem gVl_congr {ad ad' : Nat → Nat → Nat} {h : OhH} {v : OhV} (hw : ohWv h v) (e : ∀ s i, i < hC h s → ad' s i = ad s i) : gVl ad' v = gVl ad v := by
  rcases v with x | x | r
  · rfl
  · rfl
  · exact gRf_congr hw e
theorem ohFv_ad {ad ad' : Nat → Nat → Nat} {h : OhH} {ci s i k : Nat} (hw : ohWf h) (hi : i < hC h s) (e : ∀ s i, i < hC h s → ad' s i = ad s i) : ohFv ad' h ci s i k = ohFv ad h ci s i k := by
  unfold ohFv
  split
  · rfl
  · split
    · rfl
    · split
      · exact gRf_congr ((hw s i).1 k) e
      · exact gRf_congr ((hw s i).2.1 k) e
theorem ohAv_ad {ad ad' : Nat → Nat → Nat} {h : OhH} {t s i j : Nat} (hw : ohWf h) (hi : i < hC h s) (e : ∀ s i, i < hC h s → ad' s i = ad s i) : ohAv ad' h t s i j = ohAv ad h t s i j := by
  unfold ohAv
  split
  · rfl
  · split
    · rfl
    · split
      · exact gRf_congr ((hw s i).2.2.1 j) e
      · exact gRf_congr ((hw s i).2.2.2 j) e
theorem ohAt_ad {G : OhG} {ad ad' : Nat → Nat → Nat} {h : OhH} {H : Heap} {s i : Nat} (hw : ohWf h) (hi : i < hC h s) (e : ∀ s i, i < hC h s → ad' s i = ad s i) (a : ohAt G ad h H s i) : ohAt G ad' h H s i := by
  unfold ohAt at a ⊢
  by_cases h1 : ohKd s < 100
  · rw [if_pos h1] at a ⊢
    rw [e s i hi]
    obtain ⟨V, hV, hk, hm⟩ := a
    exact ⟨V, hV, fun k h2 h3 => by rw [ohFv_ad hw hi e]; exact hk k h2 h3, hm⟩
  · rw [if_neg h1] at a ⊢
    by_cases h2 : ohKd s < 107
    · rw [if_pos h2] at a ⊢
      rw [e s i hi, a]
      congr 2
      funext j
      rw [ohAv_ad hw hi e]
    · rw [if_neg h2] at a
      exact a.elim
/-- one live place is written: the others stay -/
theorem ohCz_put {G : OhG} {ad : Nat → Nat → Nat} {h h' : OhH} {H H1 : Heap} {s i : Nat} (z : ohCz G ad h H) (hi : i < hC h s) (hp : ohPre s = false) (hC' : hC h' = hC h) (hsz : H1.size = H.size) (hq : ∀ q : Nat, q ≠ ad s i → H1[q]? = H[q]?)
    (ho : ∀ s' i', ¬ (s' = s ∧ i' = i) → ohEq h h' s' i') (ha : ohAt G ad h' H1 s i) (hw : ohWf h') : ohCz G ad h' H1 := by
  obtain ⟨z1, z2, z3, z4, z5, z6, z7⟩ := z
  have hge : G.2.2.2.1 ≤ ad s i := (z3 s i hi hp).2
  refine ⟨by rw [hsz]; exact z1, fun q hlt => ?_, fun s' i' hi' hp' => ?_, fun s' i' hp' => ⟨(z4 s' i' hp').1, ?_⟩, fun s' hp' => by rw [hC']; exact z5 s' hp', fun s1 i1 s2 i2 h1 h2 => z6 s1 i1 s2 i2 (by rw [hC'] at h1; exact h1) (by rw [hC'] at h2; exact h2), hw⟩
  · rw [hq q (by omega)]
    exact z2 q hlt
  · rw [hC'] at hi'
    by_cases hs : s' = s ∧ i' = i
    · obtain ⟨rfl, rfl⟩ := hs
      exact ⟨ha, hge⟩
    · refine ⟨ohAt_kept (ho s' i' hs) (hq _ fun e => hs (z6 s' i' s i hi' hi (oN140 hp') (oN140 hp) e)) (z3 s' i' hi' hp').1, (z3 s' i' hi' hp').2⟩
  · have e1 := (z4 s' i' hp').2
    have e2 := ho s' i' (fun e => by rw [e.1, hp] at hp'; cases hp')
    exact ⟨e2.1.trans e1.1, e2.2.1.trans e1.2.1, e2.2.2.1.trans e1.2.2.1, e2.2.2.2.1.trans e1.2.2.2.1, e2.2.2.2.2.1.trans e1.2.2.2.2.1, e2.2.2.2.2.2.1.trans e1.2.2.2.2.2.1, e2.2.2.2.2.2.2.1.trans e1.2.2.2.2.2.2.1, e2.2.2.2.2.2.2.2.1.trans e1.2.2.2.2.2.2.2.1, e2.2.2.2.2.2.2.2.2.trans e1.2.2.2.2.2.2.2.2⟩
/-- one object or array more, at the heap's end -/
theorem ohCz_lt {G : OhG} {ad : Nat → Nat → Nat} {h : OhH} {H : Heap} (z : ohCz G ad h H) (s i : Nat) (hi : i < hC h s) (hk : ohKd s ≠ 140) : ad s i < H.size := by
  obtain ⟨z1, z2, z3, z4, z5, z6, z7⟩ := z
  by_cases hp : ohPre s = true
  · exact Nat.lt_of_lt_of_le ((z5 s hp).2 i hi hk) z1
  · exact ohAt_lt (z3 s i hi (by simpa using hp)).1
theorem ohCz_new {G : OhG} {ad : Nat → Nat → Nat} {h h' : OhH} {H H1 : Heap} {s : Nat} (z : ohCz G ad h H) (hp : ohPre s = false) (hC' : hC h' = uA (hC h) s (hC h s + 1)) (hsz : H1.size = H.size + 1) (hq : ∀ q : Nat, q < H.size → H1[q]? = H[q]?)
    (ho : ∀ s' i', ¬ (s' = s ∧ i' = hC h s) → ohEq h h' s' i') (ha : ohAt G (sA ad s (hC h s) H.size) h' H1 s (hC h s)) (hw : ohWf h') : ohCz G (sA ad s (hC h s) H.size) h' H1 := by
  have hlt := ohCz_lt z
  obtain ⟨z1, z2, z3, z4, z5, z6, z7⟩ := z
  have hne : ∀ s' i', i' < hC h s' → ¬ (s' = s ∧ i' = hC h s) := fun s' i' h1 h2 => by obtain ⟨rfl, rfl⟩ := h2; omega
  have had : ∀ s' i', i' < hC h s' → sA ad s (hC h s) H.size s' i' = ad s' i' := fun s' i' h1 => sA_ne _ _ (hne s' i' h1)
  have hcase : ∀ s' i', i' < hC h' s' → i' < hC h s' ∨ (s' = s ∧ i' = hC h s) := fun s' i' h1 => by
    rw [hC'] at h1
    by_cases hs : s' = s
    · subst hs
      rw [uA_same] at h1
      rcases Nat.lt_or_ge i' (hC h s') with h2 | h2
      · exact Or.inl h2
      · exact Or.inr ⟨rfl, by omega⟩
    · rw [uA_ne _ _ hs] at h1
      exact Or.inl h1
  refine ⟨by rw [hsz]; omega, fun q hlt => ?_, fun s' i' hi' hp' => ?_, fun s' i' hp' => ?_, fun s' hp' => ?_, fun s1 i1 s2 i2 h1 h2 n1 n2 e => ?_, hw⟩
  · rw [hq q (by omega)]
    exact z2 q hlt
  · rcases hcase s' i' hi' with h1 | ⟨rfl, rfl⟩
    · refine ⟨ohAt_kept (ho s' i' (hne s' i' h1)) ?_ (ohAt_ad z7 h1 had (z3 s' i' h1 hp').1), ?_⟩
      · rw [had s' i' h1]
        exact hq _ (hlt s' i' h1 (oN140 hp'))
      · rw [had s' i' h1]
        exact (z3 s' i' h1 hp').2
    · exact ⟨ha, by rw [sA_same]; exact z1⟩
  · have hs : s' ≠ s := fun e => by rw [e, hp] at hp'; cases hp'
    have e1 := (z4 s' i' hp').2
    have e2 := ho s' i' (fun e => hs e.1)
    refine ⟨by rw [sA_site _ _ _ hs]; exact (z4 s' i' hp').1, ?_⟩
    exact ⟨e2.1.trans e1.1, e2.2.1.trans e1.2.1, e2.2.2.1.trans e1.2.2.1, e2.2.2.2.1.trans e1.2.2.2.1, e2.2.2.2.2.1.trans e1.2.2.2.2.1, e2.2.2.2.2.2.1.trans e1.2.2.2.2.2.1, e2.2.2.2.2.2.2.1.trans e1.2.2.2.2.2.2.1, e2.2.2.2.2.2.2.2.1.trans e1.2.2.2.2.2.2.2.1, e2.2.2.2.2.2.2.2.2.trans e1.2.2.2.2.2.2.2.2⟩
  · have hs : s' ≠ s := fun e => by rw [e, hp] at hp'; cases hp'
    rw [hC', uA_ne _ _ hs, sA_site _ _ _ hs]
    exact z5 s' hp'
  · rcases hcase s1 i1 h1 with g1 | ⟨rfl, rfl⟩
    · rcases hcase s2 i2 h2 with g2 | ⟨rfl, rfl⟩
      · rw [had _ _ g1, had _ _ g2] at e
        exact z6 _ _ _ _ g1 g2 n1 n2 e
      · rw [had _ _ g1, sA_same] at e
        have := hlt _ _ g1 n1
        omega
    · rcases hcase s2 i2 h2 with g2 | ⟨rfl, rfl⟩
      · rw [had _ _ g2, sA_same] at e
        have := hlt _ _ g2 n2
        omega
      · exact ⟨rfl, rfl⟩
