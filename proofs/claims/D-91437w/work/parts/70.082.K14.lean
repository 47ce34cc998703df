noncomputable section
set_option linter.unusedVariables false
set_option linter.unusedSimpArgs false
/-! PLAIN 77: questions leave the house as it is; what is wrong is written down -/
section
variable {C : OhC} {FI FI2 : OhI} {FR GR : OhQ} {AI AI2 A4 : OhI} {AR BR BR2 : OhQ} {AN : OhN} {S : PSt} {Z : PZ} {n : Nat}
theorem HInv.fm (h : HInv S Z FI FR GR AI AR BR AN C) (x : HFm FI FI2 AI AI2 BR BR2) (q : ∃ q, swA 324 q AI2) : HInv S Z FI2 FR GR AI2 AR BR2 AN C := by
  refine HInv.mk (h.toHQ.fm x q) (HWf.mk h.wf.fr h.wf.gr (fun s i k r n e => h.wf.br s i k r n (by rw [← x.b s n]; exact e)) h.wf.own h.wf.c40 h.wf.c58 h.wf.n40) h.sh ?_ ?_ ?_ ?_ ?_ ?_ ?_ ?_
  · rw [x.f0 1 (by decide) (by decide)]; exact h.taped
  · rw [x.a 300 (by decide)]; exact h.tape
  · rw [x.f0 2 (by decide) (by decide)]; exact h.fault
  · rw [x.f0 6 (by decide) (by decide)]; exact h.stamp
  · obtain ⟨a, g1, g2, g3, g4⟩ := h.found
    refine ⟨a, g1, g2, g3, ?_⟩
    rw [x.a a.1 (by rcases g2 with g2 | g2 <;> (rw [g2]; decide))]
    exact g4
  · rw [x.f0 35 (by decide) (by decide)]; exact h.laidN
  · obtain ⟨f, m, g1, g2⟩ := h.laid
    refine ⟨f, m, fun k hk => ?_, g2⟩
    rw [x.b 329 (by decide)]
    exact ⟨(g1 k hk).1, (g1 k hk).2.congr x.fr⟩
  · intro q
    rw [x.f0 36 (by decide) (by decide)]; exact h.laidStamp q
/-- what a question leaves, for the join -/
theorem QOk.res (h : HInv S Z FI FR GR AI AR BR AN C) {v : Int32} {r : Int32 × OhI × OhI × OhQ} (q : QOk v FI AI BR r) : r.1 = v ∧ HRes S FI FR AI AR AN r.2.1 FR GR r.2.2.1 r.2.2.2 AN C := by
  obtain ⟨q1, q2, q3⟩ := q
  exact ⟨q1, ⟨Z, h.fm q2 q3⟩, HOut.mk (q2.f 1 0 (by decide) (by decide)) rfl (fun s hs => by rw [q2.a s (by rcases hs with rfl | hs; decide; simp only [scH, List.mem_cons, List.not_mem_nil, or_false]; omega)]) (fun _ _ => rfl)⟩
def nowF (S : PSt) (len : Nat) (fk : Nat → Int) (fc : Nat → Nat) (fr : Nat → Int) : PSt := ((((S.s_nF (len)).s_fk (fk)).s_fc (fc)).s_fr (fr))
theorem HInv.fnd (h : HInv S Z FI FR GR AI AR BR AN C) {len : Nat} {fk fr : Nat → Int} {fc : Nat → Nat} (hA : ∀ s i, ¬ (s = 20 ∧ i = C 20) → A4 s i = AI s i) (hv : ∀ k, k < len → A4 20 (C 20) k = J ((fk k * 100 + fc k) * 10 + (if fr k = -1 then 8 else fr k))) :
    HInv (nowF S len fk fc fr) Z FI FR (sA GR 0 0 (uA (GR 0 0) 26 (some (20, C 20)))) A4 AR BR (sA AN 20 (C 20) len) (uA C 20 (C 20 + 1)) := by
  have w := h.wf
  have hC := uC_le C 20
  have go : ∀ s i, ¬ (s = 0 ∧ i = 0) → sA GR 0 0 (uA (GR 0 0) 26 (some (20, C 20))) s i = GR s i := fun s i q => sA_ne _ _ q
  have ga : ∀ a : Rf, a ≠ (0, 0) → sA GR 0 0 (uA (GR 0 0) 26 (some (20, C 20))) a.1 a.2 = GR a.1 a.2 := fun a q => go _ _ (fun z => q (Prod.ext z.1 z.2))
  have oA : ∀ a : Rf, hOld C a → A4 a.1 a.2 = AI a.1 a.2 := fun a ha => hA _ _ (new_ne ha (by decide) (by decide))
  have oN : ∀ a : Rf, hOld C a → sA AN 20 (C 20) len a.1 a.2 = AN a.1 a.2 := fun a ha => sA_ne _ _ (new_ne ha (by decide) (by decide))
  have K : HKp C (6, C 6) FI FI FR FR GR (sA GR 0 0 (uA (GR 0 0) 26 (some (20, C 20)))) AI A4 BR BR AN (sA AN 20 (C 20) len) := HKp.mk (fun _ _ _ _ => rfl) (fun _ _ => rfl) (fun a _ h2 _ => ga a (by rintro rfl; exact absurd h2 (by decide))) (fun a h1 _ => oA a h1) (fun _ _ _ _ => rfl) oN (show ohKd 6 = 17 by decide) (fun y h1 _ q => t6_new C (q ▸ h1))
  have kb : HKb C (uA C 20 (C 20 + 1)) FI FI FR FR GR GR AI AI BR BR AN (sA AN 20 (C 20) len) := HKb.mk (fun _ _ => rfl) (fun _ _ => rfl) (fun _ _ => rfl) (fun _ _ => rfl) (fun _ _ => rfl) (fun _ _ _ => rfl) oN hC
  have w2 : HWf (uA C 20 (C 20 + 1)) FR (sA GR 0 0 (uA (GR 0 0) 26 (some (20, C 20)))) BR (sA AN 20 (C 20) len) := by
    refine HWf.an (w.ext hC (fun s i k r q => .inl q) (fun s i k r q => ?_) (fun s i a q1 q2 q3 => ?_)) (sA_ne _ _ (by omega))
    · by_cases e : s = 0 ∧ i = 0
      · rw [e.1, e.2, sA_same] at q
        by_cases e2 : k = 26
        · subst e2; rw [uA_same] at q; cases q; exact .inr (uC_new C 20)
        · rw [uA_ne _ _ e2] at q; rw [e.1, e.2]; exact .inl q
      · rw [go _ _ e] at q; exact .inl q
    · rw [go _ _ (by rintro ⟨rfl, _⟩; revert q1; decide)] at q2; exact q2
  have s5 : ∀ s i, 37 ≤ s → A4 s i = AI s i := fun s i q => hA s i (by omega)
  have HS : HSt S Z FI FR (sA GR 0 0 (uA (GR 0 0) 26 (some (20, C 20)))) A4 BR (sA AN 20 (C 20) len) := h.toHSt.kp0 w K (fun _ _ => rfl) (s5 307 0 (by decide)) (s5 308 0 (by decide)) (.inl (by show 6 < 309; decide))
  have HC : HCore S Z FI FR (sA GR 0 0 (uA (GR 0 0) 26 (some (20, C 20)))) A4 BR (sA AN 20 (C 20) len) := HCore.mk HS (fun c hc => (h.cls c hc).kp w K (h.caL.old w hc)) h.cij
  have eN : ∀ s i, 37 ≤ s → sA AN 20 (C 20) len s i = AN s i := fun s i q => sA_ne _ _ (by omega)
  have eN' : ∀ s, 37 ≤ s → sA AN 20 (C 20) len s = AN s := fun s q => sA_site _ _ _ (by omega)
  have HQ0 : HQ S Z FI FR (sA GR 0 0 (uA (GR 0 0) 26 (some (20, C 20)))) A4 BR (sA AN 20 (C 20) len) := by
    refine HQ.mk HC (HWg.mk h.wg.many (fun k hk => by rw [s5 61 0 (by decide)]; exact h.wg.on k hk) (fun k i hk hi => by rw [s5 63 k (by decide)]; exact h.wg.nx k i hk hi)) (HLn.mk ?_ ?_ ?_ ?_) ?_
    · rw [eN' 323 (by decide)]; exact h.ln.a323
    · rw [eN' 324 (by decide)]; exact h.ln.a324
    · rw [eN' 325 (by decide)]; exact h.ln.a325
    · intro c hc; rw [eN' 428 (by decide)]; exact h.ln.a428 c hc
    · obtain ⟨q, hq⟩ := h.s324
      exact ⟨q, fun i hi => by rw [s5 324 0 (by decide)]; exact hq i hi⟩
  have HR : HInv S Z FI FR (sA GR 0 0 (uA (GR 0 0) 26 (some (20, C 20)))) A4 AR BR (sA AN 20 (C 20) len) (uA C 20 (C 20 + 1)) → True := fun _ => trivial
  exact HInv.mk (S := nowF S len fk fc fr) HQ0 w2 (kb.ka.sh h.sh) h.taped (fun k hk => by rw [s5 300 0 (by decide)]; exact h.tape k hk) h.fault h.stamp
    ⟨(20, C 20), by rw [sA_same, uA_same], .inl rfl, sA_same _ _ _ _, hv⟩ h.laidN h.laid h.laidStamp
end
end
