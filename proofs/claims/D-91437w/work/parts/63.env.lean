/-! START 4: what the tables say at the entry -/
section OST4
variable {s : State} {args : Array Value}
theorem oSt_SR (hts : ∀ w ∈ lw_tbl, w.before args s = true) {adK : Nat → Nat} {b t mi : Nat} {adV : Nat → Nat} (he : ∀ i : Nat, i < 14 → (ohTm i).eval args s none [] s = some (.ref (adK i))) : ohSR (oPad b t mi adK adV) s := by
  refine ⟨?_, fun q hq => ?_⟩
  · have h1 := hts _ q668
    simp only [Cond.before, Cond.holds, Cond.value] at h1
    cases hc : s.vm.findClass "OperaHouse$Reader" with
    | none => simp [hc] at h1
    | some cur => exact ⟨cur, rfl⟩
  · have f : ∀ (i : Nat), i < 14 → (ohTm i).eval #[] s none [] s = some (.ref (oPad b t mi adK adV (41 + i) 0)) := fun i hi => by
      have e1 : oPad b t mi adK adV (41 + i) 0 = adK i := by
        unfold oPad
        rw [if_neg (by omega), if_neg (by omega), if_neg (by omega), if_pos (by omega)]
        congr 1; omega
      rw [e1]
      exact (Term.string_eval_of_vm (U := s) (V := s) (args := args) rfl).trans (he i hi)
    simp only [ohStrs, List.mem_cons, List.not_mem_nil, or_false] at hq
    rcases hq with rfl | rfl | rfl | rfl | rfl | rfl | rfl | rfl | rfl | rfl | rfl | rfl | rfl | rfl
    · exact ⟨hts _ q668, f 0 (by decide)⟩
    · exact ⟨hts _ q726, f 1 (by decide)⟩
    · exact ⟨hts _ q967, f 2 (by decide)⟩
    · exact ⟨hts _ q1058, f 3 (by decide)⟩
    · exact ⟨hts _ q1059, f 4 (by decide)⟩
    · exact ⟨hts _ q1060, f 5 (by decide)⟩
    · exact ⟨hts _ q1061, f 6 (by decide)⟩
    · exact ⟨hts _ q1063, f 7 (by decide)⟩
    · exact ⟨hts _ q1080, f 8 (by decide)⟩
    · exact ⟨hts _ q1084, f 9 (by decide)⟩
    · exact ⟨hts _ q1249, f 10 (by decide)⟩
    · exact ⟨hts _ q1248, f 11 (by decide)⟩
    · exact ⟨hts _ q1105, f 12 (by decide)⟩
    · exact ⟨hts _ q1217, f 13 (by decide)⟩
theorem oSt_U (hts : ∀ w ∈ lw_tbl, w.before args s = true) (hg : (Jvm.Cond.and given_1 narrow_1).before args s = true) : vx_Zq Bundle.tN "UNASSIGNED_STACK" Bundle.steD (fun a => s.heap.size ≤ a) s s.heap ∧ vx_Zq Bundle.tN "SUPPRESSED_SENTINEL" Bundle.listD (fun a => s.heap.size ≤ a) s s.heap ∧ ∃ mi : Nat, va_Mi "[Ljava/lang/Object;" mi s := by
  have hs := flat_of_before _ hg
  have hA : ∀ a : Nat, a < s.heap.size → ¬ (fun a => s.heap.size ≤ a) a := fun a h => Nat.not_le.mpr h
  have hta : ∀ w ∈ lw_all, w.before args s = true := fun w h => hts w (List.mem_filter.mp h).1
  exact ⟨vx_Zqof (hts _ q1013) (hta _ q153) (hs _ (by decide +kernel)) hA, vx_Zqof (hts _ q1015) (hta _ q153) (hs _ (by decide +kernel)) hA, va_Mi.of (hs _ (by decide +kernel))⟩
end OST4
