/-! START 2: the String constants and the statics at the entry: printed by gen/mk_start2.py -/
def ohIx : List Nat := [9, 52, 108, 123, 127, 131, 135, 146, 153, 161, 176, 186, 188, 202]
def ohTm (i : Nat) : Term := .string "OperaHouse$Reader" (ohIx.getD i 0)
def ohLens : List Nat := [0, 6, 4, 3, 4, 5, 5, 2, 3, 2, 2, 3, 56, 3]
def ohByts : List (List Int32) := [[], [59, 40, 41, 60, 61, 62], [114, 101, 115, 116], [100, 97, 121], [119, 101, 101, 107], [118, 111, 105, 99, 101], [108, 101, 97, 118, 101], [116, 111], [102, 101, 101], [105, 102], [111, 114], [97, 110, 100], [114, 111, 111, 109, 32, 109, 97, 114, 107, 115, 32, 102, 117, 108, 108, 32, 110, 105, 103, 104, 116, 32, 108, 97, 116, 101, 32, 99, 111, 118, 101, 114, 32, 105, 110, 115, 116, 101, 97, 100, 32, 104, 111, 117, 114, 115, 32, 110, 116, 104, 32, 111, 118, 101, 114, 32], [110, 111, 116]]
def ohPrs : List (Nat × Nat) := [(0, 1), (0, 2), (1, 2), (0, 3), (1, 3), (2, 3), (0, 4), (1, 4), (2, 4), (3, 4), (0, 5), (1, 5), (2, 5), (3, 5), (4, 5), (0, 6), (1, 6), (2, 6), (3, 6), (4, 6), (5, 6), (0, 7), (1, 7), (2, 7), (3, 7), (4, 7), (5, 7), (6, 7), (0, 8), (1, 8), (2, 8), (3, 8), (4, 8), (5, 8), (6, 8), (7, 8), (0, 9), (1, 9), (2, 9), (3, 9), (4, 9), (5, 9), (6, 9), (7, 9), (8, 9), (0, 12), (1, 12), (2, 12), (3, 12), (4, 12), (5, 12), (6, 12), (7, 12), (8, 12), (9, 12), (0, 13), (1, 13), (2, 13), (3, 13), (4, 13), (5, 13), (6, 13), (7, 13), (8, 13), (9, 13), (12, 13), (0, 11), (1, 11), (2, 11), (3, 11), (4, 11), (5, 11), (6, 11), (7, 11), (8, 11), (9, 11), (12, 11), (13, 11), (0, 10), (1, 10), (2, 10), (3, 10), (4, 10), (5, 10), (6, 10), (7, 10), (8, 10), (9, 10), (12, 10), (13, 10), (11, 10)]
def oIsNe : Cond → Bool
  | .not (.eq (.string _ _) (.string _ _)) => true
  | _ => false
theorem ohPrs_ok : ohPrs.map (fun q => Cond.not (Cond.eq (ohTm q.1) (ohTm q.2))) = (flatC (given_1.and narrow_1)).filter oIsNe := by decide +kernel
theorem ohPrs_in {q : Nat × Nat} (h : q ∈ ohPrs) : Cond.not (Cond.eq (ohTm q.1) (ohTm q.2)) ∈ flatC (given_1.and narrow_1) := by
  have h1 : Cond.not (Cond.eq (ohTm q.1) (ohTm q.2)) ∈ ohPrs.map (fun q => Cond.not (Cond.eq (ohTm q.1) (ohTm q.2))) := List.mem_map.mpr ⟨q, h, rfl⟩
  rw [ohPrs_ok] at h1
  exact (List.mem_filter.mp h1).1
section OSTR
variable {s : State} {args : Array Value}
theorem oSt_S (hg : (Jvm.Cond.and given_1 narrow_1).before args s = true) : ∃ adK adV : Nat → Nat, vk_S 14 ohLens ohByts adK adV (fun a => s.heap.size ≤ a) s s.heap ∧ ∀ i : Nat, i < 14 → (ohTm i).eval args s none [] s = some (.ref (adK i)) := by
  have hs := flat_of_before _ hg
  refine vk_Sof (by decide) (fun i hi => hs _ ?_) (fun i hi => hs _ ?_) (fun i hi => hs _ ?_) (fun i hi => hs _ ?_) (fun i hi j hj => hs _ ?_) (fun i j hi hj hij => ?_) (fun a h => Nat.not_le.mpr h)
  · revert i; decide +kernel
  · revert i; decide +kernel
  · revert i; decide +kernel
  · revert i; decide +kernel
  · exact (show ∀ i, i < 14 → ∀ j, j < ohLens.getD i 0 → (Cond.eq (.elem (.field (ohTm i) "java/lang/String" "value" "[B") (.int (Int32.ofNat j))) (.int ((ohByts.getD i []).getD j 0))) ∈ flatC (given_1.and narrow_1) from by decide +kernel) i hi j hj
  · have key : ∀ i, i < 14 → ∀ j, j < 14 → (i = j ∨ ((i, j) ∈ ohPrs ∨ (j, i) ∈ ohPrs)) := by decide +kernel
    exact ((key i hi j hj).resolve_left hij).imp (fun h => hs _ (ohPrs_in h)) (fun h => hs _ (ohPrs_in h))
theorem oSt_Z (hts : ∀ w ∈ lw_tbl, w.before args s = true) (hg : (Jvm.Cond.and given_1 narrow_1).before args s = true) {t : Nat} (he : (Term.static "java/util/ArrayList" "DEFAULTCAPACITY_EMPTY_ELEMENTDATA" "[Ljava/lang/Object;").eval args s none [] s = some (.ref t)) : ∀ q ∈ ohStt t, va_Z q.1 q.2.1 q.2.2.1 q.2.2.2 (fun a => s.heap.size ≤ a) s s.heap := by
  have hs := flat_of_before _ hg
  have hA : ∀ a : Nat, a < s.heap.size → ¬ (fun a => s.heap.size ≤ a) a := fun a h => Nat.not_le.mpr h
  intro q hq
  simp only [ohStt, List.mem_cons, List.not_mem_nil, or_false] at hq
  rcases hq with rfl | rfl | rfl | rfl | rfl | rfl | rfl | rfl | rfl | rfl | rfl | rfl
  · exact va_Zof (hts _ q191) (hts _ (List.mem_filter.mp q132).1) he hA
  · exact va_Zof (hts _ q740) (hts _ (List.mem_filter.mp q147).1) (va_eqi (hs _ (by decide +kernel))) hA
  · exact va_Zof (hts _ q790) (hts _ (List.mem_filter.mp q149).1) (va_eqi (hs _ (by decide +kernel))) hA
  · exact va_Zof (hts _ q792) (hts _ (List.mem_filter.mp q149).1) (va_eqi (hs _ (by decide +kernel))) hA
  · exact va_Zof (hts _ q794) (hts _ (List.mem_filter.mp q149).1) (va_eqi (hs _ (by decide +kernel))) hA
  · exact va_Zof (hts _ q1116) (hts _ (List.mem_filter.mp q158).1) (va_eqi (hs _ (by decide +kernel))) hA
  · exact va_Zof (hts _ q1152) (hts _ (List.mem_filter.mp q159).1) (va_eqi (hs _ (by decide +kernel))) hA
  · exact va_Zof (hts _ q1179) (hts _ (List.mem_filter.mp q139).1) (va_eqi (hs _ (by decide +kernel))) hA
  · exact va_Zof (hts _ q1118) (hts _ (List.mem_filter.mp q139).1) (va_eqi (hs _ (by decide +kernel))) hA
  · exact va_Zof (hts _ q1196) (hts _ (List.mem_filter.mp q139).1) (va_eqi (hs _ (by decide +kernel))) hA
  · exact va_Zof (hts _ q1123) (hts _ (List.mem_filter.mp q139).1) (va_eqi (hs _ (by decide +kernel))) hA
  · exact va_Zof (hts _ q1188) (hts _ (List.mem_filter.mp q139).1) (va_eqi (hs _ (by decide +kernel))) hA
end OSTR
