noncomputable section
set_option linter.unusedVariables false
/-! PLAIN 3g: the house's fifteen ways of standing, and the twin's sets of states -/
def wgC : List Nat := [18056, 5792, 14472, 5764, 12428, 5890, 6275, 12449, 12554, 17027, 16537, 675, 2201, 668, 794]
def wgX : List (List Int) := [[1, 2, -1], [3, 0, -1], [4, 0, -1], [1, 5, 6], [7, 8, 2], [3, -1, -1], [3, 9, -1], [4, 10, -1], [4, -1, -1], [11, 6, -1], [7, 12, -1], [13, 9, -1], [13, 10, -1], [11, 14, 12], [13, -1, -1]]
def wgS : List Nat := [430, 445, 555, 446, 558, 396, 71, 553, 508, 66, 178, 69, 179, 194, 144]
def wgO : List Nat := [0, 0, 0, 4, 4, 2, 3, 1, 2, 3, 1, 3, 1, 4, 2]
def won (k : Nat) : Nat := wgO.getD k 0
def wnx (k i : Nat) : Int := (wgX.getD k []).getD i 0
def wst (k : Nat) : Nat := wgS.getD k 0
/-- behind k ways, and i of the next's moves -/
def whM (cur : Nat → Bool) (k i : Nat) (x : Nat) : Bool := cur x || anyN k (fun j => cur j && anyN 3 (fun m => wnx j m == (x : Int))) || (cur k && anyN i (fun m => wnx k m == (x : Int)))
theorem whGo_ex : ∃ f : (Nat → Bool) → Nat → Bool, ∀ (cur : Nat → Bool) (x : Nat), f cur x = whM cur 15 0 x := ⟨fun cur x => whM cur 15 0 x, fun _ _ => rfl⟩
def whGo : (Nat → Bool) → Nat → Bool := Classical.choose whGo_ex
theorem whGo_def (cur : Nat → Bool) (x : Nat) : whGo cur x = whM cur 15 0 x := Classical.choose_spec whGo_ex cur x
theorem whMo_ex : ∃ f : (Nat → Bool) → Bool, ∀ (cur : Nat → Bool), f cur = anyN 15 (fun x => whGo cur x && !cur x) := ⟨fun cur => anyN 15 (fun x => whGo cur x && !cur x), fun _ => rfl⟩
def whMo : (Nat → Bool) → Bool := Classical.choose whMo_ex
theorem whMo_def (cur : Nat → Bool) : whMo cur = anyN 15 (fun x => whGo cur x && !cur x) := Classical.choose_spec whMo_ex cur
theorem whCan_ex : ∃ f : (Nat → Bool) → Nat → Bool, ∀ (cur : Nat → Bool) (set : Nat), f cur set = anyN 15 (fun x => cur x && won x == set) := ⟨fun cur set => anyN 15 (fun x => cur x && won x == set), fun _ _ => rfl⟩
def whCan : (Nat → Bool) → Nat → Bool := Classical.choose whCan_ex
theorem whCan_def (cur : Nat → Bool) (set : Nat) : whCan cur set = anyN 15 (fun x => cur x && won x == set) := Classical.choose_spec whCan_ex cur set
def whOnly (cur : Nat → Bool) (set : Nat) (x : Nat) : Bool := cur x && won x == set
def WH : PWg (Nat → Bool) := ⟨whGo, whMo, whCan, whOnly, fun x => x == 0⟩
/-- the same ways of standing -/
def whR (a b : Nat → Bool) : Prop :=
  (∀ i, i < 15 → a i = b (wst i)) ∧
  (∀ x, x < 625 → b x = true → ∃ i, i < 15 ∧ wst i = x)
theorem whR.mk {a b : Nat → Bool}
    (at' : ∀ i, i < 15 → a i = b (wst i))
    (im : ∀ x, x < 625 → b x = true → ∃ i, i < 15 ∧ wst i = x) :
    whR a b := ⟨at', im⟩
theorem whR.at' {a b : Nat → Bool} (h : whR a b) : ∀ i, i < 15 → a i = b (wst i) := h.1
theorem whR.im {a b : Nat → Bool} (h : whR a b) : ∀ x, x < 625 → b x = true → ∃ i, i < 15 ∧ wst i = x := h.2
theorem wg1 : (List.range 15).all (fun i => (List.range 625).all fun x => (anyN 4 (fun s => nx (pl (wst i) s) (frN (wst i)) && mvN (wst i) s == x)) == anyN 3 (fun j => decide (0 ≤ wnx i j) && wst (wnx i j).toNat == x)) = true := by decide +kernel
theorem wg2 : (List.range 15).all (fun i => (List.range 4).all fun s => (pl (wst i) s == 0) == (won i == s)) = true := by decide +kernel
theorem wg3 : (List.range 15).all (fun i => (List.range 15).all fun j => (wst i != wst j || i == j)) = true := by decide +kernel
theorem wg4 : (List.range 15).all (fun i => decide (wst i < 625) && decide (won i ≤ 4) && (List.range 3).all fun j => decide (-1 ≤ wnx i j ∧ wnx i j < 15)) = true := by decide +kernel
theorem all2 {n m : Nat} {p : Nat → Nat → Bool} (h : (List.range n).all (fun i => (List.range m).all fun j => p i j) = true) {i j : Nat} (hi : i < n) (hj : j < m) : p i j = true :=
  List.all_eq_true.mp (List.all_eq_true.mp h i (List.mem_range.mpr hi)) j (List.mem_range.mpr hj)
theorem wst_lt {i : Nat} (hi : i < 15) : wst i < 625 ∧ won i ≤ 4 ∧ ∀ j, j < 3 → -1 ≤ wnx i j ∧ wnx i j < 15 := by
  have h := List.all_eq_true.mp wg4 i (List.mem_range.mpr hi)
  simp only [Bool.and_eq_true, decide_eq_true_eq] at h
  refine ⟨h.1.1, h.1.2, fun j hj => ?_⟩
  have := List.all_eq_true.mp h.2 j (List.mem_range.mpr hj)
  simpa using this
theorem wst_inj {i j : Nat} (hi : i < 15) (hj : j < 15) (h : wst i = wst j) : i = j := by
  have := all2 wg3 hi hj
  simp [h] at this
  exact this
theorem whR_go {a b : Nat → Bool} (h : whR a b) : whR (whGo a) (goOnS b) := by
  have step : ∀ i, i < 15 → ∀ x, x < 625 → anyN 4 (fun s => nx (pl (wst i) s) (frN (wst i)) && mvN (wst i) s == x) = anyN 3 (fun j => decide (0 ≤ wnx i j) && wst (wnx i j).toNat == x) := fun i hi x hx => by
    have := all2 wg1 hi hx
    simpa using this
  have eg : ∀ x, goOnS b x = true ↔ b x = true ∨ ∃ y, y < 625 ∧ b y = true ∧ anyN 4 (fun s => nx (pl y s) (frN y) && mvN y s == x) = true := fun x => by
    rw [goOnS_def]; unfold goM
    simp only [Bool.or_eq_true, Bool.and_eq_true, anyN_iff (n := 625), anyN_zero, Bool.false_eq_true, and_false, or_false]
  have ew : ∀ x, whGo a x = true ↔ a x = true ∨ ∃ k, k < 15 ∧ a k = true ∧ anyN 3 (fun m => wnx k m == (x : Int)) = true := fun x => by
    rw [whGo_def]; unfold whM
    simp only [Bool.or_eq_true, Bool.and_eq_true, anyN_iff (n := 15), anyN_zero, Bool.false_eq_true, and_false, or_false]
  refine ⟨fun i hi => ?_, fun x hx hb => ?_⟩
  · rw [Bool.eq_iff_iff, ew, eg, h.at' i hi]
    constructor
    · rintro (q | ⟨k, hk, q1, q2⟩)
      · exact .inl q
      · refine .inr ⟨wst k, (wst_lt hk).1, by rw [← h.at' k hk]; exact q1, ?_⟩
        rw [step k hk _ (wst_lt hi).1]
        obtain ⟨m, hm, q⟩ := anyN_iff.mp q2
        refine anyN_of hm ?_
        have q' : wnx k m = (i : Int) := by simpa using q
        rw [q']; simp
    · rintro (q | ⟨y, hy, q1, q2⟩)
      · exact .inl q
      · obtain ⟨k, hk, rfl⟩ := h.im y hy q1
        refine .inr ⟨k, hk, by rw [h.at' k hk]; exact q1, ?_⟩
        rw [step k hk _ (wst_lt hi).1] at q2
        obtain ⟨m, hm, q⟩ := anyN_iff.mp q2
        simp only [Bool.and_eq_true, decide_eq_true_eq, beq_iff_eq] at q
        have hw := (wst_lt hk).2.2 m hm
        have : (wnx k m).toNat = i := wst_inj (by omega) hi q.2
        refine anyN_of hm ?_
        rw [beq_iff_eq]; omega
  · rcases (eg x).mp hb with q | ⟨y, hy, q1, q2⟩
    · exact h.im x hx q
    · obtain ⟨k, hk, rfl⟩ := h.im y hy q1
      rw [step k hk x hx] at q2
      obtain ⟨m, hm, q⟩ := anyN_iff.mp q2
      simp only [Bool.and_eq_true, decide_eq_true_eq, beq_iff_eq] at q
      have hw := (wst_lt hk).2.2 m hm
      exact ⟨(wnx k m).toNat, by omega, q.2⟩
theorem whR_mo {a b : Nat → Bool} (h : whR a b) : whMo a = moreS b := by
  have g := whR_go h
  rw [Bool.eq_iff_iff]
  rw [whMo_def, moreS_def]; unfold newM
  rw [anyN_iff, anyN_iff]
  constructor
  · rintro ⟨i, hi, q⟩
    refine ⟨wst i, (wst_lt hi).1, ?_⟩
    rw [← h.at' i hi, show goM b 625 0 (wst i) = whGo a i from (goOnS_def _ _).symm.trans (g.at' i hi).symm]; exact q
  · rintro ⟨x, hx, q⟩
    simp only [Bool.and_eq_true, Bool.not_eq_true'] at q
    obtain ⟨i, hi, rfl⟩ := g.im x hx ((goOnS_def _ _).trans q.1)
    refine ⟨i, hi, ?_⟩
    rw [h.at' i hi, g.at' i hi]
    have : goOnS b (wst i) = true := (goOnS_def _ _).trans q.1
    rw [this, q.2]; rfl
theorem whR_can {a b : Nat → Bool} (h : whR a b) {set : Nat} (hs : set < 4) : whCan a set = canS b set := by
  have e : ∀ i, i < 15 → (pl (wst i) set == 0) = (won i == set) := fun i hi => by have := all2 wg2 hi hs; simpa using this
  rw [Bool.eq_iff_iff]
  rw [whCan_def, canS_def]
  rw [anyN_iff, anyN_iff]
  constructor
  · rintro ⟨i, hi, q⟩
    exact ⟨wst i, (wst_lt hi).1, by rw [e i hi, ← h.at' i hi]; exact q⟩
  · rintro ⟨x, hx, q⟩
    simp only [Bool.and_eq_true] at q
    obtain ⟨i, hi, rfl⟩ := h.im x hx q.1
    exact ⟨i, hi, by rw [h.at' i hi, ← e i hi]; simp [q]⟩
theorem whR_only {a b : Nat → Bool} (h : whR a b) {set : Nat} (hs : set < 4) : whR (whOnly a set) (onlyS b set) := by
  have e : ∀ i, i < 15 → (pl (wst i) set == 0) = (won i == set) := fun i hi => by have := all2 wg2 hi hs; simpa using this
  refine ⟨fun i hi => ?_, fun x hx q => ?_⟩
  · unfold whOnly onlyS; rw [h.at' i hi, e i hi]
  · unfold onlyS at q; simp only [Bool.and_eq_true] at q; exact h.im x hx q.1
theorem whR_first : whR (fun x => x == 0) first625 := by
  refine ⟨fun i hi => ?_, fun x hx q => ?_⟩
  · have : ∀ i : Fin 15, (i.1 == 0) = first625 (wst i.1) := by decide +kernel
    exact this ⟨i, hi⟩
  · have : x = 430 := by simpa [first625] using q
    exact ⟨0, by omega, by rw [this]; rfl⟩
theorem whR_hrs {bz : Nat → Bool} : ∀ (k h : Nat) (z w : Bool × (Nat → Bool)), z.1 = w.1 → whR z.2 w.2 → (hrs WH bz k h z).1 = (hrs WM bz k h w).1 ∧ whR (hrs WH bz k h z).2 (hrs WM bz k h w).2
  | 0, h, z, w, e, r => ⟨e, r⟩
  | k + 1, h, z, w, e, r => by
    simp only [hrs]
    rw [e]
    split
    · exact whR_hrs k (h + 1) _ _ (whR_mo r) (whR_go r)
    · exact whR_hrs k (h + 1) _ _ e r
/-- both see the same sets in time -/
theorem whR_roll (T : PTb) (hset : ∀ k, k < T.all → (T.o (T.ord k)).set.toNat < 4) : ∀ k, k ≤ T.all → (T.rollN WH k).1 = (T.rollN WM k).1 ∧ whR (T.rollN WH k).2.1 (T.rollN WM k).2.1 ∧ (T.rollN WH k).2.2 = (T.rollN WM k).2.2
  | 0, _ => by simp only [PTb.rollN]; exact ⟨trivial, whR_first, trivial⟩
  | k + 1, hk => by
    obtain ⟨h1, h2, h3⟩ := whR_roll T hset k (by omega)
    have hs := hset k (by omega)
    simp only [PTb.rollN]
    rw [h1, h3]
    by_cases q : (T.ca (T.ord k)).kind < 2
    · rw [if_pos q, if_pos q]; exact ⟨rfl, h2, rfl⟩
    · rw [if_neg q, if_neg q]
      obtain ⟨_, g⟩ := whR_hrs (bz := T.bzy) ((T.ca (T.ord k)).beg.toNat - (T.rollN WM k).1) (T.rollN WM k).1 (true, (T.rollN WH k).2.1) (true, (T.rollN WM k).2.1) rfl h2
      have ec := whR_can g hs
      have ec' : WH.can (hrs WH T.bzy ((T.ca (T.ord k)).beg.toNat - (T.rollN WM k).1) (T.rollN WM k).1 (true, (T.rollN WH k).2.1)).2 (T.o (T.ord k)).set.toNat = WM.can (hrs WM T.bzy ((T.ca (T.ord k)).beg.toNat - (T.rollN WM k).1) (T.rollN WM k).1 (true, (T.rollN WM k).2.1)).2 (T.o (T.ord k)).set.toNat := ec
      dsimp only
      rw [ec']
      refine ⟨rfl, ?_, rfl⟩
      split
      · exact g
      · exact whR_only g hs
theorem bad_WH {T : PTb} (hT : PTbOk T) : (T.rollN WH T.all).2.2 = T.bad := (whR_roll T (fun k hk => by have := (hT.S.op _ (hT.ca _ (hT.ord k hk)).op).set; show (T.S.op (T.ca (T.ord k)).op).set.toNat < 4; omega) T.all (Nat.le_refl _)).2.2
theorem movN_WH {set : Nat} (hs : set < 4) : ∀ m k a b, whR a b → movN WH set m k a = movN WM set m k b
  | 0, _, _, _, _ => by simp only [movN]
  | m + 1, k, a, b, h => by
    simp only [movN]
    rw [show WH.can a set = WM.can b set from whR_can h hs, movN_WH hs m (k + 1) _ _ (show whR (WH.go a) (WM.go b) from whR_go h)]
end
