noncomputable section
set_option linter.unusedVariables false
/-! PLAIN 3c: wagons as sets of 625 states -/
def pl (k s : Nat) : Nat := if s = 0 then k % 5 else if s = 1 then k / 5 % 5 else if s = 2 then k / 25 % 5 else k / 125 % 5
def pw (s : Nat) : Nat := if s = 0 then 1 else if s = 1 then 5 else if s = 2 then 25 else 125
def frN (k : Nat) : Nat := 10 - pl k 0 - pl k 1 - pl k 2 - pl k 3
def mvN (k s : Nat) : Nat := ((k : Int) + ((frN k : Int) - (pl k s : Int)) * (pw s : Int)).toNat
def nx (a b : Nat) : Bool := (min a b == 0 && decide (max a b < 4)) || (max a b == 4 && (min a b == 1 || min a b == 3))
def good (k : Nat) : Bool := pl k 0 != pl k 1 && pl k 0 != pl k 2 && pl k 0 != pl k 3 && pl k 1 != pl k 2 && pl k 1 != pl k 3 && pl k 2 != pl k 3
def gooK (k s : Nat) : Bool := !good k || (decide ((10 : Int) - pl k 0 - pl k 1 - pl k 2 - pl k 3 = (frN k : Int)) && decide (0 ≤ (k : Int) + ((frN k : Int) - (pl k s : Int)) * (pw s : Int)) && decide (frN k < 5) && decide (mvN k s < 625) && good (mvN k s))
theorem goo_all : (List.range 625).all (fun k => (List.range 4).all fun s => gooK k s) = true := by decide +kernel
theorem goo {k s : Nat} (hk : k < 625) (hs : s < 4) (hg : good k = true) : (10 : Int) - pl k 0 - pl k 1 - pl k 2 - pl k 3 = (frN k : Int) ∧ 0 ≤ (k : Int) + ((frN k : Int) - (pl k s : Int)) * (pw s : Int) ∧ frN k < 5 ∧ mvN k s < 625 ∧ good (mvN k s) = true := by
  have h1 := List.all_eq_true.mp goo_all k (List.mem_range.mpr hk)
  have h2 := List.all_eq_true.mp h1 s (List.mem_range.mpr hs)
  unfold gooK at h2
  rw [hg] at h2
  simp only [Bool.not_true, Bool.false_or, Bool.and_eq_true, decide_eq_true_eq] at h2
  exact ⟨h2.1.1.1.1, h2.1.1.1.2, h2.1.1.2, h2.1.2, h2.2⟩
theorem pl_lt (k s : Nat) : pl k s < 5 := by unfold pl; (repeat' split) <;> omega
/-- behind k states, and m sets of the next -/
def goM (cur : Nat → Bool) (k m : Nat) (x : Nat) : Bool := cur x || anyN k (fun j => cur j && anyN 4 (fun s => nx (pl j s) (frN j) && mvN j s == x)) || (cur k && anyN m (fun s => nx (pl k s) (frN k) && mvN k s == x))
theorem goOnS_ex : ∃ f : (Nat → Bool) → Nat → Bool, ∀ (cur : Nat → Bool) (x : Nat), f cur x = goM cur 625 0 x := ⟨fun cur x => goM cur 625 0 x, fun _ _ => rfl⟩
def goOnS : (Nat → Bool) → Nat → Bool := Classical.choose goOnS_ex
theorem goOnS_def (cur : Nat → Bool) (x : Nat) : goOnS cur x = goM cur 625 0 x := Classical.choose_spec goOnS_ex cur x
def newM (cur : Nat → Bool) (k m : Nat) : Bool := anyN 625 fun x => goM cur k m x && !cur x
theorem moreS_ex : ∃ f : (Nat → Bool) → Bool, ∀ (cur : Nat → Bool), f cur = newM cur 625 0 := ⟨fun cur => newM cur 625 0, fun _ => rfl⟩
def moreS : (Nat → Bool) → Bool := Classical.choose moreS_ex
theorem moreS_def (cur : Nat → Bool) : moreS cur = newM cur 625 0 := Classical.choose_spec moreS_ex cur
theorem canS_ex : ∃ f : (Nat → Bool) → Nat → Bool, ∀ (cur : Nat → Bool) (set : Nat), f cur set = anyN 625 (fun x => cur x && pl x set == 0) := ⟨fun cur set => anyN 625 (fun x => cur x && pl x set == 0), fun _ _ => rfl⟩
def canS : (Nat → Bool) → Nat → Bool := Classical.choose canS_ex
theorem canS_def (cur : Nat → Bool) (set : Nat) : canS cur set = anyN 625 (fun x => cur x && pl x set == 0) := Classical.choose_spec canS_ex cur set
def first625 (x : Nat) : Bool := x == 430
def onlyS (cur : Nat → Bool) (set : Nat) (x : Nat) : Bool := cur x && pl x set == 0
theorem goM_next (cur : Nat → Bool) (k x : Nat) : goM cur k 4 x = goM cur (k + 1) 0 x := by
  simp only [goM, anyN, Bool.and_false, Bool.or_false, Bool.or_assoc]
theorem goM_skip (cur : Nat → Bool) (k x : Nat) (h : cur k = false) : goM cur k 0 x = goM cur (k + 1) 0 x := by
  simp only [goM, anyN, Bool.and_false, Bool.or_false, h, Bool.false_and]
theorem goM_good {cur : Nat → Bool} (hc : ∀ x, x < 625 → cur x = true → good x = true) {k m : Nat} (hk : k ≤ 625) (hm : m ≤ 4) (hkm : k < 625 ∨ m = 0) : ∀ x, x < 625 → goM cur k m x = true → good x = true := by
  intro x hx h
  simp only [goM, Bool.or_eq_true, Bool.and_eq_true, anyN_iff] at h
  rcases h with (h | ⟨j, hj, h1, s, hs, h2, h3⟩) | ⟨h1, s, hs, h2, h3⟩
  · exact hc x hx h
  · have := (goo (k := j) (s := s) (by omega) hs (hc j (by omega) h1)).2.2.2.2
    rw [← beq_iff_eq.mp h3]; exact this
  · have hk2 : k < 625 := by omega
    have := (goo (k := k) (s := s) hk2 (by omega) (hc k hk2 h1)).2.2.2.2
    rw [← beq_iff_eq.mp h3]; exact this
end
