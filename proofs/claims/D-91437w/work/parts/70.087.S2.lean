noncomputable section
set_option linter.unusedVariables false
/-! PLAIN 4b: nights laid -/
def nightCa (S : PSt) (d hour : Int) (o : Nat) : PCa := PCa.mk d (24 * d + hour) (24 * d + hour + (S.op o).hours) 3 o 3
/-- the first call of an opera among the first n -/
def PSt.fst (S : PSt) (o : Nat) : Nat → Option Nat
  | 0 => none
  | n + 1 => match S.fst o n with
    | some c => some c
    | none => if (S.ca n).op = o then some n else none
def ltCa (S : PSt) (w : Nat → Nat) (d : Nat → Int) (hour : Int) (c : Nat) : PCa := if c < S.nC then S.ca c else nightCa S (d (c - S.nC)) hour (w (c - S.nC))
/-- who has a role in a night that is like an opera's first call -/
def PSt.like (S : PSt) (o r : Nat) : Int := if r < (S.op o).nr then (match S.fst o S.nC with | none => -1 | some f => (tabN S S.today S.nP).1 f r) else -1
def ltCast (S : PSt) (w : Nat → Nat) (c r : Nat) : Int := if c < S.nC then (tabN S S.today S.nP).1 c r else S.like (w (c - S.nC)) r
def ltAh (S : PSt) (c r : Nat) : Int := if c < S.nC then (tabN S S.today S.nP).2.1 c r else -1
def ltCv (S : PSt) (c r : Nat) : Int := if c < S.nC then (tabN S S.today S.nP).2.2 c r else -1
def lt (S : PSt) (w : Nat → Nat) (d : Nat → Int) (hour : Int) (m : Nat) : PTb := mkTb S (S.nC + m) (ltCa S w d hour) (ltCast S w) (ltAh S) (ltCv S) S.today
/-- something is wrong of the nights, or of the calls that was not -/
def ltBad (S : PSt) (w : Nat → Nat) (d : Nat → Int) (hour : Int) (m : Nat) : Bool := anyN (S.nC + m) fun c => anyN 9 fun r => anyN 16 fun j => (lt S w d hour m).wbit c r j && !(decide (c < S.nC) && (tbl S S.today).wbit c r j)
def updD (d : Nat → Int) (i : Nat) (x : Int) : Nat → Int := fun k => if k = i then x else d k
/-- days are tried: f days are left, for the i-th night; whether all are laid, how many tries, which days -/
def layT (S : PSt) (w : Nat → Nat) (hour last : Int) (N : Nat) : Nat → Nat → (Nat → Int) → Nat → Bool × Nat × (Nat → Int)
  | 0, _, d, t => (false, t, d)
  | f + 1, i, d, t =>
    if 400 < t then (false, t, d)
    else if 400 < t + 1 then (false, t + 1, d)
    else if ltBad S w (updD d i (last - f)) hour (i + 1) = true then layT S w hour last N f i (updD d i (last - f)) (t + 1)
    else if i + 1 = N then (true, t + 1, updD d i (last - f))
    else if (layT S w hour last N f (i + 1) (updD d i (last - f)) (t + 1)).1 = true then layT S w hour last N f (i + 1) (updD d i (last - f)) (t + 1)
    else layT S w hour last N f i (layT S w hour last N f (i + 1) (updD d i (last - f)) (t + 1)).2.2 (layT S w hour last N f (i + 1) (updD d i (last - f)) (t + 1)).2.1
/-- what may be laid -/
def PSt.layOk (S : PSt) (first last hour : Int) : Bool := decide ((1 ≤ S.taped ∧ S.taped ≤ 6) ∧ (S.today ≤ first ∧ first ≤ 29) ∧ (first ≤ last ∧ last ≤ 29) ∧ S.nC + S.taped ≤ 60 ∧ (0 ≤ hour ∧ hour ≤ 23)) && !anyN S.taped fun k => !decide (0 ≤ S.tape k ∧ S.tape k < S.nO ∧ hour + (S.op (S.tape k).toNat).hours ≤ 24)
def PSt.w (S : PSt) (k : Nat) : Nat := (S.tape k).toNat
def nowL (S : PSt) (lN : Nat) (ld : Nat → Int) (lo : Nat → Nat) (lh : Int) (ls : Int32) : PSt := (((((S.s_laidN (lN)).s_laidDay (ld)).s_laidOp (lo)).s_laidHour (lh)).s_laidStamp (ls))
def PSt.tk0 (S : PSt) : PSt := nowL S.tk 0 S.tk.laidDay S.tk.laidOp S.tk.laidHour S.tk.laidStamp
def PSt.layR (S : PSt) (first last hour : Int) : Bool × Nat × (Nat → Int) := layT S.tk S.w hour last S.taped (last + 1 - first).toNat 0 (fun _ => 0) 0
def PSt.lys (S : PSt) (first last hour : Int) : PSt := nowL S.tk S.taped (S.layR first last hour).2.2 S.w hour S.tk.stamp
def oLay (S : PSt) (first last hour : Int) : Int32 × PSt :=
  if S.layOk first last hour = true then
    if (S.layR first last hour).1 = true then (J ((S.layR first last hour).2.1 : Int), S.lys first last hour)
    else (if 400 < (S.layR first last hour).2.1 then J (-2) else J 0, S.tk0)
  else (J (-1), S.tk0)
/-! plain facts -/
theorem insAt_congr {bg bg' : Nat → Int} {od : Nat → Nat} {b : Int} : ∀ n, (∀ j, j < n → bg (od j) = bg' (od j)) → insAt bg od b n = insAt bg' od b n
  | 0, _ => rfl
  | n + 1, h => by
    simp only [insAt]
    rw [h n (by omega), insAt_congr n (fun j hj => h j (by omega))]
theorem ordN_congr {bg bg' : Nat → Int} : ∀ n, (∀ c, c < n → bg c = bg' c) → ordN bg n = ordN bg' n
  | 0, _ => rfl
  | n + 1, h => by
    have ih := ordN_congr n (fun c hc => h c (by omega))
    have hb := (ordN_all bg' n).1
    have e : insAt bg (ordN bg n) (bg n) n = insAt bg' (ordN bg' n) (bg' n) n := by
      rw [ih, h n (by omega)]
      exact insAt_congr n (fun j hj => h _ (by have := hb j hj; omega))
    funext k
    simp only [ordN]
    rw [e, ih]
theorem posN_congr {bg bg' : Nat → Int} : ∀ n, (∀ c, c < n → bg c = bg' c) → posN bg n = posN bg' n
  | 0, _ => rfl
  | n + 1, h => by
    have ih := posN_congr n (fun c hc => h c (by omega))
    have io := ordN_congr n (fun c hc => h c (by omega))
    have hb := (ordN_all bg' n).1
    have e : insAt bg (ordN bg n) (bg n) n = insAt bg' (ordN bg' n) (bg' n) n := by
      rw [io, h n (by omega)]
      exact insAt_congr n (fun j hj => h _ (by have := hb j hj; omega))
    funext k
    simp only [posN]
    rw [e, ih]
theorem fst_lt {S : PSt} {o : Nat} : ∀ {n c : Nat}, S.fst o n = some c → c < n ∧ (S.ca c).op = o
  | 0, c, h => by cases h
  | n + 1, c, h => by
    simp only [PSt.fst] at h
    cases e : S.fst o n with
    | some x =>
      rw [e] at h
      simp only [Option.some.injEq] at h
      subst h
      have := fst_lt e
      exact ⟨by omega, this.2⟩
    | none =>
      rw [e] at h
      simp only [] at h
      split at h
      · cases h; exact ⟨by omega, by assumption⟩
      · cases h
theorem like_b {S : PSt} (hS : PStOk S) (o r : Nat) : -1 ≤ S.like o r ∧ S.like o r < S.nS := by
  unfold PSt.like
  split
  · split
    · omega
    · exact (tabN_b hS S.nP (Nat.le_refl _) _ _).1
  · omega
theorem night_ok {S : PSt} (hS : PStOk S) {d hour : Int} {o : Nat} (hd : 0 ≤ d ∧ d ≤ 29) (hh : 0 ≤ hour) (ho : o < S.nO) (h24 : hour + (S.op o).hours ≤ 24) : PCaOk S (nightCa S d hour o) := by
  have := (hS.op o ho).hours
  exact PCaOk.mk ho hd ⟨by show (0 : Int) ≤ 3; omega, by show (3 : Int) ≤ 3; omega⟩ ⟨by show (0 : Int) ≤ 3; omega, by show (3 : Int) ≤ 3; omega⟩ (by show 24 * d ≤ 24 * d + hour; omega) rfl (by show 24 * d + hour + (S.op o).hours ≤ 24 * d + 24; omega)
/-- what is wished may be -/
def LyOk (S : PSt) (w : Nat → Nat) (hour : Int) (N : Nat) : Prop :=
  (0 ≤ hour) ∧
  (∀ k, k < N → w k < S.nO ∧ hour + (S.op (w k)).hours ≤ 24) ∧
  (N ≤ 6) ∧
  (S.nC + N ≤ 60)
theorem LyOk.mk {S : PSt} {w : Nat → Nat} {hour : Int} {N : Nat}
    (hh : 0 ≤ hour)
    (ww : ∀ k, k < N → w k < S.nO ∧ hour + (S.op (w k)).hours ≤ 24)
    (hN : N ≤ 6)
    (room : S.nC + N ≤ 60) :
    LyOk S w hour N := ⟨hh, ww, hN, room⟩
theorem LyOk.hh {S : PSt} {w : Nat → Nat} {hour : Int} {N : Nat} (h : LyOk S w hour N) : 0 ≤ hour := h.1
theorem LyOk.ww {S : PSt} {w : Nat → Nat} {hour : Int} {N : Nat} (h : LyOk S w hour N) : ∀ k, k < N → w k < S.nO ∧ hour + (S.op (w k)).hours ≤ 24 := h.2.1
theorem LyOk.hN {S : PSt} {w : Nat → Nat} {hour : Int} {N : Nat} (h : LyOk S w hour N) : N ≤ 6 := h.2.2.1
theorem LyOk.room {S : PSt} {w : Nat → Nat} {hour : Int} {N : Nat} (h : LyOk S w hour N) : S.nC + N ≤ 60 := h.2.2.2
theorem lt_ok {S : PSt} (hS : PStOk S) {w : Nat → Nat} {hour : Int} {N : Nat} (hw : LyOk S w hour N) {d : Nat → Int} {m : Nat} (hm : m ≤ N) (hd : ∀ k, k < m → 0 ≤ d k ∧ d k ≤ 29) : PTbOk (lt S w d hour m) := by
  have h1 := hw.room
  have h2 := hw.hN
  have ht := hS.today
  refine mkTb_ok hS (by omega) (fun c hc => ?_) (fun c r hc hr => ?_) (fun c r hc hr => ?_) (fun c r hc hr => ?_) ⟨by omega, by omega⟩
  · unfold ltCa
    split
    · exact hS.ca c (by assumption)
    · have hk : c - S.nC < m := by omega
      obtain ⟨a, b⟩ := hw.ww (c - S.nC) (by omega)
      exact night_ok hS (hd _ hk) hw.hh a b
  · unfold ltCast
    split
    · exact (tabN_b hS S.nP (Nat.le_refl _) _ _).1
    · exact like_b hS _ _
  · unfold ltAh
    split
    · exact (tabN_b hS S.nP (Nat.le_refl _) _ _).2.1
    · omega
  · unfold ltCv
    split
    · exact (tabN_b hS S.nP (Nat.le_refl _) _ _).2.2
    · omega
theorem ltCa_congr {S : PSt} {w : Nat → Nat} {d d' : Nat → Int} {hour : Int} {m c : Nat} (hd : ∀ k, k < m → d k = d' k) (hc : c < S.nC + m) : ltCa S w d hour c = ltCa S w d' hour c := by
  unfold ltCa
  split
  · rfl
  · rw [hd _ (by omega)]
theorem lt_ord {S : PSt} {w : Nat → Nat} {d d' : Nat → Int} {hour : Int} {m : Nat} (hd : ∀ k, k < m → d k = d' k) : ordN (fun c => (ltCa S w d hour c).beg) (S.nC + m) = ordN (fun c => (ltCa S w d' hour c).beg) (S.nC + m) := ordN_congr _ fun c hc => congrArg PCa.beg (ltCa_congr hd hc)
theorem lt_pos {S : PSt} {w : Nat → Nat} {d d' : Nat → Int} {hour : Int} {m : Nat} (hd : ∀ k, k < m → d k = d' k) : posN (fun c => (ltCa S w d hour c).beg) (S.nC + m) = posN (fun c => (ltCa S w d' hour c).beg) (S.nC + m) := posN_congr _ fun c hc => congrArg PCa.beg (ltCa_congr hd hc)
theorem updD_lt {d : Nat → Int} {i k : Nat} {x : Int} (h : k < i) : updD d i x k = d k := if_neg (by omega)
theorem updD_at {d : Nat → Int} {i : Nat} {x : Int} : updD d i x i = x := if_pos rfl
/-- the days ahead stand; the tries grow; days are days -/
theorem layT_pre {S : PSt} {w : Nat → Nat} {hour last : Int} {N : Nat} : ∀ f i d t, (∀ j, j < i → (layT S w hour last N f i d t).2.2 j = d j) ∧ t ≤ (layT S w hour last N f i d t).2.1 ∧ (t ≤ 401 → (layT S w hour last N f i d t).2.1 ≤ 401)
  | 0, i, d, t => ⟨fun _ _ => rfl, Nat.le_refl _, id⟩
  | f + 1, i, d, t => by
    have h1 := layT_pre (S := S) (w := w) (hour := hour) (last := last) (N := N) f i (updD d i (last - f)) (t + 1)
    have h2 := layT_pre (S := S) (w := w) (hour := hour) (last := last) (N := N) f (i + 1) (updD d i (last - f)) (t + 1)
    have h3 := layT_pre (S := S) (w := w) (hour := hour) (last := last) (N := N) f i (layT S w hour last N f (i + 1) (updD d i (last - f)) (t + 1)).2.2 (layT S w hour last N f (i + 1) (updD d i (last - f)) (t + 1)).2.1
    simp only [layT]
    split
    · exact ⟨fun _ _ => rfl, Nat.le_refl _, id⟩
    · split
      · exact ⟨fun _ _ => rfl, Nat.le_succ _, fun _ => by show t + 1 ≤ 401; omega⟩
      · split
        · exact ⟨fun j hj => (h1.1 j hj).trans (updD_lt hj), by omega, fun _ => h1.2.2 (by omega)⟩
        · split
          · exact ⟨fun j hj => updD_lt hj, Nat.le_succ _, fun _ => by show t + 1 ≤ 401; omega⟩
          · split
            · exact ⟨fun j hj => (h2.1 j (by omega)).trans (updD_lt hj), by omega, fun _ => h2.2.2 (by omega)⟩
            · exact ⟨fun j hj => (h3.1 j hj).trans ((h2.1 j (by omega)).trans (updD_lt hj)), by omega, fun _ => h3.2.2 (h2.2.2 (by omega))⟩
theorem layT_days {S : PSt} {w : Nat → Nat} {hour last : Int} {N : Nat} (h29 : last ≤ 29) : ∀ (f i : Nat) (d : Nat → Int) (t : Nat), (f : Int) ≤ last + 1 → (∀ j, j < i → 0 ≤ d j ∧ d j ≤ 29) → i < N → (layT S w hour last N f i d t).1 = true → ∀ j, j < N → 0 ≤ (layT S w hour last N f i d t).2.2 j ∧ (layT S w hour last N f i d t).2.2 j ≤ 29
  | 0, i, d, t, _, _, _, h => by cases h
  | f + 1, i, d, t, hf, hd, hi, h => by
    have hu : ∀ j, j < i + 1 → 0 ≤ updD d i (last - f) j ∧ updD d i (last - f) j ≤ 29 := fun j hj => by
      by_cases e : j = i
      · subst e; rw [updD_at]; omega
      · rw [updD_lt (by omega)]; exact hd j (by omega)
    simp only [layT] at h ⊢
    split at h
    · cases h
    · rename_i c1
      rw [if_neg c1]
      split at h
      · cases h
      · rename_i c2
        rw [if_neg c2]
        split at h
        · rename_i c3
          rw [if_pos c3]
          exact layT_days h29 f i _ _ (by omega) (fun j hj => hu j (by omega)) hi h
        · rename_i c3
          rw [if_neg c3]
          split at h
          · rename_i c4
            rw [if_pos c4]
            exact fun j hj => hu j (by omega)
          · rename_i c4
            rw [if_neg c4]
            split at h
            · rename_i c5
              rw [if_pos c5]
              exact layT_days h29 f (i + 1) _ _ (by omega) hu (by omega) h
            · rename_i c5
              rw [if_neg c5]
              refine layT_days h29 f i _ _ (by omega) (fun j hj => ?_) hi h
              rw [(layT_pre f (i + 1) _ _).1 j (by omega)]
              exact hu j (by omega)
end
