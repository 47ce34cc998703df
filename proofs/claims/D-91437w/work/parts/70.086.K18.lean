noncomputable section
set_option linter.unusedVariables false
set_option linter.unusedSimpArgs false
/-! PLAIN 81: operations keep the house in order -/
section
variable {S S2 : PSt} {r : Nat}
theorem PStR.mono {r2 : Nat} (h : PStR r S) (hr : r ≤ r2) : PStR r2 S := by
  obtain ⟨p, q, h1, h2, h3, h4⟩ := h.st
  exact PStR.mk ⟨p, q, h1, h2, h3, by omega⟩ h.laidN h.laid h.hour h.nF h.nt h.room
theorem PStR.tell (h : PStR r S) (hr : r ≤ 1000) (e1 : S2.stamp = S.stamp + J 1) (e2 : S2.laidStamp = S.laidStamp) (l1 : S2.laidN = S.laidN) (l2 : S2.laidDay = S.laidDay) (l3 : S2.laidOp = S.laidOp) (l4 : S2.laidHour = S.laidHour) (f1 : S2.nF = S.nF) (f2 : S2.fk = S.fk) (f3 : S2.fc = S.fc) (f4 : S2.fr = S.fr) (hO : S.nO ≤ S2.nO) (ho : ∀ k, k < S.nO → (S2.op k).hours = (S.op k).hours) : PStR (r + 1) S2 := by
  have ne := stamp_ne h hr
  obtain ⟨p, q, h1, h2, h3, h4⟩ := h.st
  refine PStR.mk ⟨p + 1, q, by rw [e1, h1, J_add]; rfl, by rw [e2]; exact h2, by omega, by omega⟩ (by rw [l1]; exact h.laidN) (fun k hk => ?_) (by rw [l1, l4]; exact h.hour) (by rw [f1]; exact h.nF) (by rw [f1, f2, f3, f4]; exact h.nt) (fun e => ?_)
  · rw [l1] at hk
    obtain ⟨a, b, c, d⟩ := h.laid k hk
    rw [l2, l3, l4, ho _ a]
    exact ⟨by omega, b, c, d⟩
  · rw [e1, e2] at e; exact absurd e ne
theorem PStR.same (h : PStR r S) (e1 : S2.stamp = S.stamp) (e2 : S2.laidStamp = S.laidStamp) (l1 : S2.laidN = S.laidN) (l2 : S2.laidDay = S.laidDay) (l3 : S2.laidOp = S.laidOp) (l4 : S2.laidHour = S.laidHour) (f1 : S2.nF = S.nF) (f2 : S2.fk = S.fk) (f3 : S2.fc = S.fc) (f4 : S2.fr = S.fr) (hO : S2.nO = S.nO) (ho : S2.op = S.op) (hC : S2.nC = S.nC) : PStR (r + 1) S2 := by
  obtain ⟨p, q, h1, h2, h3, h4⟩ := h.st
  refine PStR.mk ⟨p, q, by rw [e1]; exact h1, by rw [e2]; exact h2, h3, by omega⟩ (by rw [l1]; exact h.laidN) (by rw [l1, l2, l3, l4, hO, ho]; exact h.laid) (by rw [l1, l4]; exact h.hour) (by rw [f1]; exact h.nF) (by rw [f1, f2, f3, f4]; exact h.nt) (by rw [e1, e2, l1, hC]; exact h.room)
def PStG (r : Nat) (S : PSt) : Prop := PStOk S ∧ PStR r S
theorem PStG.up (h : PStG r S) : PStG (r + 1) S := ⟨h.1, h.2.mono (by omega)⟩
theorem tape4_ok {tp : Nat → Int} {l : Nat} {v : Int32} (h : ∀ k, k < 340 → -128 ≤ tp k ∧ tp k < 128) : ∀ k, k < 340 → -128 ≤ tape4 tp l v k ∧ tape4 tp l v k < 128 := by
  intro k hk
  unfold tape4
  split
  · exact i8b _
  · exact h k hk
theorem oFeed_ok (h : PStG r S) (a b c d e : Int32) : PStG (r + 1) (oFeed S a b c d e).2 := by
  obtain ⟨hS, hr⟩ := h
  unfold oFeed
  split
  · refine ⟨(PStOk.mk (taped := ⟨by assumption, by omega⟩) (tape := ?_) (today := hS.today) (daily := hS.daily) (weekly := hS.weekly) (one := hS.one) (other := hS.other) (nO := hS.nO) (op := hS.op) (nS := hS.nS) (sg := hS.sg) (ct := hS.ct) (nC := hS.nC) (ca := hS.ca) (nP := hS.nP) (pt := hS.pt) (nI := hS.nI) (il := hS.il) (nL := hS.nL) (le := hS.le) (fault := hS.fault)), hr.same rfl rfl rfl rfl rfl rfl rfl rfl rfl rfl rfl rfl rfl⟩
    exact tape4_ok (tape4_ok (tape4_ok (tape4_ok (tape4_ok hS.tape))))
  · exact ⟨hS, hr.mono (by omega)⟩
theorem oEnd_ok (h : PStG r S) (a : Int) : PStG (r + 1) (oEndT S a).2 := by
  obtain ⟨hS, hr⟩ := h
  have ht := hS.taped
  unfold oEndT
  split
  · rename_i q
    exact ⟨(PStOk.mk (taped := ⟨by show a.toNat ≤ 340; omega, by omega⟩) (tape := hS.tape) (today := hS.today) (daily := hS.daily) (weekly := hS.weekly) (one := hS.one) (other := hS.other) (nO := hS.nO) (op := hS.op) (nS := hS.nS) (sg := hS.sg) (ct := hS.ct) (nC := hS.nC) (ca := hS.ca) (nP := hS.nP) (pt := hS.pt) (nI := hS.nI) (il := hS.il) (nL := hS.nL) (le := hS.le) (fault := hS.fault)), hr.same rfl rfl rfl rfl rfl rfl rfl rfl rfl rfl rfl rfl rfl⟩
  · exact ⟨hS, hr.mono (by omega)⟩
theorem oNext_ok (h : PStG r S) (hr0 : r ≤ 1000) (a : Int) : PStG (r + 1) (oNext S a).2 := by
  obtain ⟨hS, hr⟩ := h
  have ht := hS.today
  unfold oNext
  split
  · rename_i q
    exact ⟨(PStOk.mk (taped := hS.taped) (tape := hS.tape) (today := ⟨by show 0 ≤ S.today + a; omega, by show S.today + a ≤ 29; omega⟩) (daily := hS.daily) (weekly := hS.weekly) (one := hS.one) (other := hS.other) (nO := hS.nO) (op := hS.op) (nS := hS.nS) (sg := hS.sg) (ct := hS.ct) (nC := hS.nC) (ca := hS.ca) (nP := hS.nP) (pt := hS.pt) (nI := hS.nI) (il := hS.il) (nL := hS.nL) (le := hS.le) (fault := hS.fault)), hr.tell hr0 rfl rfl rfl rfl rfl rfl rfl rfl rfl rfl (Nat.le_refl _) (fun _ _ => rfl)⟩
  · exact ⟨hS, hr.mono (by omega)⟩
theorem oPlayers_ok (h : PStG r S) (hr0 : r ≤ 1000) (g a b : Int) : PStG (r + 1) (oPlayers S g a b).2 := by
  obtain ⟨hS, hr⟩ := h
  unfold oPlayers
  split
  · rename_i q
    refine ⟨(PStOk.mk (taped := hS.taped) (tape := hS.tape) (today := hS.today) (daily := hS.daily) (weekly := hS.weekly) (one := fun i hi => ?_) (other := fun i hi => ?_) (nO := hS.nO) (op := hS.op) (nS := hS.nS) (sg := hS.sg) (ct := hS.ct) (nC := hS.nC) (ca := hS.ca) (nP := hS.nP) (pt := hS.pt) (nI := hS.nI) (il := hS.il) (nL := hS.nL) (le := hS.le) (fault := hS.fault)), hr.tell hr0 rfl rfl rfl rfl rfl rfl rfl rfl rfl rfl (Nat.le_refl _) (fun _ _ => rfl)⟩
    · show 0 ≤ (if i = g.toNat then a else S.one i) ∧ (if i = g.toNat then a else S.one i) ≤ 60
      split
      · exact q.2.1
      · exact hS.one i hi
    · show 0 ≤ (if i = g.toNat then b else S.other i) ∧ (if i = g.toNat then b else S.other i) ≤ 60
      split
      · exact q.2.2
      · exact hS.other i hi
  · exact ⟨hS, hr.mono (by omega)⟩
theorem oChorus_ok (h : PStG r S) (hr0 : r ≤ 1000) (d w : Int) : PStG (r + 1) (oChorus S d w).2 := by
  obtain ⟨hS, hr⟩ := h
  unfold oChorus
  split
  · rename_i q
    exact ⟨(PStOk.mk (taped := hS.taped) (tape := hS.tape) (today := hS.today) (daily := q.1) (weekly := q.2) (one := hS.one) (other := hS.other) (nO := hS.nO) (op := hS.op) (nS := hS.nS) (sg := hS.sg) (ct := hS.ct) (nC := hS.nC) (ca := hS.ca) (nP := hS.nP) (pt := hS.pt) (nI := hS.nI) (il := hS.il) (nL := hS.nL) (le := hS.le) (fault := hS.fault)), hr.tell hr0 rfl rfl rfl rfl rfl rfl rfl rfl rfl rfl (Nat.le_refl _) (fun _ _ => rfl)⟩
  · exact ⟨hS, hr.mono (by omega)⟩
theorem plainCt_ok : PCtOk plainCt := PCtOk.mk ⟨by decide, by decide⟩ ⟨by decide, by decide⟩ ⟨by decide, by decide⟩ ⟨by decide, by decide⟩ (by decide) (fun k hk => absurd hk (by simp [plainCt, PCt.g_rest, PCt.g_day, PCt.g_week, PCt.g_voice, PCt.g_nl, PCt.g_lf, PCt.g_lt, PCt.g_nf, PCt.g_much, PCt.g_cd])) (fun k hk => absurd hk (by simp [plainCt, PCt.g_rest, PCt.g_day, PCt.g_week, PCt.g_voice, PCt.g_nl, PCt.g_lf, PCt.g_lt, PCt.g_nf, PCt.g_much, PCt.g_cd])) (by decide) (fun k hk => absurd hk (by simp [plainCt, PCt.g_rest, PCt.g_day, PCt.g_week, PCt.g_voice, PCt.g_nl, PCt.g_lf, PCt.g_lt, PCt.g_nf, PCt.g_much, PCt.g_cd])) (fun k c hk => absurd hk (by simp [plainCt, PCt.g_rest, PCt.g_day, PCt.g_week, PCt.g_voice, PCt.g_nl, PCt.g_lf, PCt.g_lt, PCt.g_nf, PCt.g_much, PCt.g_cd]))
theorem oSinger_ok (h : PStG r S) (hr0 : r ≤ 1000) (v t z : Int) : PStG (r + 1) (oSinger S v t z).2 := by
  obtain ⟨hS, hr⟩ := h
  have hn := hS.nS
  unfold oSinger
  split
  · rename_i q
    refine ⟨(PStOk.mk (taped := hS.taped) (tape := hS.tape) (today := hS.today) (daily := hS.daily) (weekly := hS.weekly) (one := hS.one) (other := hS.other) (nO := hS.nO) (op := hS.op) (nS := by show S.nS + 1 ≤ 20; omega) (sg := fun s hs => ?_) (ct := fun s hs => ?_) (nC := hS.nC) (ca := hS.ca) (nP := hS.nP) (pt := fun k hk => ?_) (nI := hS.nI) (il := fun k hk => ?_) (nL := hS.nL) (le := fun k hk => ?_) (fault := hS.fault)), hr.tell hr0 rfl rfl rfl rfl rfl rfl rfl rfl rfl rfl (Nat.le_refl _) (fun _ _ => rfl)⟩
    · have hs : s < S.nS + 1 := hs
      show PSgOk (if s = S.nS then PSg.mk v t z else S.sg s)
      split
      · exact PSgOk.mk q.2.1 q.2.2.1 q.2.2.2
      · exact hS.sg s (by omega)
    · have hs : s < S.nS + 1 := hs
      show PCtOk (if s = S.nS then plainCt else S.ct s)
      split
      · exact plainCt_ok
      · exact hS.ct s (by omega)
    · obtain ⟨a, b, c, d, e⟩ := hS.pt k hk
      exact ⟨a, b, c, by show (S.pt k).who < ((S.nS + 1 : Nat) : Int); omega, e⟩
    · obtain ⟨a, e⟩ := hS.il k hk
      exact ⟨by show (S.il k).s < S.nS + 1; omega, e⟩
    · obtain ⟨a, e⟩ := hS.le k hk
      exact ⟨by show (S.le k).s < S.nS + 1; omega, e⟩
  · exact ⟨hS, hr.mono (by omega)⟩
theorem oLearn_ok (h : PStG r S) (hr0 : r ≤ 1000) (s o ro x : Int) : PStG (r + 1) (oLearn S s o ro x).2 := by
  obtain ⟨hS, hr⟩ := h
  have hn := hS.nL
  have ht := hS.today
  unfold oLearn
  split
  · rename_i q
    obtain ⟨q1, q2, q3, q4⟩ := q
    simp only [PSt.isSg, PSt.isRo, decide_eq_true_eq] at q1 q2
    refine ⟨(PStOk.mk (taped := hS.taped) (tape := hS.tape) (today := hS.today) (daily := hS.daily) (weekly := hS.weekly) (one := hS.one) (other := hS.other) (nO := hS.nO) (op := hS.op) (nS := hS.nS) (sg := hS.sg) (ct := hS.ct) (nC := hS.nC) (ca := hS.ca) (nP := hS.nP) (pt := hS.pt) (nI := hS.nI) (il := hS.il) (nL := by show S.nL + 1 ≤ 200; omega) (le := fun k hk => ?_) (fault := hS.fault)), hr.tell hr0 rfl rfl rfl rfl rfl rfl rfl rfl rfl rfl (Nat.le_refl _) (fun _ _ => rfl)⟩
    have hk : k < S.nL + 1 := hk
    by_cases e : k = S.nL
    · have e2 : (if k = S.nL then PLe.mk s.toNat o.toNat ro.toNat x S.today else S.le k) = PLe.mk s.toNat o.toNat ro.toNat x S.today := if_pos e
      show (if k = S.nL then PLe.mk s.toNat o.toNat ro.toNat x S.today else S.le k).s < S.nS ∧ _ ∧ (if k = S.nL then PLe.mk s.toNat o.toNat ro.toNat x S.today else S.le k).role < (S.op (if k = S.nL then PLe.mk s.toNat o.toNat ro.toNat x S.today else S.le k).op).nr ∧ _
      simp only [PSt.nL_s_nL, PSt.le_s_nL, PSt.stamp_s_nL, PSt.nL_s_le, PSt.le_s_le, PSt.stamp_s_le, PSt.nL_s_stamp, PSt.le_s_stamp, PSt.stamp_s_stamp, e2, PLe.g_s, PLe.g_op, PLe.g_role, PLe.g_hours, PLe.g_day, e, if_true]
      exact ⟨by omega, by show o.toNat < S.nO; omega, by omega, q3.1, q3.2, ht.1, ht.2⟩
    · have e2 : (if k = S.nL then PLe.mk s.toNat o.toNat ro.toNat x S.today else S.le k) = S.le k := if_neg e
      have := hS.le k (by omega)
      show (if k = S.nL then PLe.mk s.toNat o.toNat ro.toNat x S.today else S.le k).s < S.nS ∧ _
      simp only [PSt.nL_s_nL, PSt.le_s_nL, PSt.stamp_s_nL, PSt.nL_s_le, PSt.le_s_le, PSt.stamp_s_le, PSt.nL_s_stamp, PSt.le_s_stamp, PSt.stamp_s_stamp, e, if_false]
      exact this
  · exact ⟨hS, hr.mono (by omega)⟩
theorem oIll_ok (h : PStG r S) (hr0 : r ≤ 1000) (s f t : Int) : PStG (r + 1) (oIll S s f t).2 := by
  obtain ⟨hS, hr⟩ := h
  have hn := hS.nI
  have ht := hS.today
  unfold oIll
  split
  · rename_i q
    obtain ⟨q1, q2, q3, q4, q5⟩ := q
    simp only [PSt.isSg, decide_eq_true_eq] at q1
    refine ⟨(PStOk.mk (taped := hS.taped) (tape := hS.tape) (today := hS.today) (daily := hS.daily) (weekly := hS.weekly) (one := hS.one) (other := hS.other) (nO := hS.nO) (op := hS.op) (nS := hS.nS) (sg := hS.sg) (ct := hS.ct) (nC := hS.nC) (ca := hS.ca) (nP := hS.nP) (pt := hS.pt) (nI := by show S.nI + 1 ≤ 60; omega) (il := fun k hk => ?_) (nL := hS.nL) (le := hS.le) (fault := hS.fault)), hr.tell hr0 rfl rfl rfl rfl rfl rfl rfl rfl rfl rfl (Nat.le_refl _) (fun _ _ => rfl)⟩
    have hk : k < S.nI + 1 := hk
    show (if k = S.nI then PIl.mk s.toNat f t S.today else S.il k).s < S.nS ∧ _
    by_cases e : k = S.nI
    · simp only [PSt.nI_s_nI, PSt.il_s_nI, PSt.stamp_s_nI, PSt.nI_s_il, PSt.il_s_il, PSt.stamp_s_il, PSt.nI_s_stamp, PSt.il_s_stamp, PSt.stamp_s_stamp, e, if_true, PIl.g_s, PIl.g_frm, PIl.g_til, PIl.g_day]
      exact ⟨by omega, q2, q3, q4, ht.1, ht.2⟩
    · simp only [PSt.nI_s_nI, PSt.il_s_nI, PSt.stamp_s_nI, PSt.nI_s_il, PSt.il_s_il, PSt.stamp_s_il, PSt.nI_s_stamp, PSt.il_s_stamp, PSt.stamp_s_stamp, e, if_false]
      exact hS.il k (by omega)
  · exact ⟨hS, hr.mono (by omega)⟩
theorem oCast_ok (h : PStG r S) (hr0 : r ≤ 1000) (c ro s : Int) (cv : Bool) : PStG (r + 1) (oCast S c ro s cv).2 := by
  obtain ⟨hS, hr⟩ := h
  have hn := hS.nP
  have ht := hS.today
  unfold oCast
  split
  · rename_i q
    obtain ⟨q1, q2, q3, q4⟩ := q
    simp only [PSt.isCR, PSt.isSg, decide_eq_true_eq] at q1 q2
    refine ⟨(PStOk.mk (taped := hS.taped) (tape := hS.tape) (today := hS.today) (daily := hS.daily) (weekly := hS.weekly) (one := hS.one) (other := hS.other) (nO := hS.nO) (op := hS.op) (nS := hS.nS) (sg := hS.sg) (ct := hS.ct) (nC := hS.nC) (ca := hS.ca) (nP := by show S.nP + 1 ≤ 400; omega) (pt := fun k hk => ?_) (nI := hS.nI) (il := hS.il) (nL := hS.nL) (le := hS.le) (fault := hS.fault)), hr.tell hr0 rfl rfl rfl rfl rfl rfl rfl rfl rfl rfl (Nat.le_refl _) (fun _ _ => rfl)⟩
    have hk : k < S.nP + 1 := hk
    show (if k = S.nP then PPt.mk c.toNat ro.toNat s S.today cv else S.pt k).call < S.nC ∧ (if k = S.nP then PPt.mk c.toNat ro.toNat s S.today cv else S.pt k).role < (S.op (S.ca (if k = S.nP then PPt.mk c.toNat ro.toNat s S.today cv else S.pt k).call).op).nr ∧ _
    by_cases e : k = S.nP
    · simp only [PSt.nP_s_nP, PSt.pt_s_nP, PSt.stamp_s_nP, PSt.nP_s_pt, PSt.pt_s_pt, PSt.stamp_s_pt, PSt.nP_s_stamp, PSt.pt_s_stamp, PSt.stamp_s_stamp, e, if_true, PPt.g_call, PPt.g_role, PPt.g_who, PPt.g_day, PPt.g_cover]
      exact ⟨by omega, by omega, by omega, by show s < S.nS; omega, ht.1, ht.2⟩
    · simp only [PSt.nP_s_nP, PSt.pt_s_nP, PSt.stamp_s_nP, PSt.nP_s_pt, PSt.pt_s_pt, PSt.stamp_s_pt, PSt.nP_s_stamp, PSt.pt_s_stamp, PSt.stamp_s_stamp, e, if_false]
      exact hS.pt k (by omega)
  · exact ⟨hS, hr.mono (by omega)⟩
theorem PCaOk.ext {x : PCa} (h : PCaOk S x) (hO : S.nO ≤ S2.nO) (ho : ∀ k, k < S.nO → (S2.op k).hours = (S.op k).hours) : PCaOk S2 x :=
  PCaOk.mk (Nat.lt_of_lt_of_le h.op hO) h.day h.kind h.halves h.beg (by rw [ho _ h.op]; exact h.fin) h.fin24
theorem oCall_ok (h : PStG r S) (hr0 : r ≤ 1000) (d x kd o v : Int) : PStG (r + 1) (oCall S d x kd o v).2 := by
  obtain ⟨hS, hr⟩ := h
  have hn := hS.nC
  have ht := hS.today
  unfold oCall
  split
  · rename_i q
    obtain ⟨q1, q2, q3, q4, q5, q6, q7⟩ := q
    have old : ∀ k, k < S.nC → (if k = S.nC then PCa.mk d (24 * d + x) (24 * d + x + S.hrsOf kd o.toNat) kd o.toNat v else S.ca k) = S.ca k := fun k hk => if_neg (by omega)
    refine ⟨(PStOk.mk (taped := hS.taped) (tape := hS.tape) (today := hS.today) (daily := hS.daily) (weekly := hS.weekly) (one := hS.one) (other := hS.other) (nO := hS.nO) (op := hS.op) (nS := hS.nS) (sg := hS.sg) (ct := hS.ct) (nC := by show S.nC + 1 ≤ 60; omega) (ca := fun k hk => ?_) (nP := hS.nP) (pt := fun k hk => ?_) (nI := hS.nI) (il := hS.il) (nL := hS.nL) (le := hS.le) (fault := hS.fault)), hr.tell hr0 rfl rfl rfl rfl rfl rfl rfl rfl rfl rfl (Nat.le_refl _) (fun _ _ => rfl)⟩
    · have hk : k < S.nC + 1 := hk
      show PCaOk _ (if k = S.nC then PCa.mk d (24 * d + x) (24 * d + x + S.hrsOf kd o.toNat) kd o.toNat v else S.ca k)
      by_cases e : k = S.nC
      · rw [if_pos e]
        exact PCaOk.mk (by show o.toNat < S.nO; omega) ⟨by show 0 ≤ d; omega, by show d ≤ 29; omega⟩ q4 q6 (by show 24 * d ≤ 24 * d + x; omega) rfl (by show 24 * d + x + S.hrsOf kd o.toNat ≤ 24 * d + 24; omega)
      · rw [if_neg e]
        exact (hS.ca k (by omega)).ext (Nat.le_refl _) (fun _ _ => rfl)
    · obtain ⟨a, b, c⟩ := hS.pt k hk
      refine ⟨by show (S.pt k).call < S.nC + 1; omega, ?_, c⟩
      show (S.pt k).role < (S.op ((if (S.pt k).call = S.nC then PCa.mk d (24 * d + x) (24 * d + x + S.hrsOf kd o.toNat) kd o.toNat v else S.ca (S.pt k).call)).op).nr
      rw [old _ a]; exact b
  · exact ⟨hS, hr.mono (by omega)⟩
theorem oOpera_ok (h : PStG r S) (hr0 : r ≤ 1000) (x z nd : Int) (cv : Bool) : PStG (r + 1) (oOpera S x z cv nd).2 := by
  obtain ⟨hS, hr⟩ := h
  have hn := hS.nO
  have ht := hS.taped
  unfold oOpera
  split
  · rename_i q
    obtain ⟨q1, q2, q3, q4, q5, q6, q7⟩ := q
    obtain ⟨b1, b2⟩ := (bytes_iff q5 q6.1).mp q7
    have old : ∀ k, k < S.nO → (if k = S.nO then POp.mk x z nd cv S.tape (S.taped / 4 - 1) (fun r => PRo.mk (S.tape (4 * r + 4)) (S.tape (4 * r + 5)) (S.tape (4 * r + 6)) (S.tape (4 * r + 7))) else S.op k) = S.op k := fun k hk => if_neg (by omega)
    have h0 : PStOk S.tk := hS.tk
    refine ⟨(PStOk.mk (taped := h0.taped) (tape := hS.tape) (today := hS.today) (daily := hS.daily) (weekly := hS.weekly) (one := hS.one) (other := hS.other) (nO := by show S.nO + 1 ≤ 9; omega) (op := fun k hk => ?_) (nS := hS.nS) (sg := hS.sg) (ct := hS.ct) (nC := hS.nC) (ca := fun k hk => ?_) (nP := hS.nP) (pt := fun k hk => ?_) (nI := hS.nI) (il := hS.il) (nL := hS.nL) (le := fun k hk => ?_) (fault := hS.fault)), hr.tell hr0 rfl rfl rfl rfl rfl rfl rfl rfl rfl rfl (by show S.nO ≤ S.nO + 1; omega) (fun k hk => congrArg POp.hours (old k hk))⟩
    · have hk : k < S.nO + 1 := hk
      show POpOk (if k = S.nO then POp.mk x z nd cv S.tape (S.taped / 4 - 1) (fun r => PRo.mk (S.tape (4 * r + 4)) (S.tape (4 * r + 5)) (S.tape (4 * r + 6)) (S.tape (4 * r + 7))) else S.op k)
      by_cases e : k = S.nO
      · rw [if_pos e]
        exact POpOk.mk q2 q3 q4 b1 ⟨by show 1 ≤ S.taped / 4 - 1; omega, by show S.taped / 4 - 1 ≤ 8; omega⟩ (fun r hr => (b2 r hr).1) (fun r hr => (b2 r hr).2.1) (fun r hr => (b2 r hr).2.2.1) (fun r hr => (b2 r hr).2.2.2)
      · rw [if_neg e]; exact hS.op k (by omega)
    · exact (hS.ca k hk).ext (by show S.nO ≤ S.nO + 1; omega) (fun k hk => congrArg POp.hours (old k hk))
    · obtain ⟨a, b, c⟩ := hS.pt k hk
      refine ⟨a, ?_, c⟩
      have e := old _ (hS.ca _ a).op
      rw [← e] at b; exact b
    · obtain ⟨a, b, c, d⟩ := hS.le k hk
      refine ⟨a, by show (S.le k).op < S.nO + 1; omega, ?_, d⟩
      have e := old _ b
      rw [← e] at c; exact c
  · exact ⟨hS.tk, hr.tk.mono (by omega)⟩
theorem oWrong_ok (h : PStG r S) {t : Int} (ht : jo t) : PStG (r + 1) (oWrong S t).2 := by
  obtain ⟨hS, hr⟩ := h
  have hT : PTbOk (tbl S t) := tbl_ok hS ht
  unfold oWrong
  obtain ⟨p, q, h1, h2, h3, h4⟩ := hr.st
  refine ⟨(PStOk.mk (taped := hS.taped) (tape := hS.tape) (today := hS.today) (daily := hS.daily) (weekly := hS.weekly) (one := hS.one) (other := hS.other) (nO := hS.nO) (op := hS.op) (nS := hS.nS) (sg := hS.sg) (ct := hS.ct) (nC := hS.nC) (ca := hS.ca) (nP := hS.nP) (pt := hS.pt) (nI := hS.nI) (il := hS.il) (nL := hS.nL) (le := hS.le) (fault := hS.fault)), PStR.mk ⟨p, q, h1, h2, h3, by omega⟩ hr.laidN hr.laid hr.hour (notes_len hT) (fun k hk => ?_) hr.room⟩
  have hk : k < (tbl S t).notes.length := hk
  have hm : ntK (tbl S t).notes k ∈ (tbl S t).notes := by
    unfold ntK; rw [List.getD_eq_getElem?_getD, List.getElem?_eq_getElem hk]; exact List.getElem_mem hk
  obtain ⟨c, ro, w, a1, a2, a3, a4, a5, a6⟩ := (notes_mem hT (tbl_nr8 hT)).mp hm
  have h66 := hT.all
  show 0 ≤ ((ntK (tbl S t).notes k).1 : Int) ∧ ((ntK (tbl S t).notes k).1 : Int) ≤ 15 ∧ (ntK (tbl S t).notes k).2.1 < 66 ∧ -1 ≤ (ntK (tbl S t).notes k).2.2 ∧ (ntK (tbl S t).notes k).2.2 ≤ 7
  rw [a6]
  refine ⟨by dsimp only; omega, by dsimp only; omega, by dsimp only; omega, ?_, ?_⟩ <;> (dsimp only; split <;> omega)
end
end
