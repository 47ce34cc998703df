noncomputable section
set_option linter.unusedVariables false
set_option linter.unusedSimpArgs false
/-! PLAIN 24: the twin: who may have a role, what harm it does -/
/-- the twin's heap between the calls of the law: the month's table is loaded by each -/
def MCore (S : PSt) (FI AI : OhI) : Prop :=
  (MSt S FI AI) ∧
  (MCa S.nC S.ca AI) ∧
  (FI 1 0 5 = J S.today)
theorem MCore.mk {S : PSt} {FI AI : OhI}
    (toMSt : MSt S FI AI)
    (toMCa : MCa S.nC S.ca AI)
    (today : FI 1 0 5 = J S.today) :
    MCore S FI AI := ⟨toMSt, toMCa, today⟩
theorem MCore.toMSt {S : PSt} {FI AI : OhI} (h : MCore S FI AI) : MSt S FI AI := h.1
theorem MCore.toMCa {S : PSt} {FI AI : OhI} (h : MCore S FI AI) : MCa S.nC S.ca AI := h.2.1
theorem MCore.today {S : PSt} {FI AI : OhI} (h : MCore S FI AI) : FI 1 0 5 = J S.today := h.2.2
theorem MCore.nO {S : PSt} {FI AI : OhI} (h : MCore S FI AI) : FI 1 0 21 = J S.nO := h.toMSt.nO
theorem MCore.nS {S : PSt} {FI AI : OhI} (h : MCore S FI AI) : FI 1 0 22 = J S.nS := h.toMSt.nS
theorem MCore.daily {S : PSt} {FI AI : OhI} (h : MCore S FI AI) : FI 1 0 23 = J S.daily := h.toMSt.daily
theorem MCore.weekly {S : PSt} {FI AI : OhI} (h : MCore S FI AI) : FI 1 0 24 = J S.weekly := h.toMSt.weekly
theorem MCore.hours {S : PSt} {FI AI : OhI} (h : MCore S FI AI) : ∀ o, o < S.nO → AI 107 0 o = J (S.op o).hours := h.toMSt.hours
theorem MCore.set {S : PSt} {FI AI : OhI} (h : MCore S FI AI) : ∀ o, o < S.nO → AI 108 0 o = J (S.op o).set := h.toMSt.set
theorem MCore.need {S : PSt} {FI AI : OhI} (h : MCore S FI AI) : ∀ o, o < S.nO → AI 109 0 o = J (S.op o).need := h.toMSt.need
theorem MCore.seats {S : PSt} {FI AI : OhI} (h : MCore S FI AI) : ∀ o g : Nat, o < S.nO → g < 4 → AI 110 0 (4 * (o : Int) + (g : Int)).toNat = J ((S.op o).seats g) := h.toMSt.seats
theorem MCore.nr {S : PSt} {FI AI : OhI} (h : MCore S FI AI) : ∀ o, o < S.nO → AI 111 0 o = J (S.op o).nr := h.toMSt.nr
theorem MCore.voice {S : PSt} {FI AI : OhI} (h : MCore S FI AI) : ∀ o r : Nat, o < S.nO → r < (S.op o).nr → AI 112 0 (8 * (o : Int) + (r : Int)).toNat = J ((S.op o).ro r).voice := h.toMSt.voice
theorem MCore.strain {S : PSt} {FI AI : OhI} (h : MCore S FI AI) : ∀ o r : Nat, o < S.nO → r < (S.op o).nr → AI 113 0 (8 * (o : Int) + (r : Int)).toNat = J ((S.op o).ro r).strain := h.toMSt.strain
theorem MCore.tongue {S : PSt} {FI AI : OhI} (h : MCore S FI AI) : ∀ o r : Nat, o < S.nO → r < (S.op o).nr → AI 114 0 (8 * (o : Int) + (r : Int)).toNat = J ((S.op o).ro r).tongue := h.toMSt.tongue
theorem MCore.size {S : PSt} {FI AI : OhI} (h : MCore S FI AI) : ∀ o r : Nat, o < S.nO → r < (S.op o).nr → AI 115 0 (8 * (o : Int) + (r : Int)).toNat = J ((S.op o).ro r).size := h.toMSt.size
theorem MCore.chorus {S : PSt} {FI AI : OhI} (h : MCore S FI AI) : ∀ o, o < S.nO → AI 116 0 o = bJ (S.op o).chorus := h.toMSt.chorus
theorem MCore.voices {S : PSt} {FI AI : OhI} (h : MCore S FI AI) : ∀ s, s < S.nS → AI 117 0 s = J (S.sg s).voices := h.toMSt.voices
theorem MCore.tongues {S : PSt} {FI AI : OhI} (h : MCore S FI AI) : ∀ s, s < S.nS → AI 118 0 s = J (S.sg s).tongues := h.toMSt.tongues
theorem MCore.sizeOf {S : PSt} {FI AI : OhI} (h : MCore S FI AI) : ∀ s, s < S.nS → AI 119 0 s = J (S.sg s).size := h.toMSt.sizeOf
theorem MCore.one {S : PSt} {FI AI : OhI} (h : MCore S FI AI) : ∀ g : Nat, g < 4 → AI 120 0 g = J (S.one g) := h.toMSt.one
theorem MCore.other {S : PSt} {FI AI : OhI} (h : MCore S FI AI) : ∀ g : Nat, g < 4 → AI 120 0 (4 + (g : Int)).toNat = J (S.other g) := h.toMSt.other
theorem MCore.rest {S : PSt} {FI AI : OhI} (h : MCore S FI AI) : ∀ s : Nat, s < S.nS → AI 125 0 (4 * (s : Int) + 0).toNat = J (S.ct s).rest := h.toMSt.rest
theorem MCore.day {S : PSt} {FI AI : OhI} (h : MCore S FI AI) : ∀ s : Nat, s < S.nS → AI 125 0 (4 * (s : Int) + 1).toNat = J (S.ct s).day := h.toMSt.day
theorem MCore.week {S : PSt} {FI AI : OhI} (h : MCore S FI AI) : ∀ s : Nat, s < S.nS → AI 125 0 (4 * (s : Int) + 2).toNat = J (S.ct s).week := h.toMSt.week
theorem MCore.voiceOf {S : PSt} {FI AI : OhI} (h : MCore S FI AI) : ∀ s : Nat, s < S.nS → AI 125 0 (4 * (s : Int) + 3).toNat = J (S.ct s).voice := h.toMSt.voiceOf
theorem MCore.nl {S : PSt} {FI AI : OhI} (h : MCore S FI AI) : ∀ s : Nat, s < S.nS → AI 126 0 s = J (S.ct s).nl := h.toMSt.nl
theorem MCore.lf {S : PSt} {FI AI : OhI} (h : MCore S FI AI) : ∀ s k : Nat, s < S.nS → k < (S.ct s).nl → AI 127 0 (6 * (s : Int) + (k : Int)).toNat = J ((S.ct s).lf k) := h.toMSt.lf
theorem MCore.lt {S : PSt} {FI AI : OhI} (h : MCore S FI AI) : ∀ s k : Nat, s < S.nS → k < (S.ct s).nl → AI 128 0 (6 * (s : Int) + (k : Int)).toNat = J ((S.ct s).lt k) := h.toMSt.lt
theorem MCore.nf {S : PSt} {FI AI : OhI} (h : MCore S FI AI) : ∀ s : Nat, s < S.nS → AI 129 0 s = J (S.ct s).nf := h.toMSt.nf
theorem MCore.much {S : PSt} {FI AI : OhI} (h : MCore S FI AI) : ∀ s k : Nat, s < S.nS → k < (S.ct s).nf → AI 130 0 (8 * (s : Int) + (k : Int)).toNat = J ((S.ct s).much k) := h.toMSt.much
theorem MCore.code {S : PSt} {FI AI : OhI} (h : MCore S FI AI) : ∀ s k : Nat, s < S.nS → k < (S.ct s).nf → ∃ (f : Nat) (L : List (Int × Int × Int)), f + L.length ≤ 100 ∧ AI 131 0 (8 * (s : Int) + (k : Int)).toNat = J f ∧ AI 132 0 (8 * (s : Int) + (k : Int)).toNat = J ((f : Int) + L.length) ∧ (match (S.ct s).cd k with | none => L = [] | some q => L = q.code) ∧ ∀ (i : Nat) (x : Int × Int × Int), L[i]? = some x → AI 133 0 (100 * (s : Int) + (f : Int) + (i : Int)).toNat = J x.1 ∧ AI 134 0 (100 * (s : Int) + (f : Int) + (i : Int)).toNat = J x.2.1 ∧ AI 135 0 (100 * (s : Int) + (f : Int) + (i : Int)).toNat = J x.2.2 := h.toMSt.code
theorem MCore.nL {S : PSt} {FI AI : OhI} (h : MCore S FI AI) : FI 1 0 67 = J S.nL := h.toMSt.nL
theorem MCore.nI {S : PSt} {FI AI : OhI} (h : MCore S FI AI) : FI 1 0 68 = J S.nI := h.toMSt.nI
theorem MCore.nP {S : PSt} {FI AI : OhI} (h : MCore S FI AI) : FI 1 0 69 = J S.nP := h.toMSt.nP
theorem MCore.nC {S : PSt} {FI AI : OhI} (h : MCore S FI AI) : FI 1 0 70 = J S.nC := h.toMSt.nC
theorem MCore.leS {S : PSt} {FI AI : OhI} (h : MCore S FI AI) : ∀ k, k < S.nL → AI 148 0 k = J (S.le k).s := h.toMSt.leS
theorem MCore.leR {S : PSt} {FI AI : OhI} (h : MCore S FI AI) : ∀ k, k < S.nL → AI 149 0 k = J (8 * ((S.le k).op : Int) + ((S.le k).role : Int)) := h.toMSt.leR
theorem MCore.leH {S : PSt} {FI AI : OhI} (h : MCore S FI AI) : ∀ k, k < S.nL → AI 150 0 k = J (S.le k).hours := h.toMSt.leH
theorem MCore.leD {S : PSt} {FI AI : OhI} (h : MCore S FI AI) : ∀ k, k < S.nL → AI 151 0 k = J (S.le k).day := h.toMSt.leD
theorem MCore.ilS {S : PSt} {FI AI : OhI} (h : MCore S FI AI) : ∀ k, k < S.nI → AI 152 0 k = J (S.il k).s := h.toMSt.ilS
theorem MCore.ilF {S : PSt} {FI AI : OhI} (h : MCore S FI AI) : ∀ k, k < S.nI → AI 153 0 k = J (S.il k).frm := h.toMSt.ilF
theorem MCore.ilT {S : PSt} {FI AI : OhI} (h : MCore S FI AI) : ∀ k, k < S.nI → AI 154 0 k = J (S.il k).til := h.toMSt.ilT
theorem MCore.ilD {S : PSt} {FI AI : OhI} (h : MCore S FI AI) : ∀ k, k < S.nI → AI 155 0 k = J (S.il k).day := h.toMSt.ilD
theorem MCore.ptC {S : PSt} {FI AI : OhI} (h : MCore S FI AI) : ∀ k, k < S.nP → AI 156 0 k = J (S.pt k).call := h.toMSt.ptC
theorem MCore.ptR {S : PSt} {FI AI : OhI} (h : MCore S FI AI) : ∀ k, k < S.nP → AI 157 0 k = J (S.pt k).role := h.toMSt.ptR
theorem MCore.ptW {S : PSt} {FI AI : OhI} (h : MCore S FI AI) : ∀ k, k < S.nP → AI 158 0 k = J (S.pt k).who := h.toMSt.ptW
theorem MCore.ptD {S : PSt} {FI AI : OhI} (h : MCore S FI AI) : ∀ k, k < S.nP → AI 159 0 k = J (S.pt k).day := h.toMSt.ptD
theorem MCore.ptV {S : PSt} {FI AI : OhI} (h : MCore S FI AI) : ∀ k, k < S.nP → AI 166 0 k = bJ (S.pt k).cover := h.toMSt.ptV
theorem MCore.cd {S : PSt} {FI AI : OhI} (h : MCore S FI AI) : ∀ c, c < S.nC → AI 160 0 c = J (S.ca c).day := h.toMCa.cd
theorem MCore.cb {S : PSt} {FI AI : OhI} (h : MCore S FI AI) : ∀ c, c < S.nC → AI 161 0 c = J (S.ca c).beg := h.toMCa.cb
theorem MCore.cf {S : PSt} {FI AI : OhI} (h : MCore S FI AI) : ∀ c, c < S.nC → AI 162 0 c = J (S.ca c).fin := h.toMCa.cf
theorem MCore.ck {S : PSt} {FI AI : OhI} (h : MCore S FI AI) : ∀ c, c < S.nC → AI 163 0 c = J (S.ca c).kind := h.toMCa.ck
theorem MCore.co {S : PSt} {FI AI : OhI} (h : MCore S FI AI) : ∀ c, c < S.nC → AI 164 0 c = J (S.ca c).op := h.toMCa.co
theorem MCore.ch {S : PSt} {FI AI : OhI} (h : MCore S FI AI) : ∀ c, c < S.nC → AI 165 0 c = J (S.ca c).halves := h.toMCa.ch
section
variable {S : PSt} {FI AI : OhI} {n : Nat} {FR : OhQ} {AN : OhN}
/-- the scalars that a load writes -/
def ldF (FI : OhI) (t : Int) (k : Nat) : OhI := sA FI 1 0 (uA (uA (FI 1 0) 78 (J t)) 71 (J k))
theorem ldF_ne (FI : OhI) (t : Int) (k : Nat) {j : Nat} (h : j ≠ 78) (h2 : j ≠ 71) : ldF FI t k 1 0 j = FI 1 0 j := by unfold ldF; rw [sA_same, uA_ne _ _ h2, uA_ne _ _ h]
theorem ldF_ldF (FI : OhI) (t u : Int) (k l : Nat) : ldF (ldF FI t k) u l = ldF FI u l := by
  unfold ldF
  rw [sA_sA, sA_same]
  congr 1
  funext j
  by_cases e : j = 71
  · simp [uA_at, e]
  · by_cases e2 : j = 78 <;> simp [uA_at, e, e2]
theorem MCore.ldF_ (h : MCore S FI AI) (t : Int) (k : Nat) {AI2 : OhI} {L : List Nat} (x : eqx L AI AI2) (hd : ∀ s ∈ L, s ∉ mStA ∧ s ∉ mCaA) : MCore S (ldF FI t k) AI2 := MCore.mk (toMSt := (h.toMSt.congr (fun j hj => ldF_ne _ _ _ (by intro q; subst q; revert hj; decide) (by intro q; subst q; revert hj; decide)) (fun _ _ => rfl) : MSt S (ldF FI t k) AI).eqx_ x (fun s hs => (hd s hs).1)) (toMCa := h.toMCa.eqx_ x (fun s hs => (hd s hs).2)) (today := by rw [ldF_ne _ _ _ (by decide) (by decide)]; exact h.today)
theorem q4_load' (hS : PStOk S) (h : MCore S FI AI) (hn : 10000 ≤ n) {t : Int} (ht : -2147483648 ≤ t ∧ t < 2147483648) :
    ∃ AI2, mX4_load n FI FR AI AN (J t) = some (ldF FI t S.nC, AI2) ∧ eqx [172, 173, 174, 175, 176, 177] AI AI2 ∧ MTb (tbl S t) (ldF FI t S.nC) AI2 := q4_load hS h.toMSt h.toMCa hn ht
theorem q4_mayHave (hS : PStOk S) (h : MCore S FI AI) (hn : 10000 ≤ n) {s c r : Nat} (hs : s < S.nS) (hc : c < S.nC) (hr : r < (tbl S S.today).nr c) :
    ∃ A, mX4_mayHave n FI FR AI AN (J s) (J c) (J r) = some (bJ ((tbl S S.today).mayHave s c r), ldF FI S.today S.nC, A) ∧ eqx [172, 173, 174, 175, 176, 177, 187] AI A := by
  have ht := hS.today
  have hT : PTbOk (tbl S S.today) := tbl_ok hS ⟨by omega, by omega⟩
  obtain ⟨A1, e1, x1, h1⟩ := q4_load' (n := n) (FR := FR) (AN := AN) hS h hn (t := S.today) ⟨by omega, by omega⟩
  have hc' : c < (tbl S S.today).all := hc
  have hs' : s < (tbl S S.today).S.nS := hs
  have hb := hT.b hc'
  have h66 := hT.all
  have hSn := hS.nS
  have e5 : ldF FI S.today S.nC 1 0 5 = J S.today := by rw [ldF_ne _ _ _ (by decide) (by decide)]; exact h.today
  have ecd := h1.cd c hc'
  have eis := q4_isIn2 (FR := FR) (AN := AN) h1 hT (s := s) (c := c) (by omega) hc'
  generalize hTT : tbl S S.today = T at *
  have hday : (T.S.today) = S.today := by rw [← hTT]; rfl
  by_cases hz : (T.ca c).day < S.today
  · refine ⟨A1, wp_eq ?_, eqx_mono x1 (by decide)⟩
    unfold mX4_mayHave
    ((repeat' (first | ((with_reducible apply wp_let); try dsimp only) | ((with_reducible apply wp_gdJ); (focus (first | ((simp (disch := omega) only [J_lit, J_add, J_sub, J_mul, J_neg, J_n, jle, jlt, jeq, jnn, jnat, Int.toNat_natCast, bJ_0, bJ_1, bft, gd_T, nar_J, nar_0, nar_1, if_true, if_false, Option.bind_some, gd_t, h.today, e1, e5, ecd]); rfl) | rfl)); (focus (first | exact True.intro | (first | exact vp_J (by omega) (by omega) (by omega) | omega)))) | ((with_reducible apply wp_ifJT); (focus (first | ((simp (disch := omega) only [J_lit, J_add, J_sub, J_mul, J_neg, J_n, jle, jlt, jeq, jnn, jnat, Int.toNat_natCast, bJ_0, bJ_1, bft, gd_T, nar_J, nar_0, nar_1, if_true, if_false, Option.bind_some, gd_t, h.today, e1, e5, ecd]); rfl) | rfl)); (focus (first | exact True.intro | omega))) | ((with_reducible apply wp_ifJF); (focus (first | ((simp (disch := omega) only [J_lit, J_add, J_sub, J_mul, J_neg, J_n, jle, jlt, jeq, jnn, jnat, Int.toNat_natCast, bJ_0, bJ_1, bft, gd_T, nar_J, nar_0, nar_1, if_true, if_false, Option.bind_some, gd_t, h.today, e1, e5, ecd]); rfl) | rfl)); (focus (first | exact not_false | omega))) | ((with_reducible apply wp_ifJ); (focus (first | ((simp (disch := omega) only [J_lit, J_add, J_sub, J_mul, J_neg, J_n, jle, jlt, jeq, jnn, jnat, Int.toNat_natCast, bJ_0, bJ_1, bft, gd_T, nar_J, nar_0, nar_1, if_true, if_false, Option.bind_some, gd_t, h.today, e1, e5, ecd]); rfl) | rfl)); all_goals intro _) | (with_reducible apply wp_some) | ((with_reducible apply wp_eli); try dsimp only) | ((with_reducible apply wp_elr); try dsimp only) | ((with_reducible apply wp_bindE); (focus ((simp (disch := omega) only [J_lit, J_add, J_sub, J_mul, J_neg, J_n, jle, jlt, jeq, jnn, jnat, Int.toNat_natCast, bJ_0, bJ_1, bft, gd_T, nar_J, nar_0, nar_1, if_true, if_false, Option.bind_some, gd_t, h.today, e1, e5, ecd]); rfl)); try dsimp only) | (with_reducible apply wp_bind))); all_goals (try (simp (disch := omega) only [J_lit, J_add, J_sub, J_mul, J_neg, J_n, jle, jlt, jeq, jnn, jnat, Int.toNat_natCast, bJ_0, bJ_1, bft, gd_T, nar_J, nar_0, nar_1, if_true, if_false, Option.bind_some, gd_t, h.today, e1, e5, ecd])))
    unfold PTb.mayHave
    rw [hday, decide_eq_true hz]; rfl
  · cases hi : T.isCast s c with
    | true =>
      rw [hi] at eis
      refine ⟨A1, wp_eq ?_, eqx_mono x1 (by decide)⟩
      unfold mX4_mayHave
      ((repeat' (first | ((with_reducible apply wp_let); try dsimp only) | ((with_reducible apply wp_gdJ); (focus (first | ((simp (disch := omega) only [J_lit, J_add, J_sub, J_mul, J_neg, J_n, jle, jlt, jeq, jnn, jnat, Int.toNat_natCast, bJ_0, bJ_1, bft, gd_T, nar_J, nar_0, nar_1, if_true, if_false, Option.bind_some, gd_t, h.today, e1, e5, ecd, eis, bJ_t]); rfl) | rfl)); (focus (first | exact True.intro | (first | exact vp_J (by omega) (by omega) (by omega) | omega)))) | ((with_reducible apply wp_ifJT); (focus (first | ((simp (disch := omega) only [J_lit, J_add, J_sub, J_mul, J_neg, J_n, jle, jlt, jeq, jnn, jnat, Int.toNat_natCast, bJ_0, bJ_1, bft, gd_T, nar_J, nar_0, nar_1, if_true, if_false, Option.bind_some, gd_t, h.today, e1, e5, ecd, eis, bJ_t]); rfl) | rfl)); (focus (first | exact True.intro | omega))) | ((with_reducible apply wp_ifJF); (focus (first | ((simp (disch := omega) only [J_lit, J_add, J_sub, J_mul, J_neg, J_n, jle, jlt, jeq, jnn, jnat, Int.toNat_natCast, bJ_0, bJ_1, bft, gd_T, nar_J, nar_0, nar_1, if_true, if_false, Option.bind_some, gd_t, h.today, e1, e5, ecd, eis, bJ_t]); rfl) | rfl)); (focus (first | exact not_false | omega))) | ((with_reducible apply wp_ifJ); (focus (first | ((simp (disch := omega) only [J_lit, J_add, J_sub, J_mul, J_neg, J_n, jle, jlt, jeq, jnn, jnat, Int.toNat_natCast, bJ_0, bJ_1, bft, gd_T, nar_J, nar_0, nar_1, if_true, if_false, Option.bind_some, gd_t, h.today, e1, e5, ecd, eis, bJ_t]); rfl) | rfl)); all_goals intro _) | (with_reducible apply wp_some) | ((with_reducible apply wp_eli); try dsimp only) | ((with_reducible apply wp_elr); try dsimp only) | ((with_reducible apply wp_bindE); (focus ((simp (disch := omega) only [J_lit, J_add, J_sub, J_mul, J_neg, J_n, jle, jlt, jeq, jnn, jnat, Int.toNat_natCast, bJ_0, bJ_1, bft, gd_T, nar_J, nar_0, nar_1, if_true, if_false, Option.bind_some, gd_t, h.today, e1, e5, ecd, eis, bJ_t]); rfl)); try dsimp only) | (with_reducible apply wp_bind))); all_goals (try (simp (disch := omega) only [J_lit, J_add, J_sub, J_mul, J_neg, J_n, jle, jlt, jeq, jnn, jnat, Int.toNat_natCast, bJ_0, bJ_1, bft, gd_T, nar_J, nar_0, nar_1, if_true, if_false, Option.bind_some, gd_t, h.today, e1, e5, ecd, eis, bJ_t])))
      unfold PTb.mayHave
      rw [hi]; simp; rfl
    | false =>
      rw [hi] at eis
      obtain ⟨A2, e2, x2, m2⟩ := q4_unmark (n := n) (FR := FR) (AN := AN) (AI := A1) hn
      obtain ⟨A3, e3, x3, m3⟩ := q4_markT (n := n) (FR := FR) (AN := AN) (h1.eqx_ x2 (by decide)) hT hn hs' m2
      obtain ⟨A4, e4, x4, h4⟩ := q4_put (n := n) (FR := FR) (AN := AN) ((h1.eqx_ x2 (by decide)).eqx_ x3 (by decide)) hT hn (r := r) hs' hc' (by omega)
      have hT4 := give_ok hT (c := c) (r := r) (s := (s : Int)) ⟨by omega, by omega⟩ hc' (by omega)
      have m4 : mkA (mkV T s T.all 0 8) A4 := fun w c2 r2 a1 a2 a3 => by rw [x4 187 (by decide)]; exact m3 w c2 r2 a1 a2 a3
      have e6 := q4_markF (n := n) (FR := FR) (AN := AN) h4 hT4 hn hs' m4
      refine ⟨A4, wp_eq ?_, eqx_trans (eqx_mono x1 (by decide)) (eqx_trans (eqx_mono x2 (by decide)) (eqx_trans (eqx_mono x3 (by decide)) (eqx_mono x4 (by decide))))⟩
      unfold mX4_mayHave
      have ev : T.mayHave s c r = (!anyN (T.give c r s).all fun c' => anyN ((T.give c r s).nr c') fun r' => (T.give c r s).cast c' r' == (s : Int) && anyN 8 fun k => (T.give c r s).val s (8 + k) c' r' && !mkV T s T.all 0 8 (8 + k) c' r') := by
        unfold PTb.mayHave PTb.newW
        rw [hday, decide_eq_false hz, hi]
        simp only [Bool.or_self, Bool.not_false, Bool.true_and]
        congr 1
        refine anyN_congr fun c' hc' => ?_
        refine anyN_congr fun r' hr' => ?_
        congr 1
        refine anyN_congr fun k hk => ?_
        congr 2
        have hc2 : c' < T.all := hc'
        have hr2 : r' < T.nr c' := hr'
        unfold mkV
        rw [decide_eq_true (show c' < T.all ∧ r' < T.nr c' ∧ 8 ≤ 8 + k from ⟨hc2, hr2, by omega⟩)]
        simp
      rw [← ev] at e6
      ((repeat' (first | ((with_reducible apply wp_let); try dsimp only) | ((with_reducible apply wp_gdJ); (focus (first | ((simp (disch := omega) only [J_lit, J_add, J_sub, J_mul, J_neg, J_n, jle, jlt, jeq, jnn, jnat, Int.toNat_natCast, bJ_0, bJ_1, bft, gd_T, nar_J, nar_0, nar_1, if_true, if_false, Option.bind_some, gd_t, h.today, e1, e5, ecd, eis, bJ_f, e2, e3, e4, e6]); rfl) | rfl)); (focus (first | exact True.intro | (first | exact vp_J (by omega) (by omega) (by omega) | omega)))) | ((with_reducible apply wp_ifJT); (focus (first | ((simp (disch := omega) only [J_lit, J_add, J_sub, J_mul, J_neg, J_n, jle, jlt, jeq, jnn, jnat, Int.toNat_natCast, bJ_0, bJ_1, bft, gd_T, nar_J, nar_0, nar_1, if_true, if_false, Option.bind_some, gd_t, h.today, e1, e5, ecd, eis, bJ_f, e2, e3, e4, e6]); rfl) | rfl)); (focus (first | exact True.intro | omega))) | ((with_reducible apply wp_ifJF); (focus (first | ((simp (disch := omega) only [J_lit, J_add, J_sub, J_mul, J_neg, J_n, jle, jlt, jeq, jnn, jnat, Int.toNat_natCast, bJ_0, bJ_1, bft, gd_T, nar_J, nar_0, nar_1, if_true, if_false, Option.bind_some, gd_t, h.today, e1, e5, ecd, eis, bJ_f, e2, e3, e4, e6]); rfl) | rfl)); (focus (first | exact not_false | omega))) | ((with_reducible apply wp_ifJ); (focus (first | ((simp (disch := omega) only [J_lit, J_add, J_sub, J_mul, J_neg, J_n, jle, jlt, jeq, jnn, jnat, Int.toNat_natCast, bJ_0, bJ_1, bft, gd_T, nar_J, nar_0, nar_1, if_true, if_false, Option.bind_some, gd_t, h.today, e1, e5, ecd, eis, bJ_f, e2, e3, e4, e6]); rfl) | rfl)); all_goals intro _) | (with_reducible apply wp_some) | ((with_reducible apply wp_eli); try dsimp only) | ((with_reducible apply wp_elr); try dsimp only) | ((with_reducible apply wp_bindE); (focus ((simp (disch := omega) only [J_lit, J_add, J_sub, J_mul, J_neg, J_n, jle, jlt, jeq, jnn, jnat, Int.toNat_natCast, bJ_0, bJ_1, bft, gd_T, nar_J, nar_0, nar_1, if_true, if_false, Option.bind_some, gd_t, h.today, e1, e5, ecd, eis, bJ_f, e2, e3, e4, e6]); rfl)); try dsimp only) | (with_reducible apply wp_bind))); all_goals (try (simp (disch := omega) only [J_lit, J_add, J_sub, J_mul, J_neg, J_n, jle, jlt, jeq, jnn, jnat, Int.toNat_natCast, bJ_0, bJ_1, bft, gd_T, nar_J, nar_0, nar_1, if_true, if_false, Option.bind_some, gd_t, h.today, e1, e5, ecd, eis, bJ_f, e2, e3, e4, e6])))
end
end
