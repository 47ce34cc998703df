noncomputable section
set_option linter.unusedVariables false
set_option linter.unusedSimpArgs false
/-! PLAIN 3: the twin's heap -/
theorem natI (k : Nat) : ((k : Int)).toNat = k := rfl
theorem orI {a b : Bool} : (a || b) = true ↔ a = true ∨ b = true := by simp
def MSt (S : PSt) (FI AI : OhI) : Prop :=
  (FI 1 0 21 = J S.nO) ∧
  (FI 1 0 22 = J S.nS) ∧
  (FI 1 0 23 = J S.daily) ∧
  (FI 1 0 24 = J S.weekly) ∧
  (∀ o, o < S.nO → AI 107 0 o = J (S.op o).hours) ∧
  (∀ o, o < S.nO → AI 108 0 o = J (S.op o).set) ∧
  (∀ o, o < S.nO → AI 109 0 o = J (S.op o).need) ∧
  (∀ o g : Nat, o < S.nO → g < 4 → AI 110 0 (4 * (o : Int) + (g : Int)).toNat = J ((S.op o).seats g)) ∧
  (∀ o, o < S.nO → AI 111 0 o = J (S.op o).nr) ∧
  (∀ o r : Nat, o < S.nO → r < (S.op o).nr → AI 112 0 (8 * (o : Int) + (r : Int)).toNat = J ((S.op o).ro r).voice) ∧
  (∀ o r : Nat, o < S.nO → r < (S.op o).nr → AI 113 0 (8 * (o : Int) + (r : Int)).toNat = J ((S.op o).ro r).strain) ∧
  (∀ o r : Nat, o < S.nO → r < (S.op o).nr → AI 114 0 (8 * (o : Int) + (r : Int)).toNat = J ((S.op o).ro r).tongue) ∧
  (∀ o r : Nat, o < S.nO → r < (S.op o).nr → AI 115 0 (8 * (o : Int) + (r : Int)).toNat = J ((S.op o).ro r).size) ∧
  (∀ o, o < S.nO → AI 116 0 o = bJ (S.op o).chorus) ∧
  (∀ s, s < S.nS → AI 117 0 s = J (S.sg s).voices) ∧
  (∀ s, s < S.nS → AI 118 0 s = J (S.sg s).tongues) ∧
  (∀ s, s < S.nS → AI 119 0 s = J (S.sg s).size) ∧
  (∀ g : Nat, g < 4 → AI 120 0 g = J (S.one g)) ∧
  (∀ g : Nat, g < 4 → AI 120 0 (4 + (g : Int)).toNat = J (S.other g)) ∧
  (∀ s : Nat, s < S.nS → AI 125 0 (4 * (s : Int) + 0).toNat = J (S.ct s).rest) ∧
  (∀ s : Nat, s < S.nS → AI 125 0 (4 * (s : Int) + 1).toNat = J (S.ct s).day) ∧
  (∀ s : Nat, s < S.nS → AI 125 0 (4 * (s : Int) + 2).toNat = J (S.ct s).week) ∧
  (∀ s : Nat, s < S.nS → AI 125 0 (4 * (s : Int) + 3).toNat = J (S.ct s).voice) ∧
  (∀ s : Nat, s < S.nS → AI 126 0 s = J (S.ct s).nl) ∧
  (∀ s k : Nat, s < S.nS → k < (S.ct s).nl → AI 127 0 (6 * (s : Int) + (k : Int)).toNat = J ((S.ct s).lf k)) ∧
  (∀ s k : Nat, s < S.nS → k < (S.ct s).nl → AI 128 0 (6 * (s : Int) + (k : Int)).toNat = J ((S.ct s).lt k)) ∧
  (∀ s : Nat, s < S.nS → AI 129 0 s = J (S.ct s).nf) ∧
  (∀ s k : Nat, s < S.nS → k < (S.ct s).nf → AI 130 0 (8 * (s : Int) + (k : Int)).toNat = J ((S.ct s).much k)) ∧
  (∀ s k : Nat, s < S.nS → k < (S.ct s).nf → ∃ (f : Nat) (L : List (Int × Int × Int)), f + L.length ≤ 100 ∧ AI 131 0 (8 * (s : Int) + (k : Int)).toNat = J f ∧ AI 132 0 (8 * (s : Int) + (k : Int)).toNat = J ((f : Int) + L.length) ∧ (match (S.ct s).cd k with | none => L = [] | some q => L = q.code) ∧ ∀ (i : Nat) (x : Int × Int × Int), L[i]? = some x → AI 133 0 (100 * (s : Int) + (f : Int) + (i : Int)).toNat = J x.1 ∧ AI 134 0 (100 * (s : Int) + (f : Int) + (i : Int)).toNat = J x.2.1 ∧ AI 135 0 (100 * (s : Int) + (f : Int) + (i : Int)).toNat = J x.2.2) ∧
  (FI 1 0 67 = J S.nL) ∧
  (FI 1 0 68 = J S.nI) ∧
  (FI 1 0 69 = J S.nP) ∧
  (FI 1 0 70 = J S.nC) ∧
  (∀ k, k < S.nL → AI 148 0 k = J (S.le k).s) ∧
  (∀ k, k < S.nL → AI 149 0 k = J (8 * ((S.le k).op : Int) + ((S.le k).role : Int))) ∧
  (∀ k, k < S.nL → AI 150 0 k = J (S.le k).hours) ∧
  (∀ k, k < S.nL → AI 151 0 k = J (S.le k).day) ∧
  (∀ k, k < S.nI → AI 152 0 k = J (S.il k).s) ∧
  (∀ k, k < S.nI → AI 153 0 k = J (S.il k).frm) ∧
  (∀ k, k < S.nI → AI 154 0 k = J (S.il k).til) ∧
  (∀ k, k < S.nI → AI 155 0 k = J (S.il k).day) ∧
  (∀ k, k < S.nP → AI 156 0 k = J (S.pt k).call) ∧
  (∀ k, k < S.nP → AI 157 0 k = J (S.pt k).role) ∧
  (∀ k, k < S.nP → AI 158 0 k = J (S.pt k).who) ∧
  (∀ k, k < S.nP → AI 159 0 k = J (S.pt k).day) ∧
  (∀ k, k < S.nP → AI 166 0 k = bJ (S.pt k).cover)
theorem MSt.mk {S : PSt} {FI AI : OhI}
    (nO : FI 1 0 21 = J S.nO)
    (nS : FI 1 0 22 = J S.nS)
    (daily : FI 1 0 23 = J S.daily)
    (weekly : FI 1 0 24 = J S.weekly)
    (hours : ∀ o, o < S.nO → AI 107 0 o = J (S.op o).hours)
    (set : ∀ o, o < S.nO → AI 108 0 o = J (S.op o).set)
    (need : ∀ o, o < S.nO → AI 109 0 o = J (S.op o).need)
    (seats : ∀ o g : Nat, o < S.nO → g < 4 → AI 110 0 (4 * (o : Int) + (g : Int)).toNat = J ((S.op o).seats g))
    (nr : ∀ o, o < S.nO → AI 111 0 o = J (S.op o).nr)
    (voice : ∀ o r : Nat, o < S.nO → r < (S.op o).nr → AI 112 0 (8 * (o : Int) + (r : Int)).toNat = J ((S.op o).ro r).voice)
    (strain : ∀ o r : Nat, o < S.nO → r < (S.op o).nr → AI 113 0 (8 * (o : Int) + (r : Int)).toNat = J ((S.op o).ro r).strain)
    (tongue : ∀ o r : Nat, o < S.nO → r < (S.op o).nr → AI 114 0 (8 * (o : Int) + (r : Int)).toNat = J ((S.op o).ro r).tongue)
    (size : ∀ o r : Nat, o < S.nO → r < (S.op o).nr → AI 115 0 (8 * (o : Int) + (r : Int)).toNat = J ((S.op o).ro r).size)
    (chorus : ∀ o, o < S.nO → AI 116 0 o = bJ (S.op o).chorus)
    (voices : ∀ s, s < S.nS → AI 117 0 s = J (S.sg s).voices)
    (tongues : ∀ s, s < S.nS → AI 118 0 s = J (S.sg s).tongues)
    (sizeOf : ∀ s, s < S.nS → AI 119 0 s = J (S.sg s).size)
    (one : ∀ g : Nat, g < 4 → AI 120 0 g = J (S.one g))
    (other : ∀ g : Nat, g < 4 → AI 120 0 (4 + (g : Int)).toNat = J (S.other g))
    (rest : ∀ s : Nat, s < S.nS → AI 125 0 (4 * (s : Int) + 0).toNat = J (S.ct s).rest)
    (day : ∀ s : Nat, s < S.nS → AI 125 0 (4 * (s : Int) + 1).toNat = J (S.ct s).day)
    (week : ∀ s : Nat, s < S.nS → AI 125 0 (4 * (s : Int) + 2).toNat = J (S.ct s).week)
    (voiceOf : ∀ s : Nat, s < S.nS → AI 125 0 (4 * (s : Int) + 3).toNat = J (S.ct s).voice)
    (nl : ∀ s : Nat, s < S.nS → AI 126 0 s = J (S.ct s).nl)
    (lf : ∀ s k : Nat, s < S.nS → k < (S.ct s).nl → AI 127 0 (6 * (s : Int) + (k : Int)).toNat = J ((S.ct s).lf k))
    (lt : ∀ s k : Nat, s < S.nS → k < (S.ct s).nl → AI 128 0 (6 * (s : Int) + (k : Int)).toNat = J ((S.ct s).lt k))
    (nf : ∀ s : Nat, s < S.nS → AI 129 0 s = J (S.ct s).nf)
    (much : ∀ s k : Nat, s < S.nS → k < (S.ct s).nf → AI 130 0 (8 * (s : Int) + (k : Int)).toNat = J ((S.ct s).much k))
    (code : ∀ s k : Nat, s < S.nS → k < (S.ct s).nf → ∃ (f : Nat) (L : List (Int × Int × Int)), f + L.length ≤ 100 ∧ AI 131 0 (8 * (s : Int) + (k : Int)).toNat = J f ∧ AI 132 0 (8 * (s : Int) + (k : Int)).toNat = J ((f : Int) + L.length) ∧ (match (S.ct s).cd k with | none => L = [] | some q => L = q.code) ∧ ∀ (i : Nat) (x : Int × Int × Int), L[i]? = some x → AI 133 0 (100 * (s : Int) + (f : Int) + (i : Int)).toNat = J x.1 ∧ AI 134 0 (100 * (s : Int) + (f : Int) + (i : Int)).toNat = J x.2.1 ∧ AI 135 0 (100 * (s : Int) + (f : Int) + (i : Int)).toNat = J x.2.2)
    (nL : FI 1 0 67 = J S.nL)
    (nI : FI 1 0 68 = J S.nI)
    (nP : FI 1 0 69 = J S.nP)
    (nC : FI 1 0 70 = J S.nC)
    (leS : ∀ k, k < S.nL → AI 148 0 k = J (S.le k).s)
    (leR : ∀ k, k < S.nL → AI 149 0 k = J (8 * ((S.le k).op : Int) + ((S.le k).role : Int)))
    (leH : ∀ k, k < S.nL → AI 150 0 k = J (S.le k).hours)
    (leD : ∀ k, k < S.nL → AI 151 0 k = J (S.le k).day)
    (ilS : ∀ k, k < S.nI → AI 152 0 k = J (S.il k).s)
    (ilF : ∀ k, k < S.nI → AI 153 0 k = J (S.il k).frm)
    (ilT : ∀ k, k < S.nI → AI 154 0 k = J (S.il k).til)
    (ilD : ∀ k, k < S.nI → AI 155 0 k = J (S.il k).day)
    (ptC : ∀ k, k < S.nP → AI 156 0 k = J (S.pt k).call)
    (ptR : ∀ k, k < S.nP → AI 157 0 k = J (S.pt k).role)
    (ptW : ∀ k, k < S.nP → AI 158 0 k = J (S.pt k).who)
    (ptD : ∀ k, k < S.nP → AI 159 0 k = J (S.pt k).day)
    (ptV : ∀ k, k < S.nP → AI 166 0 k = bJ (S.pt k).cover) :
    MSt S FI AI := ⟨nO, nS, daily, weekly, hours, set, need, seats, nr, voice, strain, tongue, size, chorus, voices, tongues, sizeOf, one, other, rest, day, week, voiceOf, nl, lf, lt, nf, much, code, nL, nI, nP, nC, leS, leR, leH, leD, ilS, ilF, ilT, ilD, ptC, ptR, ptW, ptD, ptV⟩
theorem MSt.nO {S : PSt} {FI AI : OhI} (h : MSt S FI AI) : FI 1 0 21 = J S.nO := h.1
theorem MSt.nS {S : PSt} {FI AI : OhI} (h : MSt S FI AI) : FI 1 0 22 = J S.nS := h.2.1
theorem MSt.daily {S : PSt} {FI AI : OhI} (h : MSt S FI AI) : FI 1 0 23 = J S.daily := h.2.2.1
theorem MSt.weekly {S : PSt} {FI AI : OhI} (h : MSt S FI AI) : FI 1 0 24 = J S.weekly := h.2.2.2.1
theorem MSt.hours {S : PSt} {FI AI : OhI} (h : MSt S FI AI) : ∀ o, o < S.nO → AI 107 0 o = J (S.op o).hours := h.2.2.2.2.1
theorem MSt.set {S : PSt} {FI AI : OhI} (h : MSt S FI AI) : ∀ o, o < S.nO → AI 108 0 o = J (S.op o).set := h.2.2.2.2.2.1
theorem MSt.need {S : PSt} {FI AI : OhI} (h : MSt S FI AI) : ∀ o, o < S.nO → AI 109 0 o = J (S.op o).need := h.2.2.2.2.2.2.1
theorem MSt.seats {S : PSt} {FI AI : OhI} (h : MSt S FI AI) : ∀ o g : Nat, o < S.nO → g < 4 → AI 110 0 (4 * (o : Int) + (g : Int)).toNat = J ((S.op o).seats g) := h.2.2.2.2.2.2.2.1
theorem MSt.nr {S : PSt} {FI AI : OhI} (h : MSt S FI AI) : ∀ o, o < S.nO → AI 111 0 o = J (S.op o).nr := h.2.2.2.2.2.2.2.2.1
theorem MSt.voice {S : PSt} {FI AI : OhI} (h : MSt S FI AI) : ∀ o r : Nat, o < S.nO → r < (S.op o).nr → AI 112 0 (8 * (o : Int) + (r : Int)).toNat = J ((S.op o).ro r).voice := h.2.2.2.2.2.2.2.2.2.1
theorem MSt.strain {S : PSt} {FI AI : OhI} (h : MSt S FI AI) : ∀ o r : Nat, o < S.nO → r < (S.op o).nr → AI 113 0 (8 * (o : Int) + (r : Int)).toNat = J ((S.op o).ro r).strain := h.2.2.2.2.2.2.2.2.2.2.1
theorem MSt.tongue {S : PSt} {FI AI : OhI} (h : MSt S FI AI) : ∀ o r : Nat, o < S.nO → r < (S.op o).nr → AI 114 0 (8 * (o : Int) + (r : Int)).toNat = J ((S.op o).ro r).tongue := h.2.2.2.2.2.2.2.2.2.2.2.1
theorem MSt.size {S : PSt} {FI AI : OhI} (h : MSt S FI AI) : ∀ o r : Nat, o < S.nO → r < (S.op o).nr → AI 115 0 (8 * (o : Int) + (r : Int)).toNat = J ((S.op o).ro r).size := h.2.2.2.2.2.2.2.2.2.2.2.2.1
theorem MSt.chorus {S : PSt} {FI AI : OhI} (h : MSt S FI AI) : ∀ o, o < S.nO → AI 116 0 o = bJ (S.op o).chorus := h.2.2.2.2.2.2.2.2.2.2.2.2.2.1
theorem MSt.voices {S : PSt} {FI AI : OhI} (h : MSt S FI AI) : ∀ s, s < S.nS → AI 117 0 s = J (S.sg s).voices := h.2.2.2.2.2.2.2.2.2.2.2.2.2.2.1
theorem MSt.tongues {S : PSt} {FI AI : OhI} (h : MSt S FI AI) : ∀ s, s < S.nS → AI 118 0 s = J (S.sg s).tongues := h.2.2.2.2.2.2.2.2.2.2.2.2.2.2.2.1
theorem MSt.sizeOf {S : PSt} {FI AI : OhI} (h : MSt S FI AI) : ∀ s, s < S.nS → AI 119 0 s = J (S.sg s).size := h.2.2.2.2.2.2.2.2.2.2.2.2.2.2.2.2.1
theorem MSt.one {S : PSt} {FI AI : OhI} (h : MSt S FI AI) : ∀ g : Nat, g < 4 → AI 120 0 g = J (S.one g) := h.2.2.2.2.2.2.2.2.2.2.2.2.2.2.2.2.2.1
theorem MSt.other {S : PSt} {FI AI : OhI} (h : MSt S FI AI) : ∀ g : Nat, g < 4 → AI 120 0 (4 + (g : Int)).toNat = J (S.other g) := h.2.2.2.2.2.2.2.2.2.2.2.2.2.2.2.2.2.2.1
theorem MSt.rest {S : PSt} {FI AI : OhI} (h : MSt S FI AI) : ∀ s : Nat, s < S.nS → AI 125 0 (4 * (s : Int) + 0).toNat = J (S.ct s).rest := h.2.2.2.2.2.2.2.2.2.2.2.2.2.2.2.2.2.2.2.1
theorem MSt.day {S : PSt} {FI AI : OhI} (h : MSt S FI AI) : ∀ s : Nat, s < S.nS → AI 125 0 (4 * (s : Int) + 1).toNat = J (S.ct s).day := h.2.2.2.2.2.2.2.2.2.2.2.2.2.2.2.2.2.2.2.2.1
theorem MSt.week {S : PSt} {FI AI : OhI} (h : MSt S FI AI) : ∀ s : Nat, s < S.nS → AI 125 0 (4 * (s : Int) + 2).toNat = J (S.ct s).week := h.2.2.2.2.2.2.2.2.2.2.2.2.2.2.2.2.2.2.2.2.2.1
theorem MSt.voiceOf {S : PSt} {FI AI : OhI} (h : MSt S FI AI) : ∀ s : Nat, s < S.nS → AI 125 0 (4 * (s : Int) + 3).toNat = J (S.ct s).voice := h.2.2.2.2.2.2.2.2.2.2.2.2.2.2.2.2.2.2.2.2.2.2.1
theorem MSt.nl {S : PSt} {FI AI : OhI} (h : MSt S FI AI) : ∀ s : Nat, s < S.nS → AI 126 0 s = J (S.ct s).nl := h.2.2.2.2.2.2.2.2.2.2.2.2.2.2.2.2.2.2.2.2.2.2.2.1
theorem MSt.lf {S : PSt} {FI AI : OhI} (h : MSt S FI AI) : ∀ s k : Nat, s < S.nS → k < (S.ct s).nl → AI 127 0 (6 * (s : Int) + (k : Int)).toNat = J ((S.ct s).lf k) := h.2.2.2.2.2.2.2.2.2.2.2.2.2.2.2.2.2.2.2.2.2.2.2.2.1
theorem MSt.lt {S : PSt} {FI AI : OhI} (h : MSt S FI AI) : ∀ s k : Nat, s < S.nS → k < (S.ct s).nl → AI 128 0 (6 * (s : Int) + (k : Int)).toNat = J ((S.ct s).lt k) := h.2.2.2.2.2.2.2.2.2.2.2.2.2.2.2.2.2.2.2.2.2.2.2.2.2.1
theorem MSt.nf {S : PSt} {FI AI : OhI} (h : MSt S FI AI) : ∀ s : Nat, s < S.nS → AI 129 0 s = J (S.ct s).nf := h.2.2.2.2.2.2.2.2.2.2.2.2.2.2.2.2.2.2.2.2.2.2.2.2.2.2.1
theorem MSt.much {S : PSt} {FI AI : OhI} (h : MSt S FI AI) : ∀ s k : Nat, s < S.nS → k < (S.ct s).nf → AI 130 0 (8 * (s : Int) + (k : Int)).toNat = J ((S.ct s).much k) := h.2.2.2.2.2.2.2.2.2.2.2.2.2.2.2.2.2.2.2.2.2.2.2.2.2.2.2.1
theorem MSt.code {S : PSt} {FI AI : OhI} (h : MSt S FI AI) : ∀ s k : Nat, s < S.nS → k < (S.ct s).nf → ∃ (f : Nat) (L : List (Int × Int × Int)), f + L.length ≤ 100 ∧ AI 131 0 (8 * (s : Int) + (k : Int)).toNat = J f ∧ AI 132 0 (8 * (s : Int) + (k : Int)).toNat = J ((f : Int) + L.length) ∧ (match (S.ct s).cd k with | none => L = [] | some q => L = q.code) ∧ ∀ (i : Nat) (x : Int × Int × Int), L[i]? = some x → AI 133 0 (100 * (s : Int) + (f : Int) + (i : Int)).toNat = J x.1 ∧ AI 134 0 (100 * (s : Int) + (f : Int) + (i : Int)).toNat = J x.2.1 ∧ AI 135 0 (100 * (s : Int) + (f : Int) + (i : Int)).toNat = J x.2.2 := h.2.2.2.2.2.2.2.2.2.2.2.2.2.2.2.2.2.2.2.2.2.2.2.2.2.2.2.2.1
theorem MSt.nL {S : PSt} {FI AI : OhI} (h : MSt S FI AI) : FI 1 0 67 = J S.nL := h.2.2.2.2.2.2.2.2.2.2.2.2.2.2.2.2.2.2.2.2.2.2.2.2.2.2.2.2.2.1
theorem MSt.nI {S : PSt} {FI AI : OhI} (h : MSt S FI AI) : FI 1 0 68 = J S.nI := h.2.2.2.2.2.2.2.2.2.2.2.2.2.2.2.2.2.2.2.2.2.2.2.2.2.2.2.2.2.2.1
theorem MSt.nP {S : PSt} {FI AI : OhI} (h : MSt S FI AI) : FI 1 0 69 = J S.nP := h.2.2.2.2.2.2.2.2.2.2.2.2.2.2.2.2.2.2.2.2.2.2.2.2.2.2.2.2.2.2.2.1
theorem MSt.nC {S : PSt} {FI AI : OhI} (h : MSt S FI AI) : FI 1 0 70 = J S.nC := h.2.2.2.2.2.2.2.2.2.2.2.2.2.2.2.2.2.2.2.2.2.2.2.2.2.2.2.2.2.2.2.2.1
theorem MSt.leS {S : PSt} {FI AI : OhI} (h : MSt S FI AI) : ∀ k, k < S.nL → AI 148 0 k = J (S.le k).s := h.2.2.2.2.2.2.2.2.2.2.2.2.2.2.2.2.2.2.2.2.2.2.2.2.2.2.2.2.2.2.2.2.2.1
theorem MSt.leR {S : PSt} {FI AI : OhI} (h : MSt S FI AI) : ∀ k, k < S.nL → AI 149 0 k = J (8 * ((S.le k).op : Int) + ((S.le k).role : Int)) := h.2.2.2.2.2.2.2.2.2.2.2.2.2.2.2.2.2.2.2.2.2.2.2.2.2.2.2.2.2.2.2.2.2.2.1
theorem MSt.leH {S : PSt} {FI AI : OhI} (h : MSt S FI AI) : ∀ k, k < S.nL → AI 150 0 k = J (S.le k).hours := h.2.2.2.2.2.2.2.2.2.2.2.2.2.2.2.2.2.2.2.2.2.2.2.2.2.2.2.2.2.2.2.2.2.2.2.1
theorem MSt.leD {S : PSt} {FI AI : OhI} (h : MSt S FI AI) : ∀ k, k < S.nL → AI 151 0 k = J (S.le k).day := h.2.2.2.2.2.2.2.2.2.2.2.2.2.2.2.2.2.2.2.2.2.2.2.2.2.2.2.2.2.2.2.2.2.2.2.2.1
theorem MSt.ilS {S : PSt} {FI AI : OhI} (h : MSt S FI AI) : ∀ k, k < S.nI → AI 152 0 k = J (S.il k).s := h.2.2.2.2.2.2.2.2.2.2.2.2.2.2.2.2.2.2.2.2.2.2.2.2.2.2.2.2.2.2.2.2.2.2.2.2.2.1
theorem MSt.ilF {S : PSt} {FI AI : OhI} (h : MSt S FI AI) : ∀ k, k < S.nI → AI 153 0 k = J (S.il k).frm := h.2.2.2.2.2.2.2.2.2.2.2.2.2.2.2.2.2.2.2.2.2.2.2.2.2.2.2.2.2.2.2.2.2.2.2.2.2.2.1
theorem MSt.ilT {S : PSt} {FI AI : OhI} (h : MSt S FI AI) : ∀ k, k < S.nI → AI 154 0 k = J (S.il k).til := h.2.2.2.2.2.2.2.2.2.2.2.2.2.2.2.2.2.2.2.2.2.2.2.2.2.2.2.2.2.2.2.2.2.2.2.2.2.2.2.1
theorem MSt.ilD {S : PSt} {FI AI : OhI} (h : MSt S FI AI) : ∀ k, k < S.nI → AI 155 0 k = J (S.il k).day := h.2.2.2.2.2.2.2.2.2.2.2.2.2.2.2.2.2.2.2.2.2.2.2.2.2.2.2.2.2.2.2.2.2.2.2.2.2.2.2.2.1
theorem MSt.ptC {S : PSt} {FI AI : OhI} (h : MSt S FI AI) : ∀ k, k < S.nP → AI 156 0 k = J (S.pt k).call := h.2.2.2.2.2.2.2.2.2.2.2.2.2.2.2.2.2.2.2.2.2.2.2.2.2.2.2.2.2.2.2.2.2.2.2.2.2.2.2.2.2.1
theorem MSt.ptR {S : PSt} {FI AI : OhI} (h : MSt S FI AI) : ∀ k, k < S.nP → AI 157 0 k = J (S.pt k).role := h.2.2.2.2.2.2.2.2.2.2.2.2.2.2.2.2.2.2.2.2.2.2.2.2.2.2.2.2.2.2.2.2.2.2.2.2.2.2.2.2.2.2.1
theorem MSt.ptW {S : PSt} {FI AI : OhI} (h : MSt S FI AI) : ∀ k, k < S.nP → AI 158 0 k = J (S.pt k).who := h.2.2.2.2.2.2.2.2.2.2.2.2.2.2.2.2.2.2.2.2.2.2.2.2.2.2.2.2.2.2.2.2.2.2.2.2.2.2.2.2.2.2.2.1
theorem MSt.ptD {S : PSt} {FI AI : OhI} (h : MSt S FI AI) : ∀ k, k < S.nP → AI 159 0 k = J (S.pt k).day := h.2.2.2.2.2.2.2.2.2.2.2.2.2.2.2.2.2.2.2.2.2.2.2.2.2.2.2.2.2.2.2.2.2.2.2.2.2.2.2.2.2.2.2.2.1
theorem MSt.ptV {S : PSt} {FI AI : OhI} (h : MSt S FI AI) : ∀ k, k < S.nP → AI 166 0 k = bJ (S.pt k).cover := h.2.2.2.2.2.2.2.2.2.2.2.2.2.2.2.2.2.2.2.2.2.2.2.2.2.2.2.2.2.2.2.2.2.2.2.2.2.2.2.2.2.2.2.2.2
/-- calls in rows -/
def MCa (n : Nat) (ca : Nat → PCa) (AI : OhI) : Prop :=
  (∀ c, c < n → AI 160 0 c = J (ca c).day) ∧
  (∀ c, c < n → AI 161 0 c = J (ca c).beg) ∧
  (∀ c, c < n → AI 162 0 c = J (ca c).fin) ∧
  (∀ c, c < n → AI 163 0 c = J (ca c).kind) ∧
  (∀ c, c < n → AI 164 0 c = J (ca c).op) ∧
  (∀ c, c < n → AI 165 0 c = J (ca c).halves)
theorem MCa.mk {n : Nat} {ca : Nat → PCa} {AI : OhI}
    (cd : ∀ c, c < n → AI 160 0 c = J (ca c).day)
    (cb : ∀ c, c < n → AI 161 0 c = J (ca c).beg)
    (cf : ∀ c, c < n → AI 162 0 c = J (ca c).fin)
    (ck : ∀ c, c < n → AI 163 0 c = J (ca c).kind)
    (co : ∀ c, c < n → AI 164 0 c = J (ca c).op)
    (ch : ∀ c, c < n → AI 165 0 c = J (ca c).halves) :
    MCa n ca AI := ⟨cd, cb, cf, ck, co, ch⟩
theorem MCa.cd {n : Nat} {ca : Nat → PCa} {AI : OhI} (h : MCa n ca AI) : ∀ c, c < n → AI 160 0 c = J (ca c).day := h.1
theorem MCa.cb {n : Nat} {ca : Nat → PCa} {AI : OhI} (h : MCa n ca AI) : ∀ c, c < n → AI 161 0 c = J (ca c).beg := h.2.1
theorem MCa.cf {n : Nat} {ca : Nat → PCa} {AI : OhI} (h : MCa n ca AI) : ∀ c, c < n → AI 162 0 c = J (ca c).fin := h.2.2.1
theorem MCa.ck {n : Nat} {ca : Nat → PCa} {AI : OhI} (h : MCa n ca AI) : ∀ c, c < n → AI 163 0 c = J (ca c).kind := h.2.2.2.1
theorem MCa.co {n : Nat} {ca : Nat → PCa} {AI : OhI} (h : MCa n ca AI) : ∀ c, c < n → AI 164 0 c = J (ca c).op := h.2.2.2.2.1
theorem MCa.ch {n : Nat} {ca : Nat → PCa} {AI : OhI} (h : MCa n ca AI) : ∀ c, c < n → AI 165 0 c = J (ca c).halves := h.2.2.2.2.2
def MTb (T : PTb) (FI AI : OhI) : Prop :=
  (MSt T.S FI AI) ∧
  (MCa T.all T.ca AI) ∧
  (FI 1 0 71 = J T.all) ∧
  (FI 1 0 78 = J T.asOf) ∧
  (∀ c r : Nat, c < T.all → r < 8 → AI 172 0 (8 * (c : Int) + (r : Int)).toNat = J (T.cast c r)) ∧
  (∀ c r : Nat, c < T.all → r < 8 → AI 173 0 (8 * (c : Int) + (r : Int)).toNat = J (T.cover c r)) ∧
  (∀ c r : Nat, c < T.all → r < 8 → AI 174 0 (8 * (c : Int) + (r : Int)).toNat = J (T.ahead c r)) ∧
  (∀ k, k < T.all → AI 175 0 k = J (T.ord k)) ∧
  (∀ c, c < T.all → AI 176 0 c = J (T.pos c)) ∧
  (∀ c s : Nat, c < T.all → s < 20 → ((((AI 177 0 c) >>> ((J s) &&& J 31)) &&& J 1) = J 1) = (T.isCast s c = true))
theorem MTb.mk {T : PTb} {FI AI : OhI}
    (toMSt : MSt T.S FI AI)
    (toMCa : MCa T.all T.ca AI)
    (all : FI 1 0 71 = J T.all)
    (asOf : FI 1 0 78 = J T.asOf)
    (cast : ∀ c r : Nat, c < T.all → r < 8 → AI 172 0 (8 * (c : Int) + (r : Int)).toNat = J (T.cast c r))
    (cover : ∀ c r : Nat, c < T.all → r < 8 → AI 173 0 (8 * (c : Int) + (r : Int)).toNat = J (T.cover c r))
    (ahead : ∀ c r : Nat, c < T.all → r < 8 → AI 174 0 (8 * (c : Int) + (r : Int)).toNat = J (T.ahead c r))
    (ord : ∀ k, k < T.all → AI 175 0 k = J (T.ord k))
    (pos : ∀ c, c < T.all → AI 176 0 c = J (T.pos c))
    (roster : ∀ c s : Nat, c < T.all → s < 20 → ((((AI 177 0 c) >>> ((J s) &&& J 31)) &&& J 1) = J 1) = (T.isCast s c = true)) :
    MTb T FI AI := ⟨toMSt, toMCa, all, asOf, cast, cover, ahead, ord, pos, roster⟩
theorem MTb.toMSt {T : PTb} {FI AI : OhI} (h : MTb T FI AI) : MSt T.S FI AI := h.1
theorem MTb.toMCa {T : PTb} {FI AI : OhI} (h : MTb T FI AI) : MCa T.all T.ca AI := h.2.1
theorem MTb.all {T : PTb} {FI AI : OhI} (h : MTb T FI AI) : FI 1 0 71 = J T.all := h.2.2.1
theorem MTb.asOf {T : PTb} {FI AI : OhI} (h : MTb T FI AI) : FI 1 0 78 = J T.asOf := h.2.2.2.1
theorem MTb.cast {T : PTb} {FI AI : OhI} (h : MTb T FI AI) : ∀ c r : Nat, c < T.all → r < 8 → AI 172 0 (8 * (c : Int) + (r : Int)).toNat = J (T.cast c r) := h.2.2.2.2.1
theorem MTb.cover {T : PTb} {FI AI : OhI} (h : MTb T FI AI) : ∀ c r : Nat, c < T.all → r < 8 → AI 173 0 (8 * (c : Int) + (r : Int)).toNat = J (T.cover c r) := h.2.2.2.2.2.1
theorem MTb.ahead {T : PTb} {FI AI : OhI} (h : MTb T FI AI) : ∀ c r : Nat, c < T.all → r < 8 → AI 174 0 (8 * (c : Int) + (r : Int)).toNat = J (T.ahead c r) := h.2.2.2.2.2.2.1
theorem MTb.ord {T : PTb} {FI AI : OhI} (h : MTb T FI AI) : ∀ k, k < T.all → AI 175 0 k = J (T.ord k) := h.2.2.2.2.2.2.2.1
theorem MTb.pos {T : PTb} {FI AI : OhI} (h : MTb T FI AI) : ∀ c, c < T.all → AI 176 0 c = J (T.pos c) := h.2.2.2.2.2.2.2.2.1
theorem MTb.roster {T : PTb} {FI AI : OhI} (h : MTb T FI AI) : ∀ c s : Nat, c < T.all → s < 20 → ((((AI 177 0 c) >>> ((J s) &&& J 31)) &&& J 1) = J 1) = (T.isCast s c = true) := h.2.2.2.2.2.2.2.2.2
theorem MTb.nO {T : PTb} {FI AI : OhI} (h : MTb T FI AI) : FI 1 0 21 = J T.S.nO := h.toMSt.nO
theorem MTb.nS {T : PTb} {FI AI : OhI} (h : MTb T FI AI) : FI 1 0 22 = J T.S.nS := h.toMSt.nS
theorem MTb.daily {T : PTb} {FI AI : OhI} (h : MTb T FI AI) : FI 1 0 23 = J T.S.daily := h.toMSt.daily
theorem MTb.weekly {T : PTb} {FI AI : OhI} (h : MTb T FI AI) : FI 1 0 24 = J T.S.weekly := h.toMSt.weekly
theorem MTb.hours {T : PTb} {FI AI : OhI} (h : MTb T FI AI) : ∀ o, o < T.S.nO → AI 107 0 o = J (T.S.op o).hours := h.toMSt.hours
theorem MTb.set {T : PTb} {FI AI : OhI} (h : MTb T FI AI) : ∀ o, o < T.S.nO → AI 108 0 o = J (T.S.op o).set := h.toMSt.set
theorem MTb.need {T : PTb} {FI AI : OhI} (h : MTb T FI AI) : ∀ o, o < T.S.nO → AI 109 0 o = J (T.S.op o).need := h.toMSt.need
theorem MTb.seats {T : PTb} {FI AI : OhI} (h : MTb T FI AI) : ∀ o g : Nat, o < T.S.nO → g < 4 → AI 110 0 (4 * (o : Int) + (g : Int)).toNat = J ((T.S.op o).seats g) := h.toMSt.seats
theorem MTb.nr {T : PTb} {FI AI : OhI} (h : MTb T FI AI) : ∀ o, o < T.S.nO → AI 111 0 o = J (T.S.op o).nr := h.toMSt.nr
theorem MTb.voice {T : PTb} {FI AI : OhI} (h : MTb T FI AI) : ∀ o r : Nat, o < T.S.nO → r < (T.S.op o).nr → AI 112 0 (8 * (o : Int) + (r : Int)).toNat = J ((T.S.op o).ro r).voice := h.toMSt.voice
theorem MTb.strain {T : PTb} {FI AI : OhI} (h : MTb T FI AI) : ∀ o r : Nat, o < T.S.nO → r < (T.S.op o).nr → AI 113 0 (8 * (o : Int) + (r : Int)).toNat = J ((T.S.op o).ro r).strain := h.toMSt.strain
theorem MTb.tongue {T : PTb} {FI AI : OhI} (h : MTb T FI AI) : ∀ o r : Nat, o < T.S.nO → r < (T.S.op o).nr → AI 114 0 (8 * (o : Int) + (r : Int)).toNat = J ((T.S.op o).ro r).tongue := h.toMSt.tongue
theorem MTb.size {T : PTb} {FI AI : OhI} (h : MTb T FI AI) : ∀ o r : Nat, o < T.S.nO → r < (T.S.op o).nr → AI 115 0 (8 * (o : Int) + (r : Int)).toNat = J ((T.S.op o).ro r).size := h.toMSt.size
theorem MTb.chorus {T : PTb} {FI AI : OhI} (h : MTb T FI AI) : ∀ o, o < T.S.nO → AI 116 0 o = bJ (T.S.op o).chorus := h.toMSt.chorus
theorem MTb.voices {T : PTb} {FI AI : OhI} (h : MTb T FI AI) : ∀ s, s < T.S.nS → AI 117 0 s = J (T.S.sg s).voices := h.toMSt.voices
theorem MTb.tongues {T : PTb} {FI AI : OhI} (h : MTb T FI AI) : ∀ s, s < T.S.nS → AI 118 0 s = J (T.S.sg s).tongues := h.toMSt.tongues
theorem MTb.sizeOf {T : PTb} {FI AI : OhI} (h : MTb T FI AI) : ∀ s, s < T.S.nS → AI 119 0 s = J (T.S.sg s).size := h.toMSt.sizeOf
theorem MTb.one {T : PTb} {FI AI : OhI} (h : MTb T FI AI) : ∀ g : Nat, g < 4 → AI 120 0 g = J (T.S.one g) := h.toMSt.one
theorem MTb.other {T : PTb} {FI AI : OhI} (h : MTb T FI AI) : ∀ g : Nat, g < 4 → AI 120 0 (4 + (g : Int)).toNat = J (T.S.other g) := h.toMSt.other
theorem MTb.rest {T : PTb} {FI AI : OhI} (h : MTb T FI AI) : ∀ s : Nat, s < T.S.nS → AI 125 0 (4 * (s : Int) + 0).toNat = J (T.S.ct s).rest := h.toMSt.rest
theorem MTb.day {T : PTb} {FI AI : OhI} (h : MTb T FI AI) : ∀ s : Nat, s < T.S.nS → AI 125 0 (4 * (s : Int) + 1).toNat = J (T.S.ct s).day := h.toMSt.day
theorem MTb.week {T : PTb} {FI AI : OhI} (h : MTb T FI AI) : ∀ s : Nat, s < T.S.nS → AI 125 0 (4 * (s : Int) + 2).toNat = J (T.S.ct s).week := h.toMSt.week
theorem MTb.voiceOf {T : PTb} {FI AI : OhI} (h : MTb T FI AI) : ∀ s : Nat, s < T.S.nS → AI 125 0 (4 * (s : Int) + 3).toNat = J (T.S.ct s).voice := h.toMSt.voiceOf
theorem MTb.nl {T : PTb} {FI AI : OhI} (h : MTb T FI AI) : ∀ s : Nat, s < T.S.nS → AI 126 0 s = J (T.S.ct s).nl := h.toMSt.nl
theorem MTb.lf {T : PTb} {FI AI : OhI} (h : MTb T FI AI) : ∀ s k : Nat, s < T.S.nS → k < (T.S.ct s).nl → AI 127 0 (6 * (s : Int) + (k : Int)).toNat = J ((T.S.ct s).lf k) := h.toMSt.lf
theorem MTb.lt {T : PTb} {FI AI : OhI} (h : MTb T FI AI) : ∀ s k : Nat, s < T.S.nS → k < (T.S.ct s).nl → AI 128 0 (6 * (s : Int) + (k : Int)).toNat = J ((T.S.ct s).lt k) := h.toMSt.lt
theorem MTb.nf {T : PTb} {FI AI : OhI} (h : MTb T FI AI) : ∀ s : Nat, s < T.S.nS → AI 129 0 s = J (T.S.ct s).nf := h.toMSt.nf
theorem MTb.much {T : PTb} {FI AI : OhI} (h : MTb T FI AI) : ∀ s k : Nat, s < T.S.nS → k < (T.S.ct s).nf → AI 130 0 (8 * (s : Int) + (k : Int)).toNat = J ((T.S.ct s).much k) := h.toMSt.much
theorem MTb.code {T : PTb} {FI AI : OhI} (h : MTb T FI AI) : ∀ s k : Nat, s < T.S.nS → k < (T.S.ct s).nf → ∃ (f : Nat) (L : List (Int × Int × Int)), f + L.length ≤ 100 ∧ AI 131 0 (8 * (s : Int) + (k : Int)).toNat = J f ∧ AI 132 0 (8 * (s : Int) + (k : Int)).toNat = J ((f : Int) + L.length) ∧ (match (T.S.ct s).cd k with | none => L = [] | some q => L = q.code) ∧ ∀ (i : Nat) (x : Int × Int × Int), L[i]? = some x → AI 133 0 (100 * (s : Int) + (f : Int) + (i : Int)).toNat = J x.1 ∧ AI 134 0 (100 * (s : Int) + (f : Int) + (i : Int)).toNat = J x.2.1 ∧ AI 135 0 (100 * (s : Int) + (f : Int) + (i : Int)).toNat = J x.2.2 := h.toMSt.code
theorem MTb.nL {T : PTb} {FI AI : OhI} (h : MTb T FI AI) : FI 1 0 67 = J T.S.nL := h.toMSt.nL
theorem MTb.nI {T : PTb} {FI AI : OhI} (h : MTb T FI AI) : FI 1 0 68 = J T.S.nI := h.toMSt.nI
theorem MTb.nP {T : PTb} {FI AI : OhI} (h : MTb T FI AI) : FI 1 0 69 = J T.S.nP := h.toMSt.nP
theorem MTb.nC {T : PTb} {FI AI : OhI} (h : MTb T FI AI) : FI 1 0 70 = J T.S.nC := h.toMSt.nC
theorem MTb.leS {T : PTb} {FI AI : OhI} (h : MTb T FI AI) : ∀ k, k < T.S.nL → AI 148 0 k = J (T.S.le k).s := h.toMSt.leS
theorem MTb.leR {T : PTb} {FI AI : OhI} (h : MTb T FI AI) : ∀ k, k < T.S.nL → AI 149 0 k = J (8 * ((T.S.le k).op : Int) + ((T.S.le k).role : Int)) := h.toMSt.leR
theorem MTb.leH {T : PTb} {FI AI : OhI} (h : MTb T FI AI) : ∀ k, k < T.S.nL → AI 150 0 k = J (T.S.le k).hours := h.toMSt.leH
theorem MTb.leD {T : PTb} {FI AI : OhI} (h : MTb T FI AI) : ∀ k, k < T.S.nL → AI 151 0 k = J (T.S.le k).day := h.toMSt.leD
theorem MTb.ilS {T : PTb} {FI AI : OhI} (h : MTb T FI AI) : ∀ k, k < T.S.nI → AI 152 0 k = J (T.S.il k).s := h.toMSt.ilS
theorem MTb.ilF {T : PTb} {FI AI : OhI} (h : MTb T FI AI) : ∀ k, k < T.S.nI → AI 153 0 k = J (T.S.il k).frm := h.toMSt.ilF
theorem MTb.ilT {T : PTb} {FI AI : OhI} (h : MTb T FI AI) : ∀ k, k < T.S.nI → AI 154 0 k = J (T.S.il k).til := h.toMSt.ilT
theorem MTb.ilD {T : PTb} {FI AI : OhI} (h : MTb T FI AI) : ∀ k, k < T.S.nI → AI 155 0 k = J (T.S.il k).day := h.toMSt.ilD
theorem MTb.ptC {T : PTb} {FI AI : OhI} (h : MTb T FI AI) : ∀ k, k < T.S.nP → AI 156 0 k = J (T.S.pt k).call := h.toMSt.ptC
theorem MTb.ptR {T : PTb} {FI AI : OhI} (h : MTb T FI AI) : ∀ k, k < T.S.nP → AI 157 0 k = J (T.S.pt k).role := h.toMSt.ptR
theorem MTb.ptW {T : PTb} {FI AI : OhI} (h : MTb T FI AI) : ∀ k, k < T.S.nP → AI 158 0 k = J (T.S.pt k).who := h.toMSt.ptW
theorem MTb.ptD {T : PTb} {FI AI : OhI} (h : MTb T FI AI) : ∀ k, k < T.S.nP → AI 159 0 k = J (T.S.pt k).day := h.toMSt.ptD
theorem MTb.ptV {T : PTb} {FI AI : OhI} (h : MTb T FI AI) : ∀ k, k < T.S.nP → AI 166 0 k = bJ (T.S.pt k).cover := h.toMSt.ptV
theorem MTb.cd {T : PTb} {FI AI : OhI} (h : MTb T FI AI) : ∀ c, c < T.all → AI 160 0 c = J (T.ca c).day := h.toMCa.cd
theorem MTb.cb {T : PTb} {FI AI : OhI} (h : MTb T FI AI) : ∀ c, c < T.all → AI 161 0 c = J (T.ca c).beg := h.toMCa.cb
theorem MTb.cf {T : PTb} {FI AI : OhI} (h : MTb T FI AI) : ∀ c, c < T.all → AI 162 0 c = J (T.ca c).fin := h.toMCa.cf
theorem MTb.ck {T : PTb} {FI AI : OhI} (h : MTb T FI AI) : ∀ c, c < T.all → AI 163 0 c = J (T.ca c).kind := h.toMCa.ck
theorem MTb.co {T : PTb} {FI AI : OhI} (h : MTb T FI AI) : ∀ c, c < T.all → AI 164 0 c = J (T.ca c).op := h.toMCa.co
theorem MTb.ch {T : PTb} {FI AI : OhI} (h : MTb T FI AI) : ∀ c, c < T.all → AI 165 0 c = J (T.ca c).halves := h.toMCa.ch
/-- the sites and fields that are read -/
def mStA : List Nat := [107, 108, 109, 110, 111, 112, 113, 114, 115, 116, 117, 118, 119, 120, 125, 126, 127, 128, 129, 130, 131, 132, 133, 134, 135, 148, 149, 150, 151, 152, 153, 154, 155, 156, 157, 158, 159, 166]
def mCaA : List Nat := [160, 161, 162, 163, 164, 165]
def mTbA : List Nat := [172, 173, 174, 175, 176, 177]
def mStF : List Nat := [21, 22, 23, 24, 67, 68, 69, 70]
theorem MSt.congr {S : PSt} {FI FI2 AI AI2 : OhI} (h : MSt S FI AI) (f : ∀ k ∈ mStF, FI2 1 0 k = FI 1 0 k) (a : ∀ s ∈ mStA, AI2 s 0 = AI s 0) : MSt S FI2 AI2 := MSt.mk (nO := by rw [f 21 (by decide)]; exact h.nO) (nS := by rw [f 22 (by decide)]; exact h.nS) (daily := by rw [f 23 (by decide)]; exact h.daily) (weekly := by rw [f 24 (by decide)]; exact h.weekly) (hours := by simp only [a 107 (by decide)]; exact h.hours) (set := by simp only [a 108 (by decide)]; exact h.set) (need := by simp only [a 109 (by decide)]; exact h.need) (seats := by simp only [a 110 (by decide)]; exact h.seats) (nr := by simp only [a 111 (by decide)]; exact h.nr) (voice := by simp only [a 112 (by decide)]; exact h.voice) (strain := by simp only [a 113 (by decide)]; exact h.strain) (tongue := by simp only [a 114 (by decide)]; exact h.tongue) (size := by simp only [a 115 (by decide)]; exact h.size) (chorus := by simp only [a 116 (by decide)]; exact h.chorus) (voices := by simp only [a 117 (by decide)]; exact h.voices) (tongues := by simp only [a 118 (by decide)]; exact h.tongues) (sizeOf := by simp only [a 119 (by decide)]; exact h.sizeOf) (one := by simp only [a 120 (by decide)]; exact h.one) (other := by simp only [a 120 (by decide)]; exact h.other) (rest := by simp only [a 125 (by decide)]; exact h.rest) (day := by simp only [a 125 (by decide)]; exact h.day) (week := by simp only [a 125 (by decide)]; exact h.week) (voiceOf := by simp only [a 125 (by decide)]; exact h.voiceOf) (nl := by simp only [a 126 (by decide)]; exact h.nl) (lf := by simp only [a 127 (by decide)]; exact h.lf) (lt := by simp only [a 128 (by decide)]; exact h.lt) (nf := by simp only [a 129 (by decide)]; exact h.nf) (much := by simp only [a 130 (by decide)]; exact h.much) (code := by simp only [a 131 (by decide), a 132 (by decide), a 133 (by decide), a 134 (by decide), a 135 (by decide)]; exact h.code) (nL := by rw [f 67 (by decide)]; exact h.nL) (nI := by rw [f 68 (by decide)]; exact h.nI) (nP := by rw [f 69 (by decide)]; exact h.nP) (nC := by rw [f 70 (by decide)]; exact h.nC) (leS := by simp only [a 148 (by decide)]; exact h.leS) (leR := by simp only [a 149 (by decide)]; exact h.leR) (leH := by simp only [a 150 (by decide)]; exact h.leH) (leD := by simp only [a 151 (by decide)]; exact h.leD) (ilS := by simp only [a 152 (by decide)]; exact h.ilS) (ilF := by simp only [a 153 (by decide)]; exact h.ilF) (ilT := by simp only [a 154 (by decide)]; exact h.ilT) (ilD := by simp only [a 155 (by decide)]; exact h.ilD) (ptC := by simp only [a 156 (by decide)]; exact h.ptC) (ptR := by simp only [a 157 (by decide)]; exact h.ptR) (ptW := by simp only [a 158 (by decide)]; exact h.ptW) (ptD := by simp only [a 159 (by decide)]; exact h.ptD) (ptV := by simp only [a 166 (by decide)]; exact h.ptV)
theorem MCa.congr {n : Nat} {ca : Nat → PCa} {AI AI2 : OhI} (h : MCa n ca AI) (a : ∀ s ∈ mCaA, AI2 s 0 = AI s 0) : MCa n ca AI2 := MCa.mk (cd := by simp only [a 160 (by decide)]; exact h.cd) (cb := by simp only [a 161 (by decide)]; exact h.cb) (cf := by simp only [a 162 (by decide)]; exact h.cf) (ck := by simp only [a 163 (by decide)]; exact h.ck) (co := by simp only [a 164 (by decide)]; exact h.co) (ch := by simp only [a 165 (by decide)]; exact h.ch)
theorem MTb.congr {T : PTb} {FI FI2 AI AI2 : OhI} (h : MTb T FI AI) (f : ∀ k ∈ mStF, FI2 1 0 k = FI 1 0 k) (f1 : FI2 1 0 71 = FI 1 0 71) (f2 : FI2 1 0 78 = FI 1 0 78) (a1 : ∀ s ∈ mStA, AI2 s 0 = AI s 0) (a2 : ∀ s ∈ mCaA, AI2 s 0 = AI s 0) (a : ∀ s ∈ mTbA, AI2 s 0 = AI s 0) : MTb T FI2 AI2 := MTb.mk (toMSt := h.toMSt.congr f a1) (toMCa := h.toMCa.congr a2) (all := by rw [f1]; exact h.all) (asOf := by rw [f2]; exact h.asOf) (cast := by simp only [a 172 (by decide)]; exact h.cast) (cover := by simp only [a 173 (by decide)]; exact h.cover) (ahead := by simp only [a 174 (by decide)]; exact h.ahead) (ord := by simp only [a 175 (by decide)]; exact h.ord) (pos := by simp only [a 176 (by decide)]; exact h.pos) (roster := by simp only [a 177 (by decide)]; exact h.roster)
/-- only these sites of arrays are written -/
def eqx (L : List Nat) (A B : OhI) : Prop := ∀ s, s ∉ L → B s = A s
theorem eqx_refl {L : List Nat} {A : OhI} : eqx L A A := fun _ _ => rfl
theorem eqx_trans {L : List Nat} {A B C : OhI} (h1 : eqx L A B) (h2 : eqx L B C) : eqx L A C := fun s hs => (h2 s hs).trans (h1 s hs)
theorem eqx_mono {L L2 : List Nat} {A B : OhI} (h : eqx L A B) (hs : ∀ s ∈ L, s ∈ L2) : eqx L2 A B := fun s q => h s (fun r => q (hs s r))
theorem eqx_sA {L : List Nat} {A : OhI} {s i : Nat} {f : Nat → Int32} (h : s ∈ L) : eqx L A (sA A s i f) := fun s' hs => sA_site A i f (fun e => hs (e ▸ h))
theorem MTb.eqx_ {T : PTb} {FI AI AI2 : OhI} {L : List Nat} (h : MTb T FI AI) (e : eqx L AI AI2) (hd : ∀ s ∈ L, s ∉ mStA ∧ s ∉ mCaA ∧ s ∉ mTbA) : MTb T FI AI2 :=
  h.congr (fun _ _ => rfl) rfl rfl (fun s hs => by rw [e s (fun q => (hd s q).1 hs)]) (fun s hs => by rw [e s (fun q => (hd s q).2.1 hs)]) (fun s hs => by rw [e s (fun q => (hd s q).2.2 hs)])
theorem MSt.eqx_ {S : PSt} {FI AI AI2 : OhI} {L : List Nat} (h : MSt S FI AI) (e : eqx L AI AI2) (hd : ∀ s ∈ L, s ∉ mStA) : MSt S FI AI2 :=
  h.congr (fun _ _ => rfl) (fun s hs => by rw [e s (fun q => hd s q hs)])
theorem MCa.eqx_ {n : Nat} {ca : Nat → PCa} {AI AI2 : OhI} {L : List Nat} (h : MCa n ca AI) (e : eqx L AI AI2) (hd : ∀ s ∈ L, s ∉ mCaA) : MCa n ca AI2 :=
  h.congr (fun s hs => by rw [e s (fun q => hd s q hs)])
section
variable {T : PTb} {FI AI : OhI} {n : Nat} {FR : OhQ} {AN : OhN}
theorem PTbOk.o (h : PTbOk T) {c : Nat} (hc : c < T.all) : POpOk (T.o c) := h.S.op _ (h.ca c hc).op
theorem PTbOk.b (h : PTbOk T) {c : Nat} (hc : c < T.all) : (T.ca c).op < T.S.nO ∧ (T.ca c).op < 9 ∧ 1 ≤ T.nr c ∧ T.nr c ≤ 8 ∧ (0 ≤ (T.ca c).day ∧ (T.ca c).day ≤ 29) ∧ (0 ≤ (T.ca c).kind ∧ (T.ca c).kind ≤ 3) ∧ (0 ≤ (T.ca c).halves ∧ (T.ca c).halves ≤ 3) ∧ 24 * (T.ca c).day ≤ (T.ca c).beg ∧ (T.ca c).beg + 2 ≤ (T.ca c).fin ∧ (T.ca c).fin ≤ (T.ca c).beg + 6 ∧ (T.ca c).fin ≤ 24 * (T.ca c).day + 24 ∧ T.pos c < T.all := by
  have a := h.ca c hc
  have b := (h.o hc).hours
  have hn := h.S.nO
  have h1 := a.op; have h2 := (h.o hc).nr; have h3 := a.day; have h4 := a.kind; have h5 := a.halves; have h6 := a.beg; have h7 := a.fin24; have h8 := h.pos c hc
  have h9 := a.fin
  have h10 : (T.o c).hours = (T.S.op (T.ca c).op).hours := rfl
  have h11 : T.nr c = (T.o c).nr := rfl
  refine ⟨h1, by omega, by omega, by omega, h3, h4, h5, h6, ?_, ?_, h7, h8⟩ <;> (by_cases q0 : (T.ca c).kind = 0 <;> by_cases q1 : (T.ca c).kind = 1 <;> simp only [q0, q1, if_true, if_false] at h9 <;> omega)
theorem MTb.nrT (h : MTb T FI AI) (hT : PTbOk T) : ∀ c, c < T.all → AI 111 0 (T.ca c).op = J (T.nr c) := fun c hc => h.nr _ (hT.b hc).1
theorem q4_isIn {a b c : Int} (h1 : -2147483648 ≤ a) (h2 : a < 2147483648) (h3 : -2147483648 ≤ b) (h4 : b < 2147483648) (h5 : -2147483648 ≤ c) (h6 : c < 2147483648) : mX4_isIn (J a) (J b) (J c) = some (bJ (decide (b ≤ a ∧ a ≤ c))) := by
  unfold mX4_isIn
  (simp (disch := omega) only [J_lit, J_add, J_sub, J_mul, J_neg, J_n, jle, jlt, jeq, jnn, jnat, Int.toNat_natCast, bJ_0, bJ_1, bft, gd_T, nar_J, nar_0, nar_1, if_true, if_false, Option.bind_some, gd_t])
  by_cases h1 : a < b
  · rw [if_pos h1]; simp [show ¬ b ≤ a by omega]; rfl
  · rw [if_neg h1]
    by_cases h2 : c < a
    · rw [if_pos h2]; simp [show ¬ a ≤ c by omega]; rfl
    · rw [if_neg h2]; simp [show b ≤ a by omega, show a ≤ c by omega]; rfl
end
end
