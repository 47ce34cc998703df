noncomputable section
set_option linter.unusedVariables false
set_option linter.unusedSimpArgs false
/-! PLAIN 25: the twin: harm; who comes instead; what it is between the calls of the law -/
def MInv (S : PSt) (FI AI : OhI) : Prop :=
  (MCore S FI AI) ∧
  (FI 1 0 2 = J (S.taped : Int)) ∧
  (∀ k, k < 340 → AI 101 0 k = J (S.tape k)) ∧
  (FI 1 0 6 = S.stamp) ∧
  (FI 1 0 44 = J S.fault) ∧
  (FI 1 0 89 = J (S.nF : Int)) ∧
  (∀ k, k < S.nF → AI 190 0 k = J (S.fk k)) ∧
  (∀ k, k < S.nF → AI 191 0 k = J (S.fc k : Int)) ∧
  (∀ k, k < S.nF → AI 192 0 k = J (S.fr k)) ∧
  (FI 1 0 98 = J (S.laidN : Int)) ∧
  (∀ k, k < S.laidN → AI 195 0 k = J (S.laidDay k)) ∧
  (∀ k, k < S.laidN → AI 196 0 k = J (S.laidOp k : Int)) ∧
  (0 < S.laidN → FI 1 0 99 = J S.laidHour) ∧
  (0 < S.laidN → FI 1 0 100 = S.laidStamp)
theorem MInv.mk {S : PSt} {FI AI : OhI}
    (toMCore : MCore S FI AI)
    (taped : FI 1 0 2 = J (S.taped : Int))
    (tape : ∀ k, k < 340 → AI 101 0 k = J (S.tape k))
    (stamp : FI 1 0 6 = S.stamp)
    (fault : FI 1 0 44 = J S.fault)
    (nF : FI 1 0 89 = J (S.nF : Int))
    (fk : ∀ k, k < S.nF → AI 190 0 k = J (S.fk k))
    (fc : ∀ k, k < S.nF → AI 191 0 k = J (S.fc k : Int))
    (fr : ∀ k, k < S.nF → AI 192 0 k = J (S.fr k))
    (laidN : FI 1 0 98 = J (S.laidN : Int))
    (laidDay : ∀ k, k < S.laidN → AI 195 0 k = J (S.laidDay k))
    (laidOp : ∀ k, k < S.laidN → AI 196 0 k = J (S.laidOp k : Int))
    (laidHour : 0 < S.laidN → FI 1 0 99 = J S.laidHour)
    (laidStamp : 0 < S.laidN → FI 1 0 100 = S.laidStamp) :
    MInv S FI AI := ⟨toMCore, taped, tape, stamp, fault, nF, fk, fc, fr, laidN, laidDay, laidOp, laidHour, laidStamp⟩
theorem MInv.toMCore {S : PSt} {FI AI : OhI} (h : MInv S FI AI) : MCore S FI AI := h.1
theorem MInv.taped {S : PSt} {FI AI : OhI} (h : MInv S FI AI) : FI 1 0 2 = J (S.taped : Int) := h.2.1
theorem MInv.tape {S : PSt} {FI AI : OhI} (h : MInv S FI AI) : ∀ k, k < 340 → AI 101 0 k = J (S.tape k) := h.2.2.1
theorem MInv.stamp {S : PSt} {FI AI : OhI} (h : MInv S FI AI) : FI 1 0 6 = S.stamp := h.2.2.2.1
theorem MInv.fault {S : PSt} {FI AI : OhI} (h : MInv S FI AI) : FI 1 0 44 = J S.fault := h.2.2.2.2.1
theorem MInv.nF {S : PSt} {FI AI : OhI} (h : MInv S FI AI) : FI 1 0 89 = J (S.nF : Int) := h.2.2.2.2.2.1
theorem MInv.fk {S : PSt} {FI AI : OhI} (h : MInv S FI AI) : ∀ k, k < S.nF → AI 190 0 k = J (S.fk k) := h.2.2.2.2.2.2.1
theorem MInv.fc {S : PSt} {FI AI : OhI} (h : MInv S FI AI) : ∀ k, k < S.nF → AI 191 0 k = J (S.fc k : Int) := h.2.2.2.2.2.2.2.1
theorem MInv.fr {S : PSt} {FI AI : OhI} (h : MInv S FI AI) : ∀ k, k < S.nF → AI 192 0 k = J (S.fr k) := h.2.2.2.2.2.2.2.2.1
theorem MInv.laidN {S : PSt} {FI AI : OhI} (h : MInv S FI AI) : FI 1 0 98 = J (S.laidN : Int) := h.2.2.2.2.2.2.2.2.2.1
theorem MInv.laidDay {S : PSt} {FI AI : OhI} (h : MInv S FI AI) : ∀ k, k < S.laidN → AI 195 0 k = J (S.laidDay k) := h.2.2.2.2.2.2.2.2.2.2.1
theorem MInv.laidOp {S : PSt} {FI AI : OhI} (h : MInv S FI AI) : ∀ k, k < S.laidN → AI 196 0 k = J (S.laidOp k : Int) := h.2.2.2.2.2.2.2.2.2.2.2.1
theorem MInv.laidHour {S : PSt} {FI AI : OhI} (h : MInv S FI AI) : 0 < S.laidN → FI 1 0 99 = J S.laidHour := h.2.2.2.2.2.2.2.2.2.2.2.2.1
theorem MInv.laidStamp {S : PSt} {FI AI : OhI} (h : MInv S FI AI) : 0 < S.laidN → FI 1 0 100 = S.laidStamp := h.2.2.2.2.2.2.2.2.2.2.2.2.2
theorem MInv.toMSt {S : PSt} {FI AI : OhI} (h : MInv S FI AI) : MSt S FI AI := h.toMCore.toMSt
theorem MInv.nO {S : PSt} {FI AI : OhI} (h : MInv S FI AI) : FI 1 0 21 = J S.nO := h.toMSt.nO
theorem MInv.nS {S : PSt} {FI AI : OhI} (h : MInv S FI AI) : FI 1 0 22 = J S.nS := h.toMSt.nS
theorem MInv.daily {S : PSt} {FI AI : OhI} (h : MInv S FI AI) : FI 1 0 23 = J S.daily := h.toMSt.daily
theorem MInv.weekly {S : PSt} {FI AI : OhI} (h : MInv S FI AI) : FI 1 0 24 = J S.weekly := h.toMSt.weekly
theorem MInv.hours {S : PSt} {FI AI : OhI} (h : MInv S FI AI) : ∀ o, o < S.nO → AI 107 0 o = J (S.op o).hours := h.toMSt.hours
theorem MInv.set {S : PSt} {FI AI : OhI} (h : MInv S FI AI) : ∀ o, o < S.nO → AI 108 0 o = J (S.op o).set := h.toMSt.set
theorem MInv.need {S : PSt} {FI AI : OhI} (h : MInv S FI AI) : ∀ o, o < S.nO → AI 109 0 o = J (S.op o).need := h.toMSt.need
theorem MInv.seats {S : PSt} {FI AI : OhI} (h : MInv S FI AI) : ∀ o g : Nat, o < S.nO → g < 4 → AI 110 0 (4 * (o : Int) + (g : Int)).toNat = J ((S.op o).seats g) := h.toMSt.seats
theorem MInv.nr {S : PSt} {FI AI : OhI} (h : MInv S FI AI) : ∀ o, o < S.nO → AI 111 0 o = J (S.op o).nr := h.toMSt.nr
theorem MInv.voice {S : PSt} {FI AI : OhI} (h : MInv S FI AI) : ∀ o r : Nat, o < S.nO → r < (S.op o).nr → AI 112 0 (8 * (o : Int) + (r : Int)).toNat = J ((S.op o).ro r).voice := h.toMSt.voice
theorem MInv.strain {S : PSt} {FI AI : OhI} (h : MInv S FI AI) : ∀ o r : Nat, o < S.nO → r < (S.op o).nr → AI 113 0 (8 * (o : Int) + (r : Int)).toNat = J ((S.op o).ro r).strain := h.toMSt.strain
theorem MInv.tongue {S : PSt} {FI AI : OhI} (h : MInv S FI AI) : ∀ o r : Nat, o < S.nO → r < (S.op o).nr → AI 114 0 (8 * (o : Int) + (r : Int)).toNat = J ((S.op o).ro r).tongue := h.toMSt.tongue
theorem MInv.size {S : PSt} {FI AI : OhI} (h : MInv S FI AI) : ∀ o r : Nat, o < S.nO → r < (S.op o).nr → AI 115 0 (8 * (o : Int) + (r : Int)).toNat = J ((S.op o).ro r).size := h.toMSt.size
theorem MInv.chorus {S : PSt} {FI AI : OhI} (h : MInv S FI AI) : ∀ o, o < S.nO → AI 116 0 o = bJ (S.op o).chorus := h.toMSt.chorus
theorem MInv.voices {S : PSt} {FI AI : OhI} (h : MInv S FI AI) : ∀ s, s < S.nS → AI 117 0 s = J (S.sg s).voices := h.toMSt.voices
theorem MInv.tongues {S : PSt} {FI AI : OhI} (h : MInv S FI AI) : ∀ s, s < S.nS → AI 118 0 s = J (S.sg s).tongues := h.toMSt.tongues
theorem MInv.sizeOf {S : PSt} {FI AI : OhI} (h : MInv S FI AI) : ∀ s, s < S.nS → AI 119 0 s = J (S.sg s).size := h.toMSt.sizeOf
theorem MInv.one {S : PSt} {FI AI : OhI} (h : MInv S FI AI) : ∀ g : Nat, g < 4 → AI 120 0 g = J (S.one g) := h.toMSt.one
theorem MInv.other {S : PSt} {FI AI : OhI} (h : MInv S FI AI) : ∀ g : Nat, g < 4 → AI 120 0 (4 + (g : Int)).toNat = J (S.other g) := h.toMSt.other
theorem MInv.rest {S : PSt} {FI AI : OhI} (h : MInv S FI AI) : ∀ s : Nat, s < S.nS → AI 125 0 (4 * (s : Int) + 0).toNat = J (S.ct s).rest := h.toMSt.rest
theorem MInv.day {S : PSt} {FI AI : OhI} (h : MInv S FI AI) : ∀ s : Nat, s < S.nS → AI 125 0 (4 * (s : Int) + 1).toNat = J (S.ct s).day := h.toMSt.day
theorem MInv.week {S : PSt} {FI AI : OhI} (h : MInv S FI AI) : ∀ s : Nat, s < S.nS → AI 125 0 (4 * (s : Int) + 2).toNat = J (S.ct s).week := h.toMSt.week
theorem MInv.voiceOf {S : PSt} {FI AI : OhI} (h : MInv S FI AI) : ∀ s : Nat, s < S.nS → AI 125 0 (4 * (s : Int) + 3).toNat = J (S.ct s).voice := h.toMSt.voiceOf
theorem MInv.nl {S : PSt} {FI AI : OhI} (h : MInv S FI AI) : ∀ s : Nat, s < S.nS → AI 126 0 s = J (S.ct s).nl := h.toMSt.nl
theorem MInv.lf {S : PSt} {FI AI : OhI} (h : MInv S FI AI) : ∀ s k : Nat, s < S.nS → k < (S.ct s).nl → AI 127 0 (6 * (s : Int) + (k : Int)).toNat = J ((S.ct s).lf k) := h.toMSt.lf
theorem MInv.lt {S : PSt} {FI AI : OhI} (h : MInv S FI AI) : ∀ s k : Nat, s < S.nS → k < (S.ct s).nl → AI 128 0 (6 * (s : Int) + (k : Int)).toNat = J ((S.ct s).lt k) := h.toMSt.lt
theorem MInv.nf {S : PSt} {FI AI : OhI} (h : MInv S FI AI) : ∀ s : Nat, s < S.nS → AI 129 0 s = J (S.ct s).nf := h.toMSt.nf
theorem MInv.much {S : PSt} {FI AI : OhI} (h : MInv S FI AI) : ∀ s k : Nat, s < S.nS → k < (S.ct s).nf → AI 130 0 (8 * (s : Int) + (k : Int)).toNat = J ((S.ct s).much k) := h.toMSt.much
theorem MInv.code {S : PSt} {FI AI : OhI} (h : MInv S FI AI) : ∀ s k : Nat, s < S.nS → k < (S.ct s).nf → ∃ (f : Nat) (L : List (Int × Int × Int)), f + L.length ≤ 100 ∧ AI 131 0 (8 * (s : Int) + (k : Int)).toNat = J f ∧ AI 132 0 (8 * (s : Int) + (k : Int)).toNat = J ((f : Int) + L.length) ∧ (match (S.ct s).cd k with | none => L = [] | some q => L = q.code) ∧ ∀ (i : Nat) (x : Int × Int × Int), L[i]? = some x → AI 133 0 (100 * (s : Int) + (f : Int) + (i : Int)).toNat = J x.1 ∧ AI 134 0 (100 * (s : Int) + (f : Int) + (i : Int)).toNat = J x.2.1 ∧ AI 135 0 (100 * (s : Int) + (f : Int) + (i : Int)).toNat = J x.2.2 := h.toMSt.code
theorem MInv.nL {S : PSt} {FI AI : OhI} (h : MInv S FI AI) : FI 1 0 67 = J S.nL := h.toMSt.nL
theorem MInv.nI {S : PSt} {FI AI : OhI} (h : MInv S FI AI) : FI 1 0 68 = J S.nI := h.toMSt.nI
theorem MInv.nP {S : PSt} {FI AI : OhI} (h : MInv S FI AI) : FI 1 0 69 = J S.nP := h.toMSt.nP
theorem MInv.nC {S : PSt} {FI AI : OhI} (h : MInv S FI AI) : FI 1 0 70 = J S.nC := h.toMSt.nC
theorem MInv.leS {S : PSt} {FI AI : OhI} (h : MInv S FI AI) : ∀ k, k < S.nL → AI 148 0 k = J (S.le k).s := h.toMSt.leS
theorem MInv.leR {S : PSt} {FI AI : OhI} (h : MInv S FI AI) : ∀ k, k < S.nL → AI 149 0 k = J (8 * ((S.le k).op : Int) + ((S.le k).role : Int)) := h.toMSt.leR
theorem MInv.leH {S : PSt} {FI AI : OhI} (h : MInv S FI AI) : ∀ k, k < S.nL → AI 150 0 k = J (S.le k).hours := h.toMSt.leH
theorem MInv.leD {S : PSt} {FI AI : OhI} (h : MInv S FI AI) : ∀ k, k < S.nL → AI 151 0 k = J (S.le k).day := h.toMSt.leD
theorem MInv.ilS {S : PSt} {FI AI : OhI} (h : MInv S FI AI) : ∀ k, k < S.nI → AI 152 0 k = J (S.il k).s := h.toMSt.ilS
theorem MInv.ilF {S : PSt} {FI AI : OhI} (h : MInv S FI AI) : ∀ k, k < S.nI → AI 153 0 k = J (S.il k).frm := h.toMSt.ilF
theorem MInv.ilT {S : PSt} {FI AI : OhI} (h : MInv S FI AI) : ∀ k, k < S.nI → AI 154 0 k = J (S.il k).til := h.toMSt.ilT
theorem MInv.ilD {S : PSt} {FI AI : OhI} (h : MInv S FI AI) : ∀ k, k < S.nI → AI 155 0 k = J (S.il k).day := h.toMSt.ilD
theorem MInv.ptC {S : PSt} {FI AI : OhI} (h : MInv S FI AI) : ∀ k, k < S.nP → AI 156 0 k = J (S.pt k).call := h.toMSt.ptC
theorem MInv.ptR {S : PSt} {FI AI : OhI} (h : MInv S FI AI) : ∀ k, k < S.nP → AI 157 0 k = J (S.pt k).role := h.toMSt.ptR
theorem MInv.ptW {S : PSt} {FI AI : OhI} (h : MInv S FI AI) : ∀ k, k < S.nP → AI 158 0 k = J (S.pt k).who := h.toMSt.ptW
theorem MInv.ptD {S : PSt} {FI AI : OhI} (h : MInv S FI AI) : ∀ k, k < S.nP → AI 159 0 k = J (S.pt k).day := h.toMSt.ptD
theorem MInv.ptV {S : PSt} {FI AI : OhI} (h : MInv S FI AI) : ∀ k, k < S.nP → AI 166 0 k = bJ (S.pt k).cover := h.toMSt.ptV
theorem MInv.toMCa {S : PSt} {FI AI : OhI} (h : MInv S FI AI) : MCa S.nC S.ca AI := h.toMCore.toMCa
theorem MInv.cd {S : PSt} {FI AI : OhI} (h : MInv S FI AI) : ∀ c, c < S.nC → AI 160 0 c = J (S.ca c).day := h.toMCa.cd
theorem MInv.cb {S : PSt} {FI AI : OhI} (h : MInv S FI AI) : ∀ c, c < S.nC → AI 161 0 c = J (S.ca c).beg := h.toMCa.cb
theorem MInv.cf {S : PSt} {FI AI : OhI} (h : MInv S FI AI) : ∀ c, c < S.nC → AI 162 0 c = J (S.ca c).fin := h.toMCa.cf
theorem MInv.ck {S : PSt} {FI AI : OhI} (h : MInv S FI AI) : ∀ c, c < S.nC → AI 163 0 c = J (S.ca c).kind := h.toMCa.ck
theorem MInv.co {S : PSt} {FI AI : OhI} (h : MInv S FI AI) : ∀ c, c < S.nC → AI 164 0 c = J (S.ca c).op := h.toMCa.co
theorem MInv.ch {S : PSt} {FI AI : OhI} (h : MInv S FI AI) : ∀ c, c < S.nC → AI 165 0 c = J (S.ca c).halves := h.toMCa.ch
theorem MInv.today {S : PSt} {FI AI : OhI} (h : MInv S FI AI) : FI 1 0 5 = J S.today := h.toMCore.today
def mInF : List Nat := [2, 5, 6, 44, 89, 98, 99, 100]
def mInA : List Nat := [101, 190, 191, 192, 195, 196]
theorem MInv.congr {S : PSt} {FI FI2 AI AI2 : OhI} (h : MInv S FI AI) (f : ∀ k, k ∈ mStF ∨ k ∈ mInF → FI2 1 0 k = FI 1 0 k) (a : ∀ s, s ∈ mStA ∨ s ∈ mCaA ∨ s ∈ mInA → AI2 s 0 = AI s 0) : MInv S FI2 AI2 := MInv.mk (toMCore := MCore.mk (toMSt := h.toMSt.congr (fun k hk => f k (.inl hk)) (fun s hs => a s (.inl hs))) (toMCa := h.toMCa.congr (fun s hs => a s (.inr (.inl hs)))) (today := by rw [f 5 (by decide)]; exact h.today)) (taped := by rw [f 2 (by decide)]; exact h.taped) (tape := by rw [a 101 (by decide)]; exact h.tape) (stamp := by rw [f 6 (by decide)]; exact h.stamp) (fault := by rw [f 44 (by decide)]; exact h.fault) (nF := by rw [f 89 (by decide)]; exact h.nF) (fk := by rw [a 190 (by decide)]; exact h.fk) (fc := by rw [a 191 (by decide)]; exact h.fc) (fr := by rw [a 192 (by decide)]; exact h.fr) (laidN := by rw [f 98 (by decide)]; exact h.laidN) (laidDay := by rw [a 195 (by decide)]; exact h.laidDay) (laidOp := by rw [a 196 (by decide)]; exact h.laidOp) (laidHour := by rw [f 99 (by decide)]; exact h.laidHour) (laidStamp := by rw [f 100 (by decide)]; exact h.laidStamp)
/-- what a call of the twin leaves alone -/
def MFr (FI FI2 AI AI2 : OhI) : Prop :=
  (∀ s i, ¬ (s = 1 ∧ i = 0) → FI2 s i = FI s i) ∧
  (∀ s, ¬ (100 ≤ s ∧ s < 200) → AI2 s = AI s)
theorem MFr.mk {FI FI2 AI AI2 : OhI}
    (f : ∀ s i, ¬ (s = 1 ∧ i = 0) → FI2 s i = FI s i)
    (a : ∀ s, ¬ (100 ≤ s ∧ s < 200) → AI2 s = AI s) :
    MFr FI FI2 AI AI2 := ⟨f, a⟩
theorem MFr.f {FI FI2 AI AI2 : OhI} (h : MFr FI FI2 AI AI2) : ∀ s i, ¬ (s = 1 ∧ i = 0) → FI2 s i = FI s i := h.1
theorem MFr.a {FI FI2 AI AI2 : OhI} (h : MFr FI FI2 AI AI2) : ∀ s, ¬ (100 ≤ s ∧ s < 200) → AI2 s = AI s := h.2
theorem MFr.refl {FI AI : OhI} : MFr FI FI AI AI := ⟨fun _ _ _ => rfl, fun _ _ => rfl⟩
theorem MFr.trans {FI FI2 FI3 AI AI2 AI3 : OhI} (h : MFr FI FI2 AI AI2) (h2 : MFr FI2 FI3 AI2 AI3) : MFr FI FI3 AI AI3 := ⟨fun s i q => (h2.f s i q).trans (h.f s i q), fun s q => (h2.a s q).trans (h.a s q)⟩
theorem MFr.set {FI AI : OhI} (w : Nat → Int32) : MFr FI (sA FI 1 0 w) AI AI := ⟨fun s i q => sA_ne _ _ q, fun _ _ => rfl⟩
theorem MFr.arr {FI AI AI2 : OhI} {L : List Nat} (x : eqx L AI AI2) (hL : ∀ s ∈ L, 100 ≤ s ∧ s < 200) : MFr FI FI AI AI2 := ⟨fun _ _ _ => rfl, fun s q => x s (fun h => q (hL s h))⟩
/-- the scalar thrown is 0 -/
def th0 (FI : OhI) : OhI := sA FI 1 0 (uA (FI 1 0) 0 (J 0))
theorem th0_ne (FI : OhI) {k : Nat} (h : k ≠ 0) : th0 FI 1 0 k = FI 1 0 k := by unfold th0; rw [sA_same, uA_ne _ _ h]
theorem MInv.th0_ {S : PSt} {FI AI : OhI} (h : MInv S FI AI) : MInv S (th0 FI) AI := h.congr (fun k hk => th0_ne _ (by rintro rfl; revert hk; decide)) (fun _ _ => rfl)
/-- a query: scratch alone is written -/
theorem MInv.q {S : PSt} {FI AI AI2 : OhI} (h : MInv S FI AI) {L : List Nat} (x : eqx L AI AI2) (hL : ∀ s ∈ L, ¬ (s ∈ mStA ∨ s ∈ mCaA ∨ s ∈ mInA)) : MInv S FI AI2 := h.congr (fun _ _ => rfl) (fun s hs => by rw [x s (fun q => hL s q hs)])
theorem MInv.ldF_ {S : PSt} {FI AI : OhI} (h : MInv S FI AI) (t : Int) (k : Nat) : MInv S (ldF FI t k) AI := h.congr (fun j hj => ldF_ne _ _ _ (by rintro rfl; revert hj; decide) (by rintro rfl; revert hj; decide)) (fun _ _ => rfl)
theorem MInv.f88_ {S : PSt} {FI AI : OhI} (h : MInv S FI AI) (v : Int32) : MInv S (f88 FI v) AI := h.congr (fun j hj => f88_ne _ _ (by rintro rfl; revert hj; decide)) (fun _ _ => rfl)
section
variable {S : PSt} {FI AI : OhI} {n : Nat} {FR : OhQ} {AN : OhN}
theorem earns_b {T : PTb} (hT : PTbOk T) {s c : Nat} (hs : s < T.S.nS) : 0 ≤ T.fee s c ∧ T.fee s c ≤ 799992 := by
  have hf := (hT.S.ct s hs).nf
  unfold PTb.fee
  split
  · omega
  · unfold PTb.earns
    refine ⟨sumN_nn fun k hk => ?_, Int.le_trans (sumN_le (B := 99999) fun k hk => ?_) (by omega)⟩
    · have := (hT.S.ct s hs).much k hk
      split <;> omega
    · have := (hT.S.ct s hs).much k hk
      split <;> omega
theorem q4_harmOf (hS : PStOk S) (h : MCore S FI AI) (hn : 10000 ≤ n) {s c r : Nat} (hs : s < S.nS) (hc : c < S.nC) (hr : r < (tbl S S.today).nr c) :
    ∃ A, mX4_harmOf n FI FR AI AN (J s) (J c) (J r) = some (J ((tbl S S.today).harm s c r), ldF FI S.today S.nC, A) ∧ eqx [172, 173, 174, 175, 176, 177, 179] AI A := by
  have ht := hS.today
  have hT : PTbOk (tbl S S.today) := tbl_ok hS ⟨by omega, by omega⟩
  obtain ⟨A1, e1, x1, h1⟩ := q4_load' (n := n) (FR := FR) (AN := AN) hS h hn (t := S.today) ⟨by omega, by omega⟩
  have hc' : c < (tbl S S.today).all := hc
  have hs' : s < (tbl S S.today).S.nS := hs
  have hb := hT.b hc'
  have h66 := hT.all
  have hSn := hS.nS
  have hSn2 := hT.S.nS
  have eis := q4_isIn2 (FR := FR) (AN := AN) h1 hT (s := s) (c := c) (by omega) hc'
  generalize hTT : tbl S S.today = T at *
  cases hi : T.isCast s c with
  | true =>
    rw [hi] at eis
    refine ⟨A1, wp_eq ?_, eqx_mono x1 (by decide)⟩
    unfold mX4_harmOf
    ((repeat' (first | ((with_reducible apply wp_let); try dsimp only) | ((with_reducible apply wp_gdJ); (focus (first | ((simp (disch := omega) only [J_lit, J_add, J_sub, J_mul, J_neg, J_n, jle, jlt, jeq, jnn, jnat, Int.toNat_natCast, bJ_0, bJ_1, bft, gd_T, nar_J, nar_0, nar_1, if_true, if_false, Option.bind_some, gd_t, h.today, e1, eis, bJ_t]); rfl) | rfl)); (focus (first | exact True.intro | (first | exact vp_J (by omega) (by omega) (by omega) | omega)))) | ((with_reducible apply wp_ifJT); (focus (first | ((simp (disch := omega) only [J_lit, J_add, J_sub, J_mul, J_neg, J_n, jle, jlt, jeq, jnn, jnat, Int.toNat_natCast, bJ_0, bJ_1, bft, gd_T, nar_J, nar_0, nar_1, if_true, if_false, Option.bind_some, gd_t, h.today, e1, eis, bJ_t]); rfl) | rfl)); (focus (first | exact True.intro | omega))) | ((with_reducible apply wp_ifJF); (focus (first | ((simp (disch := omega) only [J_lit, J_add, J_sub, J_mul, J_neg, J_n, jle, jlt, jeq, jnn, jnat, Int.toNat_natCast, bJ_0, bJ_1, bft, gd_T, nar_J, nar_0, nar_1, if_true, if_false, Option.bind_some, gd_t, h.today, e1, eis, bJ_t]); rfl) | rfl)); (focus (first | exact not_false | omega))) | ((with_reducible apply wp_ifJ); (focus (first | ((simp (disch := omega) only [J_lit, J_add, J_sub, J_mul, J_neg, J_n, jle, jlt, jeq, jnn, jnat, Int.toNat_natCast, bJ_0, bJ_1, bft, gd_T, nar_J, nar_0, nar_1, if_true, if_false, Option.bind_some, gd_t, h.today, e1, eis, bJ_t]); rfl) | rfl)); all_goals intro _) | (with_reducible apply wp_some) | ((with_reducible apply wp_eli); try dsimp only) | ((with_reducible apply wp_elr); try dsimp only) | ((with_reducible apply wp_bindE); (focus ((simp (disch := omega) only [J_lit, J_add, J_sub, J_mul, J_neg, J_n, jle, jlt, jeq, jnn, jnat, Int.toNat_natCast, bJ_0, bJ_1, bft, gd_T, nar_J, nar_0, nar_1, if_true, if_false, Option.bind_some, gd_t, h.today, e1, eis, bJ_t]); rfl)); try dsimp only) | (with_reducible apply wp_bind))); all_goals (try (simp (disch := omega) only [J_lit, J_add, J_sub, J_mul, J_neg, J_n, jle, jlt, jeq, jnn, jnat, Int.toNat_natCast, bJ_0, bJ_1, bft, gd_T, nar_J, nar_0, nar_1, if_true, if_false, Option.bind_some, gd_t, h.today, e1, eis, bJ_t])))
    unfold PTb.harm
    rw [if_pos hi]
  | false =>
    rw [hi] at eis
    obtain ⟨A2, e2, x2, h2⟩ := q4_put (n := n) (FR := FR) (AN := AN) h1 hT hn (r := r) hs' hc' (by omega)
    have hT2 := give_ok hT (c := c) (r := r) (s := (s : Int)) ⟨by omega, by omega⟩ hc' (by omega)
    obtain ⟨A3, x3, e3⟩ := q4_feeOf (n := n) (FR := FR) (AN := AN) h2 hT2 hn hs' hc'
    have fb := earns_b hT2 (s := s) (c := c) hs'
    have ecov := h1.cover c r hc' (by omega)
    have bcov := hT.cover c r hc' (by omega)
    have eneed : A1 109 0 (T.ca c).op = J (T.o c).need := h1.need _ hb.1
    have elr := q4_learnedOf (n := n) (FR := FR) (AN := AN) h1 hT hn (s := s) (c := c) (r := r) (by omega) hc' hr
    have lb := learned_b hT s (T.ca c).op r (T.ca c).beg
    have nb := (hT.o hc').need
    have zb := (hT.S.sg s hs').size
    have rb := (hT.o hc').size r hr
    have esz := h1.sizeOf s hs'
    have ers : A1 115 0 (8 * ((T.ca c).op : Int) + (r : Int)).toNat = J ((T.o c).ro r).size := h1.size _ r hb.1 hr
    have ed : J ((T.give c r s).fee s c) / J 100 = J ((T.give c r s).fee s c / 100) := by
      rw [J_div ⟨by omega, by omega⟩ ⟨by omega, by omega⟩]
      rw [Int.tdiv_eq_ediv_of_nonneg fb.1]
    refine ⟨A3, wp_eq ?_, eqx_trans (eqx_mono x1 (by decide)) (eqx_trans (eqx_mono x2 (by decide)) (eqx_mono x3 (by decide)))⟩
    unfold mX4_harmOf mX4_harmOf_j40 mX4_harmOf_j79 mX4_apart
    have eh : ∀ z : Int, (ldF FI S.today S.nC, A3) = (ldF FI S.today S.nC, A3) := fun _ => rfl
    unfold PTb.harm PTb.harmOf
    rw [if_neg (by simp [hi])]
    ((repeat' (first | ((with_reducible apply wp_let); try dsimp only) | ((with_reducible apply wp_gdJ); (focus (first | ((simp (disch := omega) only [J_lit, J_add, J_sub, J_mul, J_neg, J_n, jle, jlt, jeq, jnn, jnat, Int.toNat_natCast, bJ_0, bJ_1, bft, gd_T, nar_J, nar_0, nar_1, if_true, if_false, Option.bind_some, gd_t, h.today, e1, eis, bJ_f, ecov, h1.co, eneed, elr, esz, ers, e2, e3, ed]); rfl) | rfl)); (focus (first | exact True.intro | (first | exact vp_J (by omega) (by omega) (by omega) | omega)))) | ((with_reducible apply wp_ifJT); (focus (first | ((simp (disch := omega) only [J_lit, J_add, J_sub, J_mul, J_neg, J_n, jle, jlt, jeq, jnn, jnat, Int.toNat_natCast, bJ_0, bJ_1, bft, gd_T, nar_J, nar_0, nar_1, if_true, if_false, Option.bind_some, gd_t, h.today, e1, eis, bJ_f, ecov, h1.co, eneed, elr, esz, ers, e2, e3, ed]); rfl) | rfl)); (focus (first | exact True.intro | omega))) | ((with_reducible apply wp_ifJF); (focus (first | ((simp (disch := omega) only [J_lit, J_add, J_sub, J_mul, J_neg, J_n, jle, jlt, jeq, jnn, jnat, Int.toNat_natCast, bJ_0, bJ_1, bft, gd_T, nar_J, nar_0, nar_1, if_true, if_false, Option.bind_some, gd_t, h.today, e1, eis, bJ_f, ecov, h1.co, eneed, elr, esz, ers, e2, e3, ed]); rfl) | rfl)); (focus (first | exact not_false | omega))) | ((with_reducible apply wp_ifJ); (focus (first | ((simp (disch := omega) only [J_lit, J_add, J_sub, J_mul, J_neg, J_n, jle, jlt, jeq, jnn, jnat, Int.toNat_natCast, bJ_0, bJ_1, bft, gd_T, nar_J, nar_0, nar_1, if_true, if_false, Option.bind_some, gd_t, h.today, e1, eis, bJ_f, ecov, h1.co, eneed, elr, esz, ers, e2, e3, ed]); rfl) | rfl)); all_goals intro _) | (with_reducible apply wp_some) | ((with_reducible apply wp_eli); try dsimp only) | ((with_reducible apply wp_elr); try dsimp only) | ((with_reducible apply wp_bindE); (focus ((simp (disch := omega) only [J_lit, J_add, J_sub, J_mul, J_neg, J_n, jle, jlt, jeq, jnn, jnat, Int.toNat_natCast, bJ_0, bJ_1, bft, gd_T, nar_J, nar_0, nar_1, if_true, if_false, Option.bind_some, gd_t, h.today, e1, eis, bJ_f, ecov, h1.co, eneed, elr, esz, ers, e2, e3, ed]); rfl)); try dsimp only) | (with_reducible apply wp_bind))); all_goals (try (simp (disch := omega) only [J_lit, J_add, J_sub, J_mul, J_neg, J_n, jle, jlt, jeq, jnn, jnat, Int.toNat_natCast, bJ_0, bJ_1, bft, gd_T, nar_J, nar_0, nar_1, if_true, if_false, Option.bind_some, gd_t, h.today, e1, eis, bJ_f, ecov, h1.co, eneed, elr, esz, ers, e2, e3, ed])))
    all_goals (simp only [Prod.mk.injEq, and_true]; exact congrArg J (by (repeat' split) <;> omega))
theorem harm_b {T : PTb} (hT : PTbOk T) {s c r : Nat} (hs : s < T.S.nS) (hc : c < T.all) (hr : r < T.nr c) : -1 ≤ T.harm s c r ∧ T.harm s c r ≤ 20000 := by
  have hb := hT.b hc
  have h2 := give_ok hT (c := c) (r := r) (s := (s : Int)) ⟨by omega, by omega⟩ hc (by omega)
  have fb := earns_b h2 (s := s) (c := c) hs
  have lb := learned_b hT s (T.ca c).op r (T.ca c).beg
  have nb := (hT.o hc).need
  have zb := (hT.S.sg s hs).size
  have rb := (hT.o hc).size r hr
  unfold PTb.harm PTb.harmOf
  (repeat' split) <;> omega
theorem MCore.q {AI2 : OhI} {L : List Nat} (h : MCore S FI AI) (x : eqx L AI AI2) (hL : ∀ s ∈ L, s ∉ mStA ∧ s ∉ mCaA) : MCore S FI AI2 := ⟨h.toMSt.eqx_ x fun s hs => (hL s hs).1, h.toMCa.eqx_ x fun s hs => (hL s hs).2, h.today⟩
theorem best_b {T : PTb} (hT : PTbOk T) {c r : Nat} (hc : c < T.all) (hr : r < T.nr c) : ∀ k, k ≤ T.S.nS → -1 ≤ (T.best c r k).1 ∧ (T.best c r k).1 < 20 ∧ -1 ≤ (T.best c r k).2 ∧ (T.best c r k).2 ≤ 20000
  | 0, _ => by simp [PTb.best]
  | k + 1, hk => by
    have ih := best_b hT hc hr k (by omega)
    have hh := harm_b hT (s := k) (by omega) hc hr
    have := hT.S.nS
    simp only [PTb.best]
    split
    · simp only []; omega
    · exact ih
theorem q4_instead1 (hS : PStOk S) (h : MCore S FI AI) (hn : 10000 ≤ n) {c r : Nat} (hc : c < S.nC) (hr : r < (tbl S S.today).nr c) :
    ∃ k A, lpF (fun v : Int32 × Int32 × Int32 × OhI × OhI => mX4_instead_b24 n v.2.2.2.1 FR v.2.2.2.2 AN (J c) (J r) v.1 v.2.1 v.2.2.1) n (J (-1), J 0, J 0, FI, AI) = some (J ((tbl S S.today).best c r S.nS).1, k, A) ∧ (k = FI ∨ k = ldF FI S.today S.nC) ∧ eqx [172, 173, 174, 175, 176, 177, 179, 187] AI A := by
  have ht := hS.today
  have hSn := hS.nS
  have hT : PTbOk (tbl S S.today) := tbl_ok hS ⟨by omega, by omega⟩
  have key : wp (lpF (fun v : Int32 × Int32 × Int32 × OhI × OhI => mX4_instead_b24 n v.2.2.2.1 FR v.2.2.2.2 AN (J c) (J r) v.1 v.2.1 v.2.2.1) n (J (-1), J 0, J 0, FI, AI)) (fun z => ∃ k A, z = (J ((tbl S S.today).best c r S.nS).1, k, A) ∧ (k = FI ∨ k = ldF FI S.today S.nC) ∧ eqx [172, 173, 174, 175, 176, 177, 179, 187] AI A) := by
    refine wp_for S.nS (fun m a => ∃ k A, a = (J ((tbl S S.today).best c r m).1, J ((tbl S S.today).best c r m).2, J m, k, A) ∧ (k = FI ∨ k = ldF FI S.today S.nC) ∧ eqx [172, 173, 174, 175, 176, 177, 179, 187] AI A) ?_ (k0 := 0) ⟨FI, AI, rfl, .inl rfl, eqx_refl⟩ (by omega) (by omega)
    rintro m a hm ⟨k, A, rfl, hk, x⟩
    have hK : MCore S k A := by
      rcases hk with rfl | rfl
      · exact h.q x (by decide)
      · exact h.ldF_ _ _ x (by decide)
    have hk2 : ldF k S.today S.nC = ldF FI S.today S.nC := by rcases hk with rfl | rfl; rfl; exact ldF_ldF _ _ _ _ _
    have bb := best_b hT (c := c) (r := r) hc hr m hm
    dsimp only
    unfold mX4_instead_b24
    by_cases e : m = S.nS
    · subst e
      ((repeat' (first | ((with_reducible apply wp_let); try dsimp only) | ((with_reducible apply wp_gdJ); (focus (first | ((simp (disch := omega) only [J_lit, J_add, J_sub, J_mul, J_neg, J_n, jle, jlt, jeq, jnn, jnat, Int.toNat_natCast, bJ_0, bJ_1, bft, gd_T, nar_J, nar_0, nar_1, if_true, if_false, Option.bind_some, gd_t, hK.nS]); rfl) | rfl)); (focus (first | exact True.intro | (first | exact vp_J (by omega) (by omega) (by omega) | omega)))) | ((with_reducible apply wp_ifJT); (focus (first | ((simp (disch := omega) only [J_lit, J_add, J_sub, J_mul, J_neg, J_n, jle, jlt, jeq, jnn, jnat, Int.toNat_natCast, bJ_0, bJ_1, bft, gd_T, nar_J, nar_0, nar_1, if_true, if_false, Option.bind_some, gd_t, hK.nS]); rfl) | rfl)); (focus (first | exact True.intro | omega))) | ((with_reducible apply wp_ifJF); (focus (first | ((simp (disch := omega) only [J_lit, J_add, J_sub, J_mul, J_neg, J_n, jle, jlt, jeq, jnn, jnat, Int.toNat_natCast, bJ_0, bJ_1, bft, gd_T, nar_J, nar_0, nar_1, if_true, if_false, Option.bind_some, gd_t, hK.nS]); rfl) | rfl)); (focus (first | exact not_false | omega))) | ((with_reducible apply wp_ifJ); (focus (first | ((simp (disch := omega) only [J_lit, J_add, J_sub, J_mul, J_neg, J_n, jle, jlt, jeq, jnn, jnat, Int.toNat_natCast, bJ_0, bJ_1, bft, gd_T, nar_J, nar_0, nar_1, if_true, if_false, Option.bind_some, gd_t, hK.nS]); rfl) | rfl)); all_goals intro _) | (with_reducible apply wp_some) | ((with_reducible apply wp_eli); try dsimp only) | ((with_reducible apply wp_elr); try dsimp only) | ((with_reducible apply wp_bindE); (focus ((simp (disch := omega) only [J_lit, J_add, J_sub, J_mul, J_neg, J_n, jle, jlt, jeq, jnn, jnat, Int.toNat_natCast, bJ_0, bJ_1, bft, gd_T, nar_J, nar_0, nar_1, if_true, if_false, Option.bind_some, gd_t, hK.nS]); rfl)); try dsimp only) | (with_reducible apply wp_bind))); all_goals (try (simp (disch := omega) only [J_lit, J_add, J_sub, J_mul, J_neg, J_n, jle, jlt, jeq, jnn, jnat, Int.toNat_natCast, bJ_0, bJ_1, bft, gd_T, nar_J, nar_0, nar_1, if_true, if_false, Option.bind_some, gd_t, hK.nS])))
      exact ⟨k, A, rfl, hk, x⟩
    · obtain ⟨A1, e1, x1⟩ := q4_mayHave (n := n) (FR := FR) (AN := AN) hS hK hn (s := m) (by omega) hc hr
      have hK1 : MCore S (ldF k S.today S.nC) A1 := hK.ldF_ _ _ x1 (by decide)
      obtain ⟨A2, e2, x2⟩ := q4_harmOf (n := n) (FR := FR) (AN := AN) hS hK1 hn (s := m) (by omega) hc hr
      rw [ldF_ldF] at e2
      have hb2 := harm_b hT (s := m) (c := c) (r := r) (by show m < S.nS; omega) hc hr
      have eb : (tbl S S.today).best c r (m + 1) = if (tbl S S.today).mayHave m c r = true ∧ (((tbl S S.today).best c r m).1 < 0 ∨ (tbl S S.today).harm m c r < ((tbl S S.today).best c r m).2) then ((m : Int), (tbl S S.today).harm m c r) else (tbl S S.today).best c r m := rfl
      rw [hk2] at e1 e2
      ((repeat' (first | ((with_reducible apply wp_let); try dsimp only) | ((with_reducible apply wp_gdJ); (focus (first | ((simp (disch := omega) only [J_lit, J_add, J_sub, J_mul, J_neg, J_n, jle, jlt, jeq, jnn, jnat, Int.toNat_natCast, bJ_0, bJ_1, bft, gd_T, nar_J, nar_0, nar_1, if_true, if_false, Option.bind_some, gd_t, hK.nS, e1, e2]); rfl) | rfl)); (focus (first | exact True.intro | (first | exact vp_J (by omega) (by omega) (by omega) | omega)))) | ((with_reducible apply wp_ifJT); (focus (first | ((simp (disch := omega) only [J_lit, J_add, J_sub, J_mul, J_neg, J_n, jle, jlt, jeq, jnn, jnat, Int.toNat_natCast, bJ_0, bJ_1, bft, gd_T, nar_J, nar_0, nar_1, if_true, if_false, Option.bind_some, gd_t, hK.nS, e1, e2]); rfl) | rfl)); (focus (first | exact True.intro | omega))) | ((with_reducible apply wp_ifJF); (focus (first | ((simp (disch := omega) only [J_lit, J_add, J_sub, J_mul, J_neg, J_n, jle, jlt, jeq, jnn, jnat, Int.toNat_natCast, bJ_0, bJ_1, bft, gd_T, nar_J, nar_0, nar_1, if_true, if_false, Option.bind_some, gd_t, hK.nS, e1, e2]); rfl) | rfl)); (focus (first | exact not_false | omega))) | ((with_reducible apply wp_ifJ); (focus (first | ((simp (disch := omega) only [J_lit, J_add, J_sub, J_mul, J_neg, J_n, jle, jlt, jeq, jnn, jnat, Int.toNat_natCast, bJ_0, bJ_1, bft, gd_T, nar_J, nar_0, nar_1, if_true, if_false, Option.bind_some, gd_t, hK.nS, e1, e2]); rfl) | rfl)); all_goals intro _) | (with_reducible apply wp_some) | ((with_reducible apply wp_eli); try dsimp only) | ((with_reducible apply wp_elr); try dsimp only) | ((with_reducible apply wp_bindE); (focus ((simp (disch := omega) only [J_lit, J_add, J_sub, J_mul, J_neg, J_n, jle, jlt, jeq, jnn, jnat, Int.toNat_natCast, bJ_0, bJ_1, bft, gd_T, nar_J, nar_0, nar_1, if_true, if_false, Option.bind_some, gd_t, hK.nS, e1, e2]); rfl)); try dsimp only) | (with_reducible apply wp_bind))); all_goals (try (simp (disch := omega) only [J_lit, J_add, J_sub, J_mul, J_neg, J_n, jle, jlt, jeq, jnn, jnat, Int.toNat_natCast, bJ_0, bJ_1, bft, gd_T, nar_J, nar_0, nar_1, if_true, if_false, Option.bind_some, gd_t, hK.nS, e1, e2])))
      all_goals (rw [eb])
      · rename_i q
        rw [if_neg (by simp [q])]
        exact ⟨by omega, _, A1, rfl, .inr rfl, eqx_trans x (eqx_mono x1 (by decide))⟩
      · rename_i q1 q2
        rw [if_pos ⟨by simpa using q1, .inl q2⟩]
        exact ⟨by omega, _, A2, rfl, .inr rfl, eqx_trans x (eqx_trans (eqx_mono x1 (by decide)) (eqx_mono x2 (by decide)))⟩
      · rename_i q1 q2 q3
        rw [if_pos ⟨by simpa using q1, .inr q3⟩]
        exact ⟨by omega, _, A2, rfl, .inr rfl, eqx_trans x (eqx_trans (eqx_mono x1 (by decide)) (eqx_mono x2 (by decide)))⟩
      · rename_i q1 q2 q3
        rw [if_neg (by rintro ⟨_, q | q⟩ <;> omega)]
        exact ⟨by omega, _, A2, rfl, .inr rfl, eqx_trans x (eqx_trans (eqx_mono x1 (by decide)) (eqx_mono x2 (by decide)))⟩
  obtain ⟨z, e, k, A, rfl, hk, x⟩ := key
  exact ⟨k, A, e, hk, x⟩
end
end
