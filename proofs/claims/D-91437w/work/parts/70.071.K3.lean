noncomputable section
set_option linter.unusedVariables false
set_option linter.unusedSimpArgs false
/-! PLAIN 66: the house between two calls of the law -/
def laidCa (S : PSt) (k : Nat) : PCa := PCa.mk (S.laidDay k) (24 * S.laidDay k + S.laidHour) (24 * S.laidDay k + S.laidHour + (S.op (S.laidOp k)).hours) 3 (S.laidOp k) 3
/-- stamps so far; nights laid -/
def PStR (r : Nat) (S : PSt) : Prop :=
  (∃ p q : Nat, S.stamp = J (p : Int) ∧ S.laidStamp = J (q : Int) ∧ q ≤ p ∧ p ≤ r) ∧
  (S.laidN ≤ 6) ∧
  (∀ k, k < S.laidN → S.laidOp k < S.nO ∧ 0 ≤ S.laidDay k ∧ S.laidDay k ≤ 29 ∧ S.laidHour + (S.op (S.laidOp k)).hours ≤ 24) ∧
  (S.laidN ≠ 0 → 0 ≤ S.laidHour) ∧
  (S.nF ≤ 5148) ∧
  (∀ k, k < S.nF → 0 ≤ S.fk k ∧ S.fk k ≤ 15 ∧ S.fc k < 66 ∧ -1 ≤ S.fr k ∧ S.fr k ≤ 7) ∧
  (S.laidStamp = S.stamp → S.nC + S.laidN ≤ 60)
theorem PStR.mk {r : Nat} {S : PSt}
    (st : ∃ p q : Nat, S.stamp = J (p : Int) ∧ S.laidStamp = J (q : Int) ∧ q ≤ p ∧ p ≤ r)
    (laidN : S.laidN ≤ 6)
    (laid : ∀ k, k < S.laidN → S.laidOp k < S.nO ∧ 0 ≤ S.laidDay k ∧ S.laidDay k ≤ 29 ∧ S.laidHour + (S.op (S.laidOp k)).hours ≤ 24)
    (hour : S.laidN ≠ 0 → 0 ≤ S.laidHour)
    (nF : S.nF ≤ 5148)
    (nt : ∀ k, k < S.nF → 0 ≤ S.fk k ∧ S.fk k ≤ 15 ∧ S.fc k < 66 ∧ -1 ≤ S.fr k ∧ S.fr k ≤ 7)
    (room : S.laidStamp = S.stamp → S.nC + S.laidN ≤ 60) :
    PStR r S := ⟨st, laidN, laid, hour, nF, nt, room⟩
theorem PStR.st {r : Nat} {S : PSt} (h : PStR r S) : ∃ p q : Nat, S.stamp = J (p : Int) ∧ S.laidStamp = J (q : Int) ∧ q ≤ p ∧ p ≤ r := h.1
theorem PStR.laidN {r : Nat} {S : PSt} (h : PStR r S) : S.laidN ≤ 6 := h.2.1
theorem PStR.laid {r : Nat} {S : PSt} (h : PStR r S) : ∀ k, k < S.laidN → S.laidOp k < S.nO ∧ 0 ≤ S.laidDay k ∧ S.laidDay k ≤ 29 ∧ S.laidHour + (S.op (S.laidOp k)).hours ≤ 24 := h.2.2.1
theorem PStR.hour {r : Nat} {S : PSt} (h : PStR r S) : S.laidN ≠ 0 → 0 ≤ S.laidHour := h.2.2.2.1
theorem PStR.nF {r : Nat} {S : PSt} (h : PStR r S) : S.nF ≤ 5148 := h.2.2.2.2.1
theorem PStR.nt {r : Nat} {S : PSt} (h : PStR r S) : ∀ k, k < S.nF → 0 ≤ S.fk k ∧ S.fk k ≤ 15 ∧ S.fc k < 66 ∧ -1 ≤ S.fr k ∧ S.fr k ≤ 7 := h.2.2.2.2.2.1
theorem PStR.room {r : Nat} {S : PSt} (h : PStR r S) : S.laidStamp = S.stamp → S.nC + S.laidN ≤ 60 := h.2.2.2.2.2.2
def HInv (S : PSt) (Z : PZ) (FI : OhI) (FR GR : OhQ) (AI : OhI) (AR BR : OhQ) (AN : OhN) (C : OhC) : Prop :=
  (HQ S Z FI FR GR AI BR AN) ∧
  (HWf C FR GR BR AN) ∧
  (ohShH FR AR AN) ∧
  (FI 0 0 1 = J (S.taped : Int)) ∧
  (∀ k, k < 340 → AI 300 0 k = J (S.tape k)) ∧
  (FI 0 0 2 = J S.fault) ∧
  (FI 0 0 6 = S.stamp) ∧
  (∃ a, GR 0 0 26 = some a ∧ (a.1 = 20 ∨ a.1 = 326) ∧ AN a.1 a.2 = S.nF ∧ ∀ k, k < S.nF → AI a.1 a.2 k = J ((S.fk k * 100 + S.fc k) * 10 + (if S.fr k = -1 then 8 else S.fr k))) ∧
  (FI 0 0 35 = J (S.laidN : Int)) ∧
  (∃ (f : Nat → Rf) (m : Nat), (∀ k, k < S.laidN → BR 329 0 k = some (f k) ∧ HCl (laidCa S k) (m + k) (f k) Z FI FR) ∧ (S.laidN ≠ 0 → S.laidStamp = S.stamp → m = S.nC)) ∧
  (S.laidN ≠ 0 → FI 0 0 36 = S.laidStamp)
theorem HInv.mk {S : PSt} {Z : PZ} {FI : OhI} {FR GR : OhQ} {AI : OhI} {AR BR : OhQ} {AN : OhN} {C : OhC}
    (toHQ : HQ S Z FI FR GR AI BR AN)
    (wf : HWf C FR GR BR AN)
    (sh : ohShH FR AR AN)
    (taped : FI 0 0 1 = J (S.taped : Int))
    (tape : ∀ k, k < 340 → AI 300 0 k = J (S.tape k))
    (fault : FI 0 0 2 = J S.fault)
    (stamp : FI 0 0 6 = S.stamp)
    (found : ∃ a, GR 0 0 26 = some a ∧ (a.1 = 20 ∨ a.1 = 326) ∧ AN a.1 a.2 = S.nF ∧ ∀ k, k < S.nF → AI a.1 a.2 k = J ((S.fk k * 100 + S.fc k) * 10 + (if S.fr k = -1 then 8 else S.fr k)))
    (laidN : FI 0 0 35 = J (S.laidN : Int))
    (laid : ∃ (f : Nat → Rf) (m : Nat), (∀ k, k < S.laidN → BR 329 0 k = some (f k) ∧ HCl (laidCa S k) (m + k) (f k) Z FI FR) ∧ (S.laidN ≠ 0 → S.laidStamp = S.stamp → m = S.nC))
    (laidStamp : S.laidN ≠ 0 → FI 0 0 36 = S.laidStamp) :
    HInv S Z FI FR GR AI AR BR AN C := ⟨toHQ, wf, sh, taped, tape, fault, stamp, found, laidN, laid, laidStamp⟩
theorem HInv.toHQ {S : PSt} {Z : PZ} {FI : OhI} {FR GR : OhQ} {AI : OhI} {AR BR : OhQ} {AN : OhN} {C : OhC} (h : HInv S Z FI FR GR AI AR BR AN C) : HQ S Z FI FR GR AI BR AN := h.1
theorem HInv.wf {S : PSt} {Z : PZ} {FI : OhI} {FR GR : OhQ} {AI : OhI} {AR BR : OhQ} {AN : OhN} {C : OhC} (h : HInv S Z FI FR GR AI AR BR AN C) : HWf C FR GR BR AN := h.2.1
theorem HInv.sh {S : PSt} {Z : PZ} {FI : OhI} {FR GR : OhQ} {AI : OhI} {AR BR : OhQ} {AN : OhN} {C : OhC} (h : HInv S Z FI FR GR AI AR BR AN C) : ohShH FR AR AN := h.2.2.1
theorem HInv.taped {S : PSt} {Z : PZ} {FI : OhI} {FR GR : OhQ} {AI : OhI} {AR BR : OhQ} {AN : OhN} {C : OhC} (h : HInv S Z FI FR GR AI AR BR AN C) : FI 0 0 1 = J (S.taped : Int) := h.2.2.2.1
theorem HInv.tape {S : PSt} {Z : PZ} {FI : OhI} {FR GR : OhQ} {AI : OhI} {AR BR : OhQ} {AN : OhN} {C : OhC} (h : HInv S Z FI FR GR AI AR BR AN C) : ∀ k, k < 340 → AI 300 0 k = J (S.tape k) := h.2.2.2.2.1
theorem HInv.fault {S : PSt} {Z : PZ} {FI : OhI} {FR GR : OhQ} {AI : OhI} {AR BR : OhQ} {AN : OhN} {C : OhC} (h : HInv S Z FI FR GR AI AR BR AN C) : FI 0 0 2 = J S.fault := h.2.2.2.2.2.1
theorem HInv.stamp {S : PSt} {Z : PZ} {FI : OhI} {FR GR : OhQ} {AI : OhI} {AR BR : OhQ} {AN : OhN} {C : OhC} (h : HInv S Z FI FR GR AI AR BR AN C) : FI 0 0 6 = S.stamp := h.2.2.2.2.2.2.1
theorem HInv.found {S : PSt} {Z : PZ} {FI : OhI} {FR GR : OhQ} {AI : OhI} {AR BR : OhQ} {AN : OhN} {C : OhC} (h : HInv S Z FI FR GR AI AR BR AN C) : ∃ a, GR 0 0 26 = some a ∧ (a.1 = 20 ∨ a.1 = 326) ∧ AN a.1 a.2 = S.nF ∧ ∀ k, k < S.nF → AI a.1 a.2 k = J ((S.fk k * 100 + S.fc k) * 10 + (if S.fr k = -1 then 8 else S.fr k)) := h.2.2.2.2.2.2.2.1
theorem HInv.laidN {S : PSt} {Z : PZ} {FI : OhI} {FR GR : OhQ} {AI : OhI} {AR BR : OhQ} {AN : OhN} {C : OhC} (h : HInv S Z FI FR GR AI AR BR AN C) : FI 0 0 35 = J (S.laidN : Int) := h.2.2.2.2.2.2.2.2.1
theorem HInv.laid {S : PSt} {Z : PZ} {FI : OhI} {FR GR : OhQ} {AI : OhI} {AR BR : OhQ} {AN : OhN} {C : OhC} (h : HInv S Z FI FR GR AI AR BR AN C) : ∃ (f : Nat → Rf) (m : Nat), (∀ k, k < S.laidN → BR 329 0 k = some (f k) ∧ HCl (laidCa S k) (m + k) (f k) Z FI FR) ∧ (S.laidN ≠ 0 → S.laidStamp = S.stamp → m = S.nC) := h.2.2.2.2.2.2.2.2.2.1
theorem HInv.laidStamp {S : PSt} {Z : PZ} {FI : OhI} {FR GR : OhQ} {AI : OhI} {AR BR : OhQ} {AN : OhN} {C : OhC} (h : HInv S Z FI FR GR AI AR BR AN C) : S.laidN ≠ 0 → FI 0 0 36 = S.laidStamp := h.2.2.2.2.2.2.2.2.2.2
theorem HInv.toHCore {S : PSt} {Z : PZ} {FI : OhI} {FR GR : OhQ} {AI : OhI} {AR BR : OhQ} {AN : OhN} {C : OhC} (h : HInv S Z FI FR GR AI AR BR AN C) : HCore S Z FI FR GR AI BR AN := h.toHQ.toHCore
theorem HInv.toHSt {S : PSt} {Z : PZ} {FI : OhI} {FR GR : OhQ} {AI : OhI} {AR BR : OhQ} {AN : OhN} {C : OhC} (h : HInv S Z FI FR GR AI AR BR AN C) : HSt S Z FI FR GR AI BR AN := h.toHCore.toHSt
theorem HInv.daily {S : PSt} {Z : PZ} {FI : OhI} {FR GR : OhQ} {AI : OhI} {AR BR : OhQ} {AN : OhN} {C : OhC} (h : HInv S Z FI FR GR AI AR BR AN C) : FI 0 0 4 = J S.daily := h.toHSt.daily
theorem HInv.weekly {S : PSt} {Z : PZ} {FI : OhI} {FR GR : OhQ} {AI : OhI} {AR BR : OhQ} {AN : OhN} {C : OhC} (h : HInv S Z FI FR GR AI AR BR AN C) : FI 0 0 5 = J S.weekly := h.toHSt.weekly
theorem HInv.today {S : PSt} {Z : PZ} {FI : OhI} {FR GR : OhQ} {AI : OhI} {AR BR : OhQ} {AN : OhN} {C : OhC} (h : HInv S Z FI FR GR AI AR BR AN C) : FI 0 0 3 = J S.today := h.toHSt.today
theorem HInv.one {S : PSt} {Z : PZ} {FI : OhI} {FR GR : OhQ} {AI : OhI} {AR BR : OhQ} {AN : OhN} {C : OhC} (h : HInv S Z FI FR GR AI AR BR AN C) : ∀ g, g < 4 → AI 307 0 g = J (S.one g) := h.toHSt.one
theorem HInv.other {S : PSt} {Z : PZ} {FI : OhI} {FR GR : OhQ} {AI : OhI} {AR BR : OhQ} {AN : OhN} {C : OhC} (h : HInv S Z FI FR GR AI AR BR AN C) : ∀ g, g < 4 → AI 308 0 g = J (S.other g) := h.toHSt.other
theorem HInv.opL {S : PSt} {Z : PZ} {FI : OhI} {FR GR : OhQ} {AI : OhI} {AR BR : OhQ} {AN : OhN} {C : OhC} (h : HInv S Z FI FR GR AI AR BR AN C) : hLs FI GR BR AN (309, 0) S.nO Z.o := h.toHSt.opL
theorem HInv.op {S : PSt} {Z : PZ} {FI : OhI} {FR GR : OhQ} {AI : OhI} {AR BR : OhQ} {AN : OhN} {C : OhC} (h : HInv S Z FI FR GR AI AR BR AN C) : ∀ o, o < S.nO → HOp (S.op o) o (Z.o o) FI FR GR AI BR AN := h.toHSt.op
theorem HInv.sgL {S : PSt} {Z : PZ} {FI : OhI} {FR GR : OhQ} {AI : OhI} {AR BR : OhQ} {AN : OhN} {C : OhC} (h : HInv S Z FI FR GR AI AR BR AN C) : hLs FI GR BR AN (310, 0) S.nS Z.s := h.toHSt.sgL
theorem HInv.sg {S : PSt} {Z : PZ} {FI : OhI} {FR GR : OhQ} {AI : OhI} {AR BR : OhQ} {AN : OhN} {C : OhC} (h : HInv S Z FI FR GR AI AR BR AN C) : ∀ s, s < S.nS → HSg (S.sg s) (S.ct s) s (Z.s s) FI FR GR BR AN := h.toHSt.sg
theorem HInv.caL {S : PSt} {Z : PZ} {FI : OhI} {FR GR : OhQ} {AI : OhI} {AR BR : OhQ} {AN : OhN} {C : OhC} (h : HInv S Z FI FR GR AI AR BR AN C) : hLs FI GR BR AN (311, 0) S.nC Z.c := h.toHSt.caL
theorem HInv.ptL {S : PSt} {Z : PZ} {FI : OhI} {FR GR : OhQ} {AI : OhI} {AR BR : OhQ} {AN : OhN} {C : OhC} (h : HInv S Z FI FR GR AI AR BR AN C) : hLs FI GR BR AN (312, 0) S.nP Z.p := h.toHSt.ptL
theorem HInv.pt {S : PSt} {Z : PZ} {FI : OhI} {FR GR : OhQ} {AI : OhI} {AR BR : OhQ} {AN : OhN} {C : OhC} (h : HInv S Z FI FR GR AI AR BR AN C) : ∀ k, k < S.nP → ohKd (Z.p k).1 = 15 ∧ FI (Z.p k).1 (Z.p k).2 0 = J ((S.pt k).call : Int) ∧ FI (Z.p k).1 (Z.p k).2 1 = J ((S.pt k).role : Int) ∧ FI (Z.p k).1 (Z.p k).2 2 = J (S.pt k).who ∧ FI (Z.p k).1 (Z.p k).2 3 = J (S.pt k).day ∧ FI (Z.p k).1 (Z.p k).2 4 = bJ (S.pt k).cover := h.toHSt.pt
theorem HInv.ilL {S : PSt} {Z : PZ} {FI : OhI} {FR GR : OhQ} {AI : OhI} {AR BR : OhQ} {AN : OhN} {C : OhC} (h : HInv S Z FI FR GR AI AR BR AN C) : hLs FI GR BR AN (313, 0) S.nI Z.i := h.toHSt.ilL
theorem HInv.il {S : PSt} {Z : PZ} {FI : OhI} {FR GR : OhQ} {AI : OhI} {AR BR : OhQ} {AN : OhN} {C : OhC} (h : HInv S Z FI FR GR AI AR BR AN C) : ∀ k, k < S.nI → ohKd (Z.i k).1 = 16 ∧ FI (Z.i k).1 (Z.i k).2 0 = J ((S.il k).s : Int) ∧ FI (Z.i k).1 (Z.i k).2 1 = J (S.il k).frm ∧ FI (Z.i k).1 (Z.i k).2 2 = J (S.il k).til ∧ FI (Z.i k).1 (Z.i k).2 3 = J (S.il k).day := h.toHSt.il
theorem HInv.leL {S : PSt} {Z : PZ} {FI : OhI} {FR GR : OhQ} {AI : OhI} {AR BR : OhQ} {AN : OhN} {C : OhC} (h : HInv S Z FI FR GR AI AR BR AN C) : hLs FI GR BR AN (314, 0) S.nL Z.l := h.toHSt.leL
theorem HInv.le {S : PSt} {Z : PZ} {FI : OhI} {FR GR : OhQ} {AI : OhI} {AR BR : OhQ} {AN : OhN} {C : OhC} (h : HInv S Z FI FR GR AI AR BR AN C) : ∀ k, k < S.nL → ohKd (Z.l k).1 = 13 ∧ FI (Z.l k).1 (Z.l k).2 0 = J ((S.le k).s : Int) ∧ FI (Z.l k).1 (Z.l k).2 1 = J ((S.le k).op : Int) ∧ FI (Z.l k).1 (Z.l k).2 2 = J ((S.le k).role : Int) ∧ FI (Z.l k).1 (Z.l k).2 3 = J (S.le k).hours ∧ FI (Z.l k).1 (Z.l k).2 4 = J (S.le k).day := h.toHSt.le
theorem HInv.oinj {S : PSt} {Z : PZ} {FI : OhI} {FR GR : OhQ} {AI : OhI} {AR BR : OhQ} {AN : OhN} {C : OhC} (h : HInv S Z FI FR GR AI AR BR AN C) : ∀ i j, i < S.nO → j < S.nO → Z.o i = Z.o j → i = j := h.toHSt.oinj
theorem HInv.cls {S : PSt} {Z : PZ} {FI : OhI} {FR GR : OhQ} {AI : OhI} {AR BR : OhQ} {AN : OhN} {C : OhC} (h : HInv S Z FI FR GR AI AR BR AN C) : ∀ c, c < S.nC → HCl (S.ca c) c (Z.c c) Z FI FR := h.toHCore.cls
theorem HInv.cij {S : PSt} {Z : PZ} {FI : OhI} {FR GR : OhQ} {AI : OhI} {AR BR : OhQ} {AN : OhN} {C : OhC} (h : HInv S Z FI FR GR AI AR BR AN C) : ∀ i j, i < S.nC → j < S.nC → Z.c i = Z.c j → i = j := h.toHCore.cij
theorem HInv.wg {S : PSt} {Z : PZ} {FI : OhI} {FR GR : OhQ} {AI : OhI} {AR BR : OhQ} {AN : OhN} {C : OhC} (h : HInv S Z FI FR GR AI AR BR AN C) : HWg FI AI := h.toHQ.wg
theorem HInv.ln {S : PSt} {Z : PZ} {FI : OhI} {FR GR : OhQ} {AI : OhI} {AR BR : OhQ} {AN : OhN} {C : OhC} (h : HInv S Z FI FR GR AI AR BR AN C) : HLn AN := h.toHQ.ln
theorem HInv.s324 {S : PSt} {Z : PZ} {FI : OhI} {FR GR : OhQ} {AI : OhI} {AR BR : OhQ} {AN : OhN} {C : OhC} (h : HInv S Z FI FR GR AI AR BR AN C) : ∃ q, swA 324 q AI := h.toHQ.s324
/-- what an operation leaves alone: all that is made, but for some scalars, some arrays, one list -/
def HKa (L0 LA : List Nat) (C C2 : OhC) (t : Rf) (FI FI2 : OhI) (FR FR2 GR GR2 : OhQ) (AI AI2 : OhI) (BR BR2 : OhQ) (AN AN2 : OhN) : Prop :=
  (∀ a : Rf, hOld C a → a ≠ (0, 0) → a ≠ t → FI2 a.1 a.2 = FI a.1 a.2) ∧
  (∀ k, k ∉ L0 → FI2 0 0 k = FI 0 0 k) ∧
  (∀ a : Rf, hOld C a → FR2 a.1 a.2 = FR a.1 a.2) ∧
  (∀ a : Rf, hOld C a → a ≠ t → GR2 a.1 a.2 = GR a.1 a.2) ∧
  (∀ a : Rf, hOld C a → a.1 ∉ LA → AI2 a.1 a.2 = AI a.1 a.2) ∧
  (∀ a : Rf, hOld C a → GR t.1 t.2 1 ≠ some a → BR2 a.1 a.2 = BR a.1 a.2) ∧
  (∀ s, s ≠ 33 → s ≠ 34 → BR2 s = BR s) ∧
  (∀ a : Rf, hOld C a → AN2 a.1 a.2 = AN a.1 a.2) ∧
  (∀ s, C s ≤ C2 s) ∧
  (ohKd t.1 = 17) ∧
  (∀ x : Rf, hOld C x → x.1 = 6 ∨ x.1 = 11 ∨ x.1 = 12 → x ≠ t)
theorem HKa.mk {L0 LA : List Nat} {C C2 : OhC} {t : Rf} {FI FI2 : OhI} {FR FR2 GR GR2 : OhQ} {AI AI2 : OhI} {BR BR2 : OhQ} {AN AN2 : OhN}
    (fi : ∀ a : Rf, hOld C a → a ≠ (0, 0) → a ≠ t → FI2 a.1 a.2 = FI a.1 a.2)
    (f0 : ∀ k, k ∉ L0 → FI2 0 0 k = FI 0 0 k)
    (fr : ∀ a : Rf, hOld C a → FR2 a.1 a.2 = FR a.1 a.2)
    (gr : ∀ a : Rf, hOld C a → a ≠ t → GR2 a.1 a.2 = GR a.1 a.2)
    (ai : ∀ a : Rf, hOld C a → a.1 ∉ LA → AI2 a.1 a.2 = AI a.1 a.2)
    (br : ∀ a : Rf, hOld C a → GR t.1 t.2 1 ≠ some a → BR2 a.1 a.2 = BR a.1 a.2)
    (br0 : ∀ s, s ≠ 33 → s ≠ 34 → BR2 s = BR s)
    (an : ∀ a : Rf, hOld C a → AN2 a.1 a.2 = AN a.1 a.2)
    (cc : ∀ s, C s ≤ C2 s)
    (tk : ohKd t.1 = 17)
    (tt : ∀ x : Rf, hOld C x → x.1 = 6 ∨ x.1 = 11 ∨ x.1 = 12 → x ≠ t) :
    HKa L0 LA C C2 t FI FI2 FR FR2 GR GR2 AI AI2 BR BR2 AN AN2 := ⟨fi, f0, fr, gr, ai, br, br0, an, cc, tk, tt⟩
theorem HKa.fi {L0 LA : List Nat} {C C2 : OhC} {t : Rf} {FI FI2 : OhI} {FR FR2 GR GR2 : OhQ} {AI AI2 : OhI} {BR BR2 : OhQ} {AN AN2 : OhN} (h : HKa L0 LA C C2 t FI FI2 FR FR2 GR GR2 AI AI2 BR BR2 AN AN2) : ∀ a : Rf, hOld C a → a ≠ (0, 0) → a ≠ t → FI2 a.1 a.2 = FI a.1 a.2 := h.1
theorem HKa.f0 {L0 LA : List Nat} {C C2 : OhC} {t : Rf} {FI FI2 : OhI} {FR FR2 GR GR2 : OhQ} {AI AI2 : OhI} {BR BR2 : OhQ} {AN AN2 : OhN} (h : HKa L0 LA C C2 t FI FI2 FR FR2 GR GR2 AI AI2 BR BR2 AN AN2) : ∀ k, k ∉ L0 → FI2 0 0 k = FI 0 0 k := h.2.1
theorem HKa.fr {L0 LA : List Nat} {C C2 : OhC} {t : Rf} {FI FI2 : OhI} {FR FR2 GR GR2 : OhQ} {AI AI2 : OhI} {BR BR2 : OhQ} {AN AN2 : OhN} (h : HKa L0 LA C C2 t FI FI2 FR FR2 GR GR2 AI AI2 BR BR2 AN AN2) : ∀ a : Rf, hOld C a → FR2 a.1 a.2 = FR a.1 a.2 := h.2.2.1
theorem HKa.gr {L0 LA : List Nat} {C C2 : OhC} {t : Rf} {FI FI2 : OhI} {FR FR2 GR GR2 : OhQ} {AI AI2 : OhI} {BR BR2 : OhQ} {AN AN2 : OhN} (h : HKa L0 LA C C2 t FI FI2 FR FR2 GR GR2 AI AI2 BR BR2 AN AN2) : ∀ a : Rf, hOld C a → a ≠ t → GR2 a.1 a.2 = GR a.1 a.2 := h.2.2.2.1
theorem HKa.ai {L0 LA : List Nat} {C C2 : OhC} {t : Rf} {FI FI2 : OhI} {FR FR2 GR GR2 : OhQ} {AI AI2 : OhI} {BR BR2 : OhQ} {AN AN2 : OhN} (h : HKa L0 LA C C2 t FI FI2 FR FR2 GR GR2 AI AI2 BR BR2 AN AN2) : ∀ a : Rf, hOld C a → a.1 ∉ LA → AI2 a.1 a.2 = AI a.1 a.2 := h.2.2.2.2.1
theorem HKa.br {L0 LA : List Nat} {C C2 : OhC} {t : Rf} {FI FI2 : OhI} {FR FR2 GR GR2 : OhQ} {AI AI2 : OhI} {BR BR2 : OhQ} {AN AN2 : OhN} (h : HKa L0 LA C C2 t FI FI2 FR FR2 GR GR2 AI AI2 BR BR2 AN AN2) : ∀ a : Rf, hOld C a → GR t.1 t.2 1 ≠ some a → BR2 a.1 a.2 = BR a.1 a.2 := h.2.2.2.2.2.1
theorem HKa.br0 {L0 LA : List Nat} {C C2 : OhC} {t : Rf} {FI FI2 : OhI} {FR FR2 GR GR2 : OhQ} {AI AI2 : OhI} {BR BR2 : OhQ} {AN AN2 : OhN} (h : HKa L0 LA C C2 t FI FI2 FR FR2 GR GR2 AI AI2 BR BR2 AN AN2) : ∀ s, s ≠ 33 → s ≠ 34 → BR2 s = BR s := h.2.2.2.2.2.2.1
theorem HKa.an {L0 LA : List Nat} {C C2 : OhC} {t : Rf} {FI FI2 : OhI} {FR FR2 GR GR2 : OhQ} {AI AI2 : OhI} {BR BR2 : OhQ} {AN AN2 : OhN} (h : HKa L0 LA C C2 t FI FI2 FR FR2 GR GR2 AI AI2 BR BR2 AN AN2) : ∀ a : Rf, hOld C a → AN2 a.1 a.2 = AN a.1 a.2 := h.2.2.2.2.2.2.2.1
theorem HKa.cc {L0 LA : List Nat} {C C2 : OhC} {t : Rf} {FI FI2 : OhI} {FR FR2 GR GR2 : OhQ} {AI AI2 : OhI} {BR BR2 : OhQ} {AN AN2 : OhN} (h : HKa L0 LA C C2 t FI FI2 FR FR2 GR GR2 AI AI2 BR BR2 AN AN2) : ∀ s, C s ≤ C2 s := h.2.2.2.2.2.2.2.2.1
theorem HKa.tk {L0 LA : List Nat} {C C2 : OhC} {t : Rf} {FI FI2 : OhI} {FR FR2 GR GR2 : OhQ} {AI AI2 : OhI} {BR BR2 : OhQ} {AN AN2 : OhN} (h : HKa L0 LA C C2 t FI FI2 FR FR2 GR GR2 AI AI2 BR BR2 AN AN2) : ohKd t.1 = 17 := h.2.2.2.2.2.2.2.2.2.1
theorem HKa.tt {L0 LA : List Nat} {C C2 : OhC} {t : Rf} {FI FI2 : OhI} {FR FR2 GR GR2 : OhQ} {AI AI2 : OhI} {BR BR2 : OhQ} {AN AN2 : OhN} (h : HKa L0 LA C C2 t FI FI2 FR FR2 GR GR2 AI AI2 BR BR2 AN AN2) : ∀ x : Rf, hOld C x → x.1 = 6 ∨ x.1 = 11 ∨ x.1 = 12 → x ≠ t := h.2.2.2.2.2.2.2.2.2.2
section
variable {L0 LA : List Nat} {C C2 : OhC} {t : Rf} {FI FI2 : OhI} {FR FR2 GR GR2 : OhQ} {AI AI2 : OhI} {AR BR BR2 : OhQ} {AN AN2 : OhN} {S S2 : PSt} {Z Z2 : PZ}
theorem HKa.kp (x : HKa L0 LA C C2 t FI FI2 FR FR2 GR GR2 AI AI2 BR BR2 AN AN2) (hA : ∀ k ∈ LA, k ≠ 5) : HKp C t FI FI2 FR FR2 GR GR2 AI AI2 BR BR2 AN AN2 :=
  ⟨fun a h1 h2 h3 => x.fi a h1 (by rintro rfl; exact absurd h2 (by decide)) h3, x.fr, fun a h1 h2 h3 => x.gr a h1 h3, fun a h1 h2 => x.ai a h1 (fun q => hA _ q h2), fun a h1 h2 h3 => x.br a h1 h3, x.an, x.tk, x.tt⟩
theorem HKa.sh (x : HKa L0 LA C C2 t FI FI2 FR FR2 GR GR2 AI AI2 BR BR2 AN AN2) (h : ohShH FR AR AN) : ohShH FR2 AR AN2 := by
  have ob : ∀ s i, 37 ≤ s ∨ s < 4 → hOld C (s, i) := fun s i hs q => by
    have h1 : 4 ≤ s ∧ s ≤ 36 := q
    omega
  obtain ⟨h1, h2, h3, h4, h5, h6⟩ := h
  have eN : ∀ s i, 37 ≤ s → AN2 s i = AN s i := fun s i hs => x.an (s, i) (ob s i (.inl hs))
  refine ⟨fun k hk => by rw [x.fr (0, 0) (ob _ _ (.inr (by decide)))]; exact h1 k hk, fun k hk => by rw [eN _ _ (by omega)]; exact h2 k hk, fun k hk i hi => by rw [eN _ _ (by omega)]; exact h3 k hk i hi, ?_, ?_, fun i hi => by rw [eN _ _ (by omega)]; exact h6 i hi⟩
  · rw [x.fr (315, 0) (ob _ _ (.inl (by decide)))]; exact h4
  · rw [eN _ _ (by decide), eN _ _ (by decide), eN _ _ (by decide)]; exact h5
theorem HInv.rest (h : HInv S Z FI FR GR AI AR BR AN C) (x : HKa L0 LA C C2 t FI FI2 FR FR2 GR GR2 AI AI2 BR BR2 AN AN2) (hA : ∀ k ∈ LA, k ∈ [300, 307, 308]) (ht : t.1 ≠ 315) (w2 : HWf C2 FR2 GR2 BR2 AN2) (hs : HSt S2 Z2 FI2 FR2 GR2 AI2 BR2 AN2) (hc : ∀ c, c < S2.nC → HCl (S2.ca c) c (Z2.c c) Z2 FI2 FR2) (hj : ∀ i j, i < S2.nC → j < S2.nC → Z2.c i = Z2.c j → i = j)
    (e1 : FI2 0 0 1 = J (S2.taped : Int)) (e2 : ∀ k, k < 340 → AI2 300 0 k = J (S2.tape k)) (e3 : FI2 0 0 2 = J S2.fault) (e4 : FI2 0 0 6 = S2.stamp) (q1 : 35 ∉ L0) (q2 : 36 ∉ L0)
    (f1 : S2.nF = S.nF) (f2 : S2.fk = S.fk) (f3 : S2.fc = S.fc) (f4 : S2.fr = S.fr) (l1 : S2.laidN = S.laidN) (l2 : S2.laidDay = S.laidDay) (l3 : S2.laidOp = S.laidOp) (l4 : S2.laidHour = S.laidHour) (l5 : S2.laidStamp = S.laidStamp)
    (hop : ∀ k, k < S.laidN → (S2.op (S.laidOp k)).hours = (S.op (S.laidOp k)).hours ∧ Z2.o (S.laidOp k) = Z.o (S.laidOp k)) (hst : S.laidN ≠ 0 → S2.laidStamp = S2.stamp → S.laidStamp = S.stamp ∧ S2.nC = S.nC) : HInv S2 Z2 FI2 FR2 GR2 AI2 AR BR2 AN2 C2 := HInv.mk (toHQ := HQ.mk (toHCore := HCore.mk (toHSt := hs) (cls := hc) (cij := hj)) (wg := ⟨by rw [x.fi (315, 0) (old_base (by decide)) (by decide) (fun q => ht (congrArg Prod.fst q).symm)]; exact h.wg.many, fun k hk => by rw [x.ai (61, 0) (old_base (by decide)) (fun q => absurd (hA _ q) (by show (61 : Nat) ∉ _; decide))]; exact h.wg.on k hk, fun k i hk hi => by rw [x.ai (63, k) (old_base (by show 37 ≤ 63; decide)) (fun q => absurd (hA _ q) (by show (63 : Nat) ∉ _; decide))]; exact h.wg.nx k i hk hi⟩) (ln := ⟨by rw [x.an (323, 0) (old_base (by decide))]; exact h.ln.a323, by rw [x.an (324, 0) (old_base (by decide))]; exact h.ln.a324, by rw [x.an (325, 0) (old_base (by decide))]; exact h.ln.a325, fun c hc => by rw [x.an (428, c) (old_base (by decide))]; exact h.ln.a428 c hc⟩) (s324 := by
    obtain ⟨q, hq⟩ := h.s324
    exact ⟨q, fun i hi => by rw [x.ai (324, 0) (old_base (by decide)) (fun q => absurd (hA _ q) (by show (324 : Nat) ∉ _; decide))]; exact hq i hi⟩)) (wf := w2) (sh := x.sh h.sh) (taped := e1) (tape := e2) (fault := e3) (stamp := e4) (found := by
    obtain ⟨a, g1, g2, g3, g4⟩ := h.found
    have ho := h.wf.gr _ _ _ _ g1
    refine ⟨a, by rw [x.gr (0, 0) (fun q => absurd q.1 (by decide)) (fun q => by have := x.tk; rw [← q] at this; revert this; decide)]; exact g1, g2, by rw [x.an a ho, f1]; exact g3, fun k hk => ?_⟩
    rw [x.ai a ho (fun q => by have := hA _ q; rcases g2 with g2 | g2 <;> (rw [g2] at this; revert this; decide)), f2, f3, f4]
    exact g4 k (by omega)) (laidN := by rw [x.f0 35 q1, l1]; exact h.laidN) (laid := by
    obtain ⟨f, m, g1, g2⟩ := h.laid
    refine ⟨f, m, fun k hk => ?_, fun hn he => ?_⟩
    · obtain ⟨b1, b2⟩ := g1 k (by omega)
      have hof := h.wf.br _ _ _ _ (by decide) b1
      have ek : FI2 (f k).1 (f k).2 = FI (f k).1 (f k).2 := x.fi (f k) hof (kne (by rw [b2.kd]; decide)) (kne (by rw [b2.kd, x.tk]; decide))
      have er : FR2 (f k).1 (f k).2 = FR (f k).1 (f k).2 := x.fr (f k) hof
      obtain ⟨o1, o2⟩ := hop k (by omega)
      refine ⟨by rw [x.br0 329 (by decide) (by decide)]; exact b1, ⟨b2.kd, by rw [ek]; exact b2.num, ?_, ?_, ?_, ?_, ?_, ?_⟩⟩
      · rw [ek]; have := b2.day; unfold laidCa at this ⊢; rw [l2]; exact this
      · rw [ek]; exact b2.kind
      · rw [ek]; exact b2.halves
      · rw [ek]; have := b2.beg; unfold laidCa at this ⊢; rw [l2, l4]; exact this
      · rw [ek]; have := b2.fin; unfold laidCa at this ⊢; rw [l2, l4, l3]; simp only [PCa.g_day, PCa.g_beg, PCa.g_fin, PCa.g_kind, PCa.g_op, PCa.g_halves] at this ⊢; rw [o1]; exact this
      · rw [er]; have := b2.op; unfold laidCa at this ⊢; rw [l3]; simp only [PCa.g_day, PCa.g_beg, PCa.g_fin, PCa.g_kind, PCa.g_op, PCa.g_halves] at this ⊢; rw [o2]; exact this
    · obtain ⟨r1, r2⟩ := hst (by omega) he
      rw [r2]; exact g2 (by omega) r1) (laidStamp := fun q => by rw [x.f0 36 q2, l5]; exact h.laidStamp (by omega))
end
end
