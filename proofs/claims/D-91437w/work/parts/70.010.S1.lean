noncomputable section
set_option linter.unusedVariables false
/-! PLAIN 4: what the public operations answer and leave -/
def PSt.isSg (S : PSt) (a : Int) : Bool := decide (0 ≤ a ∧ a < S.nS)
def PSt.isCa (S : PSt) (a : Int) : Bool := decide (0 ≤ a ∧ a < S.nC)
def PSt.isRo (S : PSt) (o r : Int) : Bool := decide (0 ≤ o ∧ o < S.nO ∧ 0 ≤ r ∧ r < (S.op o.toNat).nr)
def PSt.isCR (S : PSt) (c r : Int) : Bool := decide (0 ≤ c ∧ c < S.nC ∧ 0 ≤ r ∧ r < (S.op (S.ca c.toNat).op).nr)
def PSt.one1 (S : PSt) : PSt := (S.s_stamp (S.stamp + J 1))
/-- the bytes of an int, the highest first -/
def byteAt (v : Int32) (k : Nat) : Int := (v >>> (J (24 - 8 * (k : Int)) &&& J 31)).toInt8.toInt
def tape4 (tp : Nat → Int) (l : Nat) (v : Int32) : Nat → Int := fun k => if l ≤ k ∧ k < l + 4 then byteAt v (k - l) else tp k
def oFeed (S : PSt) (a b c d e : Int32) : Int32 × PSt :=
  if S.taped + 20 ≤ 340 then (J ((S.taped + 20 : Nat) : Int), ((S.s_taped (S.taped + 20)).s_tape (tape4 (tape4 (tape4 (tape4 (tape4 S.tape S.taped a) (S.taped + 4) b) (S.taped + 8) c) (S.taped + 12) d) (S.taped + 16) e))) else (J (-1), S)
def oEndT (S : PSt) (a : Int) : Int32 × PSt := if 0 ≤ a ∧ a ≤ S.taped then (J 1, (S.s_taped (a.toNat))) else (J 0, S)
def oNext (S : PSt) (a : Int) : Int32 × PSt := if 0 ≤ a ∧ a ≤ 29 ∧ S.today + a ≤ 29 then (J (S.today + a), ((S.s_today (S.today + a)).s_stamp (S.stamp + J 1))) else (J (-1), S)
def oPlayers (S : PSt) (g a b : Int) : Int32 × PSt := if (0 ≤ g ∧ g ≤ 3) ∧ (0 ≤ a ∧ a ≤ 60) ∧ (0 ≤ b ∧ b ≤ 60) then (J 1, (((S.s_one (fun k => if k = g.toNat then a else S.one k)).s_other (fun k => if k = g.toNat then b else S.other k)).s_stamp (S.stamp + J 1))) else (J 0, S)
def oChorus (S : PSt) (d w : Int) : Int32 × PSt := if (0 ≤ d ∧ d ≤ 24) ∧ (0 ≤ w ∧ w ≤ 168) then (J 1, (((S.s_daily (d)).s_weekly (w)).s_stamp (S.stamp + J 1))) else (J 0, S)
def plainCt : PCt := (PCt.mk (rest := 12) (day := 8) (week := 4) (voice := 100) (nl := 0) (lf := fun _ => 0) (lt := fun _ => 0) (nf := 0) (much := fun _ => 0) (cd := fun _ => none))
def oSinger (S : PSt) (v t z : Int) : Int32 × PSt := if S.nS ≠ 20 ∧ (0 ≤ v ∧ v ≤ 63) ∧ (0 ≤ t ∧ t ≤ 63) ∧ (0 ≤ z ∧ z ≤ 9) then (J (S.nS : Int), ((((S.s_nS (S.nS + 1)).s_sg (fun k => if k = S.nS then PSg.mk v t z else S.sg k)).s_ct (fun k => if k = S.nS then plainCt else S.ct k)).s_stamp (S.stamp + J 1))) else (J (-1), S)
def oLearn (S : PSt) (s o r h : Int) : Int32 × PSt := if S.isSg s = true ∧ S.isRo o r = true ∧ (1 ≤ h ∧ h ≤ 99) ∧ S.nL ≠ 200 then (J 1, (((S.s_nL (S.nL + 1)).s_le (fun k => if k = S.nL then PLe.mk s.toNat o.toNat r.toNat h S.today else S.le k)).s_stamp (S.stamp + J 1))) else (J 0, S)
def PSt.hrsOf (S : PSt) (kd : Int) (o : Nat) : Int := if kd = 0 then 2 else if kd = 1 then 3 else (S.op o).hours
def oCall (S : PSt) (d h kd o v : Int) : Int32 × PSt := if S.nC ≠ 60 ∧ (S.today ≤ d ∧ d ≤ 29) ∧ (0 ≤ h ∧ h ≤ 23) ∧ (0 ≤ kd ∧ kd ≤ 3) ∧ (0 ≤ o ∧ o < S.nO) ∧ (0 ≤ v ∧ v ≤ 3) ∧ h + S.hrsOf kd o.toNat ≤ 24 then (J (S.nC : Int), (((S.s_nC (S.nC + 1)).s_ca (fun k => if k = S.nC then PCa.mk d (24 * d + h) (24 * d + h + S.hrsOf kd o.toNat) kd o.toNat v else S.ca k)).s_stamp (S.stamp + J 1))) else (J (-1), S)
def oCast (S : PSt) (c r s : Int) (cv : Bool) : Int32 × PSt := if S.isCR c r = true ∧ (s = -1 ∨ S.isSg s = true) ∧ S.today ≤ (S.ca c.toNat).day ∧ S.nP ≠ 400 then (J 1, (((S.s_nP (S.nP + 1)).s_pt (fun k => if k = S.nP then PPt.mk c.toNat r.toNat s S.today cv else S.pt k)).s_stamp (S.stamp + J 1))) else (J 0, S)
def oIll (S : PSt) (s f t : Int) : Int32 × PSt := if S.isSg s = true ∧ 0 ≤ f ∧ f ≤ t ∧ t ≤ 29 ∧ S.nI ≠ 60 then (J 1, (((S.s_nI (S.nI + 1)).s_il (fun k => if k = S.nI then PIl.mk s.toNat f t S.today else S.il k)).s_stamp (S.stamp + J 1))) else (J 0, S)
def oWho (S : PSt) (c r : Int) (cv : Bool) (t : Int) : Int32 := if S.isCR c r = true then J (if cv = true then (tbl S t).cover c.toNat r.toNat else (tbl S t).cast c.toNat r.toNat) else J (-1)
def oLearned (S : PSt) (s c r t : Int) : Int32 := if S.isSg s = true ∧ S.isCR c r = true then J ((tbl S t).learned s.toNat (S.ca c.toNat).op r.toNat (S.ca c.toNat).beg) else J (-1)
def oTired (S : PSt) (s c t : Int) : Int32 := if S.isSg s = true ∧ S.isCa c = true then J ((tbl S t).tired s.toNat c.toNat) else J (-1)
def oFee (S : PSt) (s c t : Int) : Int32 := if S.isSg s = true ∧ S.isCa c = true then J ((tbl S t).fee s.toNat c.toNat) else J (-1)
def oPay (S : PSt) (s d t : Int) : Int32 := if S.isSg s = true ∧ 0 ≤ d ∧ d ≤ 29 then J (sumN S.nC fun c => if (S.ca c).day ≤ d then (tbl S t).fee s.toNat c else 0) else J (-1)
/-- the first number of moves after which a set stands on stage -/
def movN {β : Type} (W : PWg β) (set : Nat) : Nat → Nat → β → Int
  | 0, _, _ => -1
  | m + 1, k, z => if W.can z set = true then (k : Int) else movN W set m (k + 1) (W.go z)
def oMoves (set most : Int) : Int32 := if (0 ≤ set ∧ set ≤ 3) ∧ (0 ≤ most ∧ most ≤ 40) then J (movN WM set.toNat (most.toNat + 1) 0 first625) else J (-1)
def oMay (S : PSt) (s c r : Int) : Int32 := bJ (S.isSg s && S.isCR c r && (tbl S S.today).mayHave s.toNat c.toNat r.toNat)
def oHarm (S : PSt) (s c r : Int) : Int32 := if S.isSg s = true ∧ S.isCR c r = true then J ((tbl S S.today).harm s.toNat c.toNat r.toNat) else J (-1)
def oInstead (S : PSt) (c r : Int) : Int32 := if S.isCR c r = true then J (((tbl S S.today).best c.toNat r.toNat S.nS).1) else J (-1)
def ntK (L : List PNt) (k : Nat) : PNt := L.getD k (0, 0, 0)
def oWrong (S : PSt) (t : Int) : Int32 × PSt := (J ((tbl S t).notes.length : Int), ((((S.s_nF ((tbl S t).notes.length)).s_fk (fun k => ((ntK (tbl S t).notes k).1 : Int))).s_fc (fun k => (ntK (tbl S t).notes k).2.1)).s_fr (fun k => (ntK (tbl S t).notes k).2.2)))
/-- told: whether it throws, and what it answers -/
def oToldT (S : PSt) (k w : Int) : Bool := !decide (0 ≤ k ∧ k < S.nF ∧ 0 ≤ w ∧ w ≤ 2)
def oTold (S : PSt) (k w : Int) : Int := if oToldT S k w = true then 0 else if w = 0 then S.fk k.toNat else if w = 1 then (S.fc k.toNat : Int) else S.fr k.toNat
def oLaid (S : PSt) (k : Int) : Int32 := if 0 ≤ k ∧ k < S.laidN then J (S.laidDay k.toNat) else J (-1)
def oCount (S : PSt) (w : Int) : Int32 := if w = 0 then J S.today else if w = 1 then J (S.nO : Int) else if w = 2 then J (S.nS : Int) else if w = 3 then J (S.nC : Int) else if w = 4 then J (S.nP : Int) else if w = 5 then J (S.nI : Int) else if w = 6 then J (S.taped : Int) else J (-1)
def byteOk (k : Nat) (v : Int) : Bool := if k < 4 then decide (0 ≤ v ∧ v ≤ 40) else if k % 4 = 0 then decide (0 ≤ v ∧ v ≤ 5) else if k % 4 = 1 then decide (1 ≤ v ∧ v ≤ 30) else if k % 4 = 2 then decide (0 ≤ v ∧ v ≤ 5) else decide (0 ≤ v ∧ v ≤ 9)
def PSt.tk (S : PSt) : PSt := (S.s_taped (0))
def oOpera (S : PSt) (h z : Int) (cv : Bool) (nd : Int) : Int32 × PSt :=
  if S.nO ≠ 9 ∧ (2 ≤ h ∧ h ≤ 6) ∧ (0 ≤ z ∧ z ≤ 3) ∧ (1 ≤ nd ∧ nd ≤ 60) ∧ S.taped % 4 = 0 ∧ (8 ≤ S.taped ∧ S.taped ≤ 36) ∧ (anyN S.taped fun k => !byteOk k (S.tape k)) = false then
    (J (S.nO : Int), (((S.tk.s_nO (S.nO + 1)).s_op (fun k => if k = S.nO then POp.mk h z nd cv S.tape (S.taped / 4 - 1) (fun r => PRo.mk (S.tape (4 * r + 4)) (S.tape (4 * r + 5)) (S.tape (4 * r + 6)) (S.tape (4 * r + 7))) else S.op k)).s_stamp (S.stamp + J 1)))
  else (J (-1), S.tk)
end
