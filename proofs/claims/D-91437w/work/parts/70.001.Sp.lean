noncomputable section
set_option linter.unusedVariables false
/-! PLAIN 2: a house, and the table of a month -/
def PRo : Type := (Int) × (Int) × (Int) × (Int)
def PRo.mk (voice : Int) (strain : Int) (tongue : Int) (size : Int) : PRo := (voice, strain, tongue, size)
def PRo.voice (x : PRo) : Int := x.1
def PRo.strain (x : PRo) : Int := x.2.1
def PRo.tongue (x : PRo) : Int := x.2.2.1
def PRo.size (x : PRo) : Int := x.2.2.2
theorem PRo.g_voice {voice : Int} {strain : Int} {tongue : Int} {size : Int} : (PRo.mk voice strain tongue size).voice = voice := rfl
theorem PRo.g_strain {voice : Int} {strain : Int} {tongue : Int} {size : Int} : (PRo.mk voice strain tongue size).strain = strain := rfl
theorem PRo.g_tongue {voice : Int} {strain : Int} {tongue : Int} {size : Int} : (PRo.mk voice strain tongue size).tongue = tongue := rfl
theorem PRo.g_size {voice : Int} {strain : Int} {tongue : Int} {size : Int} : (PRo.mk voice strain tongue size).size = size := rfl
def POp : Type := (Int) × (Int) × (Int) × (Bool) × (Nat → Int) × (Nat) × (Nat → PRo)
def POp.mk (hours : Int) (set : Int) (need : Int) (chorus : Bool) (seats : Nat → Int) (nr : Nat) (ro : Nat → PRo) : POp := (hours, set, need, chorus, seats, nr, ro)
def POp.hours (x : POp) : Int := x.1
def POp.set (x : POp) : Int := x.2.1
def POp.need (x : POp) : Int := x.2.2.1
def POp.chorus (x : POp) : Bool := x.2.2.2.1
def POp.seats (x : POp) : Nat → Int := x.2.2.2.2.1
def POp.nr (x : POp) : Nat := x.2.2.2.2.2.1
def POp.ro (x : POp) : Nat → PRo := x.2.2.2.2.2.2
theorem POp.g_hours {hours : Int} {set : Int} {need : Int} {chorus : Bool} {seats : Nat → Int} {nr : Nat} {ro : Nat → PRo} : (POp.mk hours set need chorus seats nr ro).hours = hours := rfl
theorem POp.g_set {hours : Int} {set : Int} {need : Int} {chorus : Bool} {seats : Nat → Int} {nr : Nat} {ro : Nat → PRo} : (POp.mk hours set need chorus seats nr ro).set = set := rfl
theorem POp.g_need {hours : Int} {set : Int} {need : Int} {chorus : Bool} {seats : Nat → Int} {nr : Nat} {ro : Nat → PRo} : (POp.mk hours set need chorus seats nr ro).need = need := rfl
theorem POp.g_chorus {hours : Int} {set : Int} {need : Int} {chorus : Bool} {seats : Nat → Int} {nr : Nat} {ro : Nat → PRo} : (POp.mk hours set need chorus seats nr ro).chorus = chorus := rfl
theorem POp.g_seats {hours : Int} {set : Int} {need : Int} {chorus : Bool} {seats : Nat → Int} {nr : Nat} {ro : Nat → PRo} : (POp.mk hours set need chorus seats nr ro).seats = seats := rfl
theorem POp.g_nr {hours : Int} {set : Int} {need : Int} {chorus : Bool} {seats : Nat → Int} {nr : Nat} {ro : Nat → PRo} : (POp.mk hours set need chorus seats nr ro).nr = nr := rfl
theorem POp.g_ro {hours : Int} {set : Int} {need : Int} {chorus : Bool} {seats : Nat → Int} {nr : Nat} {ro : Nat → PRo} : (POp.mk hours set need chorus seats nr ro).ro = ro := rfl
/-- a condition: leaves are atoms or measures, a branch is not (0: the second child is idle), and (1), or -/
abbrev PCd := Lean.RArray (Nat ⊕ (Nat × Int × Int))
def PCd.atom (a : Nat) : PCd := .leaf (.inl a)
def PCd.meas (a : Nat) (g n : Int) : PCd := .leaf (.inr (a, g, n))
def PCd.neg (c : PCd) : PCd := .branch 0 c c
def PCd.conj (c d : PCd) : PCd := .branch 1 c d
def PCd.disj (c d : PCd) : PCd := .branch 2 c d
def PCt : Type := ((Int) × (Int) × (Int) × (Int)) × ((Nat) × (Nat → Int) × (Nat → Int) × (Nat)) × ((Nat → Int) × (Nat → Option PCd))
def PCt.mk (rest : Int) (day : Int) (week : Int) (voice : Int) (nl : Nat) (lf : Nat → Int) (lt : Nat → Int) (nf : Nat) (much : Nat → Int) (cd : Nat → Option PCd) : PCt := ((rest, day, week, voice), (nl, lf, lt, nf), (much, cd))
def PCt.rest (x : PCt) : Int := x.1.1
def PCt.day (x : PCt) : Int := x.1.2.1
def PCt.week (x : PCt) : Int := x.1.2.2.1
def PCt.voice (x : PCt) : Int := x.1.2.2.2
def PCt.nl (x : PCt) : Nat := x.2.1.1
def PCt.lf (x : PCt) : Nat → Int := x.2.1.2.1
def PCt.lt (x : PCt) : Nat → Int := x.2.1.2.2.1
def PCt.nf (x : PCt) : Nat := x.2.1.2.2.2
def PCt.much (x : PCt) : Nat → Int := x.2.2.1
def PCt.cd (x : PCt) : Nat → Option PCd := x.2.2.2
theorem PCt.g_rest {rest : Int} {day : Int} {week : Int} {voice : Int} {nl : Nat} {lf : Nat → Int} {lt : Nat → Int} {nf : Nat} {much : Nat → Int} {cd : Nat → Option PCd} : (PCt.mk rest day week voice nl lf lt nf much cd).rest = rest := rfl
theorem PCt.g_day {rest : Int} {day : Int} {week : Int} {voice : Int} {nl : Nat} {lf : Nat → Int} {lt : Nat → Int} {nf : Nat} {much : Nat → Int} {cd : Nat → Option PCd} : (PCt.mk rest day week voice nl lf lt nf much cd).day = day := rfl
theorem PCt.g_week {rest : Int} {day : Int} {week : Int} {voice : Int} {nl : Nat} {lf : Nat → Int} {lt : Nat → Int} {nf : Nat} {much : Nat → Int} {cd : Nat → Option PCd} : (PCt.mk rest day week voice nl lf lt nf much cd).week = week := rfl
theorem PCt.g_voice {rest : Int} {day : Int} {week : Int} {voice : Int} {nl : Nat} {lf : Nat → Int} {lt : Nat → Int} {nf : Nat} {much : Nat → Int} {cd : Nat → Option PCd} : (PCt.mk rest day week voice nl lf lt nf much cd).voice = voice := rfl
theorem PCt.g_nl {rest : Int} {day : Int} {week : Int} {voice : Int} {nl : Nat} {lf : Nat → Int} {lt : Nat → Int} {nf : Nat} {much : Nat → Int} {cd : Nat → Option PCd} : (PCt.mk rest day week voice nl lf lt nf much cd).nl = nl := rfl
theorem PCt.g_lf {rest : Int} {day : Int} {week : Int} {voice : Int} {nl : Nat} {lf : Nat → Int} {lt : Nat → Int} {nf : Nat} {much : Nat → Int} {cd : Nat → Option PCd} : (PCt.mk rest day week voice nl lf lt nf much cd).lf = lf := rfl
theorem PCt.g_lt {rest : Int} {day : Int} {week : Int} {voice : Int} {nl : Nat} {lf : Nat → Int} {lt : Nat → Int} {nf : Nat} {much : Nat → Int} {cd : Nat → Option PCd} : (PCt.mk rest day week voice nl lf lt nf much cd).lt = lt := rfl
theorem PCt.g_nf {rest : Int} {day : Int} {week : Int} {voice : Int} {nl : Nat} {lf : Nat → Int} {lt : Nat → Int} {nf : Nat} {much : Nat → Int} {cd : Nat → Option PCd} : (PCt.mk rest day week voice nl lf lt nf much cd).nf = nf := rfl
theorem PCt.g_much {rest : Int} {day : Int} {week : Int} {voice : Int} {nl : Nat} {lf : Nat → Int} {lt : Nat → Int} {nf : Nat} {much : Nat → Int} {cd : Nat → Option PCd} : (PCt.mk rest day week voice nl lf lt nf much cd).much = much := rfl
theorem PCt.g_cd {rest : Int} {day : Int} {week : Int} {voice : Int} {nl : Nat} {lf : Nat → Int} {lt : Nat → Int} {nf : Nat} {much : Nat → Int} {cd : Nat → Option PCd} : (PCt.mk rest day week voice nl lf lt nf much cd).cd = cd := rfl
def PSg : Type := (Int) × (Int) × (Int)
def PSg.mk (voices : Int) (tongues : Int) (size : Int) : PSg := (voices, tongues, size)
def PSg.voices (x : PSg) : Int := x.1
def PSg.tongues (x : PSg) : Int := x.2.1
def PSg.size (x : PSg) : Int := x.2.2
theorem PSg.g_voices {voices : Int} {tongues : Int} {size : Int} : (PSg.mk voices tongues size).voices = voices := rfl
theorem PSg.g_tongues {voices : Int} {tongues : Int} {size : Int} : (PSg.mk voices tongues size).tongues = tongues := rfl
theorem PSg.g_size {voices : Int} {tongues : Int} {size : Int} : (PSg.mk voices tongues size).size = size := rfl
def PCa : Type := (Int) × (Int) × (Int) × (Int) × (Nat) × (Int)
def PCa.mk (day : Int) (beg : Int) (fin : Int) (kind : Int) (op : Nat) (halves : Int) : PCa := (day, beg, fin, kind, op, halves)
def PCa.day (x : PCa) : Int := x.1
def PCa.beg (x : PCa) : Int := x.2.1
def PCa.fin (x : PCa) : Int := x.2.2.1
def PCa.kind (x : PCa) : Int := x.2.2.2.1
def PCa.op (x : PCa) : Nat := x.2.2.2.2.1
def PCa.halves (x : PCa) : Int := x.2.2.2.2.2
theorem PCa.g_day {day : Int} {beg : Int} {fin : Int} {kind : Int} {op : Nat} {halves : Int} : (PCa.mk day beg fin kind op halves).day = day := rfl
theorem PCa.g_beg {day : Int} {beg : Int} {fin : Int} {kind : Int} {op : Nat} {halves : Int} : (PCa.mk day beg fin kind op halves).beg = beg := rfl
theorem PCa.g_fin {day : Int} {beg : Int} {fin : Int} {kind : Int} {op : Nat} {halves : Int} : (PCa.mk day beg fin kind op halves).fin = fin := rfl
theorem PCa.g_kind {day : Int} {beg : Int} {fin : Int} {kind : Int} {op : Nat} {halves : Int} : (PCa.mk day beg fin kind op halves).kind = kind := rfl
theorem PCa.g_op {day : Int} {beg : Int} {fin : Int} {kind : Int} {op : Nat} {halves : Int} : (PCa.mk day beg fin kind op halves).op = op := rfl
theorem PCa.g_halves {day : Int} {beg : Int} {fin : Int} {kind : Int} {op : Nat} {halves : Int} : (PCa.mk day beg fin kind op halves).halves = halves := rfl
def PPt : Type := (Nat) × (Nat) × (Int) × (Int) × (Bool)
def PPt.mk (call : Nat) (role : Nat) (who : Int) (day : Int) (cover : Bool) : PPt := (call, role, who, day, cover)
def PPt.call (x : PPt) : Nat := x.1
def PPt.role (x : PPt) : Nat := x.2.1
def PPt.who (x : PPt) : Int := x.2.2.1
def PPt.day (x : PPt) : Int := x.2.2.2.1
def PPt.cover (x : PPt) : Bool := x.2.2.2.2
theorem PPt.g_call {call : Nat} {role : Nat} {who : Int} {day : Int} {cover : Bool} : (PPt.mk call role who day cover).call = call := rfl
theorem PPt.g_role {call : Nat} {role : Nat} {who : Int} {day : Int} {cover : Bool} : (PPt.mk call role who day cover).role = role := rfl
theorem PPt.g_who {call : Nat} {role : Nat} {who : Int} {day : Int} {cover : Bool} : (PPt.mk call role who day cover).who = who := rfl
theorem PPt.g_day {call : Nat} {role : Nat} {who : Int} {day : Int} {cover : Bool} : (PPt.mk call role who day cover).day = day := rfl
theorem PPt.g_cover {call : Nat} {role : Nat} {who : Int} {day : Int} {cover : Bool} : (PPt.mk call role who day cover).cover = cover := rfl
def PIl : Type := (Nat) × (Int) × (Int) × (Int)
def PIl.mk (s : Nat) (frm : Int) (til : Int) (day : Int) : PIl := (s, frm, til, day)
def PIl.s (x : PIl) : Nat := x.1
def PIl.frm (x : PIl) : Int := x.2.1
def PIl.til (x : PIl) : Int := x.2.2.1
def PIl.day (x : PIl) : Int := x.2.2.2
theorem PIl.g_s {s : Nat} {frm : Int} {til : Int} {day : Int} : (PIl.mk s frm til day).s = s := rfl
theorem PIl.g_frm {s : Nat} {frm : Int} {til : Int} {day : Int} : (PIl.mk s frm til day).frm = frm := rfl
theorem PIl.g_til {s : Nat} {frm : Int} {til : Int} {day : Int} : (PIl.mk s frm til day).til = til := rfl
theorem PIl.g_day {s : Nat} {frm : Int} {til : Int} {day : Int} : (PIl.mk s frm til day).day = day := rfl
def PLe : Type := (Nat) × (Nat) × (Nat) × (Int) × (Int)
def PLe.mk (s : Nat) (op : Nat) (role : Nat) (hours : Int) (day : Int) : PLe := (s, op, role, hours, day)
def PLe.s (x : PLe) : Nat := x.1
def PLe.op (x : PLe) : Nat := x.2.1
def PLe.role (x : PLe) : Nat := x.2.2.1
def PLe.hours (x : PLe) : Int := x.2.2.2.1
def PLe.day (x : PLe) : Int := x.2.2.2.2
theorem PLe.g_s {s : Nat} {op : Nat} {role : Nat} {hours : Int} {day : Int} : (PLe.mk s op role hours day).s = s := rfl
theorem PLe.g_op {s : Nat} {op : Nat} {role : Nat} {hours : Int} {day : Int} : (PLe.mk s op role hours day).op = op := rfl
theorem PLe.g_role {s : Nat} {op : Nat} {role : Nat} {hours : Int} {day : Int} : (PLe.mk s op role hours day).role = role := rfl
theorem PLe.g_hours {s : Nat} {op : Nat} {role : Nat} {hours : Int} {day : Int} : (PLe.mk s op role hours day).hours = hours := rfl
theorem PLe.g_day {s : Nat} {op : Nat} {role : Nat} {hours : Int} {day : Int} : (PLe.mk s op role hours day).day = day := rfl
def PSt : Type := ((Nat → Int) × (Nat) × (Int) × (Int) × (Int) × (Nat → Int)) × ((Nat → Int) × (Nat) × (Nat → POp) × (Nat) × (Nat → PSg) × (Nat → PCt)) × ((Nat) × (Nat → PCa) × (Nat) × (Nat → PPt) × (Nat) × (Nat → PIl)) × ((Nat) × (Nat → PLe) × (Int32) × (Int) × (Nat) × (Nat → Int)) × ((Nat → Nat) × (Nat → Int) × (Nat) × (Nat → Int) × (Nat → Nat) × (Int)) × ((Int32))
def PSt.mk (tape : Nat → Int) (taped : Nat) (today : Int) (daily : Int) (weekly : Int) (one : Nat → Int) (other : Nat → Int) (nO : Nat) (op : Nat → POp) (nS : Nat) (sg : Nat → PSg) (ct : Nat → PCt) (nC : Nat) (ca : Nat → PCa) (nP : Nat) (pt : Nat → PPt) (nI : Nat) (il : Nat → PIl) (nL : Nat) (le : Nat → PLe) (stamp : Int32) (fault : Int) (nF : Nat) (fk : Nat → Int) (fc : Nat → Nat) (fr : Nat → Int) (laidN : Nat) (laidDay : Nat → Int) (laidOp : Nat → Nat) (laidHour : Int) (laidStamp : Int32) : PSt := ((tape, taped, today, daily, weekly, one), (other, nO, op, nS, sg, ct), (nC, ca, nP, pt, nI, il), (nL, le, stamp, fault, nF, fk), (fc, fr, laidN, laidDay, laidOp, laidHour), laidStamp)
def PSt.tape (x : PSt) : Nat → Int := x.1.1
def PSt.taped (x : PSt) : Nat := x.1.2.1
def PSt.today (x : PSt) : Int := x.1.2.2.1
def PSt.daily (x : PSt) : Int := x.1.2.2.2.1
def PSt.weekly (x : PSt) : Int := x.1.2.2.2.2.1
def PSt.one (x : PSt) : Nat → Int := x.1.2.2.2.2.2
def PSt.other (x : PSt) : Nat → Int := x.2.1.1
def PSt.nO (x : PSt) : Nat := x.2.1.2.1
def PSt.op (x : PSt) : Nat → POp := x.2.1.2.2.1
def PSt.nS (x : PSt) : Nat := x.2.1.2.2.2.1
def PSt.sg (x : PSt) : Nat → PSg := x.2.1.2.2.2.2.1
def PSt.ct (x : PSt) : Nat → PCt := x.2.1.2.2.2.2.2
def PSt.nC (x : PSt) : Nat := x.2.2.1.1
def PSt.ca (x : PSt) : Nat → PCa := x.2.2.1.2.1
def PSt.nP (x : PSt) : Nat := x.2.2.1.2.2.1
def PSt.pt (x : PSt) : Nat → PPt := x.2.2.1.2.2.2.1
def PSt.nI (x : PSt) : Nat := x.2.2.1.2.2.2.2.1
def PSt.il (x : PSt) : Nat → PIl := x.2.2.1.2.2.2.2.2
def PSt.nL (x : PSt) : Nat := x.2.2.2.1.1
def PSt.le (x : PSt) : Nat → PLe := x.2.2.2.1.2.1
def PSt.stamp (x : PSt) : Int32 := x.2.2.2.1.2.2.1
def PSt.fault (x : PSt) : Int := x.2.2.2.1.2.2.2.1
def PSt.nF (x : PSt) : Nat := x.2.2.2.1.2.2.2.2.1
def PSt.fk (x : PSt) : Nat → Int := x.2.2.2.1.2.2.2.2.2
def PSt.fc (x : PSt) : Nat → Nat := x.2.2.2.2.1.1
def PSt.fr (x : PSt) : Nat → Int := x.2.2.2.2.1.2.1
def PSt.laidN (x : PSt) : Nat := x.2.2.2.2.1.2.2.1
def PSt.laidDay (x : PSt) : Nat → Int := x.2.2.2.2.1.2.2.2.1
def PSt.laidOp (x : PSt) : Nat → Nat := x.2.2.2.2.1.2.2.2.2.1
def PSt.laidHour (x : PSt) : Int := x.2.2.2.2.1.2.2.2.2.2
def PSt.laidStamp (x : PSt) : Int32 := x.2.2.2.2.2
theorem PSt.g_tape {tape : Nat → Int} {taped : Nat} {today : Int} {daily : Int} {weekly : Int} {one : Nat → Int} {other : Nat → Int} {nO : Nat} {op : Nat → POp} {nS : Nat} {sg : Nat → PSg} {ct : Nat → PCt} {nC : Nat} {ca : Nat → PCa} {nP : Nat} {pt : Nat → PPt} {nI : Nat} {il : Nat → PIl} {nL : Nat} {le : Nat → PLe} {stamp : Int32} {fault : Int} {nF : Nat} {fk : Nat → Int} {fc : Nat → Nat} {fr : Nat → Int} {laidN : Nat} {laidDay : Nat → Int} {laidOp : Nat → Nat} {laidHour : Int} {laidStamp : Int32} : (PSt.mk tape taped today daily weekly one other nO op nS sg ct nC ca nP pt nI il nL le stamp fault nF fk fc fr laidN laidDay laidOp laidHour laidStamp).tape = tape := rfl
theorem PSt.g_taped {tape : Nat → Int} {taped : Nat} {today : Int} {daily : Int} {weekly : Int} {one : Nat → Int} {other : Nat → Int} {nO : Nat} {op : Nat → POp} {nS : Nat} {sg : Nat → PSg} {ct : Nat → PCt} {nC : Nat} {ca : Nat → PCa} {nP : Nat} {pt : Nat → PPt} {nI : Nat} {il : Nat → PIl} {nL : Nat} {le : Nat → PLe} {stamp : Int32} {fault : Int} {nF : Nat} {fk : Nat → Int} {fc : Nat → Nat} {fr : Nat → Int} {laidN : Nat} {laidDay : Nat → Int} {laidOp : Nat → Nat} {laidHour : Int} {laidStamp : Int32} : (PSt.mk tape taped today daily weekly one other nO op nS sg ct nC ca nP pt nI il nL le stamp fault nF fk fc fr laidN laidDay laidOp laidHour laidStamp).taped = taped := rfl
theorem PSt.g_today {tape : Nat → Int} {taped : Nat} {today : Int} {daily : Int} {weekly : Int} {one : Nat → Int} {other : Nat → Int} {nO : Nat} {op : Nat → POp} {nS : Nat} {sg : Nat → PSg} {ct : Nat → PCt} {nC : Nat} {ca : Nat → PCa} {nP : Nat} {pt : Nat → PPt} {nI : Nat} {il : Nat → PIl} {nL : Nat} {le : Nat → PLe} {stamp : Int32} {fault : Int} {nF : Nat} {fk : Nat → Int} {fc : Nat → Nat} {fr : Nat → Int} {laidN : Nat} {laidDay : Nat → Int} {laidOp : Nat → Nat} {laidHour : Int} {laidStamp : Int32} : (PSt.mk tape taped today daily weekly one other nO op nS sg ct nC ca nP pt nI il nL le stamp fault nF fk fc fr laidN laidDay laidOp laidHour laidStamp).today = today := rfl
theorem PSt.g_daily {tape : Nat → Int} {taped : Nat} {today : Int} {daily : Int} {weekly : Int} {one : Nat → Int} {other : Nat → Int} {nO : Nat} {op : Nat → POp} {nS : Nat} {sg : Nat → PSg} {ct : Nat → PCt} {nC : Nat} {ca : Nat → PCa} {nP : Nat} {pt : Nat → PPt} {nI : Nat} {il : Nat → PIl} {nL : Nat} {le : Nat → PLe} {stamp : Int32} {fault : Int} {nF : Nat} {fk : Nat → Int} {fc : Nat → Nat} {fr : Nat → Int} {laidN : Nat} {laidDay : Nat → Int} {laidOp : Nat → Nat} {laidHour : Int} {laidStamp : Int32} : (PSt.mk tape taped today daily weekly one other nO op nS sg ct nC ca nP pt nI il nL le stamp fault nF fk fc fr laidN laidDay laidOp laidHour laidStamp).daily = daily := rfl
theorem PSt.g_weekly {tape : Nat → Int} {taped : Nat} {today : Int} {daily : Int} {weekly : Int} {one : Nat → Int} {other : Nat → Int} {nO : Nat} {op : Nat → POp} {nS : Nat} {sg : Nat → PSg} {ct : Nat → PCt} {nC : Nat} {ca : Nat → PCa} {nP : Nat} {pt : Nat → PPt} {nI : Nat} {il : Nat → PIl} {nL : Nat} {le : Nat → PLe} {stamp : Int32} {fault : Int} {nF : Nat} {fk : Nat → Int} {fc : Nat → Nat} {fr : Nat → Int} {laidN : Nat} {laidDay : Nat → Int} {laidOp : Nat → Nat} {laidHour : Int} {laidStamp : Int32} : (PSt.mk tape taped today daily weekly one other nO op nS sg ct nC ca nP pt nI il nL le stamp fault nF fk fc fr laidN laidDay laidOp laidHour laidStamp).weekly = weekly := rfl
theorem PSt.g_one {tape : Nat → Int} {taped : Nat} {today : Int} {daily : Int} {weekly : Int} {one : Nat → Int} {other : Nat → Int} {nO : Nat} {op : Nat → POp} {nS : Nat} {sg : Nat → PSg} {ct : Nat → PCt} {nC : Nat} {ca : Nat → PCa} {nP : Nat} {pt : Nat → PPt} {nI : Nat} {il : Nat → PIl} {nL : Nat} {le : Nat → PLe} {stamp : Int32} {fault : Int} {nF : Nat} {fk : Nat → Int} {fc : Nat → Nat} {fr : Nat → Int} {laidN : Nat} {laidDay : Nat → Int} {laidOp : Nat → Nat} {laidHour : Int} {laidStamp : Int32} : (PSt.mk tape taped today daily weekly one other nO op nS sg ct nC ca nP pt nI il nL le stamp fault nF fk fc fr laidN laidDay laidOp laidHour laidStamp).one = one := rfl
theorem PSt.g_other {tape : Nat → Int} {taped : Nat} {today : Int} {daily : Int} {weekly : Int} {one : Nat → Int} {other : Nat → Int} {nO : Nat} {op : Nat → POp} {nS : Nat} {sg : Nat → PSg} {ct : Nat → PCt} {nC : Nat} {ca : Nat → PCa} {nP : Nat} {pt : Nat → PPt} {nI : Nat} {il : Nat → PIl} {nL : Nat} {le : Nat → PLe} {stamp : Int32} {fault : Int} {nF : Nat} {fk : Nat → Int} {fc : Nat → Nat} {fr : Nat → Int} {laidN : Nat} {laidDay : Nat → Int} {laidOp : Nat → Nat} {laidHour : Int} {laidStamp : Int32} : (PSt.mk tape taped today daily weekly one other nO op nS sg ct nC ca nP pt nI il nL le stamp fault nF fk fc fr laidN laidDay laidOp laidHour laidStamp).other = other := rfl
theorem PSt.g_nO {tape : Nat → Int} {taped : Nat} {today : Int} {daily : Int} {weekly : Int} {one : Nat → Int} {other : Nat → Int} {nO : Nat} {op : Nat → POp} {nS : Nat} {sg : Nat → PSg} {ct : Nat → PCt} {nC : Nat} {ca : Nat → PCa} {nP : Nat} {pt : Nat → PPt} {nI : Nat} {il : Nat → PIl} {nL : Nat} {le : Nat → PLe} {stamp : Int32} {fault : Int} {nF : Nat} {fk : Nat → Int} {fc : Nat → Nat} {fr : Nat → Int} {laidN : Nat} {laidDay : Nat → Int} {laidOp : Nat → Nat} {laidHour : Int} {laidStamp : Int32} : (PSt.mk tape taped today daily weekly one other nO op nS sg ct nC ca nP pt nI il nL le stamp fault nF fk fc fr laidN laidDay laidOp laidHour laidStamp).nO = nO := rfl
theorem PSt.g_op {tape : Nat → Int} {taped : Nat} {today : Int} {daily : Int} {weekly : Int} {one : Nat → Int} {other : Nat → Int} {nO : Nat} {op : Nat → POp} {nS : Nat} {sg : Nat → PSg} {ct : Nat → PCt} {nC : Nat} {ca : Nat → PCa} {nP : Nat} {pt : Nat → PPt} {nI : Nat} {il : Nat → PIl} {nL : Nat} {le : Nat → PLe} {stamp : Int32} {fault : Int} {nF : Nat} {fk : Nat → Int} {fc : Nat → Nat} {fr : Nat → Int} {laidN : Nat} {laidDay : Nat → Int} {laidOp : Nat → Nat} {laidHour : Int} {laidStamp : Int32} : (PSt.mk tape taped today daily weekly one other nO op nS sg ct nC ca nP pt nI il nL le stamp fault nF fk fc fr laidN laidDay laidOp laidHour laidStamp).op = op := rfl
theorem PSt.g_nS {tape : Nat → Int} {taped : Nat} {today : Int} {daily : Int} {weekly : Int} {one : Nat → Int} {other : Nat → Int} {nO : Nat} {op : Nat → POp} {nS : Nat} {sg : Nat → PSg} {ct : Nat → PCt} {nC : Nat} {ca : Nat → PCa} {nP : Nat} {pt : Nat → PPt} {nI : Nat} {il : Nat → PIl} {nL : Nat} {le : Nat → PLe} {stamp : Int32} {fault : Int} {nF : Nat} {fk : Nat → Int} {fc : Nat → Nat} {fr : Nat → Int} {laidN : Nat} {laidDay : Nat → Int} {laidOp : Nat → Nat} {laidHour : Int} {laidStamp : Int32} : (PSt.mk tape taped today daily weekly one other nO op nS sg ct nC ca nP pt nI il nL le stamp fault nF fk fc fr laidN laidDay laidOp laidHour laidStamp).nS = nS := rfl
theorem PSt.g_sg {tape : Nat → Int} {taped : Nat} {today : Int} {daily : Int} {weekly : Int} {one : Nat → Int} {other : Nat → Int} {nO : Nat} {op : Nat → POp} {nS : Nat} {sg : Nat → PSg} {ct : Nat → PCt} {nC : Nat} {ca : Nat → PCa} {nP : Nat} {pt : Nat → PPt} {nI : Nat} {il : Nat → PIl} {nL : Nat} {le : Nat → PLe} {stamp : Int32} {fault : Int} {nF : Nat} {fk : Nat → Int} {fc : Nat → Nat} {fr : Nat → Int} {laidN : Nat} {laidDay : Nat → Int} {laidOp : Nat → Nat} {laidHour : Int} {laidStamp : Int32} : (PSt.mk tape taped today daily weekly one other nO op nS sg ct nC ca nP pt nI il nL le stamp fault nF fk fc fr laidN laidDay laidOp laidHour laidStamp).sg = sg := rfl
theorem PSt.g_ct {tape : Nat → Int} {taped : Nat} {today : Int} {daily : Int} {weekly : Int} {one : Nat → Int} {other : Nat → Int} {nO : Nat} {op : Nat → POp} {nS : Nat} {sg : Nat → PSg} {ct : Nat → PCt} {nC : Nat} {ca : Nat → PCa} {nP : Nat} {pt : Nat → PPt} {nI : Nat} {il : Nat → PIl} {nL : Nat} {le : Nat → PLe} {stamp : Int32} {fault : Int} {nF : Nat} {fk : Nat → Int} {fc : Nat → Nat} {fr : Nat → Int} {laidN : Nat} {laidDay : Nat → Int} {laidOp : Nat → Nat} {laidHour : Int} {laidStamp : Int32} : (PSt.mk tape taped today daily weekly one other nO op nS sg ct nC ca nP pt nI il nL le stamp fault nF fk fc fr laidN laidDay laidOp laidHour laidStamp).ct = ct := rfl
theorem PSt.g_nC {tape : Nat → Int} {taped : Nat} {today : Int} {daily : Int} {weekly : Int} {one : Nat → Int} {other : Nat → Int} {nO : Nat} {op : Nat → POp} {nS : Nat} {sg : Nat → PSg} {ct : Nat → PCt} {nC : Nat} {ca : Nat → PCa} {nP : Nat} {pt : Nat → PPt} {nI : Nat} {il : Nat → PIl} {nL : Nat} {le : Nat → PLe} {stamp : Int32} {fault : Int} {nF : Nat} {fk : Nat → Int} {fc : Nat → Nat} {fr : Nat → Int} {laidN : Nat} {laidDay : Nat → Int} {laidOp : Nat → Nat} {laidHour : Int} {laidStamp : Int32} : (PSt.mk tape taped today daily weekly one other nO op nS sg ct nC ca nP pt nI il nL le stamp fault nF fk fc fr laidN laidDay laidOp laidHour laidStamp).nC = nC := rfl
theorem PSt.g_ca {tape : Nat → Int} {taped : Nat} {today : Int} {daily : Int} {weekly : Int} {one : Nat → Int} {other : Nat → Int} {nO : Nat} {op : Nat → POp} {nS : Nat} {sg : Nat → PSg} {ct : Nat → PCt} {nC : Nat} {ca : Nat → PCa} {nP : Nat} {pt : Nat → PPt} {nI : Nat} {il : Nat → PIl} {nL : Nat} {le : Nat → PLe} {stamp : Int32} {fault : Int} {nF : Nat} {fk : Nat → Int} {fc : Nat → Nat} {fr : Nat → Int} {laidN : Nat} {laidDay : Nat → Int} {laidOp : Nat → Nat} {laidHour : Int} {laidStamp : Int32} : (PSt.mk tape taped today daily weekly one other nO op nS sg ct nC ca nP pt nI il nL le stamp fault nF fk fc fr laidN laidDay laidOp laidHour laidStamp).ca = ca := rfl
theorem PSt.g_nP {tape : Nat → Int} {taped : Nat} {today : Int} {daily : Int} {weekly : Int} {one : Nat → Int} {other : Nat → Int} {nO : Nat} {op : Nat → POp} {nS : Nat} {sg : Nat → PSg} {ct : Nat → PCt} {nC : Nat} {ca : Nat → PCa} {nP : Nat} {pt : Nat → PPt} {nI : Nat} {il : Nat → PIl} {nL : Nat} {le : Nat → PLe} {stamp : Int32} {fault : Int} {nF : Nat} {fk : Nat → Int} {fc : Nat → Nat} {fr : Nat → Int} {laidN : Nat} {laidDay : Nat → Int} {laidOp : Nat → Nat} {laidHour : Int} {laidStamp : Int32} : (PSt.mk tape taped today daily weekly one other nO op nS sg ct nC ca nP pt nI il nL le stamp fault nF fk fc fr laidN laidDay laidOp laidHour laidStamp).nP = nP := rfl
theorem PSt.g_pt {tape : Nat → Int} {taped : Nat} {today : Int} {daily : Int} {weekly : Int} {one : Nat → Int} {other : Nat → Int} {nO : Nat} {op : Nat → POp} {nS : Nat} {sg : Nat → PSg} {ct : Nat → PCt} {nC : Nat} {ca : Nat → PCa} {nP : Nat} {pt : Nat → PPt} {nI : Nat} {il : Nat → PIl} {nL : Nat} {le : Nat → PLe} {stamp : Int32} {fault : Int} {nF : Nat} {fk : Nat → Int} {fc : Nat → Nat} {fr : Nat → Int} {laidN : Nat} {laidDay : Nat → Int} {laidOp : Nat → Nat} {laidHour : Int} {laidStamp : Int32} : (PSt.mk tape taped today daily weekly one other nO op nS sg ct nC ca nP pt nI il nL le stamp fault nF fk fc fr laidN laidDay laidOp laidHour laidStamp).pt = pt := rfl
theorem PSt.g_nI {tape : Nat → Int} {taped : Nat} {today : Int} {daily : Int} {weekly : Int} {one : Nat → Int} {other : Nat → Int} {nO : Nat} {op : Nat → POp} {nS : Nat} {sg : Nat → PSg} {ct : Nat → PCt} {nC : Nat} {ca : Nat → PCa} {nP : Nat} {pt : Nat → PPt} {nI : Nat} {il : Nat → PIl} {nL : Nat} {le : Nat → PLe} {stamp : Int32} {fault : Int} {nF : Nat} {fk : Nat → Int} {fc : Nat → Nat} {fr : Nat → Int} {laidN : Nat} {laidDay : Nat → Int} {laidOp : Nat → Nat} {laidHour : Int} {laidStamp : Int32} : (PSt.mk tape taped today daily weekly one other nO op nS sg ct nC ca nP pt nI il nL le stamp fault nF fk fc fr laidN laidDay laidOp laidHour laidStamp).nI = nI := rfl
theorem PSt.g_il {tape : Nat → Int} {taped : Nat} {today : Int} {daily : Int} {weekly : Int} {one : Nat → Int} {other : Nat → Int} {nO : Nat} {op : Nat → POp} {nS : Nat} {sg : Nat → PSg} {ct : Nat → PCt} {nC : Nat} {ca : Nat → PCa} {nP : Nat} {pt : Nat → PPt} {nI : Nat} {il : Nat → PIl} {nL : Nat} {le : Nat → PLe} {stamp : Int32} {fault : Int} {nF : Nat} {fk : Nat → Int} {fc : Nat → Nat} {fr : Nat → Int} {laidN : Nat} {laidDay : Nat → Int} {laidOp : Nat → Nat} {laidHour : Int} {laidStamp : Int32} : (PSt.mk tape taped today daily weekly one other nO op nS sg ct nC ca nP pt nI il nL le stamp fault nF fk fc fr laidN laidDay laidOp laidHour laidStamp).il = il := rfl
theorem PSt.g_nL {tape : Nat → Int} {taped : Nat} {today : Int} {daily : Int} {weekly : Int} {one : Nat → Int} {other : Nat → Int} {nO : Nat} {op : Nat → POp} {nS : Nat} {sg : Nat → PSg} {ct : Nat → PCt} {nC : Nat} {ca : Nat → PCa} {nP : Nat} {pt : Nat → PPt} {nI : Nat} {il : Nat → PIl} {nL : Nat} {le : Nat → PLe} {stamp : Int32} {fault : Int} {nF : Nat} {fk : Nat → Int} {fc : Nat → Nat} {fr : Nat → Int} {laidN : Nat} {laidDay : Nat → Int} {laidOp : Nat → Nat} {laidHour : Int} {laidStamp : Int32} : (PSt.mk tape taped today daily weekly one other nO op nS sg ct nC ca nP pt nI il nL le stamp fault nF fk fc fr laidN laidDay laidOp laidHour laidStamp).nL = nL := rfl
theorem PSt.g_le {tape : Nat → Int} {taped : Nat} {today : Int} {daily : Int} {weekly : Int} {one : Nat → Int} {other : Nat → Int} {nO : Nat} {op : Nat → POp} {nS : Nat} {sg : Nat → PSg} {ct : Nat → PCt} {nC : Nat} {ca : Nat → PCa} {nP : Nat} {pt : Nat → PPt} {nI : Nat} {il : Nat → PIl} {nL : Nat} {le : Nat → PLe} {stamp : Int32} {fault : Int} {nF : Nat} {fk : Nat → Int} {fc : Nat → Nat} {fr : Nat → Int} {laidN : Nat} {laidDay : Nat → Int} {laidOp : Nat → Nat} {laidHour : Int} {laidStamp : Int32} : (PSt.mk tape taped today daily weekly one other nO op nS sg ct nC ca nP pt nI il nL le stamp fault nF fk fc fr laidN laidDay laidOp laidHour laidStamp).le = le := rfl
theorem PSt.g_stamp {tape : Nat → Int} {taped : Nat} {today : Int} {daily : Int} {weekly : Int} {one : Nat → Int} {other : Nat → Int} {nO : Nat} {op : Nat → POp} {nS : Nat} {sg : Nat → PSg} {ct : Nat → PCt} {nC : Nat} {ca : Nat → PCa} {nP : Nat} {pt : Nat → PPt} {nI : Nat} {il : Nat → PIl} {nL : Nat} {le : Nat → PLe} {stamp : Int32} {fault : Int} {nF : Nat} {fk : Nat → Int} {fc : Nat → Nat} {fr : Nat → Int} {laidN : Nat} {laidDay : Nat → Int} {laidOp : Nat → Nat} {laidHour : Int} {laidStamp : Int32} : (PSt.mk tape taped today daily weekly one other nO op nS sg ct nC ca nP pt nI il nL le stamp fault nF fk fc fr laidN laidDay laidOp laidHour laidStamp).stamp = stamp := rfl
theorem PSt.g_fault {tape : Nat → Int} {taped : Nat} {today : Int} {daily : Int} {weekly : Int} {one : Nat → Int} {other : Nat → Int} {nO : Nat} {op : Nat → POp} {nS : Nat} {sg : Nat → PSg} {ct : Nat → PCt} {nC : Nat} {ca : Nat → PCa} {nP : Nat} {pt : Nat → PPt} {nI : Nat} {il : Nat → PIl} {nL : Nat} {le : Nat → PLe} {stamp : Int32} {fault : Int} {nF : Nat} {fk : Nat → Int} {fc : Nat → Nat} {fr : Nat → Int} {laidN : Nat} {laidDay : Nat → Int} {laidOp : Nat → Nat} {laidHour : Int} {laidStamp : Int32} : (PSt.mk tape taped today daily weekly one other nO op nS sg ct nC ca nP pt nI il nL le stamp fault nF fk fc fr laidN laidDay laidOp laidHour laidStamp).fault = fault := rfl
theorem PSt.g_nF {tape : Nat → Int} {taped : Nat} {today : Int} {daily : Int} {weekly : Int} {one : Nat → Int} {other : Nat → Int} {nO : Nat} {op : Nat → POp} {nS : Nat} {sg : Nat → PSg} {ct : Nat → PCt} {nC : Nat} {ca : Nat → PCa} {nP : Nat} {pt : Nat → PPt} {nI : Nat} {il : Nat → PIl} {nL : Nat} {le : Nat → PLe} {stamp : Int32} {fault : Int} {nF : Nat} {fk : Nat → Int} {fc : Nat → Nat} {fr : Nat → Int} {laidN : Nat} {laidDay : Nat → Int} {laidOp : Nat → Nat} {laidHour : Int} {laidStamp : Int32} : (PSt.mk tape taped today daily weekly one other nO op nS sg ct nC ca nP pt nI il nL le stamp fault nF fk fc fr laidN laidDay laidOp laidHour laidStamp).nF = nF := rfl
theorem PSt.g_fk {tape : Nat → Int} {taped : Nat} {today : Int} {daily : Int} {weekly : Int} {one : Nat → Int} {other : Nat → Int} {nO : Nat} {op : Nat → POp} {nS : Nat} {sg : Nat → PSg} {ct : Nat → PCt} {nC : Nat} {ca : Nat → PCa} {nP : Nat} {pt : Nat → PPt} {nI : Nat} {il : Nat → PIl} {nL : Nat} {le : Nat → PLe} {stamp : Int32} {fault : Int} {nF : Nat} {fk : Nat → Int} {fc : Nat → Nat} {fr : Nat → Int} {laidN : Nat} {laidDay : Nat → Int} {laidOp : Nat → Nat} {laidHour : Int} {laidStamp : Int32} : (PSt.mk tape taped today daily weekly one other nO op nS sg ct nC ca nP pt nI il nL le stamp fault nF fk fc fr laidN laidDay laidOp laidHour laidStamp).fk = fk := rfl
theorem PSt.g_fc {tape : Nat → Int} {taped : Nat} {today : Int} {daily : Int} {weekly : Int} {one : Nat → Int} {other : Nat → Int} {nO : Nat} {op : Nat → POp} {nS : Nat} {sg : Nat → PSg} {ct : Nat → PCt} {nC : Nat} {ca : Nat → PCa} {nP : Nat} {pt : Nat → PPt} {nI : Nat} {il : Nat → PIl} {nL : Nat} {le : Nat → PLe} {stamp : Int32} {fault : Int} {nF : Nat} {fk : Nat → Int} {fc : Nat → Nat} {fr : Nat → Int} {laidN : Nat} {laidDay : Nat → Int} {laidOp : Nat → Nat} {laidHour : Int} {laidStamp : Int32} : (PSt.mk tape taped today daily weekly one other nO op nS sg ct nC ca nP pt nI il nL le stamp fault nF fk fc fr laidN laidDay laidOp laidHour laidStamp).fc = fc := rfl
theorem PSt.g_fr {tape : Nat → Int} {taped : Nat} {today : Int} {daily : Int} {weekly : Int} {one : Nat → Int} {other : Nat → Int} {nO : Nat} {op : Nat → POp} {nS : Nat} {sg : Nat → PSg} {ct : Nat → PCt} {nC : Nat} {ca : Nat → PCa} {nP : Nat} {pt : Nat → PPt} {nI : Nat} {il : Nat → PIl} {nL : Nat} {le : Nat → PLe} {stamp : Int32} {fault : Int} {nF : Nat} {fk : Nat → Int} {fc : Nat → Nat} {fr : Nat → Int} {laidN : Nat} {laidDay : Nat → Int} {laidOp : Nat → Nat} {laidHour : Int} {laidStamp : Int32} : (PSt.mk tape taped today daily weekly one other nO op nS sg ct nC ca nP pt nI il nL le stamp fault nF fk fc fr laidN laidDay laidOp laidHour laidStamp).fr = fr := rfl
theorem PSt.g_laidN {tape : Nat → Int} {taped : Nat} {today : Int} {daily : Int} {weekly : Int} {one : Nat → Int} {other : Nat → Int} {nO : Nat} {op : Nat → POp} {nS : Nat} {sg : Nat → PSg} {ct : Nat → PCt} {nC : Nat} {ca : Nat → PCa} {nP : Nat} {pt : Nat → PPt} {nI : Nat} {il : Nat → PIl} {nL : Nat} {le : Nat → PLe} {stamp : Int32} {fault : Int} {nF : Nat} {fk : Nat → Int} {fc : Nat → Nat} {fr : Nat → Int} {laidN : Nat} {laidDay : Nat → Int} {laidOp : Nat → Nat} {laidHour : Int} {laidStamp : Int32} : (PSt.mk tape taped today daily weekly one other nO op nS sg ct nC ca nP pt nI il nL le stamp fault nF fk fc fr laidN laidDay laidOp laidHour laidStamp).laidN = laidN := rfl
theorem PSt.g_laidDay {tape : Nat → Int} {taped : Nat} {today : Int} {daily : Int} {weekly : Int} {one : Nat → Int} {other : Nat → Int} {nO : Nat} {op : Nat → POp} {nS : Nat} {sg : Nat → PSg} {ct : Nat → PCt} {nC : Nat} {ca : Nat → PCa} {nP : Nat} {pt : Nat → PPt} {nI : Nat} {il : Nat → PIl} {nL : Nat} {le : Nat → PLe} {stamp : Int32} {fault : Int} {nF : Nat} {fk : Nat → Int} {fc : Nat → Nat} {fr : Nat → Int} {laidN : Nat} {laidDay : Nat → Int} {laidOp : Nat → Nat} {laidHour : Int} {laidStamp : Int32} : (PSt.mk tape taped today daily weekly one other nO op nS sg ct nC ca nP pt nI il nL le stamp fault nF fk fc fr laidN laidDay laidOp laidHour laidStamp).laidDay = laidDay := rfl
theorem PSt.g_laidOp {tape : Nat → Int} {taped : Nat} {today : Int} {daily : Int} {weekly : Int} {one : Nat → Int} {other : Nat → Int} {nO : Nat} {op : Nat → POp} {nS : Nat} {sg : Nat → PSg} {ct : Nat → PCt} {nC : Nat} {ca : Nat → PCa} {nP : Nat} {pt : Nat → PPt} {nI : Nat} {il : Nat → PIl} {nL : Nat} {le : Nat → PLe} {stamp : Int32} {fault : Int} {nF : Nat} {fk : Nat → Int} {fc : Nat → Nat} {fr : Nat → Int} {laidN : Nat} {laidDay : Nat → Int} {laidOp : Nat → Nat} {laidHour : Int} {laidStamp : Int32} : (PSt.mk tape taped today daily weekly one other nO op nS sg ct nC ca nP pt nI il nL le stamp fault nF fk fc fr laidN laidDay laidOp laidHour laidStamp).laidOp = laidOp := rfl
theorem PSt.g_laidHour {tape : Nat → Int} {taped : Nat} {today : Int} {daily : Int} {weekly : Int} {one : Nat → Int} {other : Nat → Int} {nO : Nat} {op : Nat → POp} {nS : Nat} {sg : Nat → PSg} {ct : Nat → PCt} {nC : Nat} {ca : Nat → PCa} {nP : Nat} {pt : Nat → PPt} {nI : Nat} {il : Nat → PIl} {nL : Nat} {le : Nat → PLe} {stamp : Int32} {fault : Int} {nF : Nat} {fk : Nat → Int} {fc : Nat → Nat} {fr : Nat → Int} {laidN : Nat} {laidDay : Nat → Int} {laidOp : Nat → Nat} {laidHour : Int} {laidStamp : Int32} : (PSt.mk tape taped today daily weekly one other nO op nS sg ct nC ca nP pt nI il nL le stamp fault nF fk fc fr laidN laidDay laidOp laidHour laidStamp).laidHour = laidHour := rfl
theorem PSt.g_laidStamp {tape : Nat → Int} {taped : Nat} {today : Int} {daily : Int} {weekly : Int} {one : Nat → Int} {other : Nat → Int} {nO : Nat} {op : Nat → POp} {nS : Nat} {sg : Nat → PSg} {ct : Nat → PCt} {nC : Nat} {ca : Nat → PCa} {nP : Nat} {pt : Nat → PPt} {nI : Nat} {il : Nat → PIl} {nL : Nat} {le : Nat → PLe} {stamp : Int32} {fault : Int} {nF : Nat} {fk : Nat → Int} {fc : Nat → Nat} {fr : Nat → Int} {laidN : Nat} {laidDay : Nat → Int} {laidOp : Nat → Nat} {laidHour : Int} {laidStamp : Int32} : (PSt.mk tape taped today daily weekly one other nO op nS sg ct nC ca nP pt nI il nL le stamp fault nF fk fc fr laidN laidDay laidOp laidHour laidStamp).laidStamp = laidStamp := rfl
def PSt.s_tape (x : PSt) (v : Nat → Int) : PSt := ((v, x.1.2), x.2)
def PSt.s_taped (x : PSt) (v : Nat) : PSt := ((x.1.1, v, x.1.2.2), x.2)
def PSt.s_today (x : PSt) (v : Int) : PSt := ((x.1.1, x.1.2.1, v, x.1.2.2.2), x.2)
def PSt.s_daily (x : PSt) (v : Int) : PSt := ((x.1.1, x.1.2.1, x.1.2.2.1, v, x.1.2.2.2.2), x.2)
def PSt.s_weekly (x : PSt) (v : Int) : PSt := ((x.1.1, x.1.2.1, x.1.2.2.1, x.1.2.2.2.1, v, x.1.2.2.2.2.2), x.2)
def PSt.s_one (x : PSt) (v : Nat → Int) : PSt := ((x.1.1, x.1.2.1, x.1.2.2.1, x.1.2.2.2.1, x.1.2.2.2.2.1, v), x.2)
def PSt.s_other (x : PSt) (v : Nat → Int) : PSt := (x.1, (v, x.2.1.2), x.2.2)
def PSt.s_nO (x : PSt) (v : Nat) : PSt := (x.1, (x.2.1.1, v, x.2.1.2.2), x.2.2)
def PSt.s_op (x : PSt) (v : Nat → POp) : PSt := (x.1, (x.2.1.1, x.2.1.2.1, v, x.2.1.2.2.2), x.2.2)
def PSt.s_nS (x : PSt) (v : Nat) : PSt := (x.1, (x.2.1.1, x.2.1.2.1, x.2.1.2.2.1, v, x.2.1.2.2.2.2), x.2.2)
def PSt.s_sg (x : PSt) (v : Nat → PSg) : PSt := (x.1, (x.2.1.1, x.2.1.2.1, x.2.1.2.2.1, x.2.1.2.2.2.1, v, x.2.1.2.2.2.2.2), x.2.2)
def PSt.s_ct (x : PSt) (v : Nat → PCt) : PSt := (x.1, (x.2.1.1, x.2.1.2.1, x.2.1.2.2.1, x.2.1.2.2.2.1, x.2.1.2.2.2.2.1, v), x.2.2)
def PSt.s_nC (x : PSt) (v : Nat) : PSt := (x.1, x.2.1, (v, x.2.2.1.2), x.2.2.2)
def PSt.s_ca (x : PSt) (v : Nat → PCa) : PSt := (x.1, x.2.1, (x.2.2.1.1, v, x.2.2.1.2.2), x.2.2.2)
def PSt.s_nP (x : PSt) (v : Nat) : PSt := (x.1, x.2.1, (x.2.2.1.1, x.2.2.1.2.1, v, x.2.2.1.2.2.2), x.2.2.2)
def PSt.s_pt (x : PSt) (v : Nat → PPt) : PSt := (x.1, x.2.1, (x.2.2.1.1, x.2.2.1.2.1, x.2.2.1.2.2.1, v, x.2.2.1.2.2.2.2), x.2.2.2)
def PSt.s_nI (x : PSt) (v : Nat) : PSt := (x.1, x.2.1, (x.2.2.1.1, x.2.2.1.2.1, x.2.2.1.2.2.1, x.2.2.1.2.2.2.1, v, x.2.2.1.2.2.2.2.2), x.2.2.2)
def PSt.s_il (x : PSt) (v : Nat → PIl) : PSt := (x.1, x.2.1, (x.2.2.1.1, x.2.2.1.2.1, x.2.2.1.2.2.1, x.2.2.1.2.2.2.1, x.2.2.1.2.2.2.2.1, v), x.2.2.2)
def PSt.s_nL (x : PSt) (v : Nat) : PSt := (x.1, x.2.1, x.2.2.1, (v, x.2.2.2.1.2), x.2.2.2.2)
def PSt.s_le (x : PSt) (v : Nat → PLe) : PSt := (x.1, x.2.1, x.2.2.1, (x.2.2.2.1.1, v, x.2.2.2.1.2.2), x.2.2.2.2)
def PSt.s_stamp (x : PSt) (v : Int32) : PSt := (x.1, x.2.1, x.2.2.1, (x.2.2.2.1.1, x.2.2.2.1.2.1, v, x.2.2.2.1.2.2.2), x.2.2.2.2)
def PSt.s_fault (x : PSt) (v : Int) : PSt := (x.1, x.2.1, x.2.2.1, (x.2.2.2.1.1, x.2.2.2.1.2.1, x.2.2.2.1.2.2.1, v, x.2.2.2.1.2.2.2.2), x.2.2.2.2)
def PSt.s_nF (x : PSt) (v : Nat) : PSt := (x.1, x.2.1, x.2.2.1, (x.2.2.2.1.1, x.2.2.2.1.2.1, x.2.2.2.1.2.2.1, x.2.2.2.1.2.2.2.1, v, x.2.2.2.1.2.2.2.2.2), x.2.2.2.2)
def PSt.s_fk (x : PSt) (v : Nat → Int) : PSt := (x.1, x.2.1, x.2.2.1, (x.2.2.2.1.1, x.2.2.2.1.2.1, x.2.2.2.1.2.2.1, x.2.2.2.1.2.2.2.1, x.2.2.2.1.2.2.2.2.1, v), x.2.2.2.2)
def PSt.s_fc (x : PSt) (v : Nat → Nat) : PSt := (x.1, x.2.1, x.2.2.1, x.2.2.2.1, (v, x.2.2.2.2.1.2), x.2.2.2.2.2)
def PSt.s_fr (x : PSt) (v : Nat → Int) : PSt := (x.1, x.2.1, x.2.2.1, x.2.2.2.1, (x.2.2.2.2.1.1, v, x.2.2.2.2.1.2.2), x.2.2.2.2.2)
def PSt.s_laidN (x : PSt) (v : Nat) : PSt := (x.1, x.2.1, x.2.2.1, x.2.2.2.1, (x.2.2.2.2.1.1, x.2.2.2.2.1.2.1, v, x.2.2.2.2.1.2.2.2), x.2.2.2.2.2)
def PSt.s_laidDay (x : PSt) (v : Nat → Int) : PSt := (x.1, x.2.1, x.2.2.1, x.2.2.2.1, (x.2.2.2.2.1.1, x.2.2.2.2.1.2.1, x.2.2.2.2.1.2.2.1, v, x.2.2.2.2.1.2.2.2.2), x.2.2.2.2.2)
def PSt.s_laidOp (x : PSt) (v : Nat → Nat) : PSt := (x.1, x.2.1, x.2.2.1, x.2.2.2.1, (x.2.2.2.2.1.1, x.2.2.2.2.1.2.1, x.2.2.2.2.1.2.2.1, x.2.2.2.2.1.2.2.2.1, v, x.2.2.2.2.1.2.2.2.2.2), x.2.2.2.2.2)
def PSt.s_laidHour (x : PSt) (v : Int) : PSt := (x.1, x.2.1, x.2.2.1, x.2.2.2.1, (x.2.2.2.2.1.1, x.2.2.2.2.1.2.1, x.2.2.2.2.1.2.2.1, x.2.2.2.2.1.2.2.2.1, x.2.2.2.2.1.2.2.2.2.1, v), x.2.2.2.2.2)
def PSt.s_laidStamp (x : PSt) (v : Int32) : PSt := (x.1, x.2.1, x.2.2.1, x.2.2.2.1, x.2.2.2.2.1, v)
theorem PSt.tape_s_tape {x : PSt} {v : Nat → Int} : (x.s_tape v).tape = v := rfl
theorem PSt.taped_s_tape {x : PSt} {v : Nat → Int} : (x.s_tape v).taped = x.taped := rfl
theorem PSt.today_s_tape {x : PSt} {v : Nat → Int} : (x.s_tape v).today = x.today := rfl
theorem PSt.daily_s_tape {x : PSt} {v : Nat → Int} : (x.s_tape v).daily = x.daily := rfl
theorem PSt.weekly_s_tape {x : PSt} {v : Nat → Int} : (x.s_tape v).weekly = x.weekly := rfl
theorem PSt.one_s_tape {x : PSt} {v : Nat → Int} : (x.s_tape v).one = x.one := rfl
theorem PSt.other_s_tape {x : PSt} {v : Nat → Int} : (x.s_tape v).other = x.other := rfl
theorem PSt.nO_s_tape {x : PSt} {v : Nat → Int} : (x.s_tape v).nO = x.nO := rfl
theorem PSt.op_s_tape {x : PSt} {v : Nat → Int} : (x.s_tape v).op = x.op := rfl
theorem PSt.nS_s_tape {x : PSt} {v : Nat → Int} : (x.s_tape v).nS = x.nS := rfl
theorem PSt.sg_s_tape {x : PSt} {v : Nat → Int} : (x.s_tape v).sg = x.sg := rfl
theorem PSt.ct_s_tape {x : PSt} {v : Nat → Int} : (x.s_tape v).ct = x.ct := rfl
theorem PSt.nC_s_tape {x : PSt} {v : Nat → Int} : (x.s_tape v).nC = x.nC := rfl
theorem PSt.ca_s_tape {x : PSt} {v : Nat → Int} : (x.s_tape v).ca = x.ca := rfl
theorem PSt.nP_s_tape {x : PSt} {v : Nat → Int} : (x.s_tape v).nP = x.nP := rfl
theorem PSt.pt_s_tape {x : PSt} {v : Nat → Int} : (x.s_tape v).pt = x.pt := rfl
theorem PSt.nI_s_tape {x : PSt} {v : Nat → Int} : (x.s_tape v).nI = x.nI := rfl
theorem PSt.il_s_tape {x : PSt} {v : Nat → Int} : (x.s_tape v).il = x.il := rfl
theorem PSt.nL_s_tape {x : PSt} {v : Nat → Int} : (x.s_tape v).nL = x.nL := rfl
theorem PSt.le_s_tape {x : PSt} {v : Nat → Int} : (x.s_tape v).le = x.le := rfl
theorem PSt.stamp_s_tape {x : PSt} {v : Nat → Int} : (x.s_tape v).stamp = x.stamp := rfl
theorem PSt.fault_s_tape {x : PSt} {v : Nat → Int} : (x.s_tape v).fault = x.fault := rfl
theorem PSt.nF_s_tape {x : PSt} {v : Nat → Int} : (x.s_tape v).nF = x.nF := rfl
theorem PSt.fk_s_tape {x : PSt} {v : Nat → Int} : (x.s_tape v).fk = x.fk := rfl
theorem PSt.fc_s_tape {x : PSt} {v : Nat → Int} : (x.s_tape v).fc = x.fc := rfl
theorem PSt.fr_s_tape {x : PSt} {v : Nat → Int} : (x.s_tape v).fr = x.fr := rfl
theorem PSt.laidN_s_tape {x : PSt} {v : Nat → Int} : (x.s_tape v).laidN = x.laidN := rfl
theorem PSt.laidDay_s_tape {x : PSt} {v : Nat → Int} : (x.s_tape v).laidDay = x.laidDay := rfl
theorem PSt.laidOp_s_tape {x : PSt} {v : Nat → Int} : (x.s_tape v).laidOp = x.laidOp := rfl
theorem PSt.laidHour_s_tape {x : PSt} {v : Nat → Int} : (x.s_tape v).laidHour = x.laidHour := rfl
theorem PSt.laidStamp_s_tape {x : PSt} {v : Nat → Int} : (x.s_tape v).laidStamp = x.laidStamp := rfl
theorem PSt.tape_s_taped {x : PSt} {v : Nat} : (x.s_taped v).tape = x.tape := rfl
theorem PSt.taped_s_taped {x : PSt} {v : Nat} : (x.s_taped v).taped = v := rfl
theorem PSt.today_s_taped {x : PSt} {v : Nat} : (x.s_taped v).today = x.today := rfl
theorem PSt.daily_s_taped {x : PSt} {v : Nat} : (x.s_taped v).daily = x.daily := rfl
theorem PSt.weekly_s_taped {x : PSt} {v : Nat} : (x.s_taped v).weekly = x.weekly := rfl
theorem PSt.one_s_taped {x : PSt} {v : Nat} : (x.s_taped v).one = x.one := rfl
theorem PSt.other_s_taped {x : PSt} {v : Nat} : (x.s_taped v).other = x.other := rfl
theorem PSt.nO_s_taped {x : PSt} {v : Nat} : (x.s_taped v).nO = x.nO := rfl
theorem PSt.op_s_taped {x : PSt} {v : Nat} : (x.s_taped v).op = x.op := rfl
theorem PSt.nS_s_taped {x : PSt} {v : Nat} : (x.s_taped v).nS = x.nS := rfl
theorem PSt.sg_s_taped {x : PSt} {v : Nat} : (x.s_taped v).sg = x.sg := rfl
theorem PSt.ct_s_taped {x : PSt} {v : Nat} : (x.s_taped v).ct = x.ct := rfl
theorem PSt.nC_s_taped {x : PSt} {v : Nat} : (x.s_taped v).nC = x.nC := rfl
theorem PSt.ca_s_taped {x : PSt} {v : Nat} : (x.s_taped v).ca = x.ca := rfl
theorem PSt.nP_s_taped {x : PSt} {v : Nat} : (x.s_taped v).nP = x.nP := rfl
theorem PSt.pt_s_taped {x : PSt} {v : Nat} : (x.s_taped v).pt = x.pt := rfl
theorem PSt.nI_s_taped {x : PSt} {v : Nat} : (x.s_taped v).nI = x.nI := rfl
theorem PSt.il_s_taped {x : PSt} {v : Nat} : (x.s_taped v).il = x.il := rfl
theorem PSt.nL_s_taped {x : PSt} {v : Nat} : (x.s_taped v).nL = x.nL := rfl
theorem PSt.le_s_taped {x : PSt} {v : Nat} : (x.s_taped v).le = x.le := rfl
theorem PSt.stamp_s_taped {x : PSt} {v : Nat} : (x.s_taped v).stamp = x.stamp := rfl
theorem PSt.fault_s_taped {x : PSt} {v : Nat} : (x.s_taped v).fault = x.fault := rfl
theorem PSt.nF_s_taped {x : PSt} {v : Nat} : (x.s_taped v).nF = x.nF := rfl
theorem PSt.fk_s_taped {x : PSt} {v : Nat} : (x.s_taped v).fk = x.fk := rfl
theorem PSt.fc_s_taped {x : PSt} {v : Nat} : (x.s_taped v).fc = x.fc := rfl
theorem PSt.fr_s_taped {x : PSt} {v : Nat} : (x.s_taped v).fr = x.fr := rfl
theorem PSt.laidN_s_taped {x : PSt} {v : Nat} : (x.s_taped v).laidN = x.laidN := rfl
theorem PSt.laidDay_s_taped {x : PSt} {v : Nat} : (x.s_taped v).laidDay = x.laidDay := rfl
theorem PSt.laidOp_s_taped {x : PSt} {v : Nat} : (x.s_taped v).laidOp = x.laidOp := rfl
theorem PSt.laidHour_s_taped {x : PSt} {v : Nat} : (x.s_taped v).laidHour = x.laidHour := rfl
theorem PSt.laidStamp_s_taped {x : PSt} {v : Nat} : (x.s_taped v).laidStamp = x.laidStamp := rfl
theorem PSt.tape_s_today {x : PSt} {v : Int} : (x.s_today v).tape = x.tape := rfl
theorem PSt.taped_s_today {x : PSt} {v : Int} : (x.s_today v).taped = x.taped := rfl
theorem PSt.today_s_today {x : PSt} {v : Int} : (x.s_today v).today = v := rfl
theorem PSt.daily_s_today {x : PSt} {v : Int} : (x.s_today v).daily = x.daily := rfl
theorem PSt.weekly_s_today {x : PSt} {v : Int} : (x.s_today v).weekly = x.weekly := rfl
theorem PSt.one_s_today {x : PSt} {v : Int} : (x.s_today v).one = x.one := rfl
theorem PSt.other_s_today {x : PSt} {v : Int} : (x.s_today v).other = x.other := rfl
theorem PSt.nO_s_today {x : PSt} {v : Int} : (x.s_today v).nO = x.nO := rfl
theorem PSt.op_s_today {x : PSt} {v : Int} : (x.s_today v).op = x.op := rfl
theorem PSt.nS_s_today {x : PSt} {v : Int} : (x.s_today v).nS = x.nS := rfl
theorem PSt.sg_s_today {x : PSt} {v : Int} : (x.s_today v).sg = x.sg := rfl
theorem PSt.ct_s_today {x : PSt} {v : Int} : (x.s_today v).ct = x.ct := rfl
theorem PSt.nC_s_today {x : PSt} {v : Int} : (x.s_today v).nC = x.nC := rfl
theorem PSt.ca_s_today {x : PSt} {v : Int} : (x.s_today v).ca = x.ca := rfl
theorem PSt.nP_s_today {x : PSt} {v : Int} : (x.s_today v).nP = x.nP := rfl
theorem PSt.pt_s_today {x : PSt} {v : Int} : (x.s_today v).pt = x.pt := rfl
theorem PSt.nI_s_today {x : PSt} {v : Int} : (x.s_today v).nI = x.nI := rfl
theorem PSt.il_s_today {x : PSt} {v : Int} : (x.s_today v).il = x.il := rfl
theorem PSt.nL_s_today {x : PSt} {v : Int} : (x.s_today v).nL = x.nL := rfl
theorem PSt.le_s_today {x : PSt} {v : Int} : (x.s_today v).le = x.le := rfl
theorem PSt.stamp_s_today {x : PSt} {v : Int} : (x.s_today v).stamp = x.stamp := rfl
theorem PSt.fault_s_today {x : PSt} {v : Int} : (x.s_today v).fault = x.fault := rfl
theorem PSt.nF_s_today {x : PSt} {v : Int} : (x.s_today v).nF = x.nF := rfl
theorem PSt.fk_s_today {x : PSt} {v : Int} : (x.s_today v).fk = x.fk := rfl
theorem PSt.fc_s_today {x : PSt} {v : Int} : (x.s_today v).fc = x.fc := rfl
theorem PSt.fr_s_today {x : PSt} {v : Int} : (x.s_today v).fr = x.fr := rfl
theorem PSt.laidN_s_today {x : PSt} {v : Int} : (x.s_today v).laidN = x.laidN := rfl
theorem PSt.laidDay_s_today {x : PSt} {v : Int} : (x.s_today v).laidDay = x.laidDay := rfl
theorem PSt.laidOp_s_today {x : PSt} {v : Int} : (x.s_today v).laidOp = x.laidOp := rfl
theorem PSt.laidHour_s_today {x : PSt} {v : Int} : (x.s_today v).laidHour = x.laidHour := rfl
theorem PSt.laidStamp_s_today {x : PSt} {v : Int} : (x.s_today v).laidStamp = x.laidStamp := rfl
theorem PSt.tape_s_daily {x : PSt} {v : Int} : (x.s_daily v).tape = x.tape := rfl
theorem PSt.taped_s_daily {x : PSt} {v : Int} : (x.s_daily v).taped = x.taped := rfl
theorem PSt.today_s_daily {x : PSt} {v : Int} : (x.s_daily v).today = x.today := rfl
theorem PSt.daily_s_daily {x : PSt} {v : Int} : (x.s_daily v).daily = v := rfl
theorem PSt.weekly_s_daily {x : PSt} {v : Int} : (x.s_daily v).weekly = x.weekly := rfl
theorem PSt.one_s_daily {x : PSt} {v : Int} : (x.s_daily v).one = x.one := rfl
theorem PSt.other_s_daily {x : PSt} {v : Int} : (x.s_daily v).other = x.other := rfl
theorem PSt.nO_s_daily {x : PSt} {v : Int} : (x.s_daily v).nO = x.nO := rfl
theorem PSt.op_s_daily {x : PSt} {v : Int} : (x.s_daily v).op = x.op := rfl
theorem PSt.nS_s_daily {x : PSt} {v : Int} : (x.s_daily v).nS = x.nS := rfl
theorem PSt.sg_s_daily {x : PSt} {v : Int} : (x.s_daily v).sg = x.sg := rfl
theorem PSt.ct_s_daily {x : PSt} {v : Int} : (x.s_daily v).ct = x.ct := rfl
theorem PSt.nC_s_daily {x : PSt} {v : Int} : (x.s_daily v).nC = x.nC := rfl
theorem PSt.ca_s_daily {x : PSt} {v : Int} : (x.s_daily v).ca = x.ca := rfl
theorem PSt.nP_s_daily {x : PSt} {v : Int} : (x.s_daily v).nP = x.nP := rfl
theorem PSt.pt_s_daily {x : PSt} {v : Int} : (x.s_daily v).pt = x.pt := rfl
theorem PSt.nI_s_daily {x : PSt} {v : Int} : (x.s_daily v).nI = x.nI := rfl
theorem PSt.il_s_daily {x : PSt} {v : Int} : (x.s_daily v).il = x.il := rfl
theorem PSt.nL_s_daily {x : PSt} {v : Int} : (x.s_daily v).nL = x.nL := rfl
theorem PSt.le_s_daily {x : PSt} {v : Int} : (x.s_daily v).le = x.le := rfl
theorem PSt.stamp_s_daily {x : PSt} {v : Int} : (x.s_daily v).stamp = x.stamp := rfl
theorem PSt.fault_s_daily {x : PSt} {v : Int} : (x.s_daily v).fault = x.fault := rfl
theorem PSt.nF_s_daily {x : PSt} {v : Int} : (x.s_daily v).nF = x.nF := rfl
theorem PSt.fk_s_daily {x : PSt} {v : Int} : (x.s_daily v).fk = x.fk := rfl
theorem PSt.fc_s_daily {x : PSt} {v : Int} : (x.s_daily v).fc = x.fc := rfl
theorem PSt.fr_s_daily {x : PSt} {v : Int} : (x.s_daily v).fr = x.fr := rfl
theorem PSt.laidN_s_daily {x : PSt} {v : Int} : (x.s_daily v).laidN = x.laidN := rfl
theorem PSt.laidDay_s_daily {x : PSt} {v : Int} : (x.s_daily v).laidDay = x.laidDay := rfl
theorem PSt.laidOp_s_daily {x : PSt} {v : Int} : (x.s_daily v).laidOp = x.laidOp := rfl
theorem PSt.laidHour_s_daily {x : PSt} {v : Int} : (x.s_daily v).laidHour = x.laidHour := rfl
theorem PSt.laidStamp_s_daily {x : PSt} {v : Int} : (x.s_daily v).laidStamp = x.laidStamp := rfl
theorem PSt.tape_s_weekly {x : PSt} {v : Int} : (x.s_weekly v).tape = x.tape := rfl
theorem PSt.taped_s_weekly {x : PSt} {v : Int} : (x.s_weekly v).taped = x.taped := rfl
theorem PSt.today_s_weekly {x : PSt} {v : Int} : (x.s_weekly v).today = x.today := rfl
theorem PSt.daily_s_weekly {x : PSt} {v : Int} : (x.s_weekly v).daily = x.daily := rfl
theorem PSt.weekly_s_weekly {x : PSt} {v : Int} : (x.s_weekly v).weekly = v := rfl
theorem PSt.one_s_weekly {x : PSt} {v : Int} : (x.s_weekly v).one = x.one := rfl
theorem PSt.other_s_weekly {x : PSt} {v : Int} : (x.s_weekly v).other = x.other := rfl
theorem PSt.nO_s_weekly {x : PSt} {v : Int} : (x.s_weekly v).nO = x.nO := rfl
theorem PSt.op_s_weekly {x : PSt} {v : Int} : (x.s_weekly v).op = x.op := rfl
theorem PSt.nS_s_weekly {x : PSt} {v : Int} : (x.s_weekly v).nS = x.nS := rfl
theorem PSt.sg_s_weekly {x : PSt} {v : Int} : (x.s_weekly v).sg = x.sg := rfl
theorem PSt.ct_s_weekly {x : PSt} {v : Int} : (x.s_weekly v).ct = x.ct := rfl
theorem PSt.nC_s_weekly {x : PSt} {v : Int} : (x.s_weekly v).nC = x.nC := rfl
theorem PSt.ca_s_weekly {x : PSt} {v : Int} : (x.s_weekly v).ca = x.ca := rfl
theorem PSt.nP_s_weekly {x : PSt} {v : Int} : (x.s_weekly v).nP = x.nP := rfl
theorem PSt.pt_s_weekly {x : PSt} {v : Int} : (x.s_weekly v).pt = x.pt := rfl
theorem PSt.nI_s_weekly {x : PSt} {v : Int} : (x.s_weekly v).nI = x.nI := rfl
theorem PSt.il_s_weekly {x : PSt} {v : Int} : (x.s_weekly v).il = x.il := rfl
theorem PSt.nL_s_weekly {x : PSt} {v : Int} : (x.s_weekly v).nL = x.nL := rfl
theorem PSt.le_s_weekly {x : PSt} {v : Int} : (x.s_weekly v).le = x.le := rfl
theorem PSt.stamp_s_weekly {x : PSt} {v : Int} : (x.s_weekly v).stamp = x.stamp := rfl
theorem PSt.fault_s_weekly {x : PSt} {v : Int} : (x.s_weekly v).fault = x.fault := rfl
theorem PSt.nF_s_weekly {x : PSt} {v : Int} : (x.s_weekly v).nF = x.nF := rfl
theorem PSt.fk_s_weekly {x : PSt} {v : Int} : (x.s_weekly v).fk = x.fk := rfl
theorem PSt.fc_s_weekly {x : PSt} {v : Int} : (x.s_weekly v).fc = x.fc := rfl
theorem PSt.fr_s_weekly {x : PSt} {v : Int} : (x.s_weekly v).fr = x.fr := rfl
theorem PSt.laidN_s_weekly {x : PSt} {v : Int} : (x.s_weekly v).laidN = x.laidN := rfl
theorem PSt.laidDay_s_weekly {x : PSt} {v : Int} : (x.s_weekly v).laidDay = x.laidDay := rfl
theorem PSt.laidOp_s_weekly {x : PSt} {v : Int} : (x.s_weekly v).laidOp = x.laidOp := rfl
theorem PSt.laidHour_s_weekly {x : PSt} {v : Int} : (x.s_weekly v).laidHour = x.laidHour := rfl
theorem PSt.laidStamp_s_weekly {x : PSt} {v : Int} : (x.s_weekly v).laidStamp = x.laidStamp := rfl
theorem PSt.tape_s_one {x : PSt} {v : Nat → Int} : (x.s_one v).tape = x.tape := rfl
theorem PSt.taped_s_one {x : PSt} {v : Nat → Int} : (x.s_one v).taped = x.taped := rfl
theorem PSt.today_s_one {x : PSt} {v : Nat → Int} : (x.s_one v).today = x.today := rfl
theorem PSt.daily_s_one {x : PSt} {v : Nat → Int} : (x.s_one v).daily = x.daily := rfl
theorem PSt.weekly_s_one {x : PSt} {v : Nat → Int} : (x.s_one v).weekly = x.weekly := rfl
theorem PSt.one_s_one {x : PSt} {v : Nat → Int} : (x.s_one v).one = v := rfl
theorem PSt.other_s_one {x : PSt} {v : Nat → Int} : (x.s_one v).other = x.other := rfl
theorem PSt.nO_s_one {x : PSt} {v : Nat → Int} : (x.s_one v).nO = x.nO := rfl
theorem PSt.op_s_one {x : PSt} {v : Nat → Int} : (x.s_one v).op = x.op := rfl
theorem PSt.nS_s_one {x : PSt} {v : Nat → Int} : (x.s_one v).nS = x.nS := rfl
theorem PSt.sg_s_one {x : PSt} {v : Nat → Int} : (x.s_one v).sg = x.sg := rfl
theorem PSt.ct_s_one {x : PSt} {v : Nat → Int} : (x.s_one v).ct = x.ct := rfl
theorem PSt.nC_s_one {x : PSt} {v : Nat → Int} : (x.s_one v).nC = x.nC := rfl
theorem PSt.ca_s_one {x : PSt} {v : Nat → Int} : (x.s_one v).ca = x.ca := rfl
theorem PSt.nP_s_one {x : PSt} {v : Nat → Int} : (x.s_one v).nP = x.nP := rfl
theorem PSt.pt_s_one {x : PSt} {v : Nat → Int} : (x.s_one v).pt = x.pt := rfl
theorem PSt.nI_s_one {x : PSt} {v : Nat → Int} : (x.s_one v).nI = x.nI := rfl
theorem PSt.il_s_one {x : PSt} {v : Nat → Int} : (x.s_one v).il = x.il := rfl
theorem PSt.nL_s_one {x : PSt} {v : Nat → Int} : (x.s_one v).nL = x.nL := rfl
theorem PSt.le_s_one {x : PSt} {v : Nat → Int} : (x.s_one v).le = x.le := rfl
theorem PSt.stamp_s_one {x : PSt} {v : Nat → Int} : (x.s_one v).stamp = x.stamp := rfl
theorem PSt.fault_s_one {x : PSt} {v : Nat → Int} : (x.s_one v).fault = x.fault := rfl
theorem PSt.nF_s_one {x : PSt} {v : Nat → Int} : (x.s_one v).nF = x.nF := rfl
theorem PSt.fk_s_one {x : PSt} {v : Nat → Int} : (x.s_one v).fk = x.fk := rfl
theorem PSt.fc_s_one {x : PSt} {v : Nat → Int} : (x.s_one v).fc = x.fc := rfl
theorem PSt.fr_s_one {x : PSt} {v : Nat → Int} : (x.s_one v).fr = x.fr := rfl
theorem PSt.laidN_s_one {x : PSt} {v : Nat → Int} : (x.s_one v).laidN = x.laidN := rfl
theorem PSt.laidDay_s_one {x : PSt} {v : Nat → Int} : (x.s_one v).laidDay = x.laidDay := rfl
theorem PSt.laidOp_s_one {x : PSt} {v : Nat → Int} : (x.s_one v).laidOp = x.laidOp := rfl
theorem PSt.laidHour_s_one {x : PSt} {v : Nat → Int} : (x.s_one v).laidHour = x.laidHour := rfl
theorem PSt.laidStamp_s_one {x : PSt} {v : Nat → Int} : (x.s_one v).laidStamp = x.laidStamp := rfl
theorem PSt.tape_s_other {x : PSt} {v : Nat → Int} : (x.s_other v).tape = x.tape := rfl
theorem PSt.taped_s_other {x : PSt} {v : Nat → Int} : (x.s_other v).taped = x.taped := rfl
theorem PSt.today_s_other {x : PSt} {v : Nat → Int} : (x.s_other v).today = x.today := rfl
theorem PSt.daily_s_other {x : PSt} {v : Nat → Int} : (x.s_other v).daily = x.daily := rfl
theorem PSt.weekly_s_other {x : PSt} {v : Nat → Int} : (x.s_other v).weekly = x.weekly := rfl
theorem PSt.one_s_other {x : PSt} {v : Nat → Int} : (x.s_other v).one = x.one := rfl
theorem PSt.other_s_other {x : PSt} {v : Nat → Int} : (x.s_other v).other = v := rfl
theorem PSt.nO_s_other {x : PSt} {v : Nat → Int} : (x.s_other v).nO = x.nO := rfl
theorem PSt.op_s_other {x : PSt} {v : Nat → Int} : (x.s_other v).op = x.op := rfl
theorem PSt.nS_s_other {x : PSt} {v : Nat → Int} : (x.s_other v).nS = x.nS := rfl
theorem PSt.sg_s_other {x : PSt} {v : Nat → Int} : (x.s_other v).sg = x.sg := rfl
theorem PSt.ct_s_other {x : PSt} {v : Nat → Int} : (x.s_other v).ct = x.ct := rfl
theorem PSt.nC_s_other {x : PSt} {v : Nat → Int} : (x.s_other v).nC = x.nC := rfl
theorem PSt.ca_s_other {x : PSt} {v : Nat → Int} : (x.s_other v).ca = x.ca := rfl
theorem PSt.nP_s_other {x : PSt} {v : Nat → Int} : (x.s_other v).nP = x.nP := rfl
theorem PSt.pt_s_other {x : PSt} {v : Nat → Int} : (x.s_other v).pt = x.pt := rfl
theorem PSt.nI_s_other {x : PSt} {v : Nat → Int} : (x.s_other v).nI = x.nI := rfl
theorem PSt.il_s_other {x : PSt} {v : Nat → Int} : (x.s_other v).il = x.il := rfl
theorem PSt.nL_s_other {x : PSt} {v : Nat → Int} : (x.s_other v).nL = x.nL := rfl
theorem PSt.le_s_other {x : PSt} {v : Nat → Int} : (x.s_other v).le = x.le := rfl
theorem PSt.stamp_s_other {x : PSt} {v : Nat → Int} : (x.s_other v).stamp = x.stamp := rfl
theorem PSt.fault_s_other {x : PSt} {v : Nat → Int} : (x.s_other v).fault = x.fault := rfl
theorem PSt.nF_s_other {x : PSt} {v : Nat → Int} : (x.s_other v).nF = x.nF := rfl
theorem PSt.fk_s_other {x : PSt} {v : Nat → Int} : (x.s_other v).fk = x.fk := rfl
theorem PSt.fc_s_other {x : PSt} {v : Nat → Int} : (x.s_other v).fc = x.fc := rfl
theorem PSt.fr_s_other {x : PSt} {v : Nat → Int} : (x.s_other v).fr = x.fr := rfl
theorem PSt.laidN_s_other {x : PSt} {v : Nat → Int} : (x.s_other v).laidN = x.laidN := rfl
theorem PSt.laidDay_s_other {x : PSt} {v : Nat → Int} : (x.s_other v).laidDay = x.laidDay := rfl
theorem PSt.laidOp_s_other {x : PSt} {v : Nat → Int} : (x.s_other v).laidOp = x.laidOp := rfl
theorem PSt.laidHour_s_other {x : PSt} {v : Nat → Int} : (x.s_other v).laidHour = x.laidHour := rfl
theorem PSt.laidStamp_s_other {x : PSt} {v : Nat → Int} : (x.s_other v).laidStamp = x.laidStamp := rfl
theorem PSt.tape_s_nO {x : PSt} {v : Nat} : (x.s_nO v).tape = x.tape := rfl
theorem PSt.taped_s_nO {x : PSt} {v : Nat} : (x.s_nO v).taped = x.taped := rfl
theorem PSt.today_s_nO {x : PSt} {v : Nat} : (x.s_nO v).today = x.today := rfl
theorem PSt.daily_s_nO {x : PSt} {v : Nat} : (x.s_nO v).daily = x.daily := rfl
theorem PSt.weekly_s_nO {x : PSt} {v : Nat} : (x.s_nO v).weekly = x.weekly := rfl
theorem PSt.one_s_nO {x : PSt} {v : Nat} : (x.s_nO v).one = x.one := rfl
theorem PSt.other_s_nO {x : PSt} {v : Nat} : (x.s_nO v).other = x.other := rfl
theorem PSt.nO_s_nO {x : PSt} {v : Nat} : (x.s_nO v).nO = v := rfl
theorem PSt.op_s_nO {x : PSt} {v : Nat} : (x.s_nO v).op = x.op := rfl
theorem PSt.nS_s_nO {x : PSt} {v : Nat} : (x.s_nO v).nS = x.nS := rfl
theorem PSt.sg_s_nO {x : PSt} {v : Nat} : (x.s_nO v).sg = x.sg := rfl
theorem PSt.ct_s_nO {x : PSt} {v : Nat} : (x.s_nO v).ct = x.ct := rfl
theorem PSt.nC_s_nO {x : PSt} {v : Nat} : (x.s_nO v).nC = x.nC := rfl
theorem PSt.ca_s_nO {x : PSt} {v : Nat} : (x.s_nO v).ca = x.ca := rfl
theorem PSt.nP_s_nO {x : PSt} {v : Nat} : (x.s_nO v).nP = x.nP := rfl
theorem PSt.pt_s_nO {x : PSt} {v : Nat} : (x.s_nO v).pt = x.pt := rfl
theorem PSt.nI_s_nO {x : PSt} {v : Nat} : (x.s_nO v).nI = x.nI := rfl
theorem PSt.il_s_nO {x : PSt} {v : Nat} : (x.s_nO v).il = x.il := rfl
theorem PSt.nL_s_nO {x : PSt} {v : Nat} : (x.s_nO v).nL = x.nL := rfl
theorem PSt.le_s_nO {x : PSt} {v : Nat} : (x.s_nO v).le = x.le := rfl
theorem PSt.stamp_s_nO {x : PSt} {v : Nat} : (x.s_nO v).stamp = x.stamp := rfl
theorem PSt.fault_s_nO {x : PSt} {v : Nat} : (x.s_nO v).fault = x.fault := rfl
theorem PSt.nF_s_nO {x : PSt} {v : Nat} : (x.s_nO v).nF = x.nF := rfl
theorem PSt.fk_s_nO {x : PSt} {v : Nat} : (x.s_nO v).fk = x.fk := rfl
theorem PSt.fc_s_nO {x : PSt} {v : Nat} : (x.s_nO v).fc = x.fc := rfl
theorem PSt.fr_s_nO {x : PSt} {v : Nat} : (x.s_nO v).fr = x.fr := rfl
theorem PSt.laidN_s_nO {x : PSt} {v : Nat} : (x.s_nO v).laidN = x.laidN := rfl
theorem PSt.laidDay_s_nO {x : PSt} {v : Nat} : (x.s_nO v).laidDay = x.laidDay := rfl
theorem PSt.laidOp_s_nO {x : PSt} {v : Nat} : (x.s_nO v).laidOp = x.laidOp := rfl
theorem PSt.laidHour_s_nO {x : PSt} {v : Nat} : (x.s_nO v).laidHour = x.laidHour := rfl
theorem PSt.laidStamp_s_nO {x : PSt} {v : Nat} : (x.s_nO v).laidStamp = x.laidStamp := rfl
theorem PSt.tape_s_op {x : PSt} {v : Nat → POp} : (x.s_op v).tape = x.tape := rfl
theorem PSt.taped_s_op {x : PSt} {v : Nat → POp} : (x.s_op v).taped = x.taped := rfl
theorem PSt.today_s_op {x : PSt} {v : Nat → POp} : (x.s_op v).today = x.today := rfl
theorem PSt.daily_s_op {x : PSt} {v : Nat → POp} : (x.s_op v).daily = x.daily := rfl
theorem PSt.weekly_s_op {x : PSt} {v : Nat → POp} : (x.s_op v).weekly = x.weekly := rfl
theorem PSt.one_s_op {x : PSt} {v : Nat → POp} : (x.s_op v).one = x.one := rfl
theorem PSt.other_s_op {x : PSt} {v : Nat → POp} : (x.s_op v).other = x.other := rfl
theorem PSt.nO_s_op {x : PSt} {v : Nat → POp} : (x.s_op v).nO = x.nO := rfl
theorem PSt.op_s_op {x : PSt} {v : Nat → POp} : (x.s_op v).op = v := rfl
theorem PSt.nS_s_op {x : PSt} {v : Nat → POp} : (x.s_op v).nS = x.nS := rfl
theorem PSt.sg_s_op {x : PSt} {v : Nat → POp} : (x.s_op v).sg = x.sg := rfl
theorem PSt.ct_s_op {x : PSt} {v : Nat → POp} : (x.s_op v).ct = x.ct := rfl
theorem PSt.nC_s_op {x : PSt} {v : Nat → POp} : (x.s_op v).nC = x.nC := rfl
theorem PSt.ca_s_op {x : PSt} {v : Nat → POp} : (x.s_op v).ca = x.ca := rfl
theorem PSt.nP_s_op {x : PSt} {v : Nat → POp} : (x.s_op v).nP = x.nP := rfl
theorem PSt.pt_s_op {x : PSt} {v : Nat → POp} : (x.s_op v).pt = x.pt := rfl
theorem PSt.nI_s_op {x : PSt} {v : Nat → POp} : (x.s_op v).nI = x.nI := rfl
theorem PSt.il_s_op {x : PSt} {v : Nat → POp} : (x.s_op v).il = x.il := rfl
theorem PSt.nL_s_op {x : PSt} {v : Nat → POp} : (x.s_op v).nL = x.nL := rfl
theorem PSt.le_s_op {x : PSt} {v : Nat → POp} : (x.s_op v).le = x.le := rfl
theorem PSt.stamp_s_op {x : PSt} {v : Nat → POp} : (x.s_op v).stamp = x.stamp := rfl
theorem PSt.fault_s_op {x : PSt} {v : Nat → POp} : (x.s_op v).fault = x.fault := rfl
theorem PSt.nF_s_op {x : PSt} {v : Nat → POp} : (x.s_op v).nF = x.nF := rfl
theorem PSt.fk_s_op {x : PSt} {v : Nat → POp} : (x.s_op v).fk = x.fk := rfl
theorem PSt.fc_s_op {x : PSt} {v : Nat → POp} : (x.s_op v).fc = x.fc := rfl
theorem PSt.fr_s_op {x : PSt} {v : Nat → POp} : (x.s_op v).fr = x.fr := rfl
theorem PSt.laidN_s_op {x : PSt} {v : Nat → POp} : (x.s_op v).laidN = x.laidN := rfl
theorem PSt.laidDay_s_op {x : PSt} {v : Nat → POp} : (x.s_op v).laidDay = x.laidDay := rfl
theorem PSt.laidOp_s_op {x : PSt} {v : Nat → POp} : (x.s_op v).laidOp = x.laidOp := rfl
theorem PSt.laidHour_s_op {x : PSt} {v : Nat → POp} : (x.s_op v).laidHour = x.laidHour := rfl
theorem PSt.laidStamp_s_op {x : PSt} {v : Nat → POp} : (x.s_op v).laidStamp = x.laidStamp := rfl
theorem PSt.tape_s_nS {x : PSt} {v : Nat} : (x.s_nS v).tape = x.tape := rfl
theorem PSt.taped_s_nS {x : PSt} {v : Nat} : (x.s_nS v).taped = x.taped := rfl
theorem PSt.today_s_nS {x : PSt} {v : Nat} : (x.s_nS v).today = x.today := rfl
theorem PSt.daily_s_nS {x : PSt} {v : Nat} : (x.s_nS v).daily = x.daily := rfl
theorem PSt.weekly_s_nS {x : PSt} {v : Nat} : (x.s_nS v).weekly = x.weekly := rfl
theorem PSt.one_s_nS {x : PSt} {v : Nat} : (x.s_nS v).one = x.one := rfl
theorem PSt.other_s_nS {x : PSt} {v : Nat} : (x.s_nS v).other = x.other := rfl
theorem PSt.nO_s_nS {x : PSt} {v : Nat} : (x.s_nS v).nO = x.nO := rfl
theorem PSt.op_s_nS {x : PSt} {v : Nat} : (x.s_nS v).op = x.op := rfl
theorem PSt.nS_s_nS {x : PSt} {v : Nat} : (x.s_nS v).nS = v := rfl
theorem PSt.sg_s_nS {x : PSt} {v : Nat} : (x.s_nS v).sg = x.sg := rfl
theorem PSt.ct_s_nS {x : PSt} {v : Nat} : (x.s_nS v).ct = x.ct := rfl
theorem PSt.nC_s_nS {x : PSt} {v : Nat} : (x.s_nS v).nC = x.nC := rfl
theorem PSt.ca_s_nS {x : PSt} {v : Nat} : (x.s_nS v).ca = x.ca := rfl
theorem PSt.nP_s_nS {x : PSt} {v : Nat} : (x.s_nS v).nP = x.nP := rfl
theorem PSt.pt_s_nS {x : PSt} {v : Nat} : (x.s_nS v).pt = x.pt := rfl
theorem PSt.nI_s_nS {x : PSt} {v : Nat} : (x.s_nS v).nI = x.nI := rfl
theorem PSt.il_s_nS {x : PSt} {v : Nat} : (x.s_nS v).il = x.il := rfl
theorem PSt.nL_s_nS {x : PSt} {v : Nat} : (x.s_nS v).nL = x.nL := rfl
theorem PSt.le_s_nS {x : PSt} {v : Nat} : (x.s_nS v).le = x.le := rfl
theorem PSt.stamp_s_nS {x : PSt} {v : Nat} : (x.s_nS v).stamp = x.stamp := rfl
theorem PSt.fault_s_nS {x : PSt} {v : Nat} : (x.s_nS v).fault = x.fault := rfl
theorem PSt.nF_s_nS {x : PSt} {v : Nat} : (x.s_nS v).nF = x.nF := rfl
theorem PSt.fk_s_nS {x : PSt} {v : Nat} : (x.s_nS v).fk = x.fk := rfl
theorem PSt.fc_s_nS {x : PSt} {v : Nat} : (x.s_nS v).fc = x.fc := rfl
theorem PSt.fr_s_nS {x : PSt} {v : Nat} : (x.s_nS v).fr = x.fr := rfl
theorem PSt.laidN_s_nS {x : PSt} {v : Nat} : (x.s_nS v).laidN = x.laidN := rfl
theorem PSt.laidDay_s_nS {x : PSt} {v : Nat} : (x.s_nS v).laidDay = x.laidDay := rfl
theorem PSt.laidOp_s_nS {x : PSt} {v : Nat} : (x.s_nS v).laidOp = x.laidOp := rfl
theorem PSt.laidHour_s_nS {x : PSt} {v : Nat} : (x.s_nS v).laidHour = x.laidHour := rfl
theorem PSt.laidStamp_s_nS {x : PSt} {v : Nat} : (x.s_nS v).laidStamp = x.laidStamp := rfl
theorem PSt.tape_s_sg {x : PSt} {v : Nat → PSg} : (x.s_sg v).tape = x.tape := rfl
theorem PSt.taped_s_sg {x : PSt} {v : Nat → PSg} : (x.s_sg v).taped = x.taped := rfl
theorem PSt.today_s_sg {x : PSt} {v : Nat → PSg} : (x.s_sg v).today = x.today := rfl
theorem PSt.daily_s_sg {x : PSt} {v : Nat → PSg} : (x.s_sg v).daily = x.daily := rfl
theorem PSt.weekly_s_sg {x : PSt} {v : Nat → PSg} : (x.s_sg v).weekly = x.weekly := rfl
theorem PSt.one_s_sg {x : PSt} {v : Nat → PSg} : (x.s_sg v).one = x.one := rfl
theorem PSt.other_s_sg {x : PSt} {v : Nat → PSg} : (x.s_sg v).other = x.other := rfl
theorem PSt.nO_s_sg {x : PSt} {v : Nat → PSg} : (x.s_sg v).nO = x.nO := rfl
theorem PSt.op_s_sg {x : PSt} {v : Nat → PSg} : (x.s_sg v).op = x.op := rfl
theorem PSt.nS_s_sg {x : PSt} {v : Nat → PSg} : (x.s_sg v).nS = x.nS := rfl
theorem PSt.sg_s_sg {x : PSt} {v : Nat → PSg} : (x.s_sg v).sg = v := rfl
theorem PSt.ct_s_sg {x : PSt} {v : Nat → PSg} : (x.s_sg v).ct = x.ct := rfl
theorem PSt.nC_s_sg {x : PSt} {v : Nat → PSg} : (x.s_sg v).nC = x.nC := rfl
theorem PSt.ca_s_sg {x : PSt} {v : Nat → PSg} : (x.s_sg v).ca = x.ca := rfl
theorem PSt.nP_s_sg {x : PSt} {v : Nat → PSg} : (x.s_sg v).nP = x.nP := rfl
theorem PSt.pt_s_sg {x : PSt} {v : Nat → PSg} : (x.s_sg v).pt = x.pt := rfl
theorem PSt.nI_s_sg {x : PSt} {v : Nat → PSg} : (x.s_sg v).nI = x.nI := rfl
theorem PSt.il_s_sg {x : PSt} {v : Nat → PSg} : (x.s_sg v).il = x.il := rfl
theorem PSt.nL_s_sg {x : PSt} {v : Nat → PSg} : (x.s_sg v).nL = x.nL := rfl
theorem PSt.le_s_sg {x : PSt} {v : Nat → PSg} : (x.s_sg v).le = x.le := rfl
theorem PSt.stamp_s_sg {x : PSt} {v : Nat → PSg} : (x.s_sg v).stamp = x.stamp := rfl
theorem PSt.fault_s_sg {x : PSt} {v : Nat → PSg} : (x.s_sg v).fault = x.fault := rfl
theorem PSt.nF_s_sg {x : PSt} {v : Nat → PSg} : (x.s_sg v).nF = x.nF := rfl
theorem PSt.fk_s_sg {x : PSt} {v : Nat → PSg} : (x.s_sg v).fk = x.fk := rfl
theorem PSt.fc_s_sg {x : PSt} {v : Nat → PSg} : (x.s_sg v).fc = x.fc := rfl
theorem PSt.fr_s_sg {x : PSt} {v : Nat → PSg} : (x.s_sg v).fr = x.fr := rfl
theorem PSt.laidN_s_sg {x : PSt} {v : Nat → PSg} : (x.s_sg v).laidN = x.laidN := rfl
theorem PSt.laidDay_s_sg {x : PSt} {v : Nat → PSg} : (x.s_sg v).laidDay = x.laidDay := rfl
theorem PSt.laidOp_s_sg {x : PSt} {v : Nat → PSg} : (x.s_sg v).laidOp = x.laidOp := rfl
theorem PSt.laidHour_s_sg {x : PSt} {v : Nat → PSg} : (x.s_sg v).laidHour = x.laidHour := rfl
theorem PSt.laidStamp_s_sg {x : PSt} {v : Nat → PSg} : (x.s_sg v).laidStamp = x.laidStamp := rfl
theorem PSt.tape_s_ct {x : PSt} {v : Nat → PCt} : (x.s_ct v).tape = x.tape := rfl
theorem PSt.taped_s_ct {x : PSt} {v : Nat → PCt} : (x.s_ct v).taped = x.taped := rfl
theorem PSt.today_s_ct {x : PSt} {v : Nat → PCt} : (x.s_ct v).today = x.today := rfl
theorem PSt.daily_s_ct {x : PSt} {v : Nat → PCt} : (x.s_ct v).daily = x.daily := rfl
theorem PSt.weekly_s_ct {x : PSt} {v : Nat → PCt} : (x.s_ct v).weekly = x.weekly := rfl
theorem PSt.one_s_ct {x : PSt} {v : Nat → PCt} : (x.s_ct v).one = x.one := rfl
theorem PSt.other_s_ct {x : PSt} {v : Nat → PCt} : (x.s_ct v).other = x.other := rfl
theorem PSt.nO_s_ct {x : PSt} {v : Nat → PCt} : (x.s_ct v).nO = x.nO := rfl
theorem PSt.op_s_ct {x : PSt} {v : Nat → PCt} : (x.s_ct v).op = x.op := rfl
theorem PSt.nS_s_ct {x : PSt} {v : Nat → PCt} : (x.s_ct v).nS = x.nS := rfl
theorem PSt.sg_s_ct {x : PSt} {v : Nat → PCt} : (x.s_ct v).sg = x.sg := rfl
theorem PSt.ct_s_ct {x : PSt} {v : Nat → PCt} : (x.s_ct v).ct = v := rfl
theorem PSt.nC_s_ct {x : PSt} {v : Nat → PCt} : (x.s_ct v).nC = x.nC := rfl
theorem PSt.ca_s_ct {x : PSt} {v : Nat → PCt} : (x.s_ct v).ca = x.ca := rfl
theorem PSt.nP_s_ct {x : PSt} {v : Nat → PCt} : (x.s_ct v).nP = x.nP := rfl
theorem PSt.pt_s_ct {x : PSt} {v : Nat → PCt} : (x.s_ct v).pt = x.pt := rfl
theorem PSt.nI_s_ct {x : PSt} {v : Nat → PCt} : (x.s_ct v).nI = x.nI := rfl
theorem PSt.il_s_ct {x : PSt} {v : Nat → PCt} : (x.s_ct v).il = x.il := rfl
theorem PSt.nL_s_ct {x : PSt} {v : Nat → PCt} : (x.s_ct v).nL = x.nL := rfl
theorem PSt.le_s_ct {x : PSt} {v : Nat → PCt} : (x.s_ct v).le = x.le := rfl
theorem PSt.stamp_s_ct {x : PSt} {v : Nat → PCt} : (x.s_ct v).stamp = x.stamp := rfl
theorem PSt.fault_s_ct {x : PSt} {v : Nat → PCt} : (x.s_ct v).fault = x.fault := rfl
theorem PSt.nF_s_ct {x : PSt} {v : Nat → PCt} : (x.s_ct v).nF = x.nF := rfl
theorem PSt.fk_s_ct {x : PSt} {v : Nat → PCt} : (x.s_ct v).fk = x.fk := rfl
theorem PSt.fc_s_ct {x : PSt} {v : Nat → PCt} : (x.s_ct v).fc = x.fc := rfl
theorem PSt.fr_s_ct {x : PSt} {v : Nat → PCt} : (x.s_ct v).fr = x.fr := rfl
theorem PSt.laidN_s_ct {x : PSt} {v : Nat → PCt} : (x.s_ct v).laidN = x.laidN := rfl
theorem PSt.laidDay_s_ct {x : PSt} {v : Nat → PCt} : (x.s_ct v).laidDay = x.laidDay := rfl
theorem PSt.laidOp_s_ct {x : PSt} {v : Nat → PCt} : (x.s_ct v).laidOp = x.laidOp := rfl
theorem PSt.laidHour_s_ct {x : PSt} {v : Nat → PCt} : (x.s_ct v).laidHour = x.laidHour := rfl
theorem PSt.laidStamp_s_ct {x : PSt} {v : Nat → PCt} : (x.s_ct v).laidStamp = x.laidStamp := rfl
theorem PSt.tape_s_nC {x : PSt} {v : Nat} : (x.s_nC v).tape = x.tape := rfl
theorem PSt.taped_s_nC {x : PSt} {v : Nat} : (x.s_nC v).taped = x.taped := rfl
theorem PSt.today_s_nC {x : PSt} {v : Nat} : (x.s_nC v).today = x.today := rfl
theorem PSt.daily_s_nC {x : PSt} {v : Nat} : (x.s_nC v).daily = x.daily := rfl
theorem PSt.weekly_s_nC {x : PSt} {v : Nat} : (x.s_nC v).weekly = x.weekly := rfl
theorem PSt.one_s_nC {x : PSt} {v : Nat} : (x.s_nC v).one = x.one := rfl
theorem PSt.other_s_nC {x : PSt} {v : Nat} : (x.s_nC v).other = x.other := rfl
theorem PSt.nO_s_nC {x : PSt} {v : Nat} : (x.s_nC v).nO = x.nO := rfl
theorem PSt.op_s_nC {x : PSt} {v : Nat} : (x.s_nC v).op = x.op := rfl
theorem PSt.nS_s_nC {x : PSt} {v : Nat} : (x.s_nC v).nS = x.nS := rfl
theorem PSt.sg_s_nC {x : PSt} {v : Nat} : (x.s_nC v).sg = x.sg := rfl
theorem PSt.ct_s_nC {x : PSt} {v : Nat} : (x.s_nC v).ct = x.ct := rfl
theorem PSt.nC_s_nC {x : PSt} {v : Nat} : (x.s_nC v).nC = v := rfl
theorem PSt.ca_s_nC {x : PSt} {v : Nat} : (x.s_nC v).ca = x.ca := rfl
theorem PSt.nP_s_nC {x : PSt} {v : Nat} : (x.s_nC v).nP = x.nP := rfl
theorem PSt.pt_s_nC {x : PSt} {v : Nat} : (x.s_nC v).pt = x.pt := rfl
theorem PSt.nI_s_nC {x : PSt} {v : Nat} : (x.s_nC v).nI = x.nI := rfl
theorem PSt.il_s_nC {x : PSt} {v : Nat} : (x.s_nC v).il = x.il := rfl
theorem PSt.nL_s_nC {x : PSt} {v : Nat} : (x.s_nC v).nL = x.nL := rfl
theorem PSt.le_s_nC {x : PSt} {v : Nat} : (x.s_nC v).le = x.le := rfl
theorem PSt.stamp_s_nC {x : PSt} {v : Nat} : (x.s_nC v).stamp = x.stamp := rfl
theorem PSt.fault_s_nC {x : PSt} {v : Nat} : (x.s_nC v).fault = x.fault := rfl
theorem PSt.nF_s_nC {x : PSt} {v : Nat} : (x.s_nC v).nF = x.nF := rfl
theorem PSt.fk_s_nC {x : PSt} {v : Nat} : (x.s_nC v).fk = x.fk := rfl
theorem PSt.fc_s_nC {x : PSt} {v : Nat} : (x.s_nC v).fc = x.fc := rfl
theorem PSt.fr_s_nC {x : PSt} {v : Nat} : (x.s_nC v).fr = x.fr := rfl
theorem PSt.laidN_s_nC {x : PSt} {v : Nat} : (x.s_nC v).laidN = x.laidN := rfl
theorem PSt.laidDay_s_nC {x : PSt} {v : Nat} : (x.s_nC v).laidDay = x.laidDay := rfl
theorem PSt.laidOp_s_nC {x : PSt} {v : Nat} : (x.s_nC v).laidOp = x.laidOp := rfl
theorem PSt.laidHour_s_nC {x : PSt} {v : Nat} : (x.s_nC v).laidHour = x.laidHour := rfl
theorem PSt.laidStamp_s_nC {x : PSt} {v : Nat} : (x.s_nC v).laidStamp = x.laidStamp := rfl
theorem PSt.tape_s_ca {x : PSt} {v : Nat → PCa} : (x.s_ca v).tape = x.tape := rfl
theorem PSt.taped_s_ca {x : PSt} {v : Nat → PCa} : (x.s_ca v).taped = x.taped := rfl
theorem PSt.today_s_ca {x : PSt} {v : Nat → PCa} : (x.s_ca v).today = x.today := rfl
theorem PSt.daily_s_ca {x : PSt} {v : Nat → PCa} : (x.s_ca v).daily = x.daily := rfl
theorem PSt.weekly_s_ca {x : PSt} {v : Nat → PCa} : (x.s_ca v).weekly = x.weekly := rfl
theorem PSt.one_s_ca {x : PSt} {v : Nat → PCa} : (x.s_ca v).one = x.one := rfl
theorem PSt.other_s_ca {x : PSt} {v : Nat → PCa} : (x.s_ca v).other = x.other := rfl
theorem PSt.nO_s_ca {x : PSt} {v : Nat → PCa} : (x.s_ca v).nO = x.nO := rfl
theorem PSt.op_s_ca {x : PSt} {v : Nat → PCa} : (x.s_ca v).op = x.op := rfl
theorem PSt.nS_s_ca {x : PSt} {v : Nat → PCa} : (x.s_ca v).nS = x.nS := rfl
theorem PSt.sg_s_ca {x : PSt} {v : Nat → PCa} : (x.s_ca v).sg = x.sg := rfl
theorem PSt.ct_s_ca {x : PSt} {v : Nat → PCa} : (x.s_ca v).ct = x.ct := rfl
theorem PSt.nC_s_ca {x : PSt} {v : Nat → PCa} : (x.s_ca v).nC = x.nC := rfl
theorem PSt.ca_s_ca {x : PSt} {v : Nat → PCa} : (x.s_ca v).ca = v := rfl
theorem PSt.nP_s_ca {x : PSt} {v : Nat → PCa} : (x.s_ca v).nP = x.nP := rfl
theorem PSt.pt_s_ca {x : PSt} {v : Nat → PCa} : (x.s_ca v).pt = x.pt := rfl
theorem PSt.nI_s_ca {x : PSt} {v : Nat → PCa} : (x.s_ca v).nI = x.nI := rfl
theorem PSt.il_s_ca {x : PSt} {v : Nat → PCa} : (x.s_ca v).il = x.il := rfl
theorem PSt.nL_s_ca {x : PSt} {v : Nat → PCa} : (x.s_ca v).nL = x.nL := rfl
theorem PSt.le_s_ca {x : PSt} {v : Nat → PCa} : (x.s_ca v).le = x.le := rfl
theorem PSt.stamp_s_ca {x : PSt} {v : Nat → PCa} : (x.s_ca v).stamp = x.stamp := rfl
theorem PSt.fault_s_ca {x : PSt} {v : Nat → PCa} : (x.s_ca v).fault = x.fault := rfl
theorem PSt.nF_s_ca {x : PSt} {v : Nat → PCa} : (x.s_ca v).nF = x.nF := rfl
theorem PSt.fk_s_ca {x : PSt} {v : Nat → PCa} : (x.s_ca v).fk = x.fk := rfl
theorem PSt.fc_s_ca {x : PSt} {v : Nat → PCa} : (x.s_ca v).fc = x.fc := rfl
theorem PSt.fr_s_ca {x : PSt} {v : Nat → PCa} : (x.s_ca v).fr = x.fr := rfl
theorem PSt.laidN_s_ca {x : PSt} {v : Nat → PCa} : (x.s_ca v).laidN = x.laidN := rfl
theorem PSt.laidDay_s_ca {x : PSt} {v : Nat → PCa} : (x.s_ca v).laidDay = x.laidDay := rfl
theorem PSt.laidOp_s_ca {x : PSt} {v : Nat → PCa} : (x.s_ca v).laidOp = x.laidOp := rfl
theorem PSt.laidHour_s_ca {x : PSt} {v : Nat → PCa} : (x.s_ca v).laidHour = x.laidHour := rfl
theorem PSt.laidStamp_s_ca {x : PSt} {v : Nat → PCa} : (x.s_ca v).laidStamp = x.laidStamp := rfl
theorem PSt.tape_s_nP {x : PSt} {v : Nat} : (x.s_nP v).tape = x.tape := rfl
theorem PSt.taped_s_nP {x : PSt} {v : Nat} : (x.s_nP v).taped = x.taped := rfl
theorem PSt.today_s_nP {x : PSt} {v : Nat} : (x.s_nP v).today = x.today := rfl
theorem PSt.daily_s_nP {x : PSt} {v : Nat} : (x.s_nP v).daily = x.daily := rfl
theorem PSt.weekly_s_nP {x : PSt} {v : Nat} : (x.s_nP v).weekly = x.weekly := rfl
theorem PSt.one_s_nP {x : PSt} {v : Nat} : (x.s_nP v).one = x.one := rfl
theorem PSt.other_s_nP {x : PSt} {v : Nat} : (x.s_nP v).other = x.other := rfl
theorem PSt.nO_s_nP {x : PSt} {v : Nat} : (x.s_nP v).nO = x.nO := rfl
theorem PSt.op_s_nP {x : PSt} {v : Nat} : (x.s_nP v).op = x.op := rfl
theorem PSt.nS_s_nP {x : PSt} {v : Nat} : (x.s_nP v).nS = x.nS := rfl
theorem PSt.sg_s_nP {x : PSt} {v : Nat} : (x.s_nP v).sg = x.sg := rfl
theorem PSt.ct_s_nP {x : PSt} {v : Nat} : (x.s_nP v).ct = x.ct := rfl
theorem PSt.nC_s_nP {x : PSt} {v : Nat} : (x.s_nP v).nC = x.nC := rfl
theorem PSt.ca_s_nP {x : PSt} {v : Nat} : (x.s_nP v).ca = x.ca := rfl
theorem PSt.nP_s_nP {x : PSt} {v : Nat} : (x.s_nP v).nP = v := rfl
theorem PSt.pt_s_nP {x : PSt} {v : Nat} : (x.s_nP v).pt = x.pt := rfl
theorem PSt.nI_s_nP {x : PSt} {v : Nat} : (x.s_nP v).nI = x.nI := rfl
theorem PSt.il_s_nP {x : PSt} {v : Nat} : (x.s_nP v).il = x.il := rfl
theorem PSt.nL_s_nP {x : PSt} {v : Nat} : (x.s_nP v).nL = x.nL := rfl
theorem PSt.le_s_nP {x : PSt} {v : Nat} : (x.s_nP v).le = x.le := rfl
theorem PSt.stamp_s_nP {x : PSt} {v : Nat} : (x.s_nP v).stamp = x.stamp := rfl
theorem PSt.fault_s_nP {x : PSt} {v : Nat} : (x.s_nP v).fault = x.fault := rfl
theorem PSt.nF_s_nP {x : PSt} {v : Nat} : (x.s_nP v).nF = x.nF := rfl
theorem PSt.fk_s_nP {x : PSt} {v : Nat} : (x.s_nP v).fk = x.fk := rfl
theorem PSt.fc_s_nP {x : PSt} {v : Nat} : (x.s_nP v).fc = x.fc := rfl
theorem PSt.fr_s_nP {x : PSt} {v : Nat} : (x.s_nP v).fr = x.fr := rfl
theorem PSt.laidN_s_nP {x : PSt} {v : Nat} : (x.s_nP v).laidN = x.laidN := rfl
theorem PSt.laidDay_s_nP {x : PSt} {v : Nat} : (x.s_nP v).laidDay = x.laidDay := rfl
theorem PSt.laidOp_s_nP {x : PSt} {v : Nat} : (x.s_nP v).laidOp = x.laidOp := rfl
theorem PSt.laidHour_s_nP {x : PSt} {v : Nat} : (x.s_nP v).laidHour = x.laidHour := rfl
theorem PSt.laidStamp_s_nP {x : PSt} {v : Nat} : (x.s_nP v).laidStamp = x.laidStamp := rfl
theorem PSt.tape_s_pt {x : PSt} {v : Nat → PPt} : (x.s_pt v).tape = x.tape := rfl
theorem PSt.taped_s_pt {x : PSt} {v : Nat → PPt} : (x.s_pt v).taped = x.taped := rfl
theorem PSt.today_s_pt {x : PSt} {v : Nat → PPt} : (x.s_pt v).today = x.today := rfl
theorem PSt.daily_s_pt {x : PSt} {v : Nat → PPt} : (x.s_pt v).daily = x.daily := rfl
theorem PSt.weekly_s_pt {x : PSt} {v : Nat → PPt} : (x.s_pt v).weekly = x.weekly := rfl
theorem PSt.one_s_pt {x : PSt} {v : Nat → PPt} : (x.s_pt v).one = x.one := rfl
theorem PSt.other_s_pt {x : PSt} {v : Nat → PPt} : (x.s_pt v).other = x.other := rfl
theorem PSt.nO_s_pt {x : PSt} {v : Nat → PPt} : (x.s_pt v).nO = x.nO := rfl
theorem PSt.op_s_pt {x : PSt} {v : Nat → PPt} : (x.s_pt v).op = x.op := rfl
theorem PSt.nS_s_pt {x : PSt} {v : Nat → PPt} : (x.s_pt v).nS = x.nS := rfl
theorem PSt.sg_s_pt {x : PSt} {v : Nat → PPt} : (x.s_pt v).sg = x.sg := rfl
theorem PSt.ct_s_pt {x : PSt} {v : Nat → PPt} : (x.s_pt v).ct = x.ct := rfl
theorem PSt.nC_s_pt {x : PSt} {v : Nat → PPt} : (x.s_pt v).nC = x.nC := rfl
theorem PSt.ca_s_pt {x : PSt} {v : Nat → PPt} : (x.s_pt v).ca = x.ca := rfl
theorem PSt.nP_s_pt {x : PSt} {v : Nat → PPt} : (x.s_pt v).nP = x.nP := rfl
theorem PSt.pt_s_pt {x : PSt} {v : Nat → PPt} : (x.s_pt v).pt = v := rfl
theorem PSt.nI_s_pt {x : PSt} {v : Nat → PPt} : (x.s_pt v).nI = x.nI := rfl
theorem PSt.il_s_pt {x : PSt} {v : Nat → PPt} : (x.s_pt v).il = x.il := rfl
theorem PSt.nL_s_pt {x : PSt} {v : Nat → PPt} : (x.s_pt v).nL = x.nL := rfl
theorem PSt.le_s_pt {x : PSt} {v : Nat → PPt} : (x.s_pt v).le = x.le := rfl
theorem PSt.stamp_s_pt {x : PSt} {v : Nat → PPt} : (x.s_pt v).stamp = x.stamp := rfl
theorem PSt.fault_s_pt {x : PSt} {v : Nat → PPt} : (x.s_pt v).fault = x.fault := rfl
theorem PSt.nF_s_pt {x : PSt} {v : Nat → PPt} : (x.s_pt v).nF = x.nF := rfl
theorem PSt.fk_s_pt {x : PSt} {v : Nat → PPt} : (x.s_pt v).fk = x.fk := rfl
theorem PSt.fc_s_pt {x : PSt} {v : Nat → PPt} : (x.s_pt v).fc = x.fc := rfl
theorem PSt.fr_s_pt {x : PSt} {v : Nat → PPt} : (x.s_pt v).fr = x.fr := rfl
theorem PSt.laidN_s_pt {x : PSt} {v : Nat → PPt} : (x.s_pt v).laidN = x.laidN := rfl
theorem PSt.laidDay_s_pt {x : PSt} {v : Nat → PPt} : (x.s_pt v).laidDay = x.laidDay := rfl
theorem PSt.laidOp_s_pt {x : PSt} {v : Nat → PPt} : (x.s_pt v).laidOp = x.laidOp := rfl
theorem PSt.laidHour_s_pt {x : PSt} {v : Nat → PPt} : (x.s_pt v).laidHour = x.laidHour := rfl
theorem PSt.laidStamp_s_pt {x : PSt} {v : Nat → PPt} : (x.s_pt v).laidStamp = x.laidStamp := rfl
theorem PSt.tape_s_nI {x : PSt} {v : Nat} : (x.s_nI v).tape = x.tape := rfl
theorem PSt.taped_s_nI {x : PSt} {v : Nat} : (x.s_nI v).taped = x.taped := rfl
theorem PSt.today_s_nI {x : PSt} {v : Nat} : (x.s_nI v).today = x.today := rfl
theorem PSt.daily_s_nI {x : PSt} {v : Nat} : (x.s_nI v).daily = x.daily := rfl
theorem PSt.weekly_s_nI {x : PSt} {v : Nat} : (x.s_nI v).weekly = x.weekly := rfl
theorem PSt.one_s_nI {x : PSt} {v : Nat} : (x.s_nI v).one = x.one := rfl
theorem PSt.other_s_nI {x : PSt} {v : Nat} : (x.s_nI v).other = x.other := rfl
theorem PSt.nO_s_nI {x : PSt} {v : Nat} : (x.s_nI v).nO = x.nO := rfl
theorem PSt.op_s_nI {x : PSt} {v : Nat} : (x.s_nI v).op = x.op := rfl
theorem PSt.nS_s_nI {x : PSt} {v : Nat} : (x.s_nI v).nS = x.nS := rfl
theorem PSt.sg_s_nI {x : PSt} {v : Nat} : (x.s_nI v).sg = x.sg := rfl
theorem PSt.ct_s_nI {x : PSt} {v : Nat} : (x.s_nI v).ct = x.ct := rfl
theorem PSt.nC_s_nI {x : PSt} {v : Nat} : (x.s_nI v).nC = x.nC := rfl
theorem PSt.ca_s_nI {x : PSt} {v : Nat} : (x.s_nI v).ca = x.ca := rfl
theorem PSt.nP_s_nI {x : PSt} {v : Nat} : (x.s_nI v).nP = x.nP := rfl
theorem PSt.pt_s_nI {x : PSt} {v : Nat} : (x.s_nI v).pt = x.pt := rfl
theorem PSt.nI_s_nI {x : PSt} {v : Nat} : (x.s_nI v).nI = v := rfl
theorem PSt.il_s_nI {x : PSt} {v : Nat} : (x.s_nI v).il = x.il := rfl
theorem PSt.nL_s_nI {x : PSt} {v : Nat} : (x.s_nI v).nL = x.nL := rfl
theorem PSt.le_s_nI {x : PSt} {v : Nat} : (x.s_nI v).le = x.le := rfl
theorem PSt.stamp_s_nI {x : PSt} {v : Nat} : (x.s_nI v).stamp = x.stamp := rfl
theorem PSt.fault_s_nI {x : PSt} {v : Nat} : (x.s_nI v).fault = x.fault := rfl
theorem PSt.nF_s_nI {x : PSt} {v : Nat} : (x.s_nI v).nF = x.nF := rfl
theorem PSt.fk_s_nI {x : PSt} {v : Nat} : (x.s_nI v).fk = x.fk := rfl
theorem PSt.fc_s_nI {x : PSt} {v : Nat} : (x.s_nI v).fc = x.fc := rfl
theorem PSt.fr_s_nI {x : PSt} {v : Nat} : (x.s_nI v).fr = x.fr := rfl
theorem PSt.laidN_s_nI {x : PSt} {v : Nat} : (x.s_nI v).laidN = x.laidN := rfl
theorem PSt.laidDay_s_nI {x : PSt} {v : Nat} : (x.s_nI v).laidDay = x.laidDay := rfl
theorem PSt.laidOp_s_nI {x : PSt} {v : Nat} : (x.s_nI v).laidOp = x.laidOp := rfl
theorem PSt.laidHour_s_nI {x : PSt} {v : Nat} : (x.s_nI v).laidHour = x.laidHour := rfl
theorem PSt.laidStamp_s_nI {x : PSt} {v : Nat} : (x.s_nI v).laidStamp = x.laidStamp := rfl
theorem PSt.tape_s_il {x : PSt} {v : Nat → PIl} : (x.s_il v).tape = x.tape := rfl
theorem PSt.taped_s_il {x : PSt} {v : Nat → PIl} : (x.s_il v).taped = x.taped := rfl
theorem PSt.today_s_il {x : PSt} {v : Nat → PIl} : (x.s_il v).today = x.today := rfl
theorem PSt.daily_s_il {x : PSt} {v : Nat → PIl} : (x.s_il v).daily = x.daily := rfl
theorem PSt.weekly_s_il {x : PSt} {v : Nat → PIl} : (x.s_il v).weekly = x.weekly := rfl
theorem PSt.one_s_il {x : PSt} {v : Nat → PIl} : (x.s_il v).one = x.one := rfl
theorem PSt.other_s_il {x : PSt} {v : Nat → PIl} : (x.s_il v).other = x.other := rfl
theorem PSt.nO_s_il {x : PSt} {v : Nat → PIl} : (x.s_il v).nO = x.nO := rfl
theorem PSt.op_s_il {x : PSt} {v : Nat → PIl} : (x.s_il v).op = x.op := rfl
theorem PSt.nS_s_il {x : PSt} {v : Nat → PIl} : (x.s_il v).nS = x.nS := rfl
theorem PSt.sg_s_il {x : PSt} {v : Nat → PIl} : (x.s_il v).sg = x.sg := rfl
theorem PSt.ct_s_il {x : PSt} {v : Nat → PIl} : (x.s_il v).ct = x.ct := rfl
theorem PSt.nC_s_il {x : PSt} {v : Nat → PIl} : (x.s_il v).nC = x.nC := rfl
theorem PSt.ca_s_il {x : PSt} {v : Nat → PIl} : (x.s_il v).ca = x.ca := rfl
theorem PSt.nP_s_il {x : PSt} {v : Nat → PIl} : (x.s_il v).nP = x.nP := rfl
theorem PSt.pt_s_il {x : PSt} {v : Nat → PIl} : (x.s_il v).pt = x.pt := rfl
theorem PSt.nI_s_il {x : PSt} {v : Nat → PIl} : (x.s_il v).nI = x.nI := rfl
theorem PSt.il_s_il {x : PSt} {v : Nat → PIl} : (x.s_il v).il = v := rfl
theorem PSt.nL_s_il {x : PSt} {v : Nat → PIl} : (x.s_il v).nL = x.nL := rfl
theorem PSt.le_s_il {x : PSt} {v : Nat → PIl} : (x.s_il v).le = x.le := rfl
theorem PSt.stamp_s_il {x : PSt} {v : Nat → PIl} : (x.s_il v).stamp = x.stamp := rfl
theorem PSt.fault_s_il {x : PSt} {v : Nat → PIl} : (x.s_il v).fault = x.fault := rfl
theorem PSt.nF_s_il {x : PSt} {v : Nat → PIl} : (x.s_il v).nF = x.nF := rfl
theorem PSt.fk_s_il {x : PSt} {v : Nat → PIl} : (x.s_il v).fk = x.fk := rfl
theorem PSt.fc_s_il {x : PSt} {v : Nat → PIl} : (x.s_il v).fc = x.fc := rfl
theorem PSt.fr_s_il {x : PSt} {v : Nat → PIl} : (x.s_il v).fr = x.fr := rfl
theorem PSt.laidN_s_il {x : PSt} {v : Nat → PIl} : (x.s_il v).laidN = x.laidN := rfl
theorem PSt.laidDay_s_il {x : PSt} {v : Nat → PIl} : (x.s_il v).laidDay = x.laidDay := rfl
theorem PSt.laidOp_s_il {x : PSt} {v : Nat → PIl} : (x.s_il v).laidOp = x.laidOp := rfl
theorem PSt.laidHour_s_il {x : PSt} {v : Nat → PIl} : (x.s_il v).laidHour = x.laidHour := rfl
theorem PSt.laidStamp_s_il {x : PSt} {v : Nat → PIl} : (x.s_il v).laidStamp = x.laidStamp := rfl
theorem PSt.tape_s_nL {x : PSt} {v : Nat} : (x.s_nL v).tape = x.tape := rfl
theorem PSt.taped_s_nL {x : PSt} {v : Nat} : (x.s_nL v).taped = x.taped := rfl
theorem PSt.today_s_nL {x : PSt} {v : Nat} : (x.s_nL v).today = x.today := rfl
theorem PSt.daily_s_nL {x : PSt} {v : Nat} : (x.s_nL v).daily = x.daily := rfl
theorem PSt.weekly_s_nL {x : PSt} {v : Nat} : (x.s_nL v).weekly = x.weekly := rfl
theorem PSt.one_s_nL {x : PSt} {v : Nat} : (x.s_nL v).one = x.one := rfl
theorem PSt.other_s_nL {x : PSt} {v : Nat} : (x.s_nL v).other = x.other := rfl
theorem PSt.nO_s_nL {x : PSt} {v : Nat} : (x.s_nL v).nO = x.nO := rfl
theorem PSt.op_s_nL {x : PSt} {v : Nat} : (x.s_nL v).op = x.op := rfl
theorem PSt.nS_s_nL {x : PSt} {v : Nat} : (x.s_nL v).nS = x.nS := rfl
theorem PSt.sg_s_nL {x : PSt} {v : Nat} : (x.s_nL v).sg = x.sg := rfl
theorem PSt.ct_s_nL {x : PSt} {v : Nat} : (x.s_nL v).ct = x.ct := rfl
theorem PSt.nC_s_nL {x : PSt} {v : Nat} : (x.s_nL v).nC = x.nC := rfl
theorem PSt.ca_s_nL {x : PSt} {v : Nat} : (x.s_nL v).ca = x.ca := rfl
theorem PSt.nP_s_nL {x : PSt} {v : Nat} : (x.s_nL v).nP = x.nP := rfl
theorem PSt.pt_s_nL {x : PSt} {v : Nat} : (x.s_nL v).pt = x.pt := rfl
theorem PSt.nI_s_nL {x : PSt} {v : Nat} : (x.s_nL v).nI = x.nI := rfl
theorem PSt.il_s_nL {x : PSt} {v : Nat} : (x.s_nL v).il = x.il := rfl
theorem PSt.nL_s_nL {x : PSt} {v : Nat} : (x.s_nL v).nL = v := rfl
theorem PSt.le_s_nL {x : PSt} {v : Nat} : (x.s_nL v).le = x.le := rfl
theorem PSt.stamp_s_nL {x : PSt} {v : Nat} : (x.s_nL v).stamp = x.stamp := rfl
theorem PSt.fault_s_nL {x : PSt} {v : Nat} : (x.s_nL v).fault = x.fault := rfl
theorem PSt.nF_s_nL {x : PSt} {v : Nat} : (x.s_nL v).nF = x.nF := rfl
theorem PSt.fk_s_nL {x : PSt} {v : Nat} : (x.s_nL v).fk = x.fk := rfl
theorem PSt.fc_s_nL {x : PSt} {v : Nat} : (x.s_nL v).fc = x.fc := rfl
theorem PSt.fr_s_nL {x : PSt} {v : Nat} : (x.s_nL v).fr = x.fr := rfl
theorem PSt.laidN_s_nL {x : PSt} {v : Nat} : (x.s_nL v).laidN = x.laidN := rfl
theorem PSt.laidDay_s_nL {x : PSt} {v : Nat} : (x.s_nL v).laidDay = x.laidDay := rfl
theorem PSt.laidOp_s_nL {x : PSt} {v : Nat} : (x.s_nL v).laidOp = x.laidOp := rfl
theorem PSt.laidHour_s_nL {x : PSt} {v : Nat} : (x.s_nL v).laidHour = x.laidHour := rfl
theorem PSt.laidStamp_s_nL {x : PSt} {v : Nat} : (x.s_nL v).laidStamp = x.laidStamp := rfl
theorem PSt.tape_s_le {x : PSt} {v : Nat → PLe} : (x.s_le v).tape = x.tape := rfl
theorem PSt.taped_s_le {x : PSt} {v : Nat → PLe} : (x.s_le v).taped = x.taped := rfl
theorem PSt.today_s_le {x : PSt} {v : Nat → PLe} : (x.s_le v).today = x.today := rfl
theorem PSt.daily_s_le {x : PSt} {v : Nat → PLe} : (x.s_le v).daily = x.daily := rfl
theorem PSt.weekly_s_le {x : PSt} {v : Nat → PLe} : (x.s_le v).weekly = x.weekly := rfl
theorem PSt.one_s_le {x : PSt} {v : Nat → PLe} : (x.s_le v).one = x.one := rfl
theorem PSt.other_s_le {x : PSt} {v : Nat → PLe} : (x.s_le v).other = x.other := rfl
theorem PSt.nO_s_le {x : PSt} {v : Nat → PLe} : (x.s_le v).nO = x.nO := rfl
theorem PSt.op_s_le {x : PSt} {v : Nat → PLe} : (x.s_le v).op = x.op := rfl
theorem PSt.nS_s_le {x : PSt} {v : Nat → PLe} : (x.s_le v).nS = x.nS := rfl
theorem PSt.sg_s_le {x : PSt} {v : Nat → PLe} : (x.s_le v).sg = x.sg := rfl
theorem PSt.ct_s_le {x : PSt} {v : Nat → PLe} : (x.s_le v).ct = x.ct := rfl
theorem PSt.nC_s_le {x : PSt} {v : Nat → PLe} : (x.s_le v).nC = x.nC := rfl
theorem PSt.ca_s_le {x : PSt} {v : Nat → PLe} : (x.s_le v).ca = x.ca := rfl
theorem PSt.nP_s_le {x : PSt} {v : Nat → PLe} : (x.s_le v).nP = x.nP := rfl
theorem PSt.pt_s_le {x : PSt} {v : Nat → PLe} : (x.s_le v).pt = x.pt := rfl
theorem PSt.nI_s_le {x : PSt} {v : Nat → PLe} : (x.s_le v).nI = x.nI := rfl
theorem PSt.il_s_le {x : PSt} {v : Nat → PLe} : (x.s_le v).il = x.il := rfl
theorem PSt.nL_s_le {x : PSt} {v : Nat → PLe} : (x.s_le v).nL = x.nL := rfl
theorem PSt.le_s_le {x : PSt} {v : Nat → PLe} : (x.s_le v).le = v := rfl
theorem PSt.stamp_s_le {x : PSt} {v : Nat → PLe} : (x.s_le v).stamp = x.stamp := rfl
theorem PSt.fault_s_le {x : PSt} {v : Nat → PLe} : (x.s_le v).fault = x.fault := rfl
theorem PSt.nF_s_le {x : PSt} {v : Nat → PLe} : (x.s_le v).nF = x.nF := rfl
theorem PSt.fk_s_le {x : PSt} {v : Nat → PLe} : (x.s_le v).fk = x.fk := rfl
theorem PSt.fc_s_le {x : PSt} {v : Nat → PLe} : (x.s_le v).fc = x.fc := rfl
theorem PSt.fr_s_le {x : PSt} {v : Nat → PLe} : (x.s_le v).fr = x.fr := rfl
theorem PSt.laidN_s_le {x : PSt} {v : Nat → PLe} : (x.s_le v).laidN = x.laidN := rfl
theorem PSt.laidDay_s_le {x : PSt} {v : Nat → PLe} : (x.s_le v).laidDay = x.laidDay := rfl
theorem PSt.laidOp_s_le {x : PSt} {v : Nat → PLe} : (x.s_le v).laidOp = x.laidOp := rfl
theorem PSt.laidHour_s_le {x : PSt} {v : Nat → PLe} : (x.s_le v).laidHour = x.laidHour := rfl
theorem PSt.laidStamp_s_le {x : PSt} {v : Nat → PLe} : (x.s_le v).laidStamp = x.laidStamp := rfl
theorem PSt.tape_s_stamp {x : PSt} {v : Int32} : (x.s_stamp v).tape = x.tape := rfl
theorem PSt.taped_s_stamp {x : PSt} {v : Int32} : (x.s_stamp v).taped = x.taped := rfl
theorem PSt.today_s_stamp {x : PSt} {v : Int32} : (x.s_stamp v).today = x.today := rfl
theorem PSt.daily_s_stamp {x : PSt} {v : Int32} : (x.s_stamp v).daily = x.daily := rfl
theorem PSt.weekly_s_stamp {x : PSt} {v : Int32} : (x.s_stamp v).weekly = x.weekly := rfl
theorem PSt.one_s_stamp {x : PSt} {v : Int32} : (x.s_stamp v).one = x.one := rfl
theorem PSt.other_s_stamp {x : PSt} {v : Int32} : (x.s_stamp v).other = x.other := rfl
theorem PSt.nO_s_stamp {x : PSt} {v : Int32} : (x.s_stamp v).nO = x.nO := rfl
theorem PSt.op_s_stamp {x : PSt} {v : Int32} : (x.s_stamp v).op = x.op := rfl
theorem PSt.nS_s_stamp {x : PSt} {v : Int32} : (x.s_stamp v).nS = x.nS := rfl
theorem PSt.sg_s_stamp {x : PSt} {v : Int32} : (x.s_stamp v).sg = x.sg := rfl
theorem PSt.ct_s_stamp {x : PSt} {v : Int32} : (x.s_stamp v).ct = x.ct := rfl
theorem PSt.nC_s_stamp {x : PSt} {v : Int32} : (x.s_stamp v).nC = x.nC := rfl
theorem PSt.ca_s_stamp {x : PSt} {v : Int32} : (x.s_stamp v).ca = x.ca := rfl
theorem PSt.nP_s_stamp {x : PSt} {v : Int32} : (x.s_stamp v).nP = x.nP := rfl
theorem PSt.pt_s_stamp {x : PSt} {v : Int32} : (x.s_stamp v).pt = x.pt := rfl
theorem PSt.nI_s_stamp {x : PSt} {v : Int32} : (x.s_stamp v).nI = x.nI := rfl
theorem PSt.il_s_stamp {x : PSt} {v : Int32} : (x.s_stamp v).il = x.il := rfl
theorem PSt.nL_s_stamp {x : PSt} {v : Int32} : (x.s_stamp v).nL = x.nL := rfl
theorem PSt.le_s_stamp {x : PSt} {v : Int32} : (x.s_stamp v).le = x.le := rfl
theorem PSt.stamp_s_stamp {x : PSt} {v : Int32} : (x.s_stamp v).stamp = v := rfl
theorem PSt.fault_s_stamp {x : PSt} {v : Int32} : (x.s_stamp v).fault = x.fault := rfl
theorem PSt.nF_s_stamp {x : PSt} {v : Int32} : (x.s_stamp v).nF = x.nF := rfl
theorem PSt.fk_s_stamp {x : PSt} {v : Int32} : (x.s_stamp v).fk = x.fk := rfl
theorem PSt.fc_s_stamp {x : PSt} {v : Int32} : (x.s_stamp v).fc = x.fc := rfl
theorem PSt.fr_s_stamp {x : PSt} {v : Int32} : (x.s_stamp v).fr = x.fr := rfl
theorem PSt.laidN_s_stamp {x : PSt} {v : Int32} : (x.s_stamp v).laidN = x.laidN := rfl
theorem PSt.laidDay_s_stamp {x : PSt} {v : Int32} : (x.s_stamp v).laidDay = x.laidDay := rfl
theorem PSt.laidOp_s_stamp {x : PSt} {v : Int32} : (x.s_stamp v).laidOp = x.laidOp := rfl
theorem PSt.laidHour_s_stamp {x : PSt} {v : Int32} : (x.s_stamp v).laidHour = x.laidHour := rfl
theorem PSt.laidStamp_s_stamp {x : PSt} {v : Int32} : (x.s_stamp v).laidStamp = x.laidStamp := rfl
theorem PSt.tape_s_fault {x : PSt} {v : Int} : (x.s_fault v).tape = x.tape := rfl
theorem PSt.taped_s_fault {x : PSt} {v : Int} : (x.s_fault v).taped = x.taped := rfl
theorem PSt.today_s_fault {x : PSt} {v : Int} : (x.s_fault v).today = x.today := rfl
theorem PSt.daily_s_fault {x : PSt} {v : Int} : (x.s_fault v).daily = x.daily := rfl
theorem PSt.weekly_s_fault {x : PSt} {v : Int} : (x.s_fault v).weekly = x.weekly := rfl
theorem PSt.one_s_fault {x : PSt} {v : Int} : (x.s_fault v).one = x.one := rfl
theorem PSt.other_s_fault {x : PSt} {v : Int} : (x.s_fault v).other = x.other := rfl
theorem PSt.nO_s_fault {x : PSt} {v : Int} : (x.s_fault v).nO = x.nO := rfl
theorem PSt.op_s_fault {x : PSt} {v : Int} : (x.s_fault v).op = x.op := rfl
theorem PSt.nS_s_fault {x : PSt} {v : Int} : (x.s_fault v).nS = x.nS := rfl
theorem PSt.sg_s_fault {x : PSt} {v : Int} : (x.s_fault v).sg = x.sg := rfl
theorem PSt.ct_s_fault {x : PSt} {v : Int} : (x.s_fault v).ct = x.ct := rfl
theorem PSt.nC_s_fault {x : PSt} {v : Int} : (x.s_fault v).nC = x.nC := rfl
theorem PSt.ca_s_fault {x : PSt} {v : Int} : (x.s_fault v).ca = x.ca := rfl
theorem PSt.nP_s_fault {x : PSt} {v : Int} : (x.s_fault v).nP = x.nP := rfl
theorem PSt.pt_s_fault {x : PSt} {v : Int} : (x.s_fault v).pt = x.pt := rfl
theorem PSt.nI_s_fault {x : PSt} {v : Int} : (x.s_fault v).nI = x.nI := rfl
theorem PSt.il_s_fault {x : PSt} {v : Int} : (x.s_fault v).il = x.il := rfl
theorem PSt.nL_s_fault {x : PSt} {v : Int} : (x.s_fault v).nL = x.nL := rfl
theorem PSt.le_s_fault {x : PSt} {v : Int} : (x.s_fault v).le = x.le := rfl
theorem PSt.stamp_s_fault {x : PSt} {v : Int} : (x.s_fault v).stamp = x.stamp := rfl
theorem PSt.fault_s_fault {x : PSt} {v : Int} : (x.s_fault v).fault = v := rfl
theorem PSt.nF_s_fault {x : PSt} {v : Int} : (x.s_fault v).nF = x.nF := rfl
theorem PSt.fk_s_fault {x : PSt} {v : Int} : (x.s_fault v).fk = x.fk := rfl
theorem PSt.fc_s_fault {x : PSt} {v : Int} : (x.s_fault v).fc = x.fc := rfl
theorem PSt.fr_s_fault {x : PSt} {v : Int} : (x.s_fault v).fr = x.fr := rfl
theorem PSt.laidN_s_fault {x : PSt} {v : Int} : (x.s_fault v).laidN = x.laidN := rfl
theorem PSt.laidDay_s_fault {x : PSt} {v : Int} : (x.s_fault v).laidDay = x.laidDay := rfl
theorem PSt.laidOp_s_fault {x : PSt} {v : Int} : (x.s_fault v).laidOp = x.laidOp := rfl
theorem PSt.laidHour_s_fault {x : PSt} {v : Int} : (x.s_fault v).laidHour = x.laidHour := rfl
theorem PSt.laidStamp_s_fault {x : PSt} {v : Int} : (x.s_fault v).laidStamp = x.laidStamp := rfl
theorem PSt.tape_s_nF {x : PSt} {v : Nat} : (x.s_nF v).tape = x.tape := rfl
theorem PSt.taped_s_nF {x : PSt} {v : Nat} : (x.s_nF v).taped = x.taped := rfl
theorem PSt.today_s_nF {x : PSt} {v : Nat} : (x.s_nF v).today = x.today := rfl
theorem PSt.daily_s_nF {x : PSt} {v : Nat} : (x.s_nF v).daily = x.daily := rfl
theorem PSt.weekly_s_nF {x : PSt} {v : Nat} : (x.s_nF v).weekly = x.weekly := rfl
theorem PSt.one_s_nF {x : PSt} {v : Nat} : (x.s_nF v).one = x.one := rfl
theorem PSt.other_s_nF {x : PSt} {v : Nat} : (x.s_nF v).other = x.other := rfl
theorem PSt.nO_s_nF {x : PSt} {v : Nat} : (x.s_nF v).nO = x.nO := rfl
theorem PSt.op_s_nF {x : PSt} {v : Nat} : (x.s_nF v).op = x.op := rfl
theorem PSt.nS_s_nF {x : PSt} {v : Nat} : (x.s_nF v).nS = x.nS := rfl
theorem PSt.sg_s_nF {x : PSt} {v : Nat} : (x.s_nF v).sg = x.sg := rfl
theorem PSt.ct_s_nF {x : PSt} {v : Nat} : (x.s_nF v).ct = x.ct := rfl
theorem PSt.nC_s_nF {x : PSt} {v : Nat} : (x.s_nF v).nC = x.nC := rfl
theorem PSt.ca_s_nF {x : PSt} {v : Nat} : (x.s_nF v).ca = x.ca := rfl
theorem PSt.nP_s_nF {x : PSt} {v : Nat} : (x.s_nF v).nP = x.nP := rfl
theorem PSt.pt_s_nF {x : PSt} {v : Nat} : (x.s_nF v).pt = x.pt := rfl
theorem PSt.nI_s_nF {x : PSt} {v : Nat} : (x.s_nF v).nI = x.nI := rfl
theorem PSt.il_s_nF {x : PSt} {v : Nat} : (x.s_nF v).il = x.il := rfl
theorem PSt.nL_s_nF {x : PSt} {v : Nat} : (x.s_nF v).nL = x.nL := rfl
theorem PSt.le_s_nF {x : PSt} {v : Nat} : (x.s_nF v).le = x.le := rfl
theorem PSt.stamp_s_nF {x : PSt} {v : Nat} : (x.s_nF v).stamp = x.stamp := rfl
theorem PSt.fault_s_nF {x : PSt} {v : Nat} : (x.s_nF v).fault = x.fault := rfl
theorem PSt.nF_s_nF {x : PSt} {v : Nat} : (x.s_nF v).nF = v := rfl
theorem PSt.fk_s_nF {x : PSt} {v : Nat} : (x.s_nF v).fk = x.fk := rfl
theorem PSt.fc_s_nF {x : PSt} {v : Nat} : (x.s_nF v).fc = x.fc := rfl
theorem PSt.fr_s_nF {x : PSt} {v : Nat} : (x.s_nF v).fr = x.fr := rfl
theorem PSt.laidN_s_nF {x : PSt} {v : Nat} : (x.s_nF v).laidN = x.laidN := rfl
theorem PSt.laidDay_s_nF {x : PSt} {v : Nat} : (x.s_nF v).laidDay = x.laidDay := rfl
theorem PSt.laidOp_s_nF {x : PSt} {v : Nat} : (x.s_nF v).laidOp = x.laidOp := rfl
theorem PSt.laidHour_s_nF {x : PSt} {v : Nat} : (x.s_nF v).laidHour = x.laidHour := rfl
theorem PSt.laidStamp_s_nF {x : PSt} {v : Nat} : (x.s_nF v).laidStamp = x.laidStamp := rfl
theorem PSt.tape_s_fk {x : PSt} {v : Nat → Int} : (x.s_fk v).tape = x.tape := rfl
theorem PSt.taped_s_fk {x : PSt} {v : Nat → Int} : (x.s_fk v).taped = x.taped := rfl
theorem PSt.today_s_fk {x : PSt} {v : Nat → Int} : (x.s_fk v).today = x.today := rfl
theorem PSt.daily_s_fk {x : PSt} {v : Nat → Int} : (x.s_fk v).daily = x.daily := rfl
theorem PSt.weekly_s_fk {x : PSt} {v : Nat → Int} : (x.s_fk v).weekly = x.weekly := rfl
theorem PSt.one_s_fk {x : PSt} {v : Nat → Int} : (x.s_fk v).one = x.one := rfl
theorem PSt.other_s_fk {x : PSt} {v : Nat → Int} : (x.s_fk v).other = x.other := rfl
theorem PSt.nO_s_fk {x : PSt} {v : Nat → Int} : (x.s_fk v).nO = x.nO := rfl
theorem PSt.op_s_fk {x : PSt} {v : Nat → Int} : (x.s_fk v).op = x.op := rfl
theorem PSt.nS_s_fk {x : PSt} {v : Nat → Int} : (x.s_fk v).nS = x.nS := rfl
theorem PSt.sg_s_fk {x : PSt} {v : Nat → Int} : (x.s_fk v).sg = x.sg := rfl
theorem PSt.ct_s_fk {x : PSt} {v : Nat → Int} : (x.s_fk v).ct = x.ct := rfl
theorem PSt.nC_s_fk {x : PSt} {v : Nat → Int} : (x.s_fk v).nC = x.nC := rfl
theorem PSt.ca_s_fk {x : PSt} {v : Nat → Int} : (x.s_fk v).ca = x.ca := rfl
theorem PSt.nP_s_fk {x : PSt} {v : Nat → Int} : (x.s_fk v).nP = x.nP := rfl
theorem PSt.pt_s_fk {x : PSt} {v : Nat → Int} : (x.s_fk v).pt = x.pt := rfl
theorem PSt.nI_s_fk {x : PSt} {v : Nat → Int} : (x.s_fk v).nI = x.nI := rfl
theorem PSt.il_s_fk {x : PSt} {v : Nat → Int} : (x.s_fk v).il = x.il := rfl
theorem PSt.nL_s_fk {x : PSt} {v : Nat → Int} : (x.s_fk v).nL = x.nL := rfl
theorem PSt.le_s_fk {x : PSt} {v : Nat → Int} : (x.s_fk v).le = x.le := rfl
theorem PSt.stamp_s_fk {x : PSt} {v : Nat → Int} : (x.s_fk v).stamp = x.stamp := rfl
theorem PSt.fault_s_fk {x : PSt} {v : Nat → Int} : (x.s_fk v).fault = x.fault := rfl
theorem PSt.nF_s_fk {x : PSt} {v : Nat → Int} : (x.s_fk v).nF = x.nF := rfl
theorem PSt.fk_s_fk {x : PSt} {v : Nat → Int} : (x.s_fk v).fk = v := rfl
theorem PSt.fc_s_fk {x : PSt} {v : Nat → Int} : (x.s_fk v).fc = x.fc := rfl
theorem PSt.fr_s_fk {x : PSt} {v : Nat → Int} : (x.s_fk v).fr = x.fr := rfl
theorem PSt.laidN_s_fk {x : PSt} {v : Nat → Int} : (x.s_fk v).laidN = x.laidN := rfl
theorem PSt.laidDay_s_fk {x : PSt} {v : Nat → Int} : (x.s_fk v).laidDay = x.laidDay := rfl
theorem PSt.laidOp_s_fk {x : PSt} {v : Nat → Int} : (x.s_fk v).laidOp = x.laidOp := rfl
theorem PSt.laidHour_s_fk {x : PSt} {v : Nat → Int} : (x.s_fk v).laidHour = x.laidHour := rfl
theorem PSt.laidStamp_s_fk {x : PSt} {v : Nat → Int} : (x.s_fk v).laidStamp = x.laidStamp := rfl
theorem PSt.tape_s_fc {x : PSt} {v : Nat → Nat} : (x.s_fc v).tape = x.tape := rfl
theorem PSt.taped_s_fc {x : PSt} {v : Nat → Nat} : (x.s_fc v).taped = x.taped := rfl
theorem PSt.today_s_fc {x : PSt} {v : Nat → Nat} : (x.s_fc v).today = x.today := rfl
theorem PSt.daily_s_fc {x : PSt} {v : Nat → Nat} : (x.s_fc v).daily = x.daily := rfl
theorem PSt.weekly_s_fc {x : PSt} {v : Nat → Nat} : (x.s_fc v).weekly = x.weekly := rfl
theorem PSt.one_s_fc {x : PSt} {v : Nat → Nat} : (x.s_fc v).one = x.one := rfl
theorem PSt.other_s_fc {x : PSt} {v : Nat → Nat} : (x.s_fc v).other = x.other := rfl
theorem PSt.nO_s_fc {x : PSt} {v : Nat → Nat} : (x.s_fc v).nO = x.nO := rfl
theorem PSt.op_s_fc {x : PSt} {v : Nat → Nat} : (x.s_fc v).op = x.op := rfl
theorem PSt.nS_s_fc {x : PSt} {v : Nat → Nat} : (x.s_fc v).nS = x.nS := rfl
theorem PSt.sg_s_fc {x : PSt} {v : Nat → Nat} : (x.s_fc v).sg = x.sg := rfl
theorem PSt.ct_s_fc {x : PSt} {v : Nat → Nat} : (x.s_fc v).ct = x.ct := rfl
theorem PSt.nC_s_fc {x : PSt} {v : Nat → Nat} : (x.s_fc v).nC = x.nC := rfl
theorem PSt.ca_s_fc {x : PSt} {v : Nat → Nat} : (x.s_fc v).ca = x.ca := rfl
theorem PSt.nP_s_fc {x : PSt} {v : Nat → Nat} : (x.s_fc v).nP = x.nP := rfl
theorem PSt.pt_s_fc {x : PSt} {v : Nat → Nat} : (x.s_fc v).pt = x.pt := rfl
theorem PSt.nI_s_fc {x : PSt} {v : Nat → Nat} : (x.s_fc v).nI = x.nI := rfl
theorem PSt.il_s_fc {x : PSt} {v : Nat → Nat} : (x.s_fc v).il = x.il := rfl
theorem PSt.nL_s_fc {x : PSt} {v : Nat → Nat} : (x.s_fc v).nL = x.nL := rfl
theorem PSt.le_s_fc {x : PSt} {v : Nat → Nat} : (x.s_fc v).le = x.le := rfl
theorem PSt.stamp_s_fc {x : PSt} {v : Nat → Nat} : (x.s_fc v).stamp = x.stamp := rfl
theorem PSt.fault_s_fc {x : PSt} {v : Nat → Nat} : (x.s_fc v).fault = x.fault := rfl
theorem PSt.nF_s_fc {x : PSt} {v : Nat → Nat} : (x.s_fc v).nF = x.nF := rfl
theorem PSt.fk_s_fc {x : PSt} {v : Nat → Nat} : (x.s_fc v).fk = x.fk := rfl
theorem PSt.fc_s_fc {x : PSt} {v : Nat → Nat} : (x.s_fc v).fc = v := rfl
theorem PSt.fr_s_fc {x : PSt} {v : Nat → Nat} : (x.s_fc v).fr = x.fr := rfl
theorem PSt.laidN_s_fc {x : PSt} {v : Nat → Nat} : (x.s_fc v).laidN = x.laidN := rfl
theorem PSt.laidDay_s_fc {x : PSt} {v : Nat → Nat} : (x.s_fc v).laidDay = x.laidDay := rfl
theorem PSt.laidOp_s_fc {x : PSt} {v : Nat → Nat} : (x.s_fc v).laidOp = x.laidOp := rfl
theorem PSt.laidHour_s_fc {x : PSt} {v : Nat → Nat} : (x.s_fc v).laidHour = x.laidHour := rfl
theorem PSt.laidStamp_s_fc {x : PSt} {v : Nat → Nat} : (x.s_fc v).laidStamp = x.laidStamp := rfl
theorem PSt.tape_s_fr {x : PSt} {v : Nat → Int} : (x.s_fr v).tape = x.tape := rfl
theorem PSt.taped_s_fr {x : PSt} {v : Nat → Int} : (x.s_fr v).taped = x.taped := rfl
theorem PSt.today_s_fr {x : PSt} {v : Nat → Int} : (x.s_fr v).today = x.today := rfl
theorem PSt.daily_s_fr {x : PSt} {v : Nat → Int} : (x.s_fr v).daily = x.daily := rfl
theorem PSt.weekly_s_fr {x : PSt} {v : Nat → Int} : (x.s_fr v).weekly = x.weekly := rfl
theorem PSt.one_s_fr {x : PSt} {v : Nat → Int} : (x.s_fr v).one = x.one := rfl
theorem PSt.other_s_fr {x : PSt} {v : Nat → Int} : (x.s_fr v).other = x.other := rfl
theorem PSt.nO_s_fr {x : PSt} {v : Nat → Int} : (x.s_fr v).nO = x.nO := rfl
theorem PSt.op_s_fr {x : PSt} {v : Nat → Int} : (x.s_fr v).op = x.op := rfl
theorem PSt.nS_s_fr {x : PSt} {v : Nat → Int} : (x.s_fr v).nS = x.nS := rfl
theorem PSt.sg_s_fr {x : PSt} {v : Nat → Int} : (x.s_fr v).sg = x.sg := rfl
theorem PSt.ct_s_fr {x : PSt} {v : Nat → Int} : (x.s_fr v).ct = x.ct := rfl
theorem PSt.nC_s_fr {x : PSt} {v : Nat → Int} : (x.s_fr v).nC = x.nC := rfl
theorem PSt.ca_s_fr {x : PSt} {v : Nat → Int} : (x.s_fr v).ca = x.ca := rfl
theorem PSt.nP_s_fr {x : PSt} {v : Nat → Int} : (x.s_fr v).nP = x.nP := rfl
theorem PSt.pt_s_fr {x : PSt} {v : Nat → Int} : (x.s_fr v).pt = x.pt := rfl
theorem PSt.nI_s_fr {x : PSt} {v : Nat → Int} : (x.s_fr v).nI = x.nI := rfl
theorem PSt.il_s_fr {x : PSt} {v : Nat → Int} : (x.s_fr v).il = x.il := rfl
theorem PSt.nL_s_fr {x : PSt} {v : Nat → Int} : (x.s_fr v).nL = x.nL := rfl
theorem PSt.le_s_fr {x : PSt} {v : Nat → Int} : (x.s_fr v).le = x.le := rfl
theorem PSt.stamp_s_fr {x : PSt} {v : Nat → Int} : (x.s_fr v).stamp = x.stamp := rfl
theorem PSt.fault_s_fr {x : PSt} {v : Nat → Int} : (x.s_fr v).fault = x.fault := rfl
theorem PSt.nF_s_fr {x : PSt} {v : Nat → Int} : (x.s_fr v).nF = x.nF := rfl
theorem PSt.fk_s_fr {x : PSt} {v : Nat → Int} : (x.s_fr v).fk = x.fk := rfl
theorem PSt.fc_s_fr {x : PSt} {v : Nat → Int} : (x.s_fr v).fc = x.fc := rfl
theorem PSt.fr_s_fr {x : PSt} {v : Nat → Int} : (x.s_fr v).fr = v := rfl
theorem PSt.laidN_s_fr {x : PSt} {v : Nat → Int} : (x.s_fr v).laidN = x.laidN := rfl
theorem PSt.laidDay_s_fr {x : PSt} {v : Nat → Int} : (x.s_fr v).laidDay = x.laidDay := rfl
theorem PSt.laidOp_s_fr {x : PSt} {v : Nat → Int} : (x.s_fr v).laidOp = x.laidOp := rfl
theorem PSt.laidHour_s_fr {x : PSt} {v : Nat → Int} : (x.s_fr v).laidHour = x.laidHour := rfl
theorem PSt.laidStamp_s_fr {x : PSt} {v : Nat → Int} : (x.s_fr v).laidStamp = x.laidStamp := rfl
theorem PSt.tape_s_laidN {x : PSt} {v : Nat} : (x.s_laidN v).tape = x.tape := rfl
theorem PSt.taped_s_laidN {x : PSt} {v : Nat} : (x.s_laidN v).taped = x.taped := rfl
theorem PSt.today_s_laidN {x : PSt} {v : Nat} : (x.s_laidN v).today = x.today := rfl
theorem PSt.daily_s_laidN {x : PSt} {v : Nat} : (x.s_laidN v).daily = x.daily := rfl
theorem PSt.weekly_s_laidN {x : PSt} {v : Nat} : (x.s_laidN v).weekly = x.weekly := rfl
theorem PSt.one_s_laidN {x : PSt} {v : Nat} : (x.s_laidN v).one = x.one := rfl
theorem PSt.other_s_laidN {x : PSt} {v : Nat} : (x.s_laidN v).other = x.other := rfl
theorem PSt.nO_s_laidN {x : PSt} {v : Nat} : (x.s_laidN v).nO = x.nO := rfl
theorem PSt.op_s_laidN {x : PSt} {v : Nat} : (x.s_laidN v).op = x.op := rfl
theorem PSt.nS_s_laidN {x : PSt} {v : Nat} : (x.s_laidN v).nS = x.nS := rfl
theorem PSt.sg_s_laidN {x : PSt} {v : Nat} : (x.s_laidN v).sg = x.sg := rfl
theorem PSt.ct_s_laidN {x : PSt} {v : Nat} : (x.s_laidN v).ct = x.ct := rfl
theorem PSt.nC_s_laidN {x : PSt} {v : Nat} : (x.s_laidN v).nC = x.nC := rfl
theorem PSt.ca_s_laidN {x : PSt} {v : Nat} : (x.s_laidN v).ca = x.ca := rfl
theorem PSt.nP_s_laidN {x : PSt} {v : Nat} : (x.s_laidN v).nP = x.nP := rfl
theorem PSt.pt_s_laidN {x : PSt} {v : Nat} : (x.s_laidN v).pt = x.pt := rfl
theorem PSt.nI_s_laidN {x : PSt} {v : Nat} : (x.s_laidN v).nI = x.nI := rfl
theorem PSt.il_s_laidN {x : PSt} {v : Nat} : (x.s_laidN v).il = x.il := rfl
theorem PSt.nL_s_laidN {x : PSt} {v : Nat} : (x.s_laidN v).nL = x.nL := rfl
theorem PSt.le_s_laidN {x : PSt} {v : Nat} : (x.s_laidN v).le = x.le := rfl
theorem PSt.stamp_s_laidN {x : PSt} {v : Nat} : (x.s_laidN v).stamp = x.stamp := rfl
theorem PSt.fault_s_laidN {x : PSt} {v : Nat} : (x.s_laidN v).fault = x.fault := rfl
theorem PSt.nF_s_laidN {x : PSt} {v : Nat} : (x.s_laidN v).nF = x.nF := rfl
theorem PSt.fk_s_laidN {x : PSt} {v : Nat} : (x.s_laidN v).fk = x.fk := rfl
theorem PSt.fc_s_laidN {x : PSt} {v : Nat} : (x.s_laidN v).fc = x.fc := rfl
theorem PSt.fr_s_laidN {x : PSt} {v : Nat} : (x.s_laidN v).fr = x.fr := rfl
theorem PSt.laidN_s_laidN {x : PSt} {v : Nat} : (x.s_laidN v).laidN = v := rfl
theorem PSt.laidDay_s_laidN {x : PSt} {v : Nat} : (x.s_laidN v).laidDay = x.laidDay := rfl
theorem PSt.laidOp_s_laidN {x : PSt} {v : Nat} : (x.s_laidN v).laidOp = x.laidOp := rfl
theorem PSt.laidHour_s_laidN {x : PSt} {v : Nat} : (x.s_laidN v).laidHour = x.laidHour := rfl
theorem PSt.laidStamp_s_laidN {x : PSt} {v : Nat} : (x.s_laidN v).laidStamp = x.laidStamp := rfl
theorem PSt.tape_s_laidDay {x : PSt} {v : Nat → Int} : (x.s_laidDay v).tape = x.tape := rfl
theorem PSt.taped_s_laidDay {x : PSt} {v : Nat → Int} : (x.s_laidDay v).taped = x.taped := rfl
theorem PSt.today_s_laidDay {x : PSt} {v : Nat → Int} : (x.s_laidDay v).today = x.today := rfl
theorem PSt.daily_s_laidDay {x : PSt} {v : Nat → Int} : (x.s_laidDay v).daily = x.daily := rfl
theorem PSt.weekly_s_laidDay {x : PSt} {v : Nat → Int} : (x.s_laidDay v).weekly = x.weekly := rfl
theorem PSt.one_s_laidDay {x : PSt} {v : Nat → Int} : (x.s_laidDay v).one = x.one := rfl
theorem PSt.other_s_laidDay {x : PSt} {v : Nat → Int} : (x.s_laidDay v).other = x.other := rfl
theorem PSt.nO_s_laidDay {x : PSt} {v : Nat → Int} : (x.s_laidDay v).nO = x.nO := rfl
theorem PSt.op_s_laidDay {x : PSt} {v : Nat → Int} : (x.s_laidDay v).op = x.op := rfl
theorem PSt.nS_s_laidDay {x : PSt} {v : Nat → Int} : (x.s_laidDay v).nS = x.nS := rfl
theorem PSt.sg_s_laidDay {x : PSt} {v : Nat → Int} : (x.s_laidDay v).sg = x.sg := rfl
theorem PSt.ct_s_laidDay {x : PSt} {v : Nat → Int} : (x.s_laidDay v).ct = x.ct := rfl
theorem PSt.nC_s_laidDay {x : PSt} {v : Nat → Int} : (x.s_laidDay v).nC = x.nC := rfl
theorem PSt.ca_s_laidDay {x : PSt} {v : Nat → Int} : (x.s_laidDay v).ca = x.ca := rfl
theorem PSt.nP_s_laidDay {x : PSt} {v : Nat → Int} : (x.s_laidDay v).nP = x.nP := rfl
theorem PSt.pt_s_laidDay {x : PSt} {v : Nat → Int} : (x.s_laidDay v).pt = x.pt := rfl
theorem PSt.nI_s_laidDay {x : PSt} {v : Nat → Int} : (x.s_laidDay v).nI = x.nI := rfl
theorem PSt.il_s_laidDay {x : PSt} {v : Nat → Int} : (x.s_laidDay v).il = x.il := rfl
theorem PSt.nL_s_laidDay {x : PSt} {v : Nat → Int} : (x.s_laidDay v).nL = x.nL := rfl
theorem PSt.le_s_laidDay {x : PSt} {v : Nat → Int} : (x.s_laidDay v).le = x.le := rfl
theorem PSt.stamp_s_laidDay {x : PSt} {v : Nat → Int} : (x.s_laidDay v).stamp = x.stamp := rfl
theorem PSt.fault_s_laidDay {x : PSt} {v : Nat → Int} : (x.s_laidDay v).fault = x.fault := rfl
theorem PSt.nF_s_laidDay {x : PSt} {v : Nat → Int} : (x.s_laidDay v).nF = x.nF := rfl
theorem PSt.fk_s_laidDay {x : PSt} {v : Nat → Int} : (x.s_laidDay v).fk = x.fk := rfl
theorem PSt.fc_s_laidDay {x : PSt} {v : Nat → Int} : (x.s_laidDay v).fc = x.fc := rfl
theorem PSt.fr_s_laidDay {x : PSt} {v : Nat → Int} : (x.s_laidDay v).fr = x.fr := rfl
theorem PSt.laidN_s_laidDay {x : PSt} {v : Nat → Int} : (x.s_laidDay v).laidN = x.laidN := rfl
theorem PSt.laidDay_s_laidDay {x : PSt} {v : Nat → Int} : (x.s_laidDay v).laidDay = v := rfl
theorem PSt.laidOp_s_laidDay {x : PSt} {v : Nat → Int} : (x.s_laidDay v).laidOp = x.laidOp := rfl
theorem PSt.laidHour_s_laidDay {x : PSt} {v : Nat → Int} : (x.s_laidDay v).laidHour = x.laidHour := rfl
theorem PSt.laidStamp_s_laidDay {x : PSt} {v : Nat → Int} : (x.s_laidDay v).laidStamp = x.laidStamp := rfl
theorem PSt.tape_s_laidOp {x : PSt} {v : Nat → Nat} : (x.s_laidOp v).tape = x.tape := rfl
theorem PSt.taped_s_laidOp {x : PSt} {v : Nat → Nat} : (x.s_laidOp v).taped = x.taped := rfl
theorem PSt.today_s_laidOp {x : PSt} {v : Nat → Nat} : (x.s_laidOp v).today = x.today := rfl
theorem PSt.daily_s_laidOp {x : PSt} {v : Nat → Nat} : (x.s_laidOp v).daily = x.daily := rfl
theorem PSt.weekly_s_laidOp {x : PSt} {v : Nat → Nat} : (x.s_laidOp v).weekly = x.weekly := rfl
theorem PSt.one_s_laidOp {x : PSt} {v : Nat → Nat} : (x.s_laidOp v).one = x.one := rfl
theorem PSt.other_s_laidOp {x : PSt} {v : Nat → Nat} : (x.s_laidOp v).other = x.other := rfl
theorem PSt.nO_s_laidOp {x : PSt} {v : Nat → Nat} : (x.s_laidOp v).nO = x.nO := rfl
theorem PSt.op_s_laidOp {x : PSt} {v : Nat → Nat} : (x.s_laidOp v).op = x.op := rfl
theorem PSt.nS_s_laidOp {x : PSt} {v : Nat → Nat} : (x.s_laidOp v).nS = x.nS := rfl
theorem PSt.sg_s_laidOp {x : PSt} {v : Nat → Nat} : (x.s_laidOp v).sg = x.sg := rfl
theorem PSt.ct_s_laidOp {x : PSt} {v : Nat → Nat} : (x.s_laidOp v).ct = x.ct := rfl
theorem PSt.nC_s_laidOp {x : PSt} {v : Nat → Nat} : (x.s_laidOp v).nC = x.nC := rfl
theorem PSt.ca_s_laidOp {x : PSt} {v : Nat → Nat} : (x.s_laidOp v).ca = x.ca := rfl
theorem PSt.nP_s_laidOp {x : PSt} {v : Nat → Nat} : (x.s_laidOp v).nP = x.nP := rfl
theorem PSt.pt_s_laidOp {x : PSt} {v : Nat → Nat} : (x.s_laidOp v).pt = x.pt := rfl
theorem PSt.nI_s_laidOp {x : PSt} {v : Nat → Nat} : (x.s_laidOp v).nI = x.nI := rfl
theorem PSt.il_s_laidOp {x : PSt} {v : Nat → Nat} : (x.s_laidOp v).il = x.il := rfl
theorem PSt.nL_s_laidOp {x : PSt} {v : Nat → Nat} : (x.s_laidOp v).nL = x.nL := rfl
theorem PSt.le_s_laidOp {x : PSt} {v : Nat → Nat} : (x.s_laidOp v).le = x.le := rfl
theorem PSt.stamp_s_laidOp {x : PSt} {v : Nat → Nat} : (x.s_laidOp v).stamp = x.stamp := rfl
theorem PSt.fault_s_laidOp {x : PSt} {v : Nat → Nat} : (x.s_laidOp v).fault = x.fault := rfl
theorem PSt.nF_s_laidOp {x : PSt} {v : Nat → Nat} : (x.s_laidOp v).nF = x.nF := rfl
theorem PSt.fk_s_laidOp {x : PSt} {v : Nat → Nat} : (x.s_laidOp v).fk = x.fk := rfl
theorem PSt.fc_s_laidOp {x : PSt} {v : Nat → Nat} : (x.s_laidOp v).fc = x.fc := rfl
theorem PSt.fr_s_laidOp {x : PSt} {v : Nat → Nat} : (x.s_laidOp v).fr = x.fr := rfl
theorem PSt.laidN_s_laidOp {x : PSt} {v : Nat → Nat} : (x.s_laidOp v).laidN = x.laidN := rfl
theorem PSt.laidDay_s_laidOp {x : PSt} {v : Nat → Nat} : (x.s_laidOp v).laidDay = x.laidDay := rfl
theorem PSt.laidOp_s_laidOp {x : PSt} {v : Nat → Nat} : (x.s_laidOp v).laidOp = v := rfl
theorem PSt.laidHour_s_laidOp {x : PSt} {v : Nat → Nat} : (x.s_laidOp v).laidHour = x.laidHour := rfl
theorem PSt.laidStamp_s_laidOp {x : PSt} {v : Nat → Nat} : (x.s_laidOp v).laidStamp = x.laidStamp := rfl
theorem PSt.tape_s_laidHour {x : PSt} {v : Int} : (x.s_laidHour v).tape = x.tape := rfl
theorem PSt.taped_s_laidHour {x : PSt} {v : Int} : (x.s_laidHour v).taped = x.taped := rfl
theorem PSt.today_s_laidHour {x : PSt} {v : Int} : (x.s_laidHour v).today = x.today := rfl
theorem PSt.daily_s_laidHour {x : PSt} {v : Int} : (x.s_laidHour v).daily = x.daily := rfl
theorem PSt.weekly_s_laidHour {x : PSt} {v : Int} : (x.s_laidHour v).weekly = x.weekly := rfl
theorem PSt.one_s_laidHour {x : PSt} {v : Int} : (x.s_laidHour v).one = x.one := rfl
theorem PSt.other_s_laidHour {x : PSt} {v : Int} : (x.s_laidHour v).other = x.other := rfl
theorem PSt.nO_s_laidHour {x : PSt} {v : Int} : (x.s_laidHour v).nO = x.nO := rfl
theorem PSt.op_s_laidHour {x : PSt} {v : Int} : (x.s_laidHour v).op = x.op := rfl
theorem PSt.nS_s_laidHour {x : PSt} {v : Int} : (x.s_laidHour v).nS = x.nS := rfl
theorem PSt.sg_s_laidHour {x : PSt} {v : Int} : (x.s_laidHour v).sg = x.sg := rfl
theorem PSt.ct_s_laidHour {x : PSt} {v : Int} : (x.s_laidHour v).ct = x.ct := rfl
theorem PSt.nC_s_laidHour {x : PSt} {v : Int} : (x.s_laidHour v).nC = x.nC := rfl
theorem PSt.ca_s_laidHour {x : PSt} {v : Int} : (x.s_laidHour v).ca = x.ca := rfl
theorem PSt.nP_s_laidHour {x : PSt} {v : Int} : (x.s_laidHour v).nP = x.nP := rfl
theorem PSt.pt_s_laidHour {x : PSt} {v : Int} : (x.s_laidHour v).pt = x.pt := rfl
theorem PSt.nI_s_laidHour {x : PSt} {v : Int} : (x.s_laidHour v).nI = x.nI := rfl
theorem PSt.il_s_laidHour {x : PSt} {v : Int} : (x.s_laidHour v).il = x.il := rfl
theorem PSt.nL_s_laidHour {x : PSt} {v : Int} : (x.s_laidHour v).nL = x.nL := rfl
theorem PSt.le_s_laidHour {x : PSt} {v : Int} : (x.s_laidHour v).le = x.le := rfl
theorem PSt.stamp_s_laidHour {x : PSt} {v : Int} : (x.s_laidHour v).stamp = x.stamp := rfl
theorem PSt.fault_s_laidHour {x : PSt} {v : Int} : (x.s_laidHour v).fault = x.fault := rfl
theorem PSt.nF_s_laidHour {x : PSt} {v : Int} : (x.s_laidHour v).nF = x.nF := rfl
theorem PSt.fk_s_laidHour {x : PSt} {v : Int} : (x.s_laidHour v).fk = x.fk := rfl
theorem PSt.fc_s_laidHour {x : PSt} {v : Int} : (x.s_laidHour v).fc = x.fc := rfl
theorem PSt.fr_s_laidHour {x : PSt} {v : Int} : (x.s_laidHour v).fr = x.fr := rfl
theorem PSt.laidN_s_laidHour {x : PSt} {v : Int} : (x.s_laidHour v).laidN = x.laidN := rfl
theorem PSt.laidDay_s_laidHour {x : PSt} {v : Int} : (x.s_laidHour v).laidDay = x.laidDay := rfl
theorem PSt.laidOp_s_laidHour {x : PSt} {v : Int} : (x.s_laidHour v).laidOp = x.laidOp := rfl
theorem PSt.laidHour_s_laidHour {x : PSt} {v : Int} : (x.s_laidHour v).laidHour = v := rfl
theorem PSt.laidStamp_s_laidHour {x : PSt} {v : Int} : (x.s_laidHour v).laidStamp = x.laidStamp := rfl
theorem PSt.tape_s_laidStamp {x : PSt} {v : Int32} : (x.s_laidStamp v).tape = x.tape := rfl
theorem PSt.taped_s_laidStamp {x : PSt} {v : Int32} : (x.s_laidStamp v).taped = x.taped := rfl
theorem PSt.today_s_laidStamp {x : PSt} {v : Int32} : (x.s_laidStamp v).today = x.today := rfl
theorem PSt.daily_s_laidStamp {x : PSt} {v : Int32} : (x.s_laidStamp v).daily = x.daily := rfl
theorem PSt.weekly_s_laidStamp {x : PSt} {v : Int32} : (x.s_laidStamp v).weekly = x.weekly := rfl
theorem PSt.one_s_laidStamp {x : PSt} {v : Int32} : (x.s_laidStamp v).one = x.one := rfl
theorem PSt.other_s_laidStamp {x : PSt} {v : Int32} : (x.s_laidStamp v).other = x.other := rfl
theorem PSt.nO_s_laidStamp {x : PSt} {v : Int32} : (x.s_laidStamp v).nO = x.nO := rfl
theorem PSt.op_s_laidStamp {x : PSt} {v : Int32} : (x.s_laidStamp v).op = x.op := rfl
theorem PSt.nS_s_laidStamp {x : PSt} {v : Int32} : (x.s_laidStamp v).nS = x.nS := rfl
theorem PSt.sg_s_laidStamp {x : PSt} {v : Int32} : (x.s_laidStamp v).sg = x.sg := rfl
theorem PSt.ct_s_laidStamp {x : PSt} {v : Int32} : (x.s_laidStamp v).ct = x.ct := rfl
theorem PSt.nC_s_laidStamp {x : PSt} {v : Int32} : (x.s_laidStamp v).nC = x.nC := rfl
theorem PSt.ca_s_laidStamp {x : PSt} {v : Int32} : (x.s_laidStamp v).ca = x.ca := rfl
theorem PSt.nP_s_laidStamp {x : PSt} {v : Int32} : (x.s_laidStamp v).nP = x.nP := rfl
theorem PSt.pt_s_laidStamp {x : PSt} {v : Int32} : (x.s_laidStamp v).pt = x.pt := rfl
theorem PSt.nI_s_laidStamp {x : PSt} {v : Int32} : (x.s_laidStamp v).nI = x.nI := rfl
theorem PSt.il_s_laidStamp {x : PSt} {v : Int32} : (x.s_laidStamp v).il = x.il := rfl
theorem PSt.nL_s_laidStamp {x : PSt} {v : Int32} : (x.s_laidStamp v).nL = x.nL := rfl
theorem PSt.le_s_laidStamp {x : PSt} {v : Int32} : (x.s_laidStamp v).le = x.le := rfl
theorem PSt.stamp_s_laidStamp {x : PSt} {v : Int32} : (x.s_laidStamp v).stamp = x.stamp := rfl
theorem PSt.fault_s_laidStamp {x : PSt} {v : Int32} : (x.s_laidStamp v).fault = x.fault := rfl
theorem PSt.nF_s_laidStamp {x : PSt} {v : Int32} : (x.s_laidStamp v).nF = x.nF := rfl
theorem PSt.fk_s_laidStamp {x : PSt} {v : Int32} : (x.s_laidStamp v).fk = x.fk := rfl
theorem PSt.fc_s_laidStamp {x : PSt} {v : Int32} : (x.s_laidStamp v).fc = x.fc := rfl
theorem PSt.fr_s_laidStamp {x : PSt} {v : Int32} : (x.s_laidStamp v).fr = x.fr := rfl
theorem PSt.laidN_s_laidStamp {x : PSt} {v : Int32} : (x.s_laidStamp v).laidN = x.laidN := rfl
theorem PSt.laidDay_s_laidStamp {x : PSt} {v : Int32} : (x.s_laidStamp v).laidDay = x.laidDay := rfl
theorem PSt.laidOp_s_laidStamp {x : PSt} {v : Int32} : (x.s_laidStamp v).laidOp = x.laidOp := rfl
theorem PSt.laidHour_s_laidStamp {x : PSt} {v : Int32} : (x.s_laidStamp v).laidHour = x.laidHour := rfl
theorem PSt.laidStamp_s_laidStamp {x : PSt} {v : Int32} : (x.s_laidStamp v).laidStamp = v := rfl
/-- an opera's numbers -/
def POpOk (o : POp) : Prop :=
  (2 ≤ o.hours ∧ o.hours ≤ 6) ∧
  (0 ≤ o.set ∧ o.set ≤ 3) ∧
  (1 ≤ o.need ∧ o.need ≤ 60) ∧
  (∀ g, g < 4 → 0 ≤ o.seats g ∧ o.seats g ≤ 40) ∧
  (1 ≤ o.nr ∧ o.nr ≤ 8) ∧
  (∀ r, r < o.nr → 0 ≤ (o.ro r).voice ∧ (o.ro r).voice ≤ 5) ∧
  (∀ r, r < o.nr → 1 ≤ (o.ro r).strain ∧ (o.ro r).strain ≤ 30) ∧
  (∀ r, r < o.nr → 0 ≤ (o.ro r).tongue ∧ (o.ro r).tongue ≤ 5) ∧
  (∀ r, r < o.nr → 0 ≤ (o.ro r).size ∧ (o.ro r).size ≤ 9)
theorem POpOk.mk {o : POp}
    (hours : 2 ≤ o.hours ∧ o.hours ≤ 6)
    (set : 0 ≤ o.set ∧ o.set ≤ 3)
    (need : 1 ≤ o.need ∧ o.need ≤ 60)
    (seats : ∀ g, g < 4 → 0 ≤ o.seats g ∧ o.seats g ≤ 40)
    (nr : 1 ≤ o.nr ∧ o.nr ≤ 8)
    (voice : ∀ r, r < o.nr → 0 ≤ (o.ro r).voice ∧ (o.ro r).voice ≤ 5)
    (strain : ∀ r, r < o.nr → 1 ≤ (o.ro r).strain ∧ (o.ro r).strain ≤ 30)
    (tongue : ∀ r, r < o.nr → 0 ≤ (o.ro r).tongue ∧ (o.ro r).tongue ≤ 5)
    (size : ∀ r, r < o.nr → 0 ≤ (o.ro r).size ∧ (o.ro r).size ≤ 9) :
    POpOk o := ⟨hours, set, need, seats, nr, voice, strain, tongue, size⟩
theorem POpOk.hours {o : POp} (h : POpOk o) : 2 ≤ o.hours ∧ o.hours ≤ 6 := h.1
theorem POpOk.set {o : POp} (h : POpOk o) : 0 ≤ o.set ∧ o.set ≤ 3 := h.2.1
theorem POpOk.need {o : POp} (h : POpOk o) : 1 ≤ o.need ∧ o.need ≤ 60 := h.2.2.1
theorem POpOk.seats {o : POp} (h : POpOk o) : ∀ g, g < 4 → 0 ≤ o.seats g ∧ o.seats g ≤ 40 := h.2.2.2.1
theorem POpOk.nr {o : POp} (h : POpOk o) : 1 ≤ o.nr ∧ o.nr ≤ 8 := h.2.2.2.2.1
theorem POpOk.voice {o : POp} (h : POpOk o) : ∀ r, r < o.nr → 0 ≤ (o.ro r).voice ∧ (o.ro r).voice ≤ 5 := h.2.2.2.2.2.1
theorem POpOk.strain {o : POp} (h : POpOk o) : ∀ r, r < o.nr → 1 ≤ (o.ro r).strain ∧ (o.ro r).strain ≤ 30 := h.2.2.2.2.2.2.1
theorem POpOk.tongue {o : POp} (h : POpOk o) : ∀ r, r < o.nr → 0 ≤ (o.ro r).tongue ∧ (o.ro r).tongue ≤ 5 := h.2.2.2.2.2.2.2.1
theorem POpOk.size {o : POp} (h : POpOk o) : ∀ r, r < o.nr → 0 ≤ (o.ro r).size ∧ (o.ro r).size ≤ 9 := h.2.2.2.2.2.2.2.2
def PSgOk (s : PSg) : Prop :=
  (0 ≤ s.voices ∧ s.voices ≤ 63) ∧
  (0 ≤ s.tongues ∧ s.tongues ≤ 63) ∧
  (0 ≤ s.size ∧ s.size ≤ 9)
theorem PSgOk.mk {s : PSg}
    (voices : 0 ≤ s.voices ∧ s.voices ≤ 63)
    (tongues : 0 ≤ s.tongues ∧ s.tongues ≤ 63)
    (size : 0 ≤ s.size ∧ s.size ≤ 9) :
    PSgOk s := ⟨voices, tongues, size⟩
theorem PSgOk.voices {s : PSg} (h : PSgOk s) : 0 ≤ s.voices ∧ s.voices ≤ 63 := h.1
theorem PSgOk.tongues {s : PSg} (h : PSgOk s) : 0 ≤ s.tongues ∧ s.tongues ≤ 63 := h.2.1
theorem PSgOk.size {s : PSg} (h : PSgOk s) : 0 ≤ s.size ∧ s.size ≤ 9 := h.2.2
/-- how many atoms, nots and brackets -/
def PCd.ones : PCd → Nat
  | .leaf (.inl _) => 1
  | .leaf (.inr _) => 1
  | .branch 0 c _ => PCd.ones c + 1
  | .branch 1 c d => PCd.ones c + PCd.ones d
  | .branch (_ + 2) c d => PCd.ones c + PCd.ones d
def PCd.ok : PCd → Prop
  | .leaf (.inl a) => a < 7
  | .leaf (.inr (a, g, n)) => 7 ≤ a ∧ a < 10 ∧ (g = 60 ∨ g = 61 ∨ g = 62) ∧ 0 ≤ n ∧ n ≤ 99999
  | .branch 0 c _ => PCd.ok c
  | .branch 1 c d => PCd.ok c ∧ PCd.ok d
  | .branch (_ + 2) c d => PCd.ok c ∧ PCd.ok d
def PCtOk (t : PCt) : Prop :=
  (0 ≤ t.rest ∧ t.rest ≤ 72) ∧
  (1 ≤ t.day ∧ t.day ≤ 24) ∧
  (0 ≤ t.week ∧ t.week ≤ 7) ∧
  (1 ≤ t.voice ∧ t.voice ≤ 999) ∧
  (t.nl ≤ 6) ∧
  (∀ k, k < t.nl → 0 ≤ t.lf k ∧ t.lf k ≤ 29) ∧
  (∀ k, k < t.nl → 0 ≤ t.lt k ∧ t.lt k ≤ 29) ∧
  (t.nf ≤ 8) ∧
  (∀ k, k < t.nf → 0 ≤ t.much k ∧ t.much k ≤ 99999) ∧
  (∀ k c, k < t.nf → t.cd k = some c → c.ok ∧ c.ones ≤ 40)
theorem PCtOk.mk {t : PCt}
    (rest : 0 ≤ t.rest ∧ t.rest ≤ 72)
    (day : 1 ≤ t.day ∧ t.day ≤ 24)
    (week : 0 ≤ t.week ∧ t.week ≤ 7)
    (voice : 1 ≤ t.voice ∧ t.voice ≤ 999)
    (nl : t.nl ≤ 6)
    (lf : ∀ k, k < t.nl → 0 ≤ t.lf k ∧ t.lf k ≤ 29)
    (lt : ∀ k, k < t.nl → 0 ≤ t.lt k ∧ t.lt k ≤ 29)
    (nf : t.nf ≤ 8)
    (much : ∀ k, k < t.nf → 0 ≤ t.much k ∧ t.much k ≤ 99999)
    (cd : ∀ k c, k < t.nf → t.cd k = some c → c.ok ∧ c.ones ≤ 40) :
    PCtOk t := ⟨rest, day, week, voice, nl, lf, lt, nf, much, cd⟩
theorem PCtOk.rest {t : PCt} (h : PCtOk t) : 0 ≤ t.rest ∧ t.rest ≤ 72 := h.1
theorem PCtOk.day {t : PCt} (h : PCtOk t) : 1 ≤ t.day ∧ t.day ≤ 24 := h.2.1
theorem PCtOk.week {t : PCt} (h : PCtOk t) : 0 ≤ t.week ∧ t.week ≤ 7 := h.2.2.1
theorem PCtOk.voice {t : PCt} (h : PCtOk t) : 1 ≤ t.voice ∧ t.voice ≤ 999 := h.2.2.2.1
theorem PCtOk.nl {t : PCt} (h : PCtOk t) : t.nl ≤ 6 := h.2.2.2.2.1
theorem PCtOk.lf {t : PCt} (h : PCtOk t) : ∀ k, k < t.nl → 0 ≤ t.lf k ∧ t.lf k ≤ 29 := h.2.2.2.2.2.1
theorem PCtOk.lt {t : PCt} (h : PCtOk t) : ∀ k, k < t.nl → 0 ≤ t.lt k ∧ t.lt k ≤ 29 := h.2.2.2.2.2.2.1
theorem PCtOk.nf {t : PCt} (h : PCtOk t) : t.nf ≤ 8 := h.2.2.2.2.2.2.2.1
theorem PCtOk.much {t : PCt} (h : PCtOk t) : ∀ k, k < t.nf → 0 ≤ t.much k ∧ t.much k ≤ 99999 := h.2.2.2.2.2.2.2.2.1
theorem PCtOk.cd {t : PCt} (h : PCtOk t) : ∀ k c, k < t.nf → t.cd k = some c → c.ok ∧ c.ones ≤ 40 := h.2.2.2.2.2.2.2.2.2
def PCaOk (S : PSt) (c : PCa) : Prop :=
  (c.op < S.nO) ∧
  (0 ≤ c.day ∧ c.day ≤ 29) ∧
  (0 ≤ c.kind ∧ c.kind ≤ 3) ∧
  (0 ≤ c.halves ∧ c.halves ≤ 3) ∧
  (24 * c.day ≤ c.beg) ∧
  (c.fin = c.beg + (if c.kind = 0 then 2 else if c.kind = 1 then 3 else (S.op c.op).hours)) ∧
  (c.fin ≤ 24 * c.day + 24)
theorem PCaOk.mk {S : PSt} {c : PCa}
    (op : c.op < S.nO)
    (day : 0 ≤ c.day ∧ c.day ≤ 29)
    (kind : 0 ≤ c.kind ∧ c.kind ≤ 3)
    (halves : 0 ≤ c.halves ∧ c.halves ≤ 3)
    (beg : 24 * c.day ≤ c.beg)
    (fin : c.fin = c.beg + (if c.kind = 0 then 2 else if c.kind = 1 then 3 else (S.op c.op).hours))
    (fin24 : c.fin ≤ 24 * c.day + 24) :
    PCaOk S c := ⟨op, day, kind, halves, beg, fin, fin24⟩
theorem PCaOk.op {S : PSt} {c : PCa} (h : PCaOk S c) : c.op < S.nO := h.1
theorem PCaOk.day {S : PSt} {c : PCa} (h : PCaOk S c) : 0 ≤ c.day ∧ c.day ≤ 29 := h.2.1
theorem PCaOk.kind {S : PSt} {c : PCa} (h : PCaOk S c) : 0 ≤ c.kind ∧ c.kind ≤ 3 := h.2.2.1
theorem PCaOk.halves {S : PSt} {c : PCa} (h : PCaOk S c) : 0 ≤ c.halves ∧ c.halves ≤ 3 := h.2.2.2.1
theorem PCaOk.beg {S : PSt} {c : PCa} (h : PCaOk S c) : 24 * c.day ≤ c.beg := h.2.2.2.2.1
theorem PCaOk.fin {S : PSt} {c : PCa} (h : PCaOk S c) : c.fin = c.beg + (if c.kind = 0 then 2 else if c.kind = 1 then 3 else (S.op c.op).hours) := h.2.2.2.2.2.1
theorem PCaOk.fin24 {S : PSt} {c : PCa} (h : PCaOk S c) : c.fin ≤ 24 * c.day + 24 := h.2.2.2.2.2.2
def PStOk (S : PSt) : Prop :=
  (S.taped ≤ 340 ∧ S.taped % 4 < 4) ∧
  (∀ k, k < 340 → -128 ≤ S.tape k ∧ S.tape k < 128) ∧
  (0 ≤ S.today ∧ S.today ≤ 29) ∧
  (0 ≤ S.daily ∧ S.daily ≤ 24) ∧
  (0 ≤ S.weekly ∧ S.weekly ≤ 168) ∧
  (∀ g, g < 4 → 0 ≤ S.one g ∧ S.one g ≤ 60) ∧
  (∀ g, g < 4 → 0 ≤ S.other g ∧ S.other g ≤ 60) ∧
  (S.nO ≤ 9) ∧
  (∀ o, o < S.nO → POpOk (S.op o)) ∧
  (S.nS ≤ 20) ∧
  (∀ s, s < S.nS → PSgOk (S.sg s)) ∧
  (∀ s, s < S.nS → PCtOk (S.ct s)) ∧
  (S.nC ≤ 60) ∧
  (∀ c, c < S.nC → PCaOk S (S.ca c)) ∧
  (S.nP ≤ 400) ∧
  (∀ k, k < S.nP → (S.pt k).call < S.nC ∧ (S.pt k).role < (S.op (S.ca (S.pt k).call).op).nr ∧ -1 ≤ (S.pt k).who ∧ (S.pt k).who < S.nS ∧ 0 ≤ (S.pt k).day ∧ (S.pt k).day ≤ 29) ∧
  (S.nI ≤ 60) ∧
  (∀ k, k < S.nI → (S.il k).s < S.nS ∧ 0 ≤ (S.il k).frm ∧ (S.il k).frm ≤ (S.il k).til ∧ (S.il k).til ≤ 29 ∧ 0 ≤ (S.il k).day ∧ (S.il k).day ≤ 29) ∧
  (S.nL ≤ 200) ∧
  (∀ k, k < S.nL → (S.le k).s < S.nS ∧ (S.le k).op < S.nO ∧ (S.le k).role < (S.op (S.le k).op).nr ∧ 1 ≤ (S.le k).hours ∧ (S.le k).hours ≤ 99 ∧ 0 ≤ (S.le k).day ∧ (S.le k).day ≤ 29) ∧
  (0 ≤ S.fault ∧ S.fault ≤ 4)
theorem PStOk.mk {S : PSt}
    (taped : S.taped ≤ 340 ∧ S.taped % 4 < 4)
    (tape : ∀ k, k < 340 → -128 ≤ S.tape k ∧ S.tape k < 128)
    (today : 0 ≤ S.today ∧ S.today ≤ 29)
    (daily : 0 ≤ S.daily ∧ S.daily ≤ 24)
    (weekly : 0 ≤ S.weekly ∧ S.weekly ≤ 168)
    (one : ∀ g, g < 4 → 0 ≤ S.one g ∧ S.one g ≤ 60)
    (other : ∀ g, g < 4 → 0 ≤ S.other g ∧ S.other g ≤ 60)
    (nO : S.nO ≤ 9)
    (op : ∀ o, o < S.nO → POpOk (S.op o))
    (nS : S.nS ≤ 20)
    (sg : ∀ s, s < S.nS → PSgOk (S.sg s))
    (ct : ∀ s, s < S.nS → PCtOk (S.ct s))
    (nC : S.nC ≤ 60)
    (ca : ∀ c, c < S.nC → PCaOk S (S.ca c))
    (nP : S.nP ≤ 400)
    (pt : ∀ k, k < S.nP → (S.pt k).call < S.nC ∧ (S.pt k).role < (S.op (S.ca (S.pt k).call).op).nr ∧ -1 ≤ (S.pt k).who ∧ (S.pt k).who < S.nS ∧ 0 ≤ (S.pt k).day ∧ (S.pt k).day ≤ 29)
    (nI : S.nI ≤ 60)
    (il : ∀ k, k < S.nI → (S.il k).s < S.nS ∧ 0 ≤ (S.il k).frm ∧ (S.il k).frm ≤ (S.il k).til ∧ (S.il k).til ≤ 29 ∧ 0 ≤ (S.il k).day ∧ (S.il k).day ≤ 29)
    (nL : S.nL ≤ 200)
    (le : ∀ k, k < S.nL → (S.le k).s < S.nS ∧ (S.le k).op < S.nO ∧ (S.le k).role < (S.op (S.le k).op).nr ∧ 1 ≤ (S.le k).hours ∧ (S.le k).hours ≤ 99 ∧ 0 ≤ (S.le k).day ∧ (S.le k).day ≤ 29)
    (fault : 0 ≤ S.fault ∧ S.fault ≤ 4) :
    PStOk S := ⟨taped, tape, today, daily, weekly, one, other, nO, op, nS, sg, ct, nC, ca, nP, pt, nI, il, nL, le, fault⟩
theorem PStOk.taped {S : PSt} (h : PStOk S) : S.taped ≤ 340 ∧ S.taped % 4 < 4 := h.1
theorem PStOk.tape {S : PSt} (h : PStOk S) : ∀ k, k < 340 → -128 ≤ S.tape k ∧ S.tape k < 128 := h.2.1
theorem PStOk.today {S : PSt} (h : PStOk S) : 0 ≤ S.today ∧ S.today ≤ 29 := h.2.2.1
theorem PStOk.daily {S : PSt} (h : PStOk S) : 0 ≤ S.daily ∧ S.daily ≤ 24 := h.2.2.2.1
theorem PStOk.weekly {S : PSt} (h : PStOk S) : 0 ≤ S.weekly ∧ S.weekly ≤ 168 := h.2.2.2.2.1
theorem PStOk.one {S : PSt} (h : PStOk S) : ∀ g, g < 4 → 0 ≤ S.one g ∧ S.one g ≤ 60 := h.2.2.2.2.2.1
theorem PStOk.other {S : PSt} (h : PStOk S) : ∀ g, g < 4 → 0 ≤ S.other g ∧ S.other g ≤ 60 := h.2.2.2.2.2.2.1
theorem PStOk.nO {S : PSt} (h : PStOk S) : S.nO ≤ 9 := h.2.2.2.2.2.2.2.1
theorem PStOk.op {S : PSt} (h : PStOk S) : ∀ o, o < S.nO → POpOk (S.op o) := h.2.2.2.2.2.2.2.2.1
theorem PStOk.nS {S : PSt} (h : PStOk S) : S.nS ≤ 20 := h.2.2.2.2.2.2.2.2.2.1
theorem PStOk.sg {S : PSt} (h : PStOk S) : ∀ s, s < S.nS → PSgOk (S.sg s) := h.2.2.2.2.2.2.2.2.2.2.1
theorem PStOk.ct {S : PSt} (h : PStOk S) : ∀ s, s < S.nS → PCtOk (S.ct s) := h.2.2.2.2.2.2.2.2.2.2.2.1
theorem PStOk.nC {S : PSt} (h : PStOk S) : S.nC ≤ 60 := h.2.2.2.2.2.2.2.2.2.2.2.2.1
theorem PStOk.ca {S : PSt} (h : PStOk S) : ∀ c, c < S.nC → PCaOk S (S.ca c) := h.2.2.2.2.2.2.2.2.2.2.2.2.2.1
theorem PStOk.nP {S : PSt} (h : PStOk S) : S.nP ≤ 400 := h.2.2.2.2.2.2.2.2.2.2.2.2.2.2.1
theorem PStOk.pt {S : PSt} (h : PStOk S) : ∀ k, k < S.nP → (S.pt k).call < S.nC ∧ (S.pt k).role < (S.op (S.ca (S.pt k).call).op).nr ∧ -1 ≤ (S.pt k).who ∧ (S.pt k).who < S.nS ∧ 0 ≤ (S.pt k).day ∧ (S.pt k).day ≤ 29 := h.2.2.2.2.2.2.2.2.2.2.2.2.2.2.2.1
theorem PStOk.nI {S : PSt} (h : PStOk S) : S.nI ≤ 60 := h.2.2.2.2.2.2.2.2.2.2.2.2.2.2.2.2.1
theorem PStOk.il {S : PSt} (h : PStOk S) : ∀ k, k < S.nI → (S.il k).s < S.nS ∧ 0 ≤ (S.il k).frm ∧ (S.il k).frm ≤ (S.il k).til ∧ (S.il k).til ≤ 29 ∧ 0 ≤ (S.il k).day ∧ (S.il k).day ≤ 29 := h.2.2.2.2.2.2.2.2.2.2.2.2.2.2.2.2.2.1
theorem PStOk.nL {S : PSt} (h : PStOk S) : S.nL ≤ 200 := h.2.2.2.2.2.2.2.2.2.2.2.2.2.2.2.2.2.2.1
theorem PStOk.le {S : PSt} (h : PStOk S) : ∀ k, k < S.nL → (S.le k).s < S.nS ∧ (S.le k).op < S.nO ∧ (S.le k).role < (S.op (S.le k).op).nr ∧ 1 ≤ (S.le k).hours ∧ (S.le k).hours ≤ 99 ∧ 0 ≤ (S.le k).day ∧ (S.le k).day ≤ 29 := h.2.2.2.2.2.2.2.2.2.2.2.2.2.2.2.2.2.2.2.1
theorem PStOk.fault {S : PSt} (h : PStOk S) : 0 ≤ S.fault ∧ S.fault ≤ 4 := h.2.2.2.2.2.2.2.2.2.2.2.2.2.2.2.2.2.2.2.2
/-! the table -/
/-- all calls (those tried too), their order, who is cast, who was ahead, who covers; as of which day -/
def PTb : Type := (PSt) × (Nat) × (Nat → PCa) × (Nat → Nat) × (Nat → Nat) × (Nat → Nat → Int) × (Nat → Nat → Int) × (Nat → Nat → Int) × (Int)
def PTb.mk (S : PSt) (all : Nat) (ca : Nat → PCa) (ord : Nat → Nat) (pos : Nat → Nat) (cast : Nat → Nat → Int) (ahead : Nat → Nat → Int) (cover : Nat → Nat → Int) (asOf : Int) : PTb := (S, all, ca, ord, pos, cast, ahead, cover, asOf)
def PTb.S (x : PTb) : PSt := x.1
def PTb.all (x : PTb) : Nat := x.2.1
def PTb.ca (x : PTb) : Nat → PCa := x.2.2.1
def PTb.ord (x : PTb) : Nat → Nat := x.2.2.2.1
def PTb.pos (x : PTb) : Nat → Nat := x.2.2.2.2.1
def PTb.cast (x : PTb) : Nat → Nat → Int := x.2.2.2.2.2.1
def PTb.ahead (x : PTb) : Nat → Nat → Int := x.2.2.2.2.2.2.1
def PTb.cover (x : PTb) : Nat → Nat → Int := x.2.2.2.2.2.2.2.1
def PTb.asOf (x : PTb) : Int := x.2.2.2.2.2.2.2.2
theorem PTb.g_S {S : PSt} {all : Nat} {ca : Nat → PCa} {ord : Nat → Nat} {pos : Nat → Nat} {cast : Nat → Nat → Int} {ahead : Nat → Nat → Int} {cover : Nat → Nat → Int} {asOf : Int} : (PTb.mk S all ca ord pos cast ahead cover asOf).S = S := rfl
theorem PTb.g_all {S : PSt} {all : Nat} {ca : Nat → PCa} {ord : Nat → Nat} {pos : Nat → Nat} {cast : Nat → Nat → Int} {ahead : Nat → Nat → Int} {cover : Nat → Nat → Int} {asOf : Int} : (PTb.mk S all ca ord pos cast ahead cover asOf).all = all := rfl
theorem PTb.g_ca {S : PSt} {all : Nat} {ca : Nat → PCa} {ord : Nat → Nat} {pos : Nat → Nat} {cast : Nat → Nat → Int} {ahead : Nat → Nat → Int} {cover : Nat → Nat → Int} {asOf : Int} : (PTb.mk S all ca ord pos cast ahead cover asOf).ca = ca := rfl
theorem PTb.g_ord {S : PSt} {all : Nat} {ca : Nat → PCa} {ord : Nat → Nat} {pos : Nat → Nat} {cast : Nat → Nat → Int} {ahead : Nat → Nat → Int} {cover : Nat → Nat → Int} {asOf : Int} : (PTb.mk S all ca ord pos cast ahead cover asOf).ord = ord := rfl
theorem PTb.g_pos {S : PSt} {all : Nat} {ca : Nat → PCa} {ord : Nat → Nat} {pos : Nat → Nat} {cast : Nat → Nat → Int} {ahead : Nat → Nat → Int} {cover : Nat → Nat → Int} {asOf : Int} : (PTb.mk S all ca ord pos cast ahead cover asOf).pos = pos := rfl
theorem PTb.g_cast {S : PSt} {all : Nat} {ca : Nat → PCa} {ord : Nat → Nat} {pos : Nat → Nat} {cast : Nat → Nat → Int} {ahead : Nat → Nat → Int} {cover : Nat → Nat → Int} {asOf : Int} : (PTb.mk S all ca ord pos cast ahead cover asOf).cast = cast := rfl
theorem PTb.g_ahead {S : PSt} {all : Nat} {ca : Nat → PCa} {ord : Nat → Nat} {pos : Nat → Nat} {cast : Nat → Nat → Int} {ahead : Nat → Nat → Int} {cover : Nat → Nat → Int} {asOf : Int} : (PTb.mk S all ca ord pos cast ahead cover asOf).ahead = ahead := rfl
theorem PTb.g_cover {S : PSt} {all : Nat} {ca : Nat → PCa} {ord : Nat → Nat} {pos : Nat → Nat} {cast : Nat → Nat → Int} {ahead : Nat → Nat → Int} {cover : Nat → Nat → Int} {asOf : Int} : (PTb.mk S all ca ord pos cast ahead cover asOf).cover = cover := rfl
theorem PTb.g_asOf {S : PSt} {all : Nat} {ca : Nat → PCa} {ord : Nat → Nat} {pos : Nat → Nat} {cast : Nat → Nat → Int} {ahead : Nat → Nat → Int} {cover : Nat → Nat → Int} {asOf : Int} : (PTb.mk S all ca ord pos cast ahead cover asOf).asOf = asOf := rfl
def PTb.s_S (x : PTb) (v : PSt) : PTb := (v, x.2)
def PTb.s_all (x : PTb) (v : Nat) : PTb := (x.1, v, x.2.2)
def PTb.s_ca (x : PTb) (v : Nat → PCa) : PTb := (x.1, x.2.1, v, x.2.2.2)
def PTb.s_ord (x : PTb) (v : Nat → Nat) : PTb := (x.1, x.2.1, x.2.2.1, v, x.2.2.2.2)
def PTb.s_pos (x : PTb) (v : Nat → Nat) : PTb := (x.1, x.2.1, x.2.2.1, x.2.2.2.1, v, x.2.2.2.2.2)
def PTb.s_cast (x : PTb) (v : Nat → Nat → Int) : PTb := (x.1, x.2.1, x.2.2.1, x.2.2.2.1, x.2.2.2.2.1, v, x.2.2.2.2.2.2)
def PTb.s_ahead (x : PTb) (v : Nat → Nat → Int) : PTb := (x.1, x.2.1, x.2.2.1, x.2.2.2.1, x.2.2.2.2.1, x.2.2.2.2.2.1, v, x.2.2.2.2.2.2.2)
def PTb.s_cover (x : PTb) (v : Nat → Nat → Int) : PTb := (x.1, x.2.1, x.2.2.1, x.2.2.2.1, x.2.2.2.2.1, x.2.2.2.2.2.1, x.2.2.2.2.2.2.1, v, x.2.2.2.2.2.2.2.2)
def PTb.s_asOf (x : PTb) (v : Int) : PTb := (x.1, x.2.1, x.2.2.1, x.2.2.2.1, x.2.2.2.2.1, x.2.2.2.2.2.1, x.2.2.2.2.2.2.1, x.2.2.2.2.2.2.2.1, v)
theorem PTb.S_s_S {x : PTb} {v : PSt} : (x.s_S v).S = v := rfl
theorem PTb.all_s_S {x : PTb} {v : PSt} : (x.s_S v).all = x.all := rfl
theorem PTb.ca_s_S {x : PTb} {v : PSt} : (x.s_S v).ca = x.ca := rfl
theorem PTb.ord_s_S {x : PTb} {v : PSt} : (x.s_S v).ord = x.ord := rfl
theorem PTb.pos_s_S {x : PTb} {v : PSt} : (x.s_S v).pos = x.pos := rfl
theorem PTb.cast_s_S {x : PTb} {v : PSt} : (x.s_S v).cast = x.cast := rfl
theorem PTb.ahead_s_S {x : PTb} {v : PSt} : (x.s_S v).ahead = x.ahead := rfl
theorem PTb.cover_s_S {x : PTb} {v : PSt} : (x.s_S v).cover = x.cover := rfl
theorem PTb.asOf_s_S {x : PTb} {v : PSt} : (x.s_S v).asOf = x.asOf := rfl
theorem PTb.S_s_all {x : PTb} {v : Nat} : (x.s_all v).S = x.S := rfl
theorem PTb.all_s_all {x : PTb} {v : Nat} : (x.s_all v).all = v := rfl
theorem PTb.ca_s_all {x : PTb} {v : Nat} : (x.s_all v).ca = x.ca := rfl
theorem PTb.ord_s_all {x : PTb} {v : Nat} : (x.s_all v).ord = x.ord := rfl
theorem PTb.pos_s_all {x : PTb} {v : Nat} : (x.s_all v).pos = x.pos := rfl
theorem PTb.cast_s_all {x : PTb} {v : Nat} : (x.s_all v).cast = x.cast := rfl
theorem PTb.ahead_s_all {x : PTb} {v : Nat} : (x.s_all v).ahead = x.ahead := rfl
theorem PTb.cover_s_all {x : PTb} {v : Nat} : (x.s_all v).cover = x.cover := rfl
theorem PTb.asOf_s_all {x : PTb} {v : Nat} : (x.s_all v).asOf = x.asOf := rfl
theorem PTb.S_s_ca {x : PTb} {v : Nat → PCa} : (x.s_ca v).S = x.S := rfl
theorem PTb.all_s_ca {x : PTb} {v : Nat → PCa} : (x.s_ca v).all = x.all := rfl
theorem PTb.ca_s_ca {x : PTb} {v : Nat → PCa} : (x.s_ca v).ca = v := rfl
theorem PTb.ord_s_ca {x : PTb} {v : Nat → PCa} : (x.s_ca v).ord = x.ord := rfl
theorem PTb.pos_s_ca {x : PTb} {v : Nat → PCa} : (x.s_ca v).pos = x.pos := rfl
theorem PTb.cast_s_ca {x : PTb} {v : Nat → PCa} : (x.s_ca v).cast = x.cast := rfl
theorem PTb.ahead_s_ca {x : PTb} {v : Nat → PCa} : (x.s_ca v).ahead = x.ahead := rfl
theorem PTb.cover_s_ca {x : PTb} {v : Nat → PCa} : (x.s_ca v).cover = x.cover := rfl
theorem PTb.asOf_s_ca {x : PTb} {v : Nat → PCa} : (x.s_ca v).asOf = x.asOf := rfl
theorem PTb.S_s_ord {x : PTb} {v : Nat → Nat} : (x.s_ord v).S = x.S := rfl
theorem PTb.all_s_ord {x : PTb} {v : Nat → Nat} : (x.s_ord v).all = x.all := rfl
theorem PTb.ca_s_ord {x : PTb} {v : Nat → Nat} : (x.s_ord v).ca = x.ca := rfl
theorem PTb.ord_s_ord {x : PTb} {v : Nat → Nat} : (x.s_ord v).ord = v := rfl
theorem PTb.pos_s_ord {x : PTb} {v : Nat → Nat} : (x.s_ord v).pos = x.pos := rfl
theorem PTb.cast_s_ord {x : PTb} {v : Nat → Nat} : (x.s_ord v).cast = x.cast := rfl
theorem PTb.ahead_s_ord {x : PTb} {v : Nat → Nat} : (x.s_ord v).ahead = x.ahead := rfl
theorem PTb.cover_s_ord {x : PTb} {v : Nat → Nat} : (x.s_ord v).cover = x.cover := rfl
theorem PTb.asOf_s_ord {x : PTb} {v : Nat → Nat} : (x.s_ord v).asOf = x.asOf := rfl
theorem PTb.S_s_pos {x : PTb} {v : Nat → Nat} : (x.s_pos v).S = x.S := rfl
theorem PTb.all_s_pos {x : PTb} {v : Nat → Nat} : (x.s_pos v).all = x.all := rfl
theorem PTb.ca_s_pos {x : PTb} {v : Nat → Nat} : (x.s_pos v).ca = x.ca := rfl
theorem PTb.ord_s_pos {x : PTb} {v : Nat → Nat} : (x.s_pos v).ord = x.ord := rfl
theorem PTb.pos_s_pos {x : PTb} {v : Nat → Nat} : (x.s_pos v).pos = v := rfl
theorem PTb.cast_s_pos {x : PTb} {v : Nat → Nat} : (x.s_pos v).cast = x.cast := rfl
theorem PTb.ahead_s_pos {x : PTb} {v : Nat → Nat} : (x.s_pos v).ahead = x.ahead := rfl
theorem PTb.cover_s_pos {x : PTb} {v : Nat → Nat} : (x.s_pos v).cover = x.cover := rfl
theorem PTb.asOf_s_pos {x : PTb} {v : Nat → Nat} : (x.s_pos v).asOf = x.asOf := rfl
theorem PTb.S_s_cast {x : PTb} {v : Nat → Nat → Int} : (x.s_cast v).S = x.S := rfl
theorem PTb.all_s_cast {x : PTb} {v : Nat → Nat → Int} : (x.s_cast v).all = x.all := rfl
theorem PTb.ca_s_cast {x : PTb} {v : Nat → Nat → Int} : (x.s_cast v).ca = x.ca := rfl
theorem PTb.ord_s_cast {x : PTb} {v : Nat → Nat → Int} : (x.s_cast v).ord = x.ord := rfl
theorem PTb.pos_s_cast {x : PTb} {v : Nat → Nat → Int} : (x.s_cast v).pos = x.pos := rfl
theorem PTb.cast_s_cast {x : PTb} {v : Nat → Nat → Int} : (x.s_cast v).cast = v := rfl
theorem PTb.ahead_s_cast {x : PTb} {v : Nat → Nat → Int} : (x.s_cast v).ahead = x.ahead := rfl
theorem PTb.cover_s_cast {x : PTb} {v : Nat → Nat → Int} : (x.s_cast v).cover = x.cover := rfl
theorem PTb.asOf_s_cast {x : PTb} {v : Nat → Nat → Int} : (x.s_cast v).asOf = x.asOf := rfl
theorem PTb.S_s_ahead {x : PTb} {v : Nat → Nat → Int} : (x.s_ahead v).S = x.S := rfl
theorem PTb.all_s_ahead {x : PTb} {v : Nat → Nat → Int} : (x.s_ahead v).all = x.all := rfl
theorem PTb.ca_s_ahead {x : PTb} {v : Nat → Nat → Int} : (x.s_ahead v).ca = x.ca := rfl
theorem PTb.ord_s_ahead {x : PTb} {v : Nat → Nat → Int} : (x.s_ahead v).ord = x.ord := rfl
theorem PTb.pos_s_ahead {x : PTb} {v : Nat → Nat → Int} : (x.s_ahead v).pos = x.pos := rfl
theorem PTb.cast_s_ahead {x : PTb} {v : Nat → Nat → Int} : (x.s_ahead v).cast = x.cast := rfl
theorem PTb.ahead_s_ahead {x : PTb} {v : Nat → Nat → Int} : (x.s_ahead v).ahead = v := rfl
theorem PTb.cover_s_ahead {x : PTb} {v : Nat → Nat → Int} : (x.s_ahead v).cover = x.cover := rfl
theorem PTb.asOf_s_ahead {x : PTb} {v : Nat → Nat → Int} : (x.s_ahead v).asOf = x.asOf := rfl
theorem PTb.S_s_cover {x : PTb} {v : Nat → Nat → Int} : (x.s_cover v).S = x.S := rfl
theorem PTb.all_s_cover {x : PTb} {v : Nat → Nat → Int} : (x.s_cover v).all = x.all := rfl
theorem PTb.ca_s_cover {x : PTb} {v : Nat → Nat → Int} : (x.s_cover v).ca = x.ca := rfl
theorem PTb.ord_s_cover {x : PTb} {v : Nat → Nat → Int} : (x.s_cover v).ord = x.ord := rfl
theorem PTb.pos_s_cover {x : PTb} {v : Nat → Nat → Int} : (x.s_cover v).pos = x.pos := rfl
theorem PTb.cast_s_cover {x : PTb} {v : Nat → Nat → Int} : (x.s_cover v).cast = x.cast := rfl
theorem PTb.ahead_s_cover {x : PTb} {v : Nat → Nat → Int} : (x.s_cover v).ahead = x.ahead := rfl
theorem PTb.cover_s_cover {x : PTb} {v : Nat → Nat → Int} : (x.s_cover v).cover = v := rfl
theorem PTb.asOf_s_cover {x : PTb} {v : Nat → Nat → Int} : (x.s_cover v).asOf = x.asOf := rfl
theorem PTb.S_s_asOf {x : PTb} {v : Int} : (x.s_asOf v).S = x.S := rfl
theorem PTb.all_s_asOf {x : PTb} {v : Int} : (x.s_asOf v).all = x.all := rfl
theorem PTb.ca_s_asOf {x : PTb} {v : Int} : (x.s_asOf v).ca = x.ca := rfl
theorem PTb.ord_s_asOf {x : PTb} {v : Int} : (x.s_asOf v).ord = x.ord := rfl
theorem PTb.pos_s_asOf {x : PTb} {v : Int} : (x.s_asOf v).pos = x.pos := rfl
theorem PTb.cast_s_asOf {x : PTb} {v : Int} : (x.s_asOf v).cast = x.cast := rfl
theorem PTb.ahead_s_asOf {x : PTb} {v : Int} : (x.s_asOf v).ahead = x.ahead := rfl
theorem PTb.cover_s_asOf {x : PTb} {v : Int} : (x.s_asOf v).cover = x.cover := rfl
theorem PTb.asOf_s_asOf {x : PTb} {v : Int} : (x.s_asOf v).asOf = v := rfl
def PTbOk (T : PTb) : Prop :=
  (PStOk T.S) ∧
  (T.all ≤ 66) ∧
  (∀ c, c < T.all → PCaOk T.S (T.ca c)) ∧
  (∀ k, k < T.all → T.ord k < T.all) ∧
  (∀ c, c < T.all → T.pos c < T.all) ∧
  (∀ c, c < T.all → T.ord (T.pos c) = c) ∧
  (∀ k, k < T.all → T.pos (T.ord k) = k) ∧
  (∀ i j, i ≤ j → j < T.all → (T.ca (T.ord i)).beg ≤ (T.ca (T.ord j)).beg) ∧
  (∀ f, sumN T.all (fun k => f (T.ord k)) = sumN T.all f) ∧
  (∀ c r, c < T.all → r < 8 → -1 ≤ T.cast c r ∧ T.cast c r < T.S.nS) ∧
  (∀ c r, c < T.all → r < 8 → -1 ≤ T.ahead c r ∧ T.ahead c r < T.S.nS) ∧
  (∀ c r, c < T.all → r < 8 → -1 ≤ T.cover c r ∧ T.cover c r < T.S.nS) ∧
  (-2147483648 ≤ T.asOf ∧ T.asOf < 2147483648)
theorem PTbOk.mk {T : PTb}
    (S : PStOk T.S)
    (all : T.all ≤ 66)
    (ca : ∀ c, c < T.all → PCaOk T.S (T.ca c))
    (ord : ∀ k, k < T.all → T.ord k < T.all)
    (pos : ∀ c, c < T.all → T.pos c < T.all)
    (op : ∀ c, c < T.all → T.ord (T.pos c) = c)
    (po : ∀ k, k < T.all → T.pos (T.ord k) = k)
    (sorted : ∀ i j, i ≤ j → j < T.all → (T.ca (T.ord i)).beg ≤ (T.ca (T.ord j)).beg)
    (sum : ∀ f, sumN T.all (fun k => f (T.ord k)) = sumN T.all f)
    (cast : ∀ c r, c < T.all → r < 8 → -1 ≤ T.cast c r ∧ T.cast c r < T.S.nS)
    (ahead : ∀ c r, c < T.all → r < 8 → -1 ≤ T.ahead c r ∧ T.ahead c r < T.S.nS)
    (cover : ∀ c r, c < T.all → r < 8 → -1 ≤ T.cover c r ∧ T.cover c r < T.S.nS)
    (asOf : -2147483648 ≤ T.asOf ∧ T.asOf < 2147483648) :
    PTbOk T := ⟨S, all, ca, ord, pos, op, po, sorted, sum, cast, ahead, cover, asOf⟩
theorem PTbOk.S {T : PTb} (h : PTbOk T) : PStOk T.S := h.1
theorem PTbOk.all {T : PTb} (h : PTbOk T) : T.all ≤ 66 := h.2.1
theorem PTbOk.ca {T : PTb} (h : PTbOk T) : ∀ c, c < T.all → PCaOk T.S (T.ca c) := h.2.2.1
theorem PTbOk.ord {T : PTb} (h : PTbOk T) : ∀ k, k < T.all → T.ord k < T.all := h.2.2.2.1
theorem PTbOk.pos {T : PTb} (h : PTbOk T) : ∀ c, c < T.all → T.pos c < T.all := h.2.2.2.2.1
theorem PTbOk.op {T : PTb} (h : PTbOk T) : ∀ c, c < T.all → T.ord (T.pos c) = c := h.2.2.2.2.2.1
theorem PTbOk.po {T : PTb} (h : PTbOk T) : ∀ k, k < T.all → T.pos (T.ord k) = k := h.2.2.2.2.2.2.1
theorem PTbOk.sorted {T : PTb} (h : PTbOk T) : ∀ i j, i ≤ j → j < T.all → (T.ca (T.ord i)).beg ≤ (T.ca (T.ord j)).beg := h.2.2.2.2.2.2.2.1
theorem PTbOk.sum {T : PTb} (h : PTbOk T) : ∀ f, sumN T.all (fun k => f (T.ord k)) = sumN T.all f := h.2.2.2.2.2.2.2.2.1
theorem PTbOk.cast {T : PTb} (h : PTbOk T) : ∀ c r, c < T.all → r < 8 → -1 ≤ T.cast c r ∧ T.cast c r < T.S.nS := h.2.2.2.2.2.2.2.2.2.1
theorem PTbOk.ahead {T : PTb} (h : PTbOk T) : ∀ c r, c < T.all → r < 8 → -1 ≤ T.ahead c r ∧ T.ahead c r < T.S.nS := h.2.2.2.2.2.2.2.2.2.2.1
theorem PTbOk.cover {T : PTb} (h : PTbOk T) : ∀ c r, c < T.all → r < 8 → -1 ≤ T.cover c r ∧ T.cover c r < T.S.nS := h.2.2.2.2.2.2.2.2.2.2.2.1
theorem PTbOk.asOf {T : PTb} (h : PTbOk T) : -2147483648 ≤ T.asOf ∧ T.asOf < 2147483648 := h.2.2.2.2.2.2.2.2.2.2.2.2


def PTb.o (T : PTb) (c : Nat) : POp := T.S.op (T.ca c).op
def PTb.nr (T : PTb) (c : Nat) : Nat := (T.o c).nr
def PTb.long (T : PTb) (c : Nat) : Int := (T.ca c).fin - (T.ca c).beg
/-- one is cast in a call -/
def PTb.isCast (T : PTb) (s : Int) (c : Nat) : Bool := anyN (T.nr c) fun r => T.cast c r == s
def PTb.covers (T : PTb) (s : Int) (c : Nat) : Bool := anyN (T.nr c) fun r => T.cover c r == s
def PTb.came (T : PTb) (s : Int) (c : Nat) : Bool := anyN (T.nr c) fun r => T.cast c r == s && (0 ≤ T.ahead c r) && !(T.ahead c r == s)
def PTb.isIll (T : PTb) (s : Nat) (d : Int) : Bool := anyN T.S.nI fun k => (T.S.il k).day ≤ T.asOf && (T.S.il k).s == s && (T.S.il k).frm ≤ d && d ≤ (T.S.il k).til
def PTb.learned (T : PTb) (s : Nat) (o r : Nat) (moment : Int) : Int :=
  sumN T.S.nL (fun k => if (T.S.le k).day ≤ T.asOf ∧ (T.S.le k).s = s ∧ (T.S.le k).op = o ∧ (T.S.le k).role = r then (T.S.le k).hours else 0)
  + sumN T.all (fun d => if (T.ca d).kind ≠ 3 ∧ (T.ca d).op = o ∧ T.cast d r = s ∧ (T.ca d).fin ≤ moment then T.long d else 0)
def PTb.strain (T : PTb) (s : Int) (c : Nat) : Int := sumN (T.nr c) fun r => if T.cast c r = s then ((T.o c).ro r).strain else 0
def PTb.weight (T : PTb) (c : Nat) : Int := if (T.ca c).kind = 3 then 2 else if (T.ca c).kind = 2 then 1 else 0
/-- how tired one is behind the first k calls; when last one sang -/
def PTb.tir (T : PTb) (s : Int) (c : Nat) : Nat → Int × Int
  | 0 => (0, 0)
  | k + 1 =>
    let z := T.tir s c k
    let d := T.ord k
    let comes := T.weight d * T.strain s d
    if comes > 0 ∨ d = c then (max 0 (z.1 - ((T.ca d).beg - z.2)) + comes, (T.ca d).beg) else z
def PTb.tired (T : PTb) (s : Int) (c : Nat) : Int := (T.tir s c (T.pos c + 1)).1
def PTb.dayHours (T : PTb) (s : Int) (c : Nat) : Int := sumN (T.pos c + 1) fun k => if (T.ca (T.ord k)).day = (T.ca c).day ∧ T.isCast s (T.ord k) = true then T.long (T.ord k) else 0
def PTb.nights (T : PTb) (s : Int) (c : Nat) (days : Int) : Int := sumN (T.pos c + 1) fun k => if (T.ca (T.ord k)).kind = 3 ∧ (T.ca (T.ord k)).day > (T.ca c).day - days ∧ T.isCast s (T.ord k) = true then 1 else 0
/-- d is ahead of c and is on when c begins -/
def PTb.isOn (T : PTb) (d c : Nat) : Bool := (T.pos d < T.pos c) && (T.ca c).beg < (T.ca d).fin

/-- a bit, as the code asks for it -/
def bitJ (x k : Int) : Bool := decide (((J x >>> (J k &&& J 31)) &&& J 1) = J 1)
def PTb.suits (T : PTb) (s c r : Nat) : Bool := bitJ (T.S.sg s).voices ((T.o c).ro r).voice && bitJ (T.S.sg s).tongues ((T.o c).ro r).tongue && decide ((T.S.sg s).size - ((T.o c).ro r).size ≤ 1 ∧ ((T.o c).ro r).size - (T.S.sg s).size ≤ 1)
def PSt.away (S : PSt) (s : Nat) (d : Int) : Bool := anyN (S.ct s).nl fun k => (S.ct s).lf k ≤ d && d ≤ (S.ct s).lt k
def PTb.busy (T : PTb) (s : Int) (c r : Nat) : Bool := anyN r (fun q => T.cast c q == s) || anyN T.all (fun d => T.isOn d c && T.isCast s d)
/-- the last call among the first k in which one sang -/
def PTb.sung (T : PTb) (s : Int) : Nat → Option Nat
  | 0 => none
  | k + 1 => if 2 ≤ (T.ca (T.ord k)).kind ∧ T.isCast s (T.ord k) = true then some (T.ord k) else T.sung s k
def PTb.noRest (T : PTb) (s : Nat) (c : Nat) : Bool := match T.sung s (T.pos c) with
  | none => false
  | some d => decide ((T.ca d).day ≠ (T.ca c).day ∧ (T.ca c).beg - (T.ca d).fin < (T.S.ct s).rest)
/-- the soonest end of an opera's calls of a kind that begin at an hour or later; none: 100000 -/
def PTb.fe (T : PTb) (o : Nat) (kd frm : Int) : Nat → Int
  | 0 => 100000
  | n + 1 => if (T.ca n).op = o ∧ (T.ca n).kind = kd ∧ frm ≤ (T.ca n).beg ∧ (T.ca n).fin < T.fe o kd frm n then (T.ca n).fin else T.fe o kd frm n
def PTb.unready (T : PTb) (c : Nat) : Bool := decide ((T.ca c).kind = 3 ∧ (T.ca c).beg < T.fe (T.ca c).op 2 (T.fe (T.ca c).op 1 (T.fe (T.ca c).op 0 0 T.all) T.all) T.all)
def PTb.others (T : PTb) (c : Nat) : Int := sumN T.all fun d => if (T.ca d).kind ≠ 0 ∧ (T.ca d).kind ≠ 1 ∧ T.isOn d c = true then 1 else 0
def PTb.marks (T : PTb) (c : Nat) : Int := sumN T.all fun d => if (T.ca d).kind = 1 ∧ T.isOn d c = true then 1 else 0
def PTb.taken (T : PTb) (c : Nat) : Bool := decide ((T.ca c).kind ≠ 0 ∧ (0 < T.others c ∨ (if (T.ca c).kind = 1 then 1 else 0) < T.marks c))
def PTb.lacks (T : PTb) (c : Nat) : Bool := decide (2 ≤ (T.ca c).kind) && anyN 4 fun g => decide (((T.ca c).halves % 2) * T.S.one g + ((T.ca c).halves / 2) * T.S.other g < (T.o c).seats g)
def PTb.plays (T : PTb) (c : Nat) : Bool := anyN T.all fun d => !decide ((J (T.ca d).halves &&& J (T.ca c).halves) = J 0) && T.isOn d c
def PTb.hasCh (T : PTb) (c : Nat) : Bool := decide ((T.ca c).kind ≠ 0) && (T.o c).chorus
def PTb.chDay (T : PTb) (c : Nat) (n : Nat) : Int := sumN n fun k => if T.hasCh (T.ord k) = true ∧ (T.ca (T.ord k)).day = (T.ca c).day then T.long (T.ord k) else 0
def PTb.chWeek (T : PTb) (c : Nat) (n : Nat) : Int := sumN n fun k => if T.hasCh (T.ord k) = true ∧ (T.ca c).day - 7 < (T.ca (T.ord k)).day then T.long (T.ord k) else 0
def PTb.chOver (T : PTb) (c : Nat) : Bool := T.hasCh c && decide (T.S.daily < T.chDay c (T.pos c + 1) ∨ T.S.weekly < T.chWeek c (T.pos c + 1))
/-- what is wrong of one who has a role -/
def PTb.wr (T : PTb) (kind s c r : Nat) : Bool :=
  if kind = 8 then !T.suits s c r
  else if kind = 9 then decide ((T.ca c).kind = 3 ∧ T.learned s (T.ca c).op r (T.ca c).beg < (T.o c).need)
  else if kind = 10 then T.S.away s (T.ca c).day || T.isIll s (T.ca c).day
  else if kind = 11 then T.busy s c r
  else if kind = 12 then T.noRest s c
  else if kind = 13 then decide ((T.S.ct s).day + 4 < T.dayHours s c)
  else if kind = 14 then decide ((T.ca c).kind = 3 ∧ (T.S.ct s).week < T.nights s c 7)
  else decide ((T.S.ct s).voice < T.tired s c)
/-- what is wrong of a call; bad: the sets -/
def PTb.wc (T : PTb) (bad : Nat → Bool) (kind c : Nat) : Bool :=
  if kind = 1 then T.taken c
  else if kind = 2 then decide (2 ≤ (T.ca c).kind) && bad c
  else if kind = 3 then T.unready c
  else if kind = 4 then T.lacks c
  else if kind = 5 then T.plays c
  else T.chOver c
/-- what is asked of a call, to say what it earns -/
def PAsk : Type := (Int) × (Int) × (Int) × (Int) × (Bool) × (Bool) × (Bool)
def PAsk.mk (kind : Int) (hours : Int) (nth : Int) (over : Int) (late : Bool) (cover : Bool) (instead : Bool) : PAsk := (kind, hours, nth, over, late, cover, instead)
def PAsk.kind (x : PAsk) : Int := x.1
def PAsk.hours (x : PAsk) : Int := x.2.1
def PAsk.nth (x : PAsk) : Int := x.2.2.1
def PAsk.over (x : PAsk) : Int := x.2.2.2.1
def PAsk.late (x : PAsk) : Bool := x.2.2.2.2.1
def PAsk.cover (x : PAsk) : Bool := x.2.2.2.2.2.1
def PAsk.instead (x : PAsk) : Bool := x.2.2.2.2.2.2
theorem PAsk.g_kind {kind : Int} {hours : Int} {nth : Int} {over : Int} {late : Bool} {cover : Bool} {instead : Bool} : (PAsk.mk kind hours nth over late cover instead).kind = kind := rfl
theorem PAsk.g_hours {kind : Int} {hours : Int} {nth : Int} {over : Int} {late : Bool} {cover : Bool} {instead : Bool} : (PAsk.mk kind hours nth over late cover instead).hours = hours := rfl
theorem PAsk.g_nth {kind : Int} {hours : Int} {nth : Int} {over : Int} {late : Bool} {cover : Bool} {instead : Bool} : (PAsk.mk kind hours nth over late cover instead).nth = nth := rfl
theorem PAsk.g_over {kind : Int} {hours : Int} {nth : Int} {over : Int} {late : Bool} {cover : Bool} {instead : Bool} : (PAsk.mk kind hours nth over late cover instead).over = over := rfl
theorem PAsk.g_late {kind : Int} {hours : Int} {nth : Int} {over : Int} {late : Bool} {cover : Bool} {instead : Bool} : (PAsk.mk kind hours nth over late cover instead).late = late := rfl
theorem PAsk.g_cover {kind : Int} {hours : Int} {nth : Int} {over : Int} {late : Bool} {cover : Bool} {instead : Bool} : (PAsk.mk kind hours nth over late cover instead).cover = cover := rfl
theorem PAsk.g_instead {kind : Int} {hours : Int} {nth : Int} {over : Int} {late : Bool} {cover : Bool} {instead : Bool} : (PAsk.mk kind hours nth over late cover instead).instead = instead := rfl
def PAsk.num (a : PAsk) (k : Nat) : Int := if k = 7 then a.hours else if k = 8 then a.nth else a.over
def PAsk.is (a : PAsk) (k : Nat) : Bool := if k ≤ 3 then a.kind == (k : Int) else if k = 4 then a.late else if k = 5 then a.cover else a.instead
def PCd.holds (a : PAsk) : PCd → Bool
  | .leaf (.inl k) => a.is k
  | .leaf (.inr (k, g, m)) => if g = 60 then decide (a.num k < m) else if g = 61 then decide (a.num k = m) else decide (m < a.num k)
  | .branch 0 c _ => !PCd.holds a c
  | .branch 1 c d => PCd.holds a c && PCd.holds a d
  | .branch (_ + 2) c d => PCd.holds a c || PCd.holds a d
def PTb.ask (T : PTb) (s c : Nat) : PAsk := PAsk.mk (kind := (T.ca c).kind) (hours := T.long c) (nth := if T.isCast s c = true ∧ (T.ca c).kind = 3 then T.nights s c 1000 else 0) (over := if T.isCast s c = true then max 0 (T.dayHours s c - (T.S.ct s).day) else 0) (late := decide (24 * (T.ca c).day + 22 < (T.ca c).fin)) (cover := T.covers s c) (instead := T.isCast s c && T.came s c)
def PTb.earns (T : PTb) (s c : Nat) : Int := sumN (T.S.ct s).nf fun k => if (match (T.S.ct s).cd k with | none => true | some q => q.holds (T.ask s c)) = true then (T.S.ct s).much k else 0
def PTb.fee (T : PTb) (s c : Nat) : Int := if (T.isCast s c = false ∧ T.covers s c = false) ∨ T.isIll s (T.ca c).day = true then 0 else T.earns s c
/-- a condition as the twin writes it: operands first -/
def PCd.code : PCd → List (Int × Int × Int)
  | .leaf (.inl a) => [((a : Int), 0, 0)]
  | .leaf (.inr (a, g, n)) => [((a : Int), g, n)]
  | .branch 0 c _ => PCd.code c ++ [(20, 0, 0)]
  | .branch 1 c d => PCd.code c ++ PCd.code d ++ [(21, 0, 0)]
  | .branch (_ + 2) c d => PCd.code c ++ PCd.code d ++ [(22, 0, 0)]
end
