noncomputable section
set_option linter.unusedVariables false
set_option linter.unusedSimpArgs false
/-! PLAIN 40: the house's heap -/
abbrev Rf := Nat × Nat
def PZ : Type := (Nat → Rf) × (Nat → Rf) × (Nat → Rf) × (Nat → Rf) × (Nat → Rf) × (Nat → Rf)
def PZ.mk (o : Nat → Rf) (s : Nat → Rf) (c : Nat → Rf) (p : Nat → Rf) (i : Nat → Rf) (l : Nat → Rf) : PZ := (o, s, c, p, i, l)
def PZ.o (x : PZ) : Nat → Rf := x.1
def PZ.s (x : PZ) : Nat → Rf := x.2.1
def PZ.c (x : PZ) : Nat → Rf := x.2.2.1
def PZ.p (x : PZ) : Nat → Rf := x.2.2.2.1
def PZ.i (x : PZ) : Nat → Rf := x.2.2.2.2.1
def PZ.l (x : PZ) : Nat → Rf := x.2.2.2.2.2
theorem PZ.g_o {o : Nat → Rf} {s : Nat → Rf} {c : Nat → Rf} {p : Nat → Rf} {i : Nat → Rf} {l : Nat → Rf} : (PZ.mk o s c p i l).o = o := rfl
theorem PZ.g_s {o : Nat → Rf} {s : Nat → Rf} {c : Nat → Rf} {p : Nat → Rf} {i : Nat → Rf} {l : Nat → Rf} : (PZ.mk o s c p i l).s = s := rfl
theorem PZ.g_c {o : Nat → Rf} {s : Nat → Rf} {c : Nat → Rf} {p : Nat → Rf} {i : Nat → Rf} {l : Nat → Rf} : (PZ.mk o s c p i l).c = c := rfl
theorem PZ.g_p {o : Nat → Rf} {s : Nat → Rf} {c : Nat → Rf} {p : Nat → Rf} {i : Nat → Rf} {l : Nat → Rf} : (PZ.mk o s c p i l).p = p := rfl
theorem PZ.g_i {o : Nat → Rf} {s : Nat → Rf} {c : Nat → Rf} {p : Nat → Rf} {i : Nat → Rf} {l : Nat → Rf} : (PZ.mk o s c p i l).i = i := rfl
theorem PZ.g_l {o : Nat → Rf} {s : Nat → Rf} {c : Nat → Rf} {p : Nat → Rf} {i : Nat → Rf} {l : Nat → Rf} : (PZ.mk o s c p i l).l = l := rfl
def PZ.s_o (x : PZ) (v : Nat → Rf) : PZ := (v, x.2)
def PZ.s_s (x : PZ) (v : Nat → Rf) : PZ := (x.1, v, x.2.2)
def PZ.s_c (x : PZ) (v : Nat → Rf) : PZ := (x.1, x.2.1, v, x.2.2.2)
def PZ.s_p (x : PZ) (v : Nat → Rf) : PZ := (x.1, x.2.1, x.2.2.1, v, x.2.2.2.2)
def PZ.s_i (x : PZ) (v : Nat → Rf) : PZ := (x.1, x.2.1, x.2.2.1, x.2.2.2.1, v, x.2.2.2.2.2)
def PZ.s_l (x : PZ) (v : Nat → Rf) : PZ := (x.1, x.2.1, x.2.2.1, x.2.2.2.1, x.2.2.2.2.1, v)
theorem PZ.o_s_o {x : PZ} {v : Nat → Rf} : (x.s_o v).o = v := rfl
theorem PZ.s_s_o {x : PZ} {v : Nat → Rf} : (x.s_o v).s = x.s := rfl
theorem PZ.c_s_o {x : PZ} {v : Nat → Rf} : (x.s_o v).c = x.c := rfl
theorem PZ.p_s_o {x : PZ} {v : Nat → Rf} : (x.s_o v).p = x.p := rfl
theorem PZ.i_s_o {x : PZ} {v : Nat → Rf} : (x.s_o v).i = x.i := rfl
theorem PZ.l_s_o {x : PZ} {v : Nat → Rf} : (x.s_o v).l = x.l := rfl
theorem PZ.o_s_s {x : PZ} {v : Nat → Rf} : (x.s_s v).o = x.o := rfl
theorem PZ.s_s_s {x : PZ} {v : Nat → Rf} : (x.s_s v).s = v := rfl
theorem PZ.c_s_s {x : PZ} {v : Nat → Rf} : (x.s_s v).c = x.c := rfl
theorem PZ.p_s_s {x : PZ} {v : Nat → Rf} : (x.s_s v).p = x.p := rfl
theorem PZ.i_s_s {x : PZ} {v : Nat → Rf} : (x.s_s v).i = x.i := rfl
theorem PZ.l_s_s {x : PZ} {v : Nat → Rf} : (x.s_s v).l = x.l := rfl
theorem PZ.o_s_c {x : PZ} {v : Nat → Rf} : (x.s_c v).o = x.o := rfl
theorem PZ.s_s_c {x : PZ} {v : Nat → Rf} : (x.s_c v).s = x.s := rfl
theorem PZ.c_s_c {x : PZ} {v : Nat → Rf} : (x.s_c v).c = v := rfl
theorem PZ.p_s_c {x : PZ} {v : Nat → Rf} : (x.s_c v).p = x.p := rfl
theorem PZ.i_s_c {x : PZ} {v : Nat → Rf} : (x.s_c v).i = x.i := rfl
theorem PZ.l_s_c {x : PZ} {v : Nat → Rf} : (x.s_c v).l = x.l := rfl
theorem PZ.o_s_p {x : PZ} {v : Nat → Rf} : (x.s_p v).o = x.o := rfl
theorem PZ.s_s_p {x : PZ} {v : Nat → Rf} : (x.s_p v).s = x.s := rfl
theorem PZ.c_s_p {x : PZ} {v : Nat → Rf} : (x.s_p v).c = x.c := rfl
theorem PZ.p_s_p {x : PZ} {v : Nat → Rf} : (x.s_p v).p = v := rfl
theorem PZ.i_s_p {x : PZ} {v : Nat → Rf} : (x.s_p v).i = x.i := rfl
theorem PZ.l_s_p {x : PZ} {v : Nat → Rf} : (x.s_p v).l = x.l := rfl
theorem PZ.o_s_i {x : PZ} {v : Nat → Rf} : (x.s_i v).o = x.o := rfl
theorem PZ.s_s_i {x : PZ} {v : Nat → Rf} : (x.s_i v).s = x.s := rfl
theorem PZ.c_s_i {x : PZ} {v : Nat → Rf} : (x.s_i v).c = x.c := rfl
theorem PZ.p_s_i {x : PZ} {v : Nat → Rf} : (x.s_i v).p = x.p := rfl
theorem PZ.i_s_i {x : PZ} {v : Nat → Rf} : (x.s_i v).i = v := rfl
theorem PZ.l_s_i {x : PZ} {v : Nat → Rf} : (x.s_i v).l = x.l := rfl
theorem PZ.o_s_l {x : PZ} {v : Nat → Rf} : (x.s_l v).o = x.o := rfl
theorem PZ.s_s_l {x : PZ} {v : Nat → Rf} : (x.s_l v).s = x.s := rfl
theorem PZ.c_s_l {x : PZ} {v : Nat → Rf} : (x.s_l v).c = x.c := rfl
theorem PZ.p_s_l {x : PZ} {v : Nat → Rf} : (x.s_l v).p = x.p := rfl
theorem PZ.i_s_l {x : PZ} {v : Nat → Rf} : (x.s_l v).i = x.i := rfl
theorem PZ.l_s_l {x : PZ} {v : Nat → Rf} : (x.s_l v).l = v := rfl
def hLs (FI : OhI) (GR BR : OhQ) (AN : OhN) (t : Rf) (n : Nat) (f : Nat → Rf) : Prop :=
  ohKd t.1 = 17 ∧ FI t.1 t.2 2 = J (n : Int) ∧ ∃ a, GR t.1 t.2 1 = some a ∧ (n = 0 ∨ ohKd a.1 = 106) ∧ (ohKd a.1 = 106 ∨ a = (40, 0)) ∧ (n ≤ AN a.1 a.2 ∧ AN a.1 a.2 ≤ 100000) ∧ ∀ k, k < n → BR a.1 a.2 k = some (f k)
def hCd (FI : OhI) (FR : OhQ) : PCd → Rf → Prop
  | .leaf (.inl a), r => ohKd r.1 = 12 ∧ FI r.1 r.2 0 = J ((a : Int) + 3)
  | .leaf (.inr (a, g, m)), r => ohKd r.1 = 12 ∧ FI r.1 r.2 0 = J ((a : Int) + 3) ∧ FI r.1 r.2 1 = J g ∧ FI r.1 r.2 2 = J m
  | .branch 0 q _, r => ohKd r.1 = 12 ∧ FI r.1 r.2 0 = J 0 ∧ ∃ x, FR r.1 r.2 3 = some x ∧ hCd FI FR q x
  | .branch 1 p q, r => ohKd r.1 = 12 ∧ FI r.1 r.2 0 = J 1 ∧ (∃ x, FR r.1 r.2 3 = some x ∧ hCd FI FR p x) ∧ ∃ x, FR r.1 r.2 4 = some x ∧ hCd FI FR q x
  | .branch (_ + 2) p q, r => ohKd r.1 = 12 ∧ FI r.1 r.2 0 = J 2 ∧ (∃ x, FR r.1 r.2 3 = some x ∧ hCd FI FR p x) ∧ ∃ x, FR r.1 r.2 4 = some x ∧ hCd FI FR q x
theorem hCd.kd {FI : OhI} {FR : OhQ} : ∀ {q : PCd} {r : Rf}, hCd FI FR q r → ohKd r.1 = 12
  | .leaf (.inl _), _, h => h.1
  | .leaf (.inr (_, _, _)), _, h => h.1
  | .branch 0 _ _, _, h => h.1
  | .branch 1 _ _, _, h => h.1
  | .branch (_ + 2) _ _, _, h => h.1
def HRo (x : PRo) (a : Rf) (FI : OhI) : Prop :=
  (ohKd a.1 = 5) ∧
  (FI a.1 a.2 0 = J x.voice) ∧
  (FI a.1 a.2 1 = J x.strain) ∧
  (FI a.1 a.2 2 = J x.tongue) ∧
  (FI a.1 a.2 3 = J x.size)
theorem HRo.mk {x : PRo} {a : Rf} {FI : OhI}
    (kd : ohKd a.1 = 5)
    (voice : FI a.1 a.2 0 = J x.voice)
    (strain : FI a.1 a.2 1 = J x.strain)
    (tongue : FI a.1 a.2 2 = J x.tongue)
    (size : FI a.1 a.2 3 = J x.size) :
    HRo x a FI := ⟨kd, voice, strain, tongue, size⟩
theorem HRo.kd {x : PRo} {a : Rf} {FI : OhI} (h : HRo x a FI) : ohKd a.1 = 5 := h.1
theorem HRo.voice {x : PRo} {a : Rf} {FI : OhI} (h : HRo x a FI) : FI a.1 a.2 0 = J x.voice := h.2.1
theorem HRo.strain {x : PRo} {a : Rf} {FI : OhI} (h : HRo x a FI) : FI a.1 a.2 1 = J x.strain := h.2.2.1
theorem HRo.tongue {x : PRo} {a : Rf} {FI : OhI} (h : HRo x a FI) : FI a.1 a.2 2 = J x.tongue := h.2.2.2.1
theorem HRo.size {x : PRo} {a : Rf} {FI : OhI} (h : HRo x a FI) : FI a.1 a.2 3 = J x.size := h.2.2.2.2
def HOp (o : POp) (k : Nat) (a : Rf) (FI : OhI) (FR GR : OhQ) (AI : OhI) (BR : OhQ) (AN : OhN) : Prop :=
  (ohKd a.1 = 4) ∧
  (FI a.1 a.2 0 = J (k : Int)) ∧
  (FI a.1 a.2 1 = J o.hours) ∧
  (FI a.1 a.2 2 = J o.set) ∧
  (FI a.1 a.2 3 = J o.need) ∧
  (FI a.1 a.2 4 = bJ o.chorus) ∧
  (∃ x, FR a.1 a.2 5 = some x ∧ ohKd x.1 = 100 ∧ x.1 = 5 ∧ AN x.1 x.2 = 4 ∧ ∀ g, g < 4 → AI x.1 x.2 g = J (o.seats g)) ∧
  (∃ x f, FR a.1 a.2 6 = some x ∧ hLs FI GR BR AN x o.nr f ∧ ∀ r, r < o.nr → HRo (o.ro r) (f r) FI) ∧
  (∀ x, FR a.1 a.2 6 = some x → x.1 = 6)
theorem HOp.mk {o : POp} {k : Nat} {a : Rf} {FI : OhI} {FR GR : OhQ} {AI : OhI} {BR : OhQ} {AN : OhN}
    (kd : ohKd a.1 = 4)
    (num : FI a.1 a.2 0 = J (k : Int))
    (hours : FI a.1 a.2 1 = J o.hours)
    (set : FI a.1 a.2 2 = J o.set)
    (need : FI a.1 a.2 3 = J o.need)
    (chorus : FI a.1 a.2 4 = bJ o.chorus)
    (seats : ∃ x, FR a.1 a.2 5 = some x ∧ ohKd x.1 = 100 ∧ x.1 = 5 ∧ AN x.1 x.2 = 4 ∧ ∀ g, g < 4 → AI x.1 x.2 g = J (o.seats g))
    (roles : ∃ x f, FR a.1 a.2 6 = some x ∧ hLs FI GR BR AN x o.nr f ∧ ∀ r, r < o.nr → HRo (o.ro r) (f r) FI)
    (rsite : ∀ x, FR a.1 a.2 6 = some x → x.1 = 6) :
    HOp o k a FI FR GR AI BR AN := ⟨kd, num, hours, set, need, chorus, seats, roles, rsite⟩
theorem HOp.kd {o : POp} {k : Nat} {a : Rf} {FI : OhI} {FR GR : OhQ} {AI : OhI} {BR : OhQ} {AN : OhN} (h : HOp o k a FI FR GR AI BR AN) : ohKd a.1 = 4 := h.1
theorem HOp.num {o : POp} {k : Nat} {a : Rf} {FI : OhI} {FR GR : OhQ} {AI : OhI} {BR : OhQ} {AN : OhN} (h : HOp o k a FI FR GR AI BR AN) : FI a.1 a.2 0 = J (k : Int) := h.2.1
theorem HOp.hours {o : POp} {k : Nat} {a : Rf} {FI : OhI} {FR GR : OhQ} {AI : OhI} {BR : OhQ} {AN : OhN} (h : HOp o k a FI FR GR AI BR AN) : FI a.1 a.2 1 = J o.hours := h.2.2.1
theorem HOp.set {o : POp} {k : Nat} {a : Rf} {FI : OhI} {FR GR : OhQ} {AI : OhI} {BR : OhQ} {AN : OhN} (h : HOp o k a FI FR GR AI BR AN) : FI a.1 a.2 2 = J o.set := h.2.2.2.1
theorem HOp.need {o : POp} {k : Nat} {a : Rf} {FI : OhI} {FR GR : OhQ} {AI : OhI} {BR : OhQ} {AN : OhN} (h : HOp o k a FI FR GR AI BR AN) : FI a.1 a.2 3 = J o.need := h.2.2.2.2.1
theorem HOp.chorus {o : POp} {k : Nat} {a : Rf} {FI : OhI} {FR GR : OhQ} {AI : OhI} {BR : OhQ} {AN : OhN} (h : HOp o k a FI FR GR AI BR AN) : FI a.1 a.2 4 = bJ o.chorus := h.2.2.2.2.2.1
theorem HOp.seats {o : POp} {k : Nat} {a : Rf} {FI : OhI} {FR GR : OhQ} {AI : OhI} {BR : OhQ} {AN : OhN} (h : HOp o k a FI FR GR AI BR AN) : ∃ x, FR a.1 a.2 5 = some x ∧ ohKd x.1 = 100 ∧ x.1 = 5 ∧ AN x.1 x.2 = 4 ∧ ∀ g, g < 4 → AI x.1 x.2 g = J (o.seats g) := h.2.2.2.2.2.2.1
theorem HOp.roles {o : POp} {k : Nat} {a : Rf} {FI : OhI} {FR GR : OhQ} {AI : OhI} {BR : OhQ} {AN : OhN} (h : HOp o k a FI FR GR AI BR AN) : ∃ x f, FR a.1 a.2 6 = some x ∧ hLs FI GR BR AN x o.nr f ∧ ∀ r, r < o.nr → HRo (o.ro r) (f r) FI := h.2.2.2.2.2.2.2.1
theorem HOp.rsite {o : POp} {k : Nat} {a : Rf} {FI : OhI} {FR GR : OhQ} {AI : OhI} {BR : OhQ} {AN : OhN} (h : HOp o k a FI FR GR AI BR AN) : ∀ x, FR a.1 a.2 6 = some x → x.1 = 6 := h.2.2.2.2.2.2.2.2
def HCt (t : PCt) (a : Rf) (FI : OhI) (FR GR BR : OhQ) (AN : OhN) : Prop :=
  (ohKd a.1 = 7) ∧
  (FI a.1 a.2 0 = J t.rest) ∧
  (FI a.1 a.2 1 = J t.day) ∧
  (FI a.1 a.2 2 = J t.week) ∧
  (FI a.1 a.2 3 = J t.voice) ∧
  (∃ x f, FR a.1 a.2 5 = some x ∧ hLs FI GR BR AN x t.nl f ∧ ∀ k, k < t.nl → ohKd (f k).1 = 10 ∧ FI (f k).1 (f k).2 0 = J (t.lf k) ∧ FI (f k).1 (f k).2 1 = J (t.lt k)) ∧
  (∃ x f, FR a.1 a.2 6 = some x ∧ hLs FI GR BR AN x t.nf f ∧ ∀ k, k < t.nf → ohKd (f k).1 = 11 ∧ FI (f k).1 (f k).2 0 = J (t.much k) ∧ (match t.cd k with | none => FR (f k).1 (f k).2 1 = none | some q => ∃ y, FR (f k).1 (f k).2 1 = some y ∧ hCd FI FR q y)) ∧
  (∀ x, FR a.1 a.2 5 = some x → x.1 = 11) ∧
  (∀ x, FR a.1 a.2 6 = some x → x.1 = 12)
theorem HCt.mk {t : PCt} {a : Rf} {FI : OhI} {FR GR BR : OhQ} {AN : OhN}
    (kd : ohKd a.1 = 7)
    (rest : FI a.1 a.2 0 = J t.rest)
    (day : FI a.1 a.2 1 = J t.day)
    (week : FI a.1 a.2 2 = J t.week)
    (voice : FI a.1 a.2 3 = J t.voice)
    (leaves : ∃ x f, FR a.1 a.2 5 = some x ∧ hLs FI GR BR AN x t.nl f ∧ ∀ k, k < t.nl → ohKd (f k).1 = 10 ∧ FI (f k).1 (f k).2 0 = J (t.lf k) ∧ FI (f k).1 (f k).2 1 = J (t.lt k))
    (fees : ∃ x f, FR a.1 a.2 6 = some x ∧ hLs FI GR BR AN x t.nf f ∧ ∀ k, k < t.nf → ohKd (f k).1 = 11 ∧ FI (f k).1 (f k).2 0 = J (t.much k) ∧ (match t.cd k with | none => FR (f k).1 (f k).2 1 = none | some q => ∃ y, FR (f k).1 (f k).2 1 = some y ∧ hCd FI FR q y))
    (lsite : ∀ x, FR a.1 a.2 5 = some x → x.1 = 11)
    (fsite : ∀ x, FR a.1 a.2 6 = some x → x.1 = 12) :
    HCt t a FI FR GR BR AN := ⟨kd, rest, day, week, voice, leaves, fees, lsite, fsite⟩
theorem HCt.kd {t : PCt} {a : Rf} {FI : OhI} {FR GR BR : OhQ} {AN : OhN} (h : HCt t a FI FR GR BR AN) : ohKd a.1 = 7 := h.1
theorem HCt.rest {t : PCt} {a : Rf} {FI : OhI} {FR GR BR : OhQ} {AN : OhN} (h : HCt t a FI FR GR BR AN) : FI a.1 a.2 0 = J t.rest := h.2.1
theorem HCt.day {t : PCt} {a : Rf} {FI : OhI} {FR GR BR : OhQ} {AN : OhN} (h : HCt t a FI FR GR BR AN) : FI a.1 a.2 1 = J t.day := h.2.2.1
theorem HCt.week {t : PCt} {a : Rf} {FI : OhI} {FR GR BR : OhQ} {AN : OhN} (h : HCt t a FI FR GR BR AN) : FI a.1 a.2 2 = J t.week := h.2.2.2.1
theorem HCt.voice {t : PCt} {a : Rf} {FI : OhI} {FR GR BR : OhQ} {AN : OhN} (h : HCt t a FI FR GR BR AN) : FI a.1 a.2 3 = J t.voice := h.2.2.2.2.1
theorem HCt.leaves {t : PCt} {a : Rf} {FI : OhI} {FR GR BR : OhQ} {AN : OhN} (h : HCt t a FI FR GR BR AN) : ∃ x f, FR a.1 a.2 5 = some x ∧ hLs FI GR BR AN x t.nl f ∧ ∀ k, k < t.nl → ohKd (f k).1 = 10 ∧ FI (f k).1 (f k).2 0 = J (t.lf k) ∧ FI (f k).1 (f k).2 1 = J (t.lt k) := h.2.2.2.2.2.1
theorem HCt.fees {t : PCt} {a : Rf} {FI : OhI} {FR GR BR : OhQ} {AN : OhN} (h : HCt t a FI FR GR BR AN) : ∃ x f, FR a.1 a.2 6 = some x ∧ hLs FI GR BR AN x t.nf f ∧ ∀ k, k < t.nf → ohKd (f k).1 = 11 ∧ FI (f k).1 (f k).2 0 = J (t.much k) ∧ (match t.cd k with | none => FR (f k).1 (f k).2 1 = none | some q => ∃ y, FR (f k).1 (f k).2 1 = some y ∧ hCd FI FR q y) := h.2.2.2.2.2.2.1
theorem HCt.lsite {t : PCt} {a : Rf} {FI : OhI} {FR GR BR : OhQ} {AN : OhN} (h : HCt t a FI FR GR BR AN) : ∀ x, FR a.1 a.2 5 = some x → x.1 = 11 := h.2.2.2.2.2.2.2.1
theorem HCt.fsite {t : PCt} {a : Rf} {FI : OhI} {FR GR BR : OhQ} {AN : OhN} (h : HCt t a FI FR GR BR AN) : ∀ x, FR a.1 a.2 6 = some x → x.1 = 12 := h.2.2.2.2.2.2.2.2
def HSg (s : PSg) (t : PCt) (k : Nat) (a : Rf) (FI : OhI) (FR GR BR : OhQ) (AN : OhN) : Prop :=
  (ohKd a.1 = 6) ∧
  (FI a.1 a.2 0 = J (k : Int)) ∧
  (FI a.1 a.2 1 = J s.voices) ∧
  (FI a.1 a.2 2 = J s.tongues) ∧
  (FI a.1 a.2 3 = J s.size) ∧
  (∃ x, GR a.1 a.2 4 = some x ∧ HCt t x FI FR GR BR AN)
theorem HSg.mk {s : PSg} {t : PCt} {k : Nat} {a : Rf} {FI : OhI} {FR GR BR : OhQ} {AN : OhN}
    (kd : ohKd a.1 = 6)
    (num : FI a.1 a.2 0 = J (k : Int))
    (voices : FI a.1 a.2 1 = J s.voices)
    (tongues : FI a.1 a.2 2 = J s.tongues)
    (size : FI a.1 a.2 3 = J s.size)
    (ct : ∃ x, GR a.1 a.2 4 = some x ∧ HCt t x FI FR GR BR AN) :
    HSg s t k a FI FR GR BR AN := ⟨kd, num, voices, tongues, size, ct⟩
theorem HSg.kd {s : PSg} {t : PCt} {k : Nat} {a : Rf} {FI : OhI} {FR GR BR : OhQ} {AN : OhN} (h : HSg s t k a FI FR GR BR AN) : ohKd a.1 = 6 := h.1
theorem HSg.num {s : PSg} {t : PCt} {k : Nat} {a : Rf} {FI : OhI} {FR GR BR : OhQ} {AN : OhN} (h : HSg s t k a FI FR GR BR AN) : FI a.1 a.2 0 = J (k : Int) := h.2.1
theorem HSg.voices {s : PSg} {t : PCt} {k : Nat} {a : Rf} {FI : OhI} {FR GR BR : OhQ} {AN : OhN} (h : HSg s t k a FI FR GR BR AN) : FI a.1 a.2 1 = J s.voices := h.2.2.1
theorem HSg.tongues {s : PSg} {t : PCt} {k : Nat} {a : Rf} {FI : OhI} {FR GR BR : OhQ} {AN : OhN} (h : HSg s t k a FI FR GR BR AN) : FI a.1 a.2 2 = J s.tongues := h.2.2.2.1
theorem HSg.size {s : PSg} {t : PCt} {k : Nat} {a : Rf} {FI : OhI} {FR GR BR : OhQ} {AN : OhN} (h : HSg s t k a FI FR GR BR AN) : FI a.1 a.2 3 = J s.size := h.2.2.2.2.1
theorem HSg.ct {s : PSg} {t : PCt} {k : Nat} {a : Rf} {FI : OhI} {FR GR BR : OhQ} {AN : OhN} (h : HSg s t k a FI FR GR BR AN) : ∃ x, GR a.1 a.2 4 = some x ∧ HCt t x FI FR GR BR AN := h.2.2.2.2.2
def HCl (x : PCa) (k : Nat) (a : Rf) (Z : PZ) (FI : OhI) (FR : OhQ) : Prop :=
  (ohKd a.1 = 14) ∧
  (FI a.1 a.2 0 = J (k : Int)) ∧
  (FI a.1 a.2 1 = J x.day) ∧
  (FI a.1 a.2 2 = J x.kind) ∧
  (FI a.1 a.2 3 = J x.halves) ∧
  (FI a.1 a.2 4 = J x.beg) ∧
  (FI a.1 a.2 5 = J x.fin) ∧
  (FR a.1 a.2 6 = some (Z.o x.op))
theorem HCl.mk {x : PCa} {k : Nat} {a : Rf} {Z : PZ} {FI : OhI} {FR : OhQ}
    (kd : ohKd a.1 = 14)
    (num : FI a.1 a.2 0 = J (k : Int))
    (day : FI a.1 a.2 1 = J x.day)
    (kind : FI a.1 a.2 2 = J x.kind)
    (halves : FI a.1 a.2 3 = J x.halves)
    (beg : FI a.1 a.2 4 = J x.beg)
    (fin : FI a.1 a.2 5 = J x.fin)
    (op : FR a.1 a.2 6 = some (Z.o x.op)) :
    HCl x k a Z FI FR := ⟨kd, num, day, kind, halves, beg, fin, op⟩
theorem HCl.kd {x : PCa} {k : Nat} {a : Rf} {Z : PZ} {FI : OhI} {FR : OhQ} (h : HCl x k a Z FI FR) : ohKd a.1 = 14 := h.1
theorem HCl.num {x : PCa} {k : Nat} {a : Rf} {Z : PZ} {FI : OhI} {FR : OhQ} (h : HCl x k a Z FI FR) : FI a.1 a.2 0 = J (k : Int) := h.2.1
theorem HCl.day {x : PCa} {k : Nat} {a : Rf} {Z : PZ} {FI : OhI} {FR : OhQ} (h : HCl x k a Z FI FR) : FI a.1 a.2 1 = J x.day := h.2.2.1
theorem HCl.kind {x : PCa} {k : Nat} {a : Rf} {Z : PZ} {FI : OhI} {FR : OhQ} (h : HCl x k a Z FI FR) : FI a.1 a.2 2 = J x.kind := h.2.2.2.1
theorem HCl.halves {x : PCa} {k : Nat} {a : Rf} {Z : PZ} {FI : OhI} {FR : OhQ} (h : HCl x k a Z FI FR) : FI a.1 a.2 3 = J x.halves := h.2.2.2.2.1
theorem HCl.beg {x : PCa} {k : Nat} {a : Rf} {Z : PZ} {FI : OhI} {FR : OhQ} (h : HCl x k a Z FI FR) : FI a.1 a.2 4 = J x.beg := h.2.2.2.2.2.1
theorem HCl.fin {x : PCa} {k : Nat} {a : Rf} {Z : PZ} {FI : OhI} {FR : OhQ} (h : HCl x k a Z FI FR) : FI a.1 a.2 5 = J x.fin := h.2.2.2.2.2.2.1
theorem HCl.op {x : PCa} {k : Nat} {a : Rf} {Z : PZ} {FI : OhI} {FR : OhQ} (h : HCl x k a Z FI FR) : FR a.1 a.2 6 = some (Z.o x.op) := h.2.2.2.2.2.2.2
def HSt (S : PSt) (Z : PZ) (FI : OhI) (FR GR : OhQ) (AI : OhI) (BR : OhQ) (AN : OhN) : Prop :=
  (FI 0 0 4 = J S.daily) ∧
  (FI 0 0 5 = J S.weekly) ∧
  (FI 0 0 3 = J S.today) ∧
  (∀ g, g < 4 → AI 307 0 g = J (S.one g)) ∧
  (∀ g, g < 4 → AI 308 0 g = J (S.other g)) ∧
  (hLs FI GR BR AN (309, 0) S.nO Z.o) ∧
  (∀ o, o < S.nO → HOp (S.op o) o (Z.o o) FI FR GR AI BR AN) ∧
  (hLs FI GR BR AN (310, 0) S.nS Z.s) ∧
  (∀ s, s < S.nS → HSg (S.sg s) (S.ct s) s (Z.s s) FI FR GR BR AN) ∧
  (hLs FI GR BR AN (311, 0) S.nC Z.c) ∧
  (hLs FI GR BR AN (312, 0) S.nP Z.p) ∧
  (∀ k, k < S.nP → ohKd (Z.p k).1 = 15 ∧ FI (Z.p k).1 (Z.p k).2 0 = J ((S.pt k).call : Int) ∧ FI (Z.p k).1 (Z.p k).2 1 = J ((S.pt k).role : Int) ∧ FI (Z.p k).1 (Z.p k).2 2 = J (S.pt k).who ∧ FI (Z.p k).1 (Z.p k).2 3 = J (S.pt k).day ∧ FI (Z.p k).1 (Z.p k).2 4 = bJ (S.pt k).cover) ∧
  (hLs FI GR BR AN (313, 0) S.nI Z.i) ∧
  (∀ k, k < S.nI → ohKd (Z.i k).1 = 16 ∧ FI (Z.i k).1 (Z.i k).2 0 = J ((S.il k).s : Int) ∧ FI (Z.i k).1 (Z.i k).2 1 = J (S.il k).frm ∧ FI (Z.i k).1 (Z.i k).2 2 = J (S.il k).til ∧ FI (Z.i k).1 (Z.i k).2 3 = J (S.il k).day) ∧
  (hLs FI GR BR AN (314, 0) S.nL Z.l) ∧
  (∀ k, k < S.nL → ohKd (Z.l k).1 = 13 ∧ FI (Z.l k).1 (Z.l k).2 0 = J ((S.le k).s : Int) ∧ FI (Z.l k).1 (Z.l k).2 1 = J ((S.le k).op : Int) ∧ FI (Z.l k).1 (Z.l k).2 2 = J ((S.le k).role : Int) ∧ FI (Z.l k).1 (Z.l k).2 3 = J (S.le k).hours ∧ FI (Z.l k).1 (Z.l k).2 4 = J (S.le k).day) ∧
  (∀ i j, i < S.nO → j < S.nO → Z.o i = Z.o j → i = j)
theorem HSt.mk {S : PSt} {Z : PZ} {FI : OhI} {FR GR : OhQ} {AI : OhI} {BR : OhQ} {AN : OhN}
    (daily : FI 0 0 4 = J S.daily)
    (weekly : FI 0 0 5 = J S.weekly)
    (today : FI 0 0 3 = J S.today)
    (one : ∀ g, g < 4 → AI 307 0 g = J (S.one g))
    (other : ∀ g, g < 4 → AI 308 0 g = J (S.other g))
    (opL : hLs FI GR BR AN (309, 0) S.nO Z.o)
    (op : ∀ o, o < S.nO → HOp (S.op o) o (Z.o o) FI FR GR AI BR AN)
    (sgL : hLs FI GR BR AN (310, 0) S.nS Z.s)
    (sg : ∀ s, s < S.nS → HSg (S.sg s) (S.ct s) s (Z.s s) FI FR GR BR AN)
    (caL : hLs FI GR BR AN (311, 0) S.nC Z.c)
    (ptL : hLs FI GR BR AN (312, 0) S.nP Z.p)
    (pt : ∀ k, k < S.nP → ohKd (Z.p k).1 = 15 ∧ FI (Z.p k).1 (Z.p k).2 0 = J ((S.pt k).call : Int) ∧ FI (Z.p k).1 (Z.p k).2 1 = J ((S.pt k).role : Int) ∧ FI (Z.p k).1 (Z.p k).2 2 = J (S.pt k).who ∧ FI (Z.p k).1 (Z.p k).2 3 = J (S.pt k).day ∧ FI (Z.p k).1 (Z.p k).2 4 = bJ (S.pt k).cover)
    (ilL : hLs FI GR BR AN (313, 0) S.nI Z.i)
    (il : ∀ k, k < S.nI → ohKd (Z.i k).1 = 16 ∧ FI (Z.i k).1 (Z.i k).2 0 = J ((S.il k).s : Int) ∧ FI (Z.i k).1 (Z.i k).2 1 = J (S.il k).frm ∧ FI (Z.i k).1 (Z.i k).2 2 = J (S.il k).til ∧ FI (Z.i k).1 (Z.i k).2 3 = J (S.il k).day)
    (leL : hLs FI GR BR AN (314, 0) S.nL Z.l)
    (le : ∀ k, k < S.nL → ohKd (Z.l k).1 = 13 ∧ FI (Z.l k).1 (Z.l k).2 0 = J ((S.le k).s : Int) ∧ FI (Z.l k).1 (Z.l k).2 1 = J ((S.le k).op : Int) ∧ FI (Z.l k).1 (Z.l k).2 2 = J ((S.le k).role : Int) ∧ FI (Z.l k).1 (Z.l k).2 3 = J (S.le k).hours ∧ FI (Z.l k).1 (Z.l k).2 4 = J (S.le k).day)
    (oinj : ∀ i j, i < S.nO → j < S.nO → Z.o i = Z.o j → i = j) :
    HSt S Z FI FR GR AI BR AN := ⟨daily, weekly, today, one, other, opL, op, sgL, sg, caL, ptL, pt, ilL, il, leL, le, oinj⟩
theorem HSt.daily {S : PSt} {Z : PZ} {FI : OhI} {FR GR : OhQ} {AI : OhI} {BR : OhQ} {AN : OhN} (h : HSt S Z FI FR GR AI BR AN) : FI 0 0 4 = J S.daily := h.1
theorem HSt.weekly {S : PSt} {Z : PZ} {FI : OhI} {FR GR : OhQ} {AI : OhI} {BR : OhQ} {AN : OhN} (h : HSt S Z FI FR GR AI BR AN) : FI 0 0 5 = J S.weekly := h.2.1
theorem HSt.today {S : PSt} {Z : PZ} {FI : OhI} {FR GR : OhQ} {AI : OhI} {BR : OhQ} {AN : OhN} (h : HSt S Z FI FR GR AI BR AN) : FI 0 0 3 = J S.today := h.2.2.1
theorem HSt.one {S : PSt} {Z : PZ} {FI : OhI} {FR GR : OhQ} {AI : OhI} {BR : OhQ} {AN : OhN} (h : HSt S Z FI FR GR AI BR AN) : ∀ g, g < 4 → AI 307 0 g = J (S.one g) := h.2.2.2.1
theorem HSt.other {S : PSt} {Z : PZ} {FI : OhI} {FR GR : OhQ} {AI : OhI} {BR : OhQ} {AN : OhN} (h : HSt S Z FI FR GR AI BR AN) : ∀ g, g < 4 → AI 308 0 g = J (S.other g) := h.2.2.2.2.1
theorem HSt.opL {S : PSt} {Z : PZ} {FI : OhI} {FR GR : OhQ} {AI : OhI} {BR : OhQ} {AN : OhN} (h : HSt S Z FI FR GR AI BR AN) : hLs FI GR BR AN (309, 0) S.nO Z.o := h.2.2.2.2.2.1
theorem HSt.op {S : PSt} {Z : PZ} {FI : OhI} {FR GR : OhQ} {AI : OhI} {BR : OhQ} {AN : OhN} (h : HSt S Z FI FR GR AI BR AN) : ∀ o, o < S.nO → HOp (S.op o) o (Z.o o) FI FR GR AI BR AN := h.2.2.2.2.2.2.1
theorem HSt.sgL {S : PSt} {Z : PZ} {FI : OhI} {FR GR : OhQ} {AI : OhI} {BR : OhQ} {AN : OhN} (h : HSt S Z FI FR GR AI BR AN) : hLs FI GR BR AN (310, 0) S.nS Z.s := h.2.2.2.2.2.2.2.1
theorem HSt.sg {S : PSt} {Z : PZ} {FI : OhI} {FR GR : OhQ} {AI : OhI} {BR : OhQ} {AN : OhN} (h : HSt S Z FI FR GR AI BR AN) : ∀ s, s < S.nS → HSg (S.sg s) (S.ct s) s (Z.s s) FI FR GR BR AN := h.2.2.2.2.2.2.2.2.1
theorem HSt.caL {S : PSt} {Z : PZ} {FI : OhI} {FR GR : OhQ} {AI : OhI} {BR : OhQ} {AN : OhN} (h : HSt S Z FI FR GR AI BR AN) : hLs FI GR BR AN (311, 0) S.nC Z.c := h.2.2.2.2.2.2.2.2.2.1
theorem HSt.ptL {S : PSt} {Z : PZ} {FI : OhI} {FR GR : OhQ} {AI : OhI} {BR : OhQ} {AN : OhN} (h : HSt S Z FI FR GR AI BR AN) : hLs FI GR BR AN (312, 0) S.nP Z.p := h.2.2.2.2.2.2.2.2.2.2.1
theorem HSt.pt {S : PSt} {Z : PZ} {FI : OhI} {FR GR : OhQ} {AI : OhI} {BR : OhQ} {AN : OhN} (h : HSt S Z FI FR GR AI BR AN) : ∀ k, k < S.nP → ohKd (Z.p k).1 = 15 ∧ FI (Z.p k).1 (Z.p k).2 0 = J ((S.pt k).call : Int) ∧ FI (Z.p k).1 (Z.p k).2 1 = J ((S.pt k).role : Int) ∧ FI (Z.p k).1 (Z.p k).2 2 = J (S.pt k).who ∧ FI (Z.p k).1 (Z.p k).2 3 = J (S.pt k).day ∧ FI (Z.p k).1 (Z.p k).2 4 = bJ (S.pt k).cover := h.2.2.2.2.2.2.2.2.2.2.2.1
theorem HSt.ilL {S : PSt} {Z : PZ} {FI : OhI} {FR GR : OhQ} {AI : OhI} {BR : OhQ} {AN : OhN} (h : HSt S Z FI FR GR AI BR AN) : hLs FI GR BR AN (313, 0) S.nI Z.i := h.2.2.2.2.2.2.2.2.2.2.2.2.1
theorem HSt.il {S : PSt} {Z : PZ} {FI : OhI} {FR GR : OhQ} {AI : OhI} {BR : OhQ} {AN : OhN} (h : HSt S Z FI FR GR AI BR AN) : ∀ k, k < S.nI → ohKd (Z.i k).1 = 16 ∧ FI (Z.i k).1 (Z.i k).2 0 = J ((S.il k).s : Int) ∧ FI (Z.i k).1 (Z.i k).2 1 = J (S.il k).frm ∧ FI (Z.i k).1 (Z.i k).2 2 = J (S.il k).til ∧ FI (Z.i k).1 (Z.i k).2 3 = J (S.il k).day := h.2.2.2.2.2.2.2.2.2.2.2.2.2.1
theorem HSt.leL {S : PSt} {Z : PZ} {FI : OhI} {FR GR : OhQ} {AI : OhI} {BR : OhQ} {AN : OhN} (h : HSt S Z FI FR GR AI BR AN) : hLs FI GR BR AN (314, 0) S.nL Z.l := h.2.2.2.2.2.2.2.2.2.2.2.2.2.2.1
theorem HSt.le {S : PSt} {Z : PZ} {FI : OhI} {FR GR : OhQ} {AI : OhI} {BR : OhQ} {AN : OhN} (h : HSt S Z FI FR GR AI BR AN) : ∀ k, k < S.nL → ohKd (Z.l k).1 = 13 ∧ FI (Z.l k).1 (Z.l k).2 0 = J ((S.le k).s : Int) ∧ FI (Z.l k).1 (Z.l k).2 1 = J ((S.le k).op : Int) ∧ FI (Z.l k).1 (Z.l k).2 2 = J ((S.le k).role : Int) ∧ FI (Z.l k).1 (Z.l k).2 3 = J (S.le k).hours ∧ FI (Z.l k).1 (Z.l k).2 4 = J (S.le k).day := h.2.2.2.2.2.2.2.2.2.2.2.2.2.2.2.1
theorem HSt.oinj {S : PSt} {Z : PZ} {FI : OhI} {FR GR : OhQ} {AI : OhI} {BR : OhQ} {AN : OhN} (h : HSt S Z FI FR GR AI BR AN) : ∀ i j, i < S.nO → j < S.nO → Z.o i = Z.o j → i = j := h.2.2.2.2.2.2.2.2.2.2.2.2.2.2.2.2
def HTb (T : PTb) (Z : PZ) (FI : OhI) (FR GR : OhQ) (AI : OhI) (BR : OhQ) (AN : OhN) : Prop :=
  (HSt T.S Z FI FR GR AI BR AN) ∧
  (∀ c, c < T.all → HCl (T.ca c) c (Z.c c) Z FI FR) ∧
  (∀ i j, i < T.all → j < T.all → Z.c i = Z.c j → i = j) ∧
  (FI 0 0 17 = J (T.all : Int)) ∧
  (FI 0 0 18 = J T.asOf) ∧
  (∀ k, k < T.all → BR 316 0 k = some (Z.c (T.ord k))) ∧
  (∀ c r, c < T.all → r < 8 → AI 419 c r = J (T.cast c r)) ∧
  (∀ c r, c < T.all → r < 8 → AI 420 c r = J (T.ahead c r)) ∧
  (∀ c r, c < T.all → r < 8 → AI 421 c r = J (T.cover c r))
theorem HTb.mk {T : PTb} {Z : PZ} {FI : OhI} {FR GR : OhQ} {AI : OhI} {BR : OhQ} {AN : OhN}
    (toHSt : HSt T.S Z FI FR GR AI BR AN)
    (ca : ∀ c, c < T.all → HCl (T.ca c) c (Z.c c) Z FI FR)
    (cinj : ∀ i j, i < T.all → j < T.all → Z.c i = Z.c j → i = j)
    (ordered : FI 0 0 17 = J (T.all : Int))
    (asOf : FI 0 0 18 = J T.asOf)
    (order : ∀ k, k < T.all → BR 316 0 k = some (Z.c (T.ord k)))
    (cast : ∀ c r, c < T.all → r < 8 → AI 419 c r = J (T.cast c r))
    (ahead : ∀ c r, c < T.all → r < 8 → AI 420 c r = J (T.ahead c r))
    (cover : ∀ c r, c < T.all → r < 8 → AI 421 c r = J (T.cover c r)) :
    HTb T Z FI FR GR AI BR AN := ⟨toHSt, ca, cinj, ordered, asOf, order, cast, ahead, cover⟩
theorem HTb.toHSt {T : PTb} {Z : PZ} {FI : OhI} {FR GR : OhQ} {AI : OhI} {BR : OhQ} {AN : OhN} (h : HTb T Z FI FR GR AI BR AN) : HSt T.S Z FI FR GR AI BR AN := h.1
theorem HTb.ca {T : PTb} {Z : PZ} {FI : OhI} {FR GR : OhQ} {AI : OhI} {BR : OhQ} {AN : OhN} (h : HTb T Z FI FR GR AI BR AN) : ∀ c, c < T.all → HCl (T.ca c) c (Z.c c) Z FI FR := h.2.1
theorem HTb.cinj {T : PTb} {Z : PZ} {FI : OhI} {FR GR : OhQ} {AI : OhI} {BR : OhQ} {AN : OhN} (h : HTb T Z FI FR GR AI BR AN) : ∀ i j, i < T.all → j < T.all → Z.c i = Z.c j → i = j := h.2.2.1
theorem HTb.ordered {T : PTb} {Z : PZ} {FI : OhI} {FR GR : OhQ} {AI : OhI} {BR : OhQ} {AN : OhN} (h : HTb T Z FI FR GR AI BR AN) : FI 0 0 17 = J (T.all : Int) := h.2.2.2.1
theorem HTb.asOf {T : PTb} {Z : PZ} {FI : OhI} {FR GR : OhQ} {AI : OhI} {BR : OhQ} {AN : OhN} (h : HTb T Z FI FR GR AI BR AN) : FI 0 0 18 = J T.asOf := h.2.2.2.2.1
theorem HTb.order {T : PTb} {Z : PZ} {FI : OhI} {FR GR : OhQ} {AI : OhI} {BR : OhQ} {AN : OhN} (h : HTb T Z FI FR GR AI BR AN) : ∀ k, k < T.all → BR 316 0 k = some (Z.c (T.ord k)) := h.2.2.2.2.2.1
theorem HTb.cast {T : PTb} {Z : PZ} {FI : OhI} {FR GR : OhQ} {AI : OhI} {BR : OhQ} {AN : OhN} (h : HTb T Z FI FR GR AI BR AN) : ∀ c r, c < T.all → r < 8 → AI 419 c r = J (T.cast c r) := h.2.2.2.2.2.2.1
theorem HTb.ahead {T : PTb} {Z : PZ} {FI : OhI} {FR GR : OhQ} {AI : OhI} {BR : OhQ} {AN : OhN} (h : HTb T Z FI FR GR AI BR AN) : ∀ c r, c < T.all → r < 8 → AI 420 c r = J (T.ahead c r) := h.2.2.2.2.2.2.2.1
theorem HTb.cover {T : PTb} {Z : PZ} {FI : OhI} {FR GR : OhQ} {AI : OhI} {BR : OhQ} {AN : OhN} (h : HTb T Z FI FR GR AI BR AN) : ∀ c r, c < T.all → r < 8 → AI 421 c r = J (T.cover c r) := h.2.2.2.2.2.2.2.2
theorem HTb.daily {T : PTb} {Z : PZ} {FI : OhI} {FR GR : OhQ} {AI : OhI} {BR : OhQ} {AN : OhN} (h : HTb T Z FI FR GR AI BR AN) : FI 0 0 4 = J T.S.daily := h.toHSt.daily
theorem HTb.weekly {T : PTb} {Z : PZ} {FI : OhI} {FR GR : OhQ} {AI : OhI} {BR : OhQ} {AN : OhN} (h : HTb T Z FI FR GR AI BR AN) : FI 0 0 5 = J T.S.weekly := h.toHSt.weekly
theorem HTb.today {T : PTb} {Z : PZ} {FI : OhI} {FR GR : OhQ} {AI : OhI} {BR : OhQ} {AN : OhN} (h : HTb T Z FI FR GR AI BR AN) : FI 0 0 3 = J T.S.today := h.toHSt.today
theorem HTb.one {T : PTb} {Z : PZ} {FI : OhI} {FR GR : OhQ} {AI : OhI} {BR : OhQ} {AN : OhN} (h : HTb T Z FI FR GR AI BR AN) : ∀ g, g < 4 → AI 307 0 g = J (T.S.one g) := h.toHSt.one
theorem HTb.other {T : PTb} {Z : PZ} {FI : OhI} {FR GR : OhQ} {AI : OhI} {BR : OhQ} {AN : OhN} (h : HTb T Z FI FR GR AI BR AN) : ∀ g, g < 4 → AI 308 0 g = J (T.S.other g) := h.toHSt.other
theorem HTb.opL {T : PTb} {Z : PZ} {FI : OhI} {FR GR : OhQ} {AI : OhI} {BR : OhQ} {AN : OhN} (h : HTb T Z FI FR GR AI BR AN) : hLs FI GR BR AN (309, 0) T.S.nO Z.o := h.toHSt.opL
theorem HTb.op {T : PTb} {Z : PZ} {FI : OhI} {FR GR : OhQ} {AI : OhI} {BR : OhQ} {AN : OhN} (h : HTb T Z FI FR GR AI BR AN) : ∀ o, o < T.S.nO → HOp (T.S.op o) o (Z.o o) FI FR GR AI BR AN := h.toHSt.op
theorem HTb.sgL {T : PTb} {Z : PZ} {FI : OhI} {FR GR : OhQ} {AI : OhI} {BR : OhQ} {AN : OhN} (h : HTb T Z FI FR GR AI BR AN) : hLs FI GR BR AN (310, 0) T.S.nS Z.s := h.toHSt.sgL
theorem HTb.sg {T : PTb} {Z : PZ} {FI : OhI} {FR GR : OhQ} {AI : OhI} {BR : OhQ} {AN : OhN} (h : HTb T Z FI FR GR AI BR AN) : ∀ s, s < T.S.nS → HSg (T.S.sg s) (T.S.ct s) s (Z.s s) FI FR GR BR AN := h.toHSt.sg
theorem HTb.caL {T : PTb} {Z : PZ} {FI : OhI} {FR GR : OhQ} {AI : OhI} {BR : OhQ} {AN : OhN} (h : HTb T Z FI FR GR AI BR AN) : hLs FI GR BR AN (311, 0) T.S.nC Z.c := h.toHSt.caL
theorem HTb.ptL {T : PTb} {Z : PZ} {FI : OhI} {FR GR : OhQ} {AI : OhI} {BR : OhQ} {AN : OhN} (h : HTb T Z FI FR GR AI BR AN) : hLs FI GR BR AN (312, 0) T.S.nP Z.p := h.toHSt.ptL
theorem HTb.pt {T : PTb} {Z : PZ} {FI : OhI} {FR GR : OhQ} {AI : OhI} {BR : OhQ} {AN : OhN} (h : HTb T Z FI FR GR AI BR AN) : ∀ k, k < T.S.nP → ohKd (Z.p k).1 = 15 ∧ FI (Z.p k).1 (Z.p k).2 0 = J ((T.S.pt k).call : Int) ∧ FI (Z.p k).1 (Z.p k).2 1 = J ((T.S.pt k).role : Int) ∧ FI (Z.p k).1 (Z.p k).2 2 = J (T.S.pt k).who ∧ FI (Z.p k).1 (Z.p k).2 3 = J (T.S.pt k).day ∧ FI (Z.p k).1 (Z.p k).2 4 = bJ (T.S.pt k).cover := h.toHSt.pt
theorem HTb.ilL {T : PTb} {Z : PZ} {FI : OhI} {FR GR : OhQ} {AI : OhI} {BR : OhQ} {AN : OhN} (h : HTb T Z FI FR GR AI BR AN) : hLs FI GR BR AN (313, 0) T.S.nI Z.i := h.toHSt.ilL
theorem HTb.il {T : PTb} {Z : PZ} {FI : OhI} {FR GR : OhQ} {AI : OhI} {BR : OhQ} {AN : OhN} (h : HTb T Z FI FR GR AI BR AN) : ∀ k, k < T.S.nI → ohKd (Z.i k).1 = 16 ∧ FI (Z.i k).1 (Z.i k).2 0 = J ((T.S.il k).s : Int) ∧ FI (Z.i k).1 (Z.i k).2 1 = J (T.S.il k).frm ∧ FI (Z.i k).1 (Z.i k).2 2 = J (T.S.il k).til ∧ FI (Z.i k).1 (Z.i k).2 3 = J (T.S.il k).day := h.toHSt.il
theorem HTb.leL {T : PTb} {Z : PZ} {FI : OhI} {FR GR : OhQ} {AI : OhI} {BR : OhQ} {AN : OhN} (h : HTb T Z FI FR GR AI BR AN) : hLs FI GR BR AN (314, 0) T.S.nL Z.l := h.toHSt.leL
theorem HTb.le {T : PTb} {Z : PZ} {FI : OhI} {FR GR : OhQ} {AI : OhI} {BR : OhQ} {AN : OhN} (h : HTb T Z FI FR GR AI BR AN) : ∀ k, k < T.S.nL → ohKd (Z.l k).1 = 13 ∧ FI (Z.l k).1 (Z.l k).2 0 = J ((T.S.le k).s : Int) ∧ FI (Z.l k).1 (Z.l k).2 1 = J ((T.S.le k).op : Int) ∧ FI (Z.l k).1 (Z.l k).2 2 = J ((T.S.le k).role : Int) ∧ FI (Z.l k).1 (Z.l k).2 3 = J (T.S.le k).hours ∧ FI (Z.l k).1 (Z.l k).2 4 = J (T.S.le k).day := h.toHSt.le
theorem HTb.oinj {T : PTb} {Z : PZ} {FI : OhI} {FR GR : OhQ} {AI : OhI} {BR : OhQ} {AN : OhN} (h : HTb T Z FI FR GR AI BR AN) : ∀ i j, i < T.S.nO → j < T.S.nO → Z.o i = Z.o j → i = j := h.toHSt.oinj
theorem oD_of {ci : Nat} {a : Rf} (h : ohKd a.1 = ci) : oD ci (some a) = some a := by unfold oD; simp [h]
section
variable {T : PTb} {Z : PZ} {FI : OhI} {FR GR : OhQ} {AI : OhI} {AR BR : OhQ} {AN : OhN} {n : Nat}
theorem h_isIn {a b c : Int} (h1 : -2147483648 ≤ a) (h2 : a < 2147483648) (h3 : -2147483648 ≤ b) (h4 : b < 2147483648) (h5 : -2147483648 ≤ c) (h6 : c < 2147483648) : mX1_isIn (J a) (J b) (J c) = some (bJ (decide (b ≤ a ∧ a ≤ c))) := by
  apply wp_eq
  unfold mX1_isIn
  ((repeat' (first | ((with_reducible apply wp_let); try dsimp only) | ((with_reducible apply wp_gdJ); (focus (first | ((simp (disch := omega) only [J_lit, J_add, J_sub, J_mul, J_neg, J_n, jle, jlt, jeq, jnn, jnat, Int.toNat_natCast, bJ_0, bJ_1, bft, gd_T, nar_J, nar_0, nar_1, if_true, if_false, Option.bind_some, gd_t]); rfl) | rfl)); (focus (first | exact True.intro | (first | exact vp_J (by omega) (by omega) (by omega) | omega)))) | ((with_reducible apply wp_ifJT); (focus (first | ((simp (disch := omega) only [J_lit, J_add, J_sub, J_mul, J_neg, J_n, jle, jlt, jeq, jnn, jnat, Int.toNat_natCast, bJ_0, bJ_1, bft, gd_T, nar_J, nar_0, nar_1, if_true, if_false, Option.bind_some, gd_t, decide_eq_false_iff_not, decide_eq_true_eq]); rfl) | rfl)); (focus (first | exact True.intro | omega))) | ((with_reducible apply wp_ifJF); (focus (first | ((simp (disch := omega) only [J_lit, J_add, J_sub, J_mul, J_neg, J_n, jle, jlt, jeq, jnn, jnat, Int.toNat_natCast, bJ_0, bJ_1, bft, gd_T, nar_J, nar_0, nar_1, if_true, if_false, Option.bind_some, gd_t, decide_eq_false_iff_not, decide_eq_true_eq]); rfl) | rfl)); (focus (first | exact not_false | omega))) | ((with_reducible apply wp_ifJ); (focus (first | ((simp (disch := omega) only [J_lit, J_add, J_sub, J_mul, J_neg, J_n, jle, jlt, jeq, jnn, jnat, Int.toNat_natCast, bJ_0, bJ_1, bft, gd_T, nar_J, nar_0, nar_1, if_true, if_false, Option.bind_some, gd_t, decide_eq_false_iff_not, decide_eq_true_eq]); rfl) | rfl)); all_goals intro _) | (with_reducible apply wp_some) | ((with_reducible apply wp_eli); try dsimp only) | ((with_reducible apply wp_elr); try dsimp only) | ((with_reducible apply wp_bindE); (focus ((simp (disch := omega) only [J_lit, J_add, J_sub, J_mul, J_neg, J_n, jle, jlt, jeq, jnn, jnat, Int.toNat_natCast, bJ_0, bJ_1, bft, gd_T, nar_J, nar_0, nar_1, if_true, if_false, Option.bind_some, gd_t]); rfl)); try dsimp only) | (with_reducible apply wp_bind))); all_goals (try (simp (disch := omega) only [J_lit, J_add, J_sub, J_mul, J_neg, J_n, jle, jlt, jeq, jnn, jnat, Int.toNat_natCast, bJ_0, bJ_1, bft, gd_T, nar_J, nar_0, nar_1, if_true, if_false, Option.bind_some, gd_t])))
  all_goals (first | (refine bJ_e0 ?_; rw [decide_eq_false_iff_not]; omega) | (refine bJ_e1 ?_; rw [decide_eq_true_eq]; omega))
theorem h_size {t : Rf} {m : Nat} {f : Nat → Rf} (h : hLs FI GR BR AN t m f) : mJ2_size FI t = some (J (m : Int)) := by
  unfold mJ2_size; rw [h.2.1]
theorem h_get {t : Rf} {m k : Nat} {f : Nat → Rf} (h : hLs FI GR BR AN t m f) (hk : k < m) (hm : m < 100000) : mJ2_get FI GR AR BR AN t (J (k : Int)) = some (some (f k)) := by
  obtain ⟨_, h1, a, h2, h3, _, h4, h5⟩ := h
  have e1 := h5 k hk
  have hk2 : ohKd a.1 = 106 := by rcases h3 with h3 | h3; omega; exact h3
  have e2 : oD 106 (GR t.1 t.2 1) = some a := by rw [h2]; exact oD_of hk2
  apply wp_eq
  unfold mJ2_get mJ6_checkIndex mJ7_checkIndex mJ2_elementData
  ((repeat' (first | ((with_reducible apply wp_let); try dsimp only) | ((with_reducible apply wp_gdJ); (focus (first | ((simp (disch := omega) only [J_lit, J_add, J_sub, J_mul, J_neg, J_n, jle, jlt, jeq, jnn, jnat, Int.toNat_natCast, bJ_0, bJ_1, bft, gd_T, nar_J, nar_0, nar_1, if_true, if_false, Option.bind_some, gd_t, h1, e2, e1]); rfl) | rfl)); (focus (first | exact True.intro | (first | exact vp_J (by omega) (by omega) (by omega) | omega)))) | ((with_reducible apply wp_ifJT); (focus (first | ((simp (disch := omega) only [J_lit, J_add, J_sub, J_mul, J_neg, J_n, jle, jlt, jeq, jnn, jnat, Int.toNat_natCast, bJ_0, bJ_1, bft, gd_T, nar_J, nar_0, nar_1, if_true, if_false, Option.bind_some, gd_t, decide_eq_false_iff_not, decide_eq_true_eq, h1, e2, e1]); rfl) | rfl)); (focus (first | exact True.intro | omega))) | ((with_reducible apply wp_ifJF); (focus (first | ((simp (disch := omega) only [J_lit, J_add, J_sub, J_mul, J_neg, J_n, jle, jlt, jeq, jnn, jnat, Int.toNat_natCast, bJ_0, bJ_1, bft, gd_T, nar_J, nar_0, nar_1, if_true, if_false, Option.bind_some, gd_t, decide_eq_false_iff_not, decide_eq_true_eq, h1, e2, e1]); rfl) | rfl)); (focus (first | exact not_false | omega))) | ((with_reducible apply wp_ifJ); (focus (first | ((simp (disch := omega) only [J_lit, J_add, J_sub, J_mul, J_neg, J_n, jle, jlt, jeq, jnn, jnat, Int.toNat_natCast, bJ_0, bJ_1, bft, gd_T, nar_J, nar_0, nar_1, if_true, if_false, Option.bind_some, gd_t, decide_eq_false_iff_not, decide_eq_true_eq, h1, e2, e1]); rfl) | rfl)); all_goals intro _) | (with_reducible apply wp_some) | ((with_reducible apply wp_eli); try dsimp only) | ((with_reducible apply wp_elr); try dsimp only) | ((with_reducible apply wp_bindE); (focus ((simp (disch := omega) only [J_lit, J_add, J_sub, J_mul, J_neg, J_n, jle, jlt, jeq, jnn, jnat, Int.toNat_natCast, bJ_0, bJ_1, bft, gd_T, nar_J, nar_0, nar_1, if_true, if_false, Option.bind_some, gd_t, h1, e2, e1]); rfl)); try dsimp only) | (with_reducible apply wp_bind))); all_goals (try (simp (disch := omega) only [J_lit, J_add, J_sub, J_mul, J_neg, J_n, jle, jlt, jeq, jnn, jnat, Int.toNat_natCast, bJ_0, bJ_1, bft, gd_T, nar_J, nar_0, nar_1, if_true, if_false, Option.bind_some, gd_t, h1, e2, e1])))
theorem h_min {a b : Int} (h1 : -2147483648 ≤ a) (h2 : a < 2147483648) (h3 : -2147483648 ≤ b) (h4 : b < 2147483648) : mJ3_min (J a) (J b) = some (J (min a b)) := by
  apply wp_eq
  unfold mJ3_min
  ((repeat' (first | ((with_reducible apply wp_let); try dsimp only) | ((with_reducible apply wp_gdJ); (focus (first | ((simp (disch := omega) only [J_lit, J_add, J_sub, J_mul, J_neg, J_n, jle, jlt, jeq, jnn, jnat, Int.toNat_natCast, bJ_0, bJ_1, bft, gd_T, nar_J, nar_0, nar_1, if_true, if_false, Option.bind_some, gd_t]); rfl) | rfl)); (focus (first | exact True.intro | (first | exact vp_J (by omega) (by omega) (by omega) | omega)))) | ((with_reducible apply wp_ifJT); (focus (first | ((simp (disch := omega) only [J_lit, J_add, J_sub, J_mul, J_neg, J_n, jle, jlt, jeq, jnn, jnat, Int.toNat_natCast, bJ_0, bJ_1, bft, gd_T, nar_J, nar_0, nar_1, if_true, if_false, Option.bind_some, gd_t, decide_eq_false_iff_not, decide_eq_true_eq]); rfl) | rfl)); (focus (first | exact True.intro | omega))) | ((with_reducible apply wp_ifJF); (focus (first | ((simp (disch := omega) only [J_lit, J_add, J_sub, J_mul, J_neg, J_n, jle, jlt, jeq, jnn, jnat, Int.toNat_natCast, bJ_0, bJ_1, bft, gd_T, nar_J, nar_0, nar_1, if_true, if_false, Option.bind_some, gd_t, decide_eq_false_iff_not, decide_eq_true_eq]); rfl) | rfl)); (focus (first | exact not_false | omega))) | ((with_reducible apply wp_ifJ); (focus (first | ((simp (disch := omega) only [J_lit, J_add, J_sub, J_mul, J_neg, J_n, jle, jlt, jeq, jnn, jnat, Int.toNat_natCast, bJ_0, bJ_1, bft, gd_T, nar_J, nar_0, nar_1, if_true, if_false, Option.bind_some, gd_t, decide_eq_false_iff_not, decide_eq_true_eq]); rfl) | rfl)); all_goals intro _) | (with_reducible apply wp_some) | ((with_reducible apply wp_eli); try dsimp only) | ((with_reducible apply wp_elr); try dsimp only) | ((with_reducible apply wp_bindE); (focus ((simp (disch := omega) only [J_lit, J_add, J_sub, J_mul, J_neg, J_n, jle, jlt, jeq, jnn, jnat, Int.toNat_natCast, bJ_0, bJ_1, bft, gd_T, nar_J, nar_0, nar_1, if_true, if_false, Option.bind_some, gd_t]); rfl)); try dsimp only) | (with_reducible apply wp_bind))); all_goals (try (simp (disch := omega) only [J_lit, J_add, J_sub, J_mul, J_neg, J_n, jle, jlt, jeq, jnn, jnat, Int.toNat_natCast, bJ_0, bJ_1, bft, gd_T, nar_J, nar_0, nar_1, if_true, if_false, Option.bind_some, gd_t])))
  all_goals first | omega | exact congrArg J (by omega)
theorem h_max {a b : Int} (h1 : -2147483648 ≤ a) (h2 : a < 2147483648) (h3 : -2147483648 ≤ b) (h4 : b < 2147483648) : mJ3_max (J a) (J b) = some (J (max a b)) := by
  apply wp_eq
  unfold mJ3_max
  ((repeat' (first | ((with_reducible apply wp_let); try dsimp only) | ((with_reducible apply wp_gdJ); (focus (first | ((simp (disch := omega) only [J_lit, J_add, J_sub, J_mul, J_neg, J_n, jle, jlt, jeq, jnn, jnat, Int.toNat_natCast, bJ_0, bJ_1, bft, gd_T, nar_J, nar_0, nar_1, if_true, if_false, Option.bind_some, gd_t]); rfl) | rfl)); (focus (first | exact True.intro | (first | exact vp_J (by omega) (by omega) (by omega) | omega)))) | ((with_reducible apply wp_ifJT); (focus (first | ((simp (disch := omega) only [J_lit, J_add, J_sub, J_mul, J_neg, J_n, jle, jlt, jeq, jnn, jnat, Int.toNat_natCast, bJ_0, bJ_1, bft, gd_T, nar_J, nar_0, nar_1, if_true, if_false, Option.bind_some, gd_t, decide_eq_false_iff_not, decide_eq_true_eq]); rfl) | rfl)); (focus (first | exact True.intro | omega))) | ((with_reducible apply wp_ifJF); (focus (first | ((simp (disch := omega) only [J_lit, J_add, J_sub, J_mul, J_neg, J_n, jle, jlt, jeq, jnn, jnat, Int.toNat_natCast, bJ_0, bJ_1, bft, gd_T, nar_J, nar_0, nar_1, if_true, if_false, Option.bind_some, gd_t, decide_eq_false_iff_not, decide_eq_true_eq]); rfl) | rfl)); (focus (first | exact not_false | omega))) | ((with_reducible apply wp_ifJ); (focus (first | ((simp (disch := omega) only [J_lit, J_add, J_sub, J_mul, J_neg, J_n, jle, jlt, jeq, jnn, jnat, Int.toNat_natCast, bJ_0, bJ_1, bft, gd_T, nar_J, nar_0, nar_1, if_true, if_false, Option.bind_some, gd_t, decide_eq_false_iff_not, decide_eq_true_eq]); rfl) | rfl)); all_goals intro _) | (with_reducible apply wp_some) | ((with_reducible apply wp_eli); try dsimp only) | ((with_reducible apply wp_elr); try dsimp only) | ((with_reducible apply wp_bindE); (focus ((simp (disch := omega) only [J_lit, J_add, J_sub, J_mul, J_neg, J_n, jle, jlt, jeq, jnn, jnat, Int.toNat_natCast, bJ_0, bJ_1, bft, gd_T, nar_J, nar_0, nar_1, if_true, if_false, Option.bind_some, gd_t]); rfl)); try dsimp only) | (with_reducible apply wp_bind))); all_goals (try (simp (disch := omega) only [J_lit, J_add, J_sub, J_mul, J_neg, J_n, jle, jlt, jeq, jnn, jnat, Int.toNat_natCast, bJ_0, bJ_1, bft, gd_T, nar_J, nar_0, nar_1, if_true, if_false, Option.bind_some, gd_t])))
  all_goals first | omega | exact congrArg J (by omega)
theorem h_abs {a : Int} (h1 : -2147483648 < a) (h2 : a < 2147483648) : mJ3_abs (J a) = some (J (if a < 0 then -a else a)) := by
  apply wp_eq
  unfold mJ3_abs
  ((repeat' (first | ((with_reducible apply wp_let); try dsimp only) | ((with_reducible apply wp_gdJ); (focus (first | ((simp (disch := omega) only [J_lit, J_add, J_sub, J_mul, J_neg, J_n, jle, jlt, jeq, jnn, jnat, Int.toNat_natCast, bJ_0, bJ_1, bft, gd_T, nar_J, nar_0, nar_1, if_true, if_false, Option.bind_some, gd_t]); rfl) | rfl)); (focus (first | exact True.intro | (first | exact vp_J (by omega) (by omega) (by omega) | omega)))) | ((with_reducible apply wp_ifJT); (focus (first | ((simp (disch := omega) only [J_lit, J_add, J_sub, J_mul, J_neg, J_n, jle, jlt, jeq, jnn, jnat, Int.toNat_natCast, bJ_0, bJ_1, bft, gd_T, nar_J, nar_0, nar_1, if_true, if_false, Option.bind_some, gd_t, decide_eq_false_iff_not, decide_eq_true_eq]); rfl) | rfl)); (focus (first | exact True.intro | omega))) | ((with_reducible apply wp_ifJF); (focus (first | ((simp (disch := omega) only [J_lit, J_add, J_sub, J_mul, J_neg, J_n, jle, jlt, jeq, jnn, jnat, Int.toNat_natCast, bJ_0, bJ_1, bft, gd_T, nar_J, nar_0, nar_1, if_true, if_false, Option.bind_some, gd_t, decide_eq_false_iff_not, decide_eq_true_eq]); rfl) | rfl)); (focus (first | exact not_false | omega))) | ((with_reducible apply wp_ifJ); (focus (first | ((simp (disch := omega) only [J_lit, J_add, J_sub, J_mul, J_neg, J_n, jle, jlt, jeq, jnn, jnat, Int.toNat_natCast, bJ_0, bJ_1, bft, gd_T, nar_J, nar_0, nar_1, if_true, if_false, Option.bind_some, gd_t, decide_eq_false_iff_not, decide_eq_true_eq]); rfl) | rfl)); all_goals intro _) | (with_reducible apply wp_some) | ((with_reducible apply wp_eli); try dsimp only) | ((with_reducible apply wp_elr); try dsimp only) | ((with_reducible apply wp_bindE); (focus ((simp (disch := omega) only [J_lit, J_add, J_sub, J_mul, J_neg, J_n, jle, jlt, jeq, jnn, jnat, Int.toNat_natCast, bJ_0, bJ_1, bft, gd_T, nar_J, nar_0, nar_1, if_true, if_false, Option.bind_some, gd_t]); rfl)); try dsimp only) | (with_reducible apply wp_bind))); all_goals (try (simp (disch := omega) only [J_lit, J_add, J_sub, J_mul, J_neg, J_n, jle, jlt, jeq, jnn, jnat, Int.toNat_natCast, bJ_0, bJ_1, bft, gd_T, nar_J, nar_0, nar_1, if_true, if_false, Option.bind_some, gd_t])))
  all_goals (split <;> first | rfl | omega | (exfalso; omega))
end
end
