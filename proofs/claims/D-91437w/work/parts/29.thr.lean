/-! CORE 18: the constructor of an exception's superclass, on an object that was made before (after vx_ctorMade0, vx_make0 of EXCEPTIONS.to-paste) -/
section OTH0
variable {p : Program} {l : Launch} {e : Env} {R : Room} {s : State} {m : MethodId} {args : Array Value} {below : List Frame} {meth : Method} {c : Code} {H : Heap} {locs : List Loc} {cells slots : Nat}
theorem oBack9 {T S : State} {R' : Room} {k n : Nat} {L : List Loc} (X : Stand p l e R s m args below meth c T locs cells slots) (Y : Stand p l e R' ((T.setVm s.vm).setFrames (.invoking m args :: below)) m args below meth c T [] 0 0) (Z : Stand p l e R' ((T.setVm s.vm).setFrames (.invoking m args :: below)) m args below meth c S L k n) :
    Stand p l e R s m args below meth c S (locs ++ L) (cells + k) (slots + n) := by
  have hW0 : s.WarmedH ((T.setVm s.vm).setFrames (.invoking m args :: below)).vm := State.WarmedH.refl s
  refine { admits := X.admits, cas := X.cas, clock := X.clock, frames := X.frames, room := X.room, hears := X.hears, method := X.method, code := X.code, here := Z.here, tail := Z.tail, warmed := State.WarmedH.trans hW0 Z.warmed, limits := Z.limits.trans (Y.limits.symm.trans X.limits), bytes := Z.bytes.trans (Y.bytes.symm.trans X.bytes), same := ?_ }
  obtain ⟨e1, e2⟩ := Z.same
  rw [State.setFrames_setFrames] at e1
  have h2 : (T.setVm s.vm).sameButNew (S.setVm s.vm) L k n := ⟨e1, e2⟩
  exact X.same.trans h2
end OTH0
def ohExL (own : String) (ic : Nat) (cls : String) (names : List String) (Cn : String) (n : Nat) : List Cond :=
  Bundle.throwableAtoms ++ Bundle.chain0Atoms cls names ++
  [.methodLink own ic (Bundle.init0 cls), .instanceMethod (Bundle.init0 cls), .code (Bundle.init0 cls) Bundle.five 1 none, .instantiable Cn n, .selects Cn Bundle.tFill0 Bundle.tFill0, .selects Cn Bundle.tFill Bundle.tFill,
   .lays Cn Bundle.tN "cause" "Ljava/lang/Throwable;", .lays Cn Bundle.tN "stackTrace" Bundle.steD, .lays Cn Bundle.tN "suppressedExceptions" Bundle.listD,
   .isRef (.static Bundle.tN "UNASSIGNED_STACK" Bundle.steD), .isRef (.static Bundle.tN "SUPPRESSED_SENTINEL" Bundle.listD),
   .fieldLink Bundle.tN 198 Bundle.tN "backtrace" "Ljava/lang/Object;", .lays Bundle.tN Bundle.tN "backtrace" "Ljava/lang/Object;", .lays Cn Bundle.tN "backtrace" "Ljava/lang/Object;"]
section OTH
variable {G : OhG} {d : Nat} {Y : OhM} {pc : Nat} {ls : List (Nat × OhV)} {st : List OhV} {k : Nat × Nat} {Φ : OhP} {Ψ : OhX}
variable {FI AI : OhI} {FL AL : OhL} {FR GR AR BR : OhQ} {AN : OhN} {C : OhC}
set_option maxHeartbeats 4000000 in
theorem oX_thr {ic ci N n : Nat} {cls Cn : String} {names : List String} {T0 : u_T} {tyf : Nat → FieldType} {r : OhR} {a : Nat × Nat} (dc : decode Y.2.1 pc = .ok (.invokespecial ic, 3)) (hr : oD ci r = some a) (hc : ohCL[ci]? = some (Cn, T0, N)) (hN : ohNf ci = N) (h100 : ci < 100)
    (hin : ∀ w ∈ u_ws Cn T0 N, w ∈ lw_all) (hty : ∀ k, k < N → parseFieldDescriptor (T0 k).2.2.1 = some (tyf k)) (hnm : ∀ a, a < N → ∀ b, b < N → a ≠ b → (T0 a).2.1 ≠ (T0 b).2.1)
    (hcls : Bundle.fit cls = true) (hnames : ∀ n ∈ names, Bundle.fit n = true)
    (hL : ∀ w ∈ (ohExL Y.1.cls ic cls names Cn n).filter vx_no, w ∈ lw_tbl ∧ vx_ot w = true ∧ (goodWord w = true ∨ ∃ x, w = .declares x))
    (h5 : 4 < N) (f0 : T0 0 = (Bundle.tN, "cause", "Ljava/lang/Throwable;", false)) (f1 : T0 1 = (Bundle.tN, "stackTrace", Bundle.steD, false)) (f2 : T0 2 = (Bundle.tN, "suppressedExceptions", Bundle.listD, false)) (f4 : T0 4 = (Bundle.tN, "backtrace", "Ljava/lang/Object;", false))
    (ht0 : ohTrk ci 0 = false) (ht1 : ohTrk ci 1 = false) (ht2 : ohTrk ci 2 = false) (ht4 : ohTrk ci 4 = true) (hk4 : ohFk ci 4 = 3) (hnull : GR a.1 a.2 4 = none)
    (hd : names.length + 4 ≤ d) (h8 : (st.map fun v => if oIsL v = true then 2 else 1).sum ≤ 8) (h64 : 13 * (names.length + 1) + 50 ≤ 64 * d)
    (kk : oX G d Y (pc + 3) ls st (FI, FL, FR, GR, AI, AL, AR, BR, AN, C) k Φ Ψ) : oX G d Y pc ls (vR r :: st) (FI, FL, FR, GR, AI, AL, AR, BR, AN, C) k Φ Ψ := by
  intro p e s m args below meth c mc ms ad0 h0 ad H locs cells slots Ls B hE hz hl1 hs1 hS hl hk1 hk2
  obtain ⟨rfl, hkd⟩ := oD_some hr
  have hla : ohLive (FI, FL, FR, GR, AI, AL, AR, BR, AN, C) a := oW_h hs1 a rfl
  have hp := oPre_lt hkd h100
  have hat0 := hz.2.2.1 a.1 a.2 hla hp
  have hat := hat0.1
  unfold ohAt at hat
  rw [hkd, if_pos h100, hN] at hat
  obtain ⟨V, ⟨cell, q1, q2, q3, q4⟩, hV, cell', m0, m1, m2⟩ := hat
  cases q1.symm.trans m0
  have hap := va_apart (own := Y.1.cls) B.2.2.2.2.2.2.1 hin tyf hty hnm B.2.2.2.2.2.2.2.1.1 hc
  obtain ⟨hSl, hfc, kX, hkX, hkind⟩ := B.2.2.2.2.2.2.2.1.1.1 ci _ hc
  have h9 : ((st.map (gVl ad)).map fun v => v.category).sum ≤ 8 := oSumLe h8
  intro T hT X
  subst hT
  have htr : e.platform.stackTraces = false := (show e.platform.stackTraces = G.1.stackTraces by rw [X.admits.platform]).trans B.2.2.2.2.2.2.2.1.2.2.2.2.2.2.2.2.2.2
  have Y0 := vx_rebase X (R' := { frames := d, locals := 64 * d, cells := 0, slots := 0 }) (Nat.le_refl _) (Nat.le_refl _) (by show cells + 0 ≤ mc; omega) (by show slots + 0 ≤ ms; omega)
  obtain ⟨s', hA'⟩ : ∃ z, z = (T.setVm s.vm).setFrames (.invoking m args :: below) := ⟨_, rfl⟩
  rw [← hA'] at Y0
  have hvm : s'.vm = s.vm := by rw [hA']; rfl
  have hhp : s'.heap = T.heap := by rw [hA']; rfl
  have hff : ∀ x y z, s'.fieldFound? x y z = s.fieldFound? x y z := fun x y z => by rw [hA']; rfl
  have hW0 : s.WarmedH s'.vm := by rw [hvm]; exact State.WarmedH.refl s
  have hh00 : ∀ q : Nat, q < G.2.2.2.2.1.size → ¬ (G.2.2.2.1 ≤ q) → T.heap[q]? = G.2.2.2.2.1[q]? := fun q _ hn => hz.2.1 q (Nat.not_le.mp hn)
  have hU' : vx_Zq Bundle.tN "UNASSIGNED_STACK" Bundle.steD (fun a => G.2.2.2.1 ≤ a) s' s'.heap := by rw [hhp]; exact vx_Zq.moved hW0.alike (vx_Zq.kept B.2.2.2.2.2.2.2.1.2.2.2.2.1 hh00)
  have hN' : vx_Zq Bundle.tN "SUPPRESSED_SENTINEL" Bundle.listD (fun a => G.2.2.2.1 ≤ a) s' s'.heap := by rw [hhp]; exact vx_Zq.moved hW0.alike (vx_Zq.kept B.2.2.2.2.2.2.2.1.2.2.2.2.2.1 hh00)
  have hw : ∀ w ∈ (ohExL Y.1.cls ic cls names Cn n).filter vx_no, w.before args s' = true := fun w hw => by
    obtain ⟨g1, g2, g3⟩ := hL w hw
    refine vx_ot_at (args := args) hW0 hvm.symm g2 ?_
    rcases g3 with g3 | ⟨x, rfl⟩
    · exact B.2.2.2.2.2.2.1 _ (lw_g g1 g3)
    · exact va_Nw.use rfl (B.2.2.2.2.2.2.2.1.2.1.2.2.2.1 _ g1)
  have h : ∀ w ∈ ohExL Y.1.cls ic cls names Cn n, w.before args s' = true := vx_own hw (vx_isRefq hU'.1) (vx_isRefq hN'.1) hU'.2.word hN'.2.word
  have hown : s'.vm.findClass Y.1.cls = some m.cls := by rw [hvm]; exact B.2.2.2.2.2.1
  have howns : e.platform.frameOwnsMonitors = true := by rw [Y0.admits.platform]
  have hfin : e.platform.finalization = false := by rw [Y0.admits.platform]
  have hpl : e.platform.magicAccessors = ({} : Platform).magicAccessors := by rw [Y0.admits.platform]
  have a' : ∀ x, x ∈ ohExL Y.1.cls ic cls names Cn n → x.holds args s' none s' [] = true := fun x hx => h x hx
  obtain ⟨TT, Z, L, LZ, YY⟩ := ThrowableC.of_atoms (args := args) howns hfin hpl (fun x hx => h x (by simp [ohExL, hx]))
  obtain ⟨P1, Ps, hlen, L1, hL1, hP1m, hlink1, hlink⟩ := Bundle.chain0 (args := args) hpl YY.init0 names cls hcls hnames (fun x hx => h x (by simp [ohExL, hx]))
  have hfcC : s'.vm.findClass Cn = some cell.cls := by rw [hvm, q2]; exact hfc
  have hkX' : s'.vm.classes[cell.cls]? = some kX := by rw [hvm, q2]; exact hkX
  have hsel0 : selectMethod e.platform s'.vm cell.cls TT.fill0 = .method TT.fill0 := by
    obtain ⟨c2, r2, m2', w1, w2, w3, w4, -⟩ := Cond.selects_spec (a' (.selects Cn Bundle.tFill0 Bundle.tFill0) (by simp [ohExL]))
    cases Option.some.inj (w1.symm.trans hfcC)
    cases Option.some.inj (w2.symm.trans (State.methodFound?_of_named YY.fill0 (by decide)))
    cases Option.some.inj (w3.symm.trans YY.fill0)
    rw [Launch.admits_selectMethod Y0.admits]; exact w4
  have hselF : selectMethod e.platform s'.vm cell.cls TT.fill = .method TT.fill := by
    obtain ⟨c2, r2, m2', w1, w2, w3, w4, -⟩ := Cond.selects_spec (a' (.selects Cn Bundle.tFill Bundle.tFill) (by simp [ohExL]))
    cases Option.some.inj (w1.symm.trans hfcC)
    cases Option.some.inj (w2.symm.trans (State.methodFound?_of_named YY.fill (by decide)))
    cases Option.some.inj (w3.symm.trans YY.fill)
    rw [Launch.admits_selectMethod Y0.admits]; exact w4
  obtain ⟨cellS0, hcS0, hiss⟩ := YY.statics
  obtain ⟨u0, hu0⟩ := Cond.staticRefV YY.unassigned L.unassignedStatic L.statics hcS0 hiss (a' (.isRef (.static Bundle.tN "UNASSIGNED_STACK" Bundle.steD)) (by simp [ohExL]))
  obtain ⟨sen, hsen⟩ := Cond.staticRefV YY.sentinel L.sentinelStatic L.statics hcS0 hiss (a' (.isRef (.static Bundle.tN "SUPPRESSED_SENTINEL" Bundle.listD)) (by simp [ohExL]))
  obtain ⟨ci198, i198, fB, hk198, hg198, ha198, hsB, -, hnB, htB, hffB⟩ := Cond.ownField (t := .object "java/lang/Object") YY.found L.cls (by decide +kernel) (a' (.fieldLink Bundle.tN 198 Bundle.tN "backtrace" "Ljava/lang/Object;") (by simp [ohExL])) (a' (.lays Bundle.tN Bundle.tN "backtrace" "Ljava/lang/Object;") (by simp [ohExL])) e.platform hpl
  have hcellS : T.heap[TT.aS]? = some cellS0 := by rw [← hhp]; exact hcS0
  have hneS : TT.aS ≠ ad a.1 a.2 := fun e9 => by
    rw [e9] at hcellS
    cases hcellS.symm.trans q1
    rw [q3] at hiss; cases hiss
  have hknownS : cellS0.vm ≠ .unknown := fun hu => by rw [hu] at hiss; cases hiss
  obtain ⟨tyC, -⟩ := Cond.laysAt hfcC hkX' YY.cause (a' (.lays Cn Bundle.tN "cause" "Ljava/lang/Throwable;") (by simp [ohExL]))
  obtain ⟨tyS, -⟩ := Cond.laysAt hfcC hkX' YY.stack (a' (.lays Cn Bundle.tN "stackTrace" Bundle.steD) (by simp [ohExL]))
  obtain ⟨tyP, -⟩ := Cond.laysAt hfcC hkX' YY.supp (a' (.lays Cn Bundle.tN "suppressedExceptions" Bundle.listD) (by simp [ohExL]))
  have sl : ∀ (k9 : Nat) (x y z : String) (b9 : Bool) (c9 : ClassId) (kk9 : Class) (i9 : Nat) (fd9 : Field), k9 < N → T0 k9 = (x, y, z, b9) → s'.fieldFound? x y z = some (c9, kk9, i9, fd9) → fd9.slot = G.2.1.2 ci k9 := by
    intro k9 x y z b9 c9 kk9 i9 fd9 hk9 hT9 hf9
    obtain ⟨cf, kf, fi, fd, hi, hsl⟩ := hSl k9 hk9
    have hi : s.fieldFound? (T0 k9).1 (T0 k9).2.1 (T0 k9).2.2.1 = some (cf, kf, fi, fd) := hi
    rw [hT9] at hi
    rw [hff] at hf9
    have e9 := hi.symm.trans hf9
    simp only [Option.some.injEq, Prod.mk.injEq] at e9
    rw [← e9.2.2.2]; exact hsl
  have eC := sl 0 _ _ _ _ _ _ _ _ (by omega) f0 YY.cause
  have eS := sl 1 _ _ _ _ _ _ _ _ (by omega) f1 YY.stack
  have eP := sl 2 _ _ _ _ _ _ _ _ (by omega) f2 YY.supp
  have eB := sl 4 _ _ _ _ _ _ _ _ h5 f4 hffB
  have g1 := t_set q4 hap (show 0 < N by omega) (Value.ref (ad a.1 a.2))
  have g2 := t_set g1 hap (show 1 < N by omega) u0.v
  have g3 := t_set g2 hap (show 2 < N by omega) sen.v
  have g4 := t_set g3 hap (show 1 < N by omega) u0.v
  have hV4 : V 4 = .null := by
    rw [hV 4 h5 ht4]
    unfold ohFv
    rw [if_neg (by rw [hk4]; decide), if_neg (by rw [hk4]; decide), if_neg (by rw [hk4]; decide)]
    show gRf ad (GR a.1 a.2 4) = _
    rw [hnull]; rfl
  have hprep : preparedCellV TT.toThrowableT cell (ad a.1 a.2) u0 sen = ((cell.setSlot (G.2.1.2 ci 0) (.ref (ad a.1 a.2))).setSlot (G.2.1.2 ci 1) u0.v).setSlot (G.2.1.2 ci 2) sen.v := by
    rw [← eC, ← eS, ← eP]
    first | done | rfl
  have hskip : SkipFacts TT e.platform s' (fun u => u) u0 ((preparedCellV TT.toThrowableT cell (ad a.1 a.2) u0 sen).withEntry T.cur) :=
    ⟨{ ci198 := ci198, i198 := i198, fBack := fB }, ⟨hk198, hg198, ha198, hsB⟩, by
      rw [hprep, eB]
      have := g3 4 h5
      rw [show updV (updV (updV V 0 (Value.ref (ad a.1 a.2))) 1 u0.v) 2 sen.v 4 = V 4 by simp [updV], hV4] at this
      exact this, fun _ _ => rfl⟩
  have dc' : decode c.code pc = .ok (.invokespecial ic, 3) := by rw [B.2.1]; exact dc
  obtain ⟨tm, methC, cdC, kC, vm₁, hnC, -, -, -, -, -, -, -, hW₁, st1⟩ := Steps.initCold (tb := p.tables) (e := e) (below := below) (s := s') (U := T) Y0.here B.1 Y0.warmed hpl hown (t := Bundle.init0 cls) rfl rfl (Bundle.fit_spec hcls).2
    (a' (.methodLink Y.1.cls ic (Bundle.init0 cls)) (by simp [ohExL])) (h (.instanceMethod (Bundle.init0 cls)) (by simp [ohExL])) (bytes := Bundle.five) (maxL := 1) (h (.code (Bundle.init0 cls) Bundle.five 1 none) (by simp [ohExL]))
    (f := F0 m pc Ls (.ref (ad a.1 a.2) :: st.map (gVl ad))) rfl (a := ad a.1 a.2) (rest := st.map (gVl ad)) rfl dc'
  cases Option.some.inj (hnC.symm.trans hP1m)
  have X₁ := Y0.noted hW₁
  have tk : ∀ (f : Field) (v : Value), kX.instanceTypes[f.slot]? = some f.type → f.slot < cell.slots.size → fits f.type v = true → Takes s' cell f v := fun f v t1 t2 t3 => by
    refine ⟨t2, ?_⟩
    simp [State.fitsSlot, State.slotType?, hkX', hkind, q3, t1, t3]
  obtain ⟨vm₂, X₂, st2⟩ := X₁.ctorPlainOffV B.1 (g := F0 m pc Ls (st.map (gVl ad))) rfl (hl.1.trans B.2.2.2.2.1.symm) TT L Z LZ (P1 :: Ps)
    (fun P hP => by rcases List.mem_cons.mp hP with rfl | hP; exact L1; exact hL1 P hP) ⟨hlink1, hlink⟩ (u0 := u0) (sen := sen) (self := ad a.1 a.2) (cell := cell) (cellS := cellS0)
    q1 (fun _ h => by rw [q3] at h; cases h) (by rw [q3]; simp) m1 m2 hsel0 hselF hcellS hneS hknownS hu0 hsen
    (tk _ _ tyC (by rw [eC]; exact k2_hasslot (q4 0 (by omega))) (by rw [YY.causeType]; rfl)) (tk _ _ tyS (by rw [eS]; exact k2_hasslot (q4 1 (by omega))) (by rw [YY.stackType]; exact fits_refV_array _ u0)) (tk _ _ tyP (by rw [eP]; exact k2_hasslot (q4 2 (by omega))) (by rw [YY.suppType]; exact fits_refV_object _ sen)) YY.objLocals hskip htr [] dc'
    (by show (P1 :: Ps).length + 2 < d; simp only [List.length_cons, hlen]; omega) (by show 2 * 0 + _ + (13 * (P1 :: Ps).length + 41) ≤ 64 * d; simp only [List.length_cons, hlen]; omega)
  rw [hprep, eS] at X₂ st2
  generalize hce : (((cell.setSlot (G.2.1.2 ci 0) (.ref (ad a.1 a.2))).setSlot (G.2.1.2 ci 1) u0.v).setSlot (G.2.1.2 ci 2) sen.v).setSlot (G.2.1.2 ci 1) u0.v = ce at X₂ st2 g4
  generalize hU : ((T.setVm vm₁).setVm vm₂).setCell (ad a.1 a.2) ce = U at X₂ st2
  subst hA'
  have X5 := oBack9 X Y0 X₂
  have hlt : ad a.1 a.2 < T.heap.size := (Array.getElem?_eq_some_iff.mp q1).1
  have hheap : U.heap = T.heap.setIfInBounds (ad a.1 a.2) ce := by rw [← hU]; rfl
  have e1 : U.heap[ad a.1 a.2]? = some ce := by rw [hheap]; simp [Array.getElem?_setIfInBounds, hlt]
  have e3 : ∀ q : Nat, q ≠ ad a.1 a.2 → U.heap[q]? = T.heap[q]? := fun q hq => by rw [hheap]; simp [Array.getElem?_setIfInBounds, Ne.symm hq]
  have e2 : U.heap.size = T.heap.size := by rw [hheap]; simp
  have hat' : ohAt G ad (FI, FL, FR, GR, AI, AL, AR, BR, AN, C) U.heap a.1 a.2 := by
    unfold ohAt
    rw [hkd, if_pos h100, hN]
    refine ⟨_, ⟨ce, e1, by rw [← hce]; exact q2, by rw [← hce]; exact q3, g4⟩, fun j hj ht => ?_, ce, e1, by rw [← hce]; exact m1, by rw [← hce]; exact m2⟩
    have n0 : j ≠ 0 := fun e9 => by rw [e9, ht0] at ht; cases ht
    have n1 : j ≠ 1 := fun e9 => by rw [e9, ht1] at ht; cases ht
    have n2 : j ≠ 2 := fun e9 => by rw [e9, ht2] at ht; cases ht
    simp only [updV, if_neg n0, if_neg n1, if_neg n2]
    exact hV j hj ht
  have hz' := ohCz_put hz hla hp (h' := (FI, FL, FR, GR, AI, AL, AR, BR, AN, C)) rfl e2 e3 (fun _ _ _ => ohEq.rf) hat' hz.2.2.2.2.2.2
  obtain ⟨t, a1, b1⟩ := kk p e s m args below meth c mc ms ad0 h0 ad U.heap _ cells slots Ls B hE hz' hl1 (oW_t hs1) ⟨by rw [e2]; exact hS.1, fun q z1 z2 => by
      rw [e3 q (fun e9 => z2 (by rw [e9]; exact hat0.2))]
      exact hS.2.1 q z1 z2, fun q hq => by
      rcases List.mem_append.mp hq with h | h
      · exact hS.2.2 q h
      · simp only [List.nil_append, List.mem_cons, List.not_mem_nil, or_false] at h
        rcases h with rfl | rfl | rfl | rfl <;> exact hat0.2⟩ hl hk1 hk2 U rfl X5
  exact ⟨t, st1 _ (fun acts => by rw [doInvoke_state]; exact st2 _ a1), b1⟩
end OTH
