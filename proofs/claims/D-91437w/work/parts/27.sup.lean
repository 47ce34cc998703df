/-! CORE 16: a method of the superclass is called -/
section VYPA
variable {p : Program} {l : Launch} {e : Env} {R : Room} {s : State} {m : MethodId} {args : Array Value} {below : List Frame} {meth : Method} {c : Code} {T : State} {locs : List Loc} {cells slots : Nat}
theorem vy_callP (X : Stand p l e R s m args below meth c T locs cells slots) (hexec : p.tables.exec = Jvm.exec) {own : String} {index : Nat} {y : MethodName} {bytes : ByteArray} {maxL : Nat} {ret : Option FieldType} {a : Addr}
    (hown : s.vm.findClass own = some m.cls) (hy1 : y.name ≠ "<init>") (hlink : (Cond.methodLink own index y).before args s = true) (hinst : (Cond.instanceMethod y).before args s = true)
    (hcode : (Cond.code y bytes maxL ret).before args s = true) (hsame : (Cond.sameMethod y.cls y.cls y.name y.desc).before args s = true) (hsup : (Cond.superclass own y.cls).before args s = true) (hrecv : ∃ cellB : Cell, T.heap[a]? = some cellB ∧ cellB.vm.isStatics = false ∧ s.vm.findClass own = some cellB.cls) (hy : y.cls ≠ "java/lang/invoke/MethodHandle" ∧ y.cls ≠ "java/lang/invoke/VarHandle")
    {W9 : Nat} {Pre : Pt → Array Value → Prop} {Post : Pt → Array Value → Option Value → Pt → Prop} {PostX : Pt → Array Value → Addr → Pt → Prop} (hK : vy_Back l R p e below s args y 3 W9 Pre Post PostX)
    {g : JFrame} (hg : g.method = m) (hsize : g.locals.size = c.maxLocals) {argsL rest : List Value} (hlen : ∀ sig, parseMethodDescriptor y.desc = some sig → argsL.length = sig.parameters.length)
    (hstack : g.stack = argsL.reverse ++ .ref a :: rest) (hW : 2 * g.monitorRoom + (rest.map fun v => v.category).sum ≤ W9) (hdg : decode c.code g.pc = .ok (.invokespecial index, 3))
    (hpre : ∀ vm₁, s.WarmedH vm₁ → Pre ⟨T.setVm vm₁, locs, cells, slots⟩ (Value.ref a :: argsL).toArray) :
    (∃ (v : Option Value) (vm₁ : Vm) (B : Pt), s.WarmedH vm₁ ∧ Stand p l e R s m args below meth c B.U B.locs B.cells B.slots ∧ Post ⟨T.setVm vm₁, locs, cells, slots⟩ (Value.ref a :: argsL).toArray v B ∧
      ∀ target, Steps p.tables e below (B.U.setTop { g with pc := g.pc + 3, stack := v.toList ++ rest }) target → Steps p.tables e below (T.setTop g) target) ∨
    (∃ (q : Addr) (vm₁ : Vm) (B : Pt), s.WarmedH vm₁ ∧ Stand p l e R s m args below meth c B.U B.locs B.cells B.slots ∧ PostX ⟨T.setVm vm₁, locs, cells, slots⟩ (Value.ref a :: argsL).toArray q B ∧
      Steps p.tables e below (T.setTop g) ((B.U.setTop { g with stack := rest }).pushFrame (.throwing q))) := by
  subst hg
  obtain ⟨r0, r, hn, hrm, hstatic, habs⟩ := Cond.instanceMethod_spec hinst
  obtain ⟨cn, dk, kp, hcn, hdk, hkp, hsuper, -, -, hnid⟩ := Cond.superclass_spec hown hsup
  have hcn' : s.vm.findClass y.cls = some r0.cls := findClass_of_methodNamed hn
  cases hcn.symm.trans hcn'
  obtain ⟨kr, hkr, -⟩ := className_of_methodNamed hn
  have hsub : s.vm.isSubclass r0.cls r0.cls = true := by
    show s.vm.isSubclassAux _ r0.cls r0.cls = true
    unfold Vm.isSubclassAux; simp
  obtain ⟨cell, hc1, hc2, hc3⟩ := hrecv
  have hcls : g.method.cls = cell.cls := Option.some.inj (hown.symm.trans hc3)
  have hsig : argsL.length = r.sig.parameters.length := by
    obtain ⟨methL, cL, hmL, -, -, -, -, -, -, hsigL⟩ := Cond.code_spec hn hcode
    cases hrm.symm.trans hmL
    exact hlen _ hsigL
  obtain ⟨vm₁, X₁, hstep₁⟩ := X.invokespecialUp hexec hown hlink hsame (x := y) hn hrm hstatic habs hy1 hdk hnid hcn hsuper hsub hc1 (fun q hq => by rw [hq] at hc2; cases hc2) (kcell := dk) (by rw [← hcls]; exact hdk) (g := g) rfl hsig hstack hdg
  rcases hK g.method meth c ⟨T.setVm vm₁, locs, cells, slots⟩ { g with stack := rest } (.invokespecial index) r0 (Value.ref a :: argsL).toArray X₁ rfl hsize hdg hW (X₁.named hn) (hpre vm₁ X₁.warmed) with ⟨v, B, X', hpost, hsteps⟩ | ⟨q, B, X', hpost, hsteps⟩
  · exact Or.inl ⟨v, vm₁, B, X₁.warmed, X', hpost, fun target h => hstep₁ _ (hsteps.trans h)⟩
  · exact Or.inr ⟨q, vm₁, B, X₁.warmed, X', hpost, hstep₁ _ hsteps⟩
end VYPA
section VYPB
variable {p : Program} {l : Launch} {e : Env} {R : Room} {s : State} {m : MethodId} {args : Array Value} {below : List Frame} {meth : Method} {c : Code} {H : Heap} {locs : List Loc} {cells slots : Nat}
variable {y : MethodName} {bytes cc : ByteArray} {maxL nL mc ms n index : Nat} {ret : Option FieldType} {ws : List Cond} {rm : Room} {Pc : Array Value → State → Prop} {Qc : Array Value → State → Outcome → State → Prop} {XC : String → Addr → State → State → Prop} {free : Addr → Prop} {Ts : List Cond} {own C : String} {b : Addr} {As rest : List Value} {g : JFrame}
theorem vy_runP (S : CallFix p m c cc nL s args Ts own) (hM : vy_Met l y ws rm Pc Qc XC mc ms free) (cw : CallB R s args own index y bytes maxL ret ws rm mc ms n ∧ y.name ≠ "<init>" ∧ (Cond.instanceMethod y).before args s = true ∧ (Cond.sameMethod y.cls y.cls y.name y.desc).before args s = true ∧ (Cond.superclass own y.cls).before args s = true) (hrv : ∃ cellB : Cell, H[b]? = some cellB ∧ cellB.vm.isStatics = false ∧ s.vm.findClass own = some cellB.cls) (hp : PreS s H Pc (.ref b :: As))
    (hg : g.method = m) (hn : As.length = n) (hsize : g.locals.size = nL) (hstack : g.stack = As.reverse ++ .ref b :: rest) (hW : 2 * g.monitorRoom + (rest.map fun v => v.category).sum ≤ 8) (hdg : decode cc g.pc = .ok (.invokespecial index, 3)) (hf : cells + mc ≤ R.cells ∧ slots + ms ≤ R.slots) :
    vy_Run p l e R s m args below meth c H locs cells slots mc ms g rest (Qc (Value.ref b :: As).toArray) XC free := by
  have hK : vy_Back l R p e below s args y 3 8 (PreOf R mc ms Pc) (PostOf Qc mc ms free) (vy_Post XC mc ms free) := vy_callBack cw.1 hM hp.1
  obtain ⟨⟨-, -, -, -, -, -, hcode, -, hy, hlen, hl⟩, hy1, hin, hsm, hsp⟩ := cw
  obtain ⟨hx, hb, hml, ho, -⟩ := S
  have hPc := hp.2
  intro T hT X
  rcases vy_callP X hx (bytes := bytes) (maxL := maxL) (ret := ret) ho hy1 hl hin hcode hsm hsp (by rw [hT]; exact hrv) hy hK hg (hsize.trans hml.symm) (argsL := As) (rest := rest) (fun sig h => hn.trans (hlen sig h)) hstack hW (by rw [hb]; exact hdg)
    (fun vm₁ hW₁ => ⟨hf.1, hf.2, hPc (T.setVm vm₁) hT hW₁⟩) with ⟨v, vm₁, ⟨U', l2, c2, s2⟩, hW₁, X', ⟨g', mk, t, L, e1, e2, hq, h1, hL, h2, h3⟩, st⟩ | ⟨q, vm₁, ⟨U', l2, c2, s2⟩, hW₁, X', ⟨g', mk, t, L, E, ce, e1, e2, hq, hce, hcv, hcl, h1, hL, h2, h3⟩, st⟩
  · dsimp only [Pt.U, Pt.locs, Pt.cells, Pt.slots] at X' e1 e2 h1 h2 h3 st
    subst h1; subst h2; subst h3
    exact Or.inl ⟨v, (T.setVm vm₁).calling g' mk (Value.ref b :: As).toArray, t, U', L, hT, X', hL, e1, e2, hq, st⟩
  · dsimp only [Pt.U, Pt.locs, Pt.cells, Pt.slots] at X' e1 e2 h1 h2 h3 st hcl
    subst h1; subst h2; subst h3
    exact Or.inr ⟨q, (T.setVm vm₁).calling g' mk (Value.ref b :: As).toArray, t, U', L, E, ce, hT, X', hL, e1, e2, hq, hce, hcv, vy_cls hW₁ hcl, st⟩
end VYPB
section OSP
variable {G : OhG} {d : Nat} {Y : OhM} {pc : Nat} {ls : List (Nat × OhV)} {st : List OhV} {k : Nat × Nat} {Φ : OhP} {Ψ : OhX} {h : OhH}
theorem oX_callP {Y1 : OhM} {d1 idx n ci N : Nat} {T : u_T} {k1 k2 : Nat × Nat} {as rest : List OhV} {a : Nat × Nat} {Φ1 : OhP} {Ψ1 : OhX}
    (dc : decode Y.2.1 pc = .ok (.invokespecial idx, 3)) (hst : st = as.reverse ++ vR (some a) :: rest) (hok : oOk Y1 n) (hn : as.length = n) (hcw : ohCw Y1 = Cond.code Y1.1 Y1.2.1 Y1.2.2.1 Y1.2.2.2.1) (hnm : Y1.1.name ≠ "<init>") (hr : oD ci (some a) = some a) (hc : ohCL[ci]? = some (Y.1.cls, T, N)) (h100 : ci < 100) (w7 : Cond.sameMethod Y1.1.cls Y1.1.cls Y1.1.name Y1.1.desc ∈ lw_all) (w8 : Cond.superclass Y.1.cls Y1.1.cls ∈ lw_all)
    (w1 : Cond.methodLink Y.1.cls idx Y1.1 ∈ lw_all) (w2 : Cond.instanceMethod Y1.1 ∈ lw_all) (w4 : Cond.initialized Y1.1.cls ∈ lw_all) (w5 : Cond.code Y1.1 Y1.2.1 Y1.2.2.1 Y1.2.2.2.1 ∈ lw_all)
    (hd : d1 + 1 ≤ d ∧ Y1.2.2.1 ≤ 45) (h8 : (rest.map fun v => if oIsL v = true then 2 else 1).sum ≤ 8)
    (hT : oT G d1 Y1 (vR (some a) :: as) h k1 Φ1 Ψ1) (kk : ∀ (v : Option OhV) (h' : OhH), Φ1 v h' → oX G d Y (pc + 3) ls (v.toList ++ rest) h' k2 Φ Ψ) (kx : ∀ (E : String) (a : Nat × Nat) (h' : OhH), Ψ1 E a h' → oXt G d Y pc ls rest h' k2 Φ Ψ E a) :
    oX G d Y pc ls st h (k1.1 + k2.1, k1.2 + k2.2) Φ Ψ := by
  intro p e s m args below meth c mc ms ad0 h0 ad H locs cells slots Ls B hE hz hl1 hs1 hS hl hk1 hk2
  subst hst
  obtain ⟨y, cc1, nL1, ret1, hh1⟩ := Y1
  have hwa : ∀ v ∈ vR (some a) :: as, ohWv h v := fun v hv => by
    rcases List.mem_cons.mp hv with rfl | hv
    · exact hs1 _ (List.mem_append_right _ List.mem_cons_self)
    · exact hs1 _ (List.mem_append_left _ (List.mem_reverse.mpr hv))
  have hwr : ∀ v ∈ rest, ohWv h v := fun v hv => hs1 _ (List.mem_append_right _ (List.mem_cons_of_mem _ hv))
  have hM := hT ad hwa
  rw [hcw] at hM
  refine oRun B hE hl1 hwr hS hl (by omega) (by omega) (vy_runP (b := ad a.1 a.2) (As := as.map (gVl ad)) (rest := rest.map (gVl ad)) ⟨B.1, B.2.1, B.2.2.2.2.1, B.2.2.2.2.2.1, B.2.2.2.2.2.2.1⟩ hM ⟨callB_of n B.2.2.2.2.2.2.1 (lw_meth w5) rfl rfl rfl (B.2.2.2.2.2.2.1 _ w4) (B.2.2.2.2.2.2.1 _ w1) hok ⟨by show d1 + 1 ≤ d; omega, by show 8 + (nL1 + 11) + 64 * d1 ≤ 64 * d; have : nL1 ≤ 45 := hd.2; omega⟩, hnm, B.2.2.2.2.2.2.1 _ w2, B.2.2.2.2.2.2.1 _ w7, B.2.2.2.2.2.2.1 _ w8⟩ (oRecv B.2.2.2.2.2.2.2.1 hz (hwa _ List.mem_cons_self a rfl) (oPre_lt (oD_some hr).2 h100) (oD_some hr).2 h100 hc) ⟨oPc_blind, fun U hU hW => ⟨rfl, by rw [hU]; exact hz, ohEnv_moved hW B.2.2.2.2.2.2.2.1⟩⟩ rfl (by rw [List.length_map]; exact hn) hl.1 ?_ (lv_room (oSumLe h8)) dc ⟨by show cells + k1.1 ≤ mc; omega, by show slots + k1.2 ≤ ms; omega⟩) kk kx
  show (as.reverse ++ vR (some a) :: rest).map (gVl ad) = _
  rw [List.map_append, List.map_reverse]; rfl
theorem oX_cP {Y1 : OhM} {d1 idx n ci N : Nat} {T : u_T} {a : Nat × Nat} {as rest : List OhV} {v1 : OhV} {h1 : OhH} (dc : decode Y.2.1 pc = .ok (.invokespecial idx, 3)) (hst : st = as.reverse ++ vR (some a) :: rest) (hok : oOk Y1 n) (hn : as.length = n) (hcw : ohCw Y1 = Cond.code Y1.1 Y1.2.1 Y1.2.2.1 Y1.2.2.2.1) (hnm : Y1.1.name ≠ "<init>") (hr : oD ci (some a) = some a) (hc : ohCL[ci]? = some (Y.1.cls, T, N)) (h100 : ci < 100) (w7 : Cond.sameMethod Y1.1.cls Y1.1.cls Y1.1.name Y1.1.desc ∈ lw_all) (w8 : Cond.superclass Y.1.cls Y1.1.cls ∈ lw_all)
    (w1 : Cond.methodLink Y.1.cls idx Y1.1 ∈ lw_all) (w2 : Cond.instanceMethod Y1.1 ∈ lw_all) (w4 : Cond.initialized Y1.1.cls ∈ lw_all) (w5 : Cond.code Y1.1 Y1.2.1 Y1.2.2.1 Y1.2.2.2.1 ∈ lw_all)
    (hd : d1 + 1 ≤ d ∧ Y1.2.2.1 ≤ 45) (h8 : (rest.map fun v => if oIsL v = true then 2 else 1).sum ≤ 8) (hT : oT G d1 Y1 (vR (some a) :: as) h (0, 0) (fun v h' => v = some v1 ∧ h' = h1) ohNo) (kk : oX G d Y (pc + 3) ls (v1 :: rest) h1 k Φ Ψ) : oX G d Y pc ls st h k Φ Ψ :=
  oX_k (k' := ((0, 0).1 + k.1, (0, 0).2 + k.2)) (by simp) (by simp) (oX_callP (k1 := (0, 0)) (k2 := k) dc hst hok hn hcw hnm hr hc h100 w7 w8 w1 w2 w4 w5 hd h8 hT (fun v h' e => by obtain ⟨rfl, rfl⟩ := e; exact kk) oKx)
end OSP
