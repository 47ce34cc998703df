/-! CORE 17: an inherited method, found by the receiver (vy_callVU, vy_runU: rows of EXCEPTIONS.to-paste, the thrown address told) -/
section
variable {p : Program} {l : Launch} {e : Env} {R : Room} {s : State} {m : MethodId} {args : Array Value} {below : List Frame} {meth : Method} {c : Code} {H : Heap} {locs : List Loc} {cells slots : Nat}
theorem vy_callVU {T : State} {locs : List Loc} {cells slots : Nat} (X : Stand p l e R s m args below meth c T locs cells slots) (hexec : p.tables.exec = Jvm.exec) {own C owner : String} {index : Nat} {x y : MethodName} {bytes : ByteArray} {maxL : Nat} {ret : Option FieldType}
    (hown : s.vm.findClass own = some m.cls) (hlink : (Cond.methodLink own index x).before args s = true) (hsame : (Cond.sameMethod x.cls owner x.name x.desc).before args s = true)
    (hd0 : va_Decl s ⟨owner, x.name, x.desc⟩) (howner : owner ≠ "java/lang/invoke/MethodHandle" ∧ owner ≠ "java/lang/invoke/VarHandle")
    (hsel : (Cond.selects C x y).before args s = true) (hinst : (Cond.instanceMethod y).before args s = true) (hcode : (Cond.code y bytes maxL ret).before args s = true)
    {W : Nat} {Pre : Pt → Array Value → Prop} {Post : Pt → Array Value → Option Value → Pt → Prop} {PostX : Pt → Array Value → Addr → Pt → Prop} (hK : vy_Back l R p e below s args y 3 W Pre Post PostX)
    {b : Addr} {cellB : Cell} (hcell : T.heap[b]? = some cellB) (hobj : cellB.vm.isStatics = false) (hcls : s.vm.findClass C = some cellB.cls)
    {g : JFrame} (hg : g.method = m) (hsize : g.locals.size = c.maxLocals) {argsL rest : List Value} (hlen : ∀ sig, parseMethodDescriptor x.desc = some sig → argsL.length = sig.parameters.length)
    (hstack : g.stack = argsL.reverse ++ .ref b :: rest) (hW : 2 * g.monitorRoom + (rest.map fun v => v.category).sum ≤ W) (hdg : decode c.code g.pc = .ok (.invokevirtual index, 3))
    (hpre : ∀ vm₁, s.WarmedH vm₁ → Pre ⟨T.setVm vm₁, locs, cells, slots⟩ (Value.ref b :: argsL).toArray) :
    (∃ (v : Option Value) (vm₁ : Vm) (B : Pt), s.WarmedH vm₁ ∧ Stand p l e R s m args below meth c B.U B.locs B.cells B.slots ∧ Post ⟨T.setVm vm₁, locs, cells, slots⟩ (Value.ref b :: argsL).toArray v B ∧
      ∀ target, Steps p.tables e below (B.U.setTop { g with pc := g.pc + 3, stack := v.toList ++ rest }) target → Steps p.tables e below (T.setTop g) target) ∨
    (∃ (q : Addr) (vm₁ : Vm) (B : Pt), s.WarmedH vm₁ ∧ Stand p l e R s m args below meth c B.U B.locs B.cells B.slots ∧ PostX ⟨T.setVm vm₁, locs, cells, slots⟩ (Value.ref b :: argsL).toArray q B ∧
      Steps p.tables e below (T.setTop g) ((B.U.setTop { g with stack := rest }).pushFrame (.throwing q))) := by
  obtain ⟨r0, r, hn, hrm, hstR, hsigR⟩ := hd0
  obtain ⟨cn, ck, r1, hcn, hck, hni, hf, hn1⟩ := Cond.sameMethod_found hsame
  cases hn.symm.trans hn1
  obtain ⟨mk, methM, hnamed, hmethM, -, habM⟩ := Cond.instanceMethod_spec hinst
  obtain ⟨c2, r2, m2, q1, q2, q3, q4, kP, hkP, hkPi⟩ := Cond.selects_spec hsel
  cases hcls.symm.trans q1
  cases hf.symm.trans q2
  cases hnamed.symm.trans q3
  have hselP : selectMethod e.platform s.vm cellB.cls r0 = .method mk := by rw [Launch.admits_selectMethod X.admits]; exact q4
  obtain ⟨vm₁, X₁, hstep₁⟩ := X.invokevirtualUp hexec hown hlink hsame howner hn hrm hstR (a := b) (cell := cellB) hcell
    (fun z h => by rw [h] at hobj; cases hobj) hselP hmethM habM hkP hkPi (g := g) hg (argsL := argsL) (rest := rest) (hlen _ hsigR) hstack hdg
  rcases hK m meth c ⟨T.setVm vm₁, locs, cells, slots⟩ { g with stack := rest } (.invokevirtual index) mk (Value.ref b :: argsL).toArray X₁ hg hsize hdg hW (X₁.named hnamed) (hpre vm₁ X₁.warmed) with ⟨v, B, X', hpost, hsteps⟩ | ⟨q, B, X', hpost, hsteps⟩
  · exact Or.inl ⟨v, vm₁, B, X₁.warmed, X', hpost, fun target h => hstep₁ _ fun acts => by rw [doInvoke_state]; exact hsteps.trans h⟩
  · exact Or.inr ⟨q, vm₁, B, X₁.warmed, X', hpost, hstep₁ _ fun acts => by rw [doInvoke_state]; exact hsteps⟩
theorem vy_runU {x y : MethodName} {bytes cc : ByteArray} {maxL nL mc ms n index : Nat} {ret : Option FieldType} {ws : List Cond} {rm : Room} {Pc : Array Value → State → Prop} {Qc : Array Value → State → Outcome → State → Prop} {XC : String → Addr → State → State → Prop} {free : Addr → Prop} {Ts : List Cond} {own C owner : String} {b : Addr} {As rest : List Value} {g : JFrame}
    (S : CallFix p m c cc nL s args Ts own) (hM : vy_Met l y ws rm Pc Qc XC mc ms free) (cw : va_CU R s args own C owner index x y bytes maxL ret ws rm mc ms n) (hp : PreV s H C b Pc As)
    (hg : g.method = m) (hn : As.length = n) (hsize : g.locals.size = nL) (hstack : g.stack = As.reverse ++ .ref b :: rest) (hW : 2 * g.monitorRoom + (rest.map fun v => v.category).sum ≤ 8) (hdg : decode cc g.pc = .ok (.invokevirtual index, 3)) (hf : cells + mc ≤ R.cells ∧ slots + ms ≤ R.slots) :
    vy_Run p l e R s m args below meth c H locs cells slots mc ms g rest (Qc (Value.ref b :: As).toArray) XC free := by
  obtain ⟨hrc, hrs, hfr, hlo, hws, hcw⟩ := cw.back
  have hini := cw.init
  have hK : vy_Back l R p e below s args y 3 8 (PreOf R mc ms Pc) (PostOf Qc mc ms free) (vy_Post XC mc ms free) := vy_back (bytes := bytes) (maxL := maxL) (ret := ret) hM hp.1 hrc hrs hfr hlo hws hcw (fun a' U hW => word_at hW (Or.inl (by first | rfl | simp [Cond.onTables, Cond.keeps, Cond.steady])) hini)
  obtain ⟨hx, hb, hml, ho, -⟩ := S
  obtain ⟨-, ⟨cellB, hcB, hoB, hclB⟩, hPc⟩ := hp
  intro T hT X
  rcases vy_callVU X hx (C := C) (owner := owner) (bytes := bytes) (maxL := maxL) (ret := ret) ho cw.link cw.same cw.decl cw.notMH cw.sel cw.inst cw.code hK (by rw [hT]; exact hcB) hoB hclB hg (hsize.trans hml.symm) (argsL := As) (rest := rest) (fun sig h => hn.trans (cw.len sig h)) hstack hW (by rw [hb]; exact hdg)
    (fun vm₁ hW₁ => ⟨hf.1, hf.2, hPc (T.setVm vm₁) hT hW₁⟩) with ⟨v, vm₁, ⟨U', l2, c2, s2⟩, hW₁, X', ⟨g', mk, t, L, e1, e2, hq, h1, hL, h2, h3⟩, st⟩ | ⟨q, vm₁, ⟨U', l2, c2, s2⟩, hW₁, X', ⟨g', mk, t, L, E, ce, e1, e2, hq, hce, hcv, hcl, h1, hL, h2, h3⟩, st⟩
  · dsimp only [Pt.U, Pt.locs, Pt.cells, Pt.slots] at X' e1 e2 h1 h2 h3 st
    subst h1; subst h2; subst h3
    exact Or.inl ⟨v, (T.setVm vm₁).calling g' mk (Value.ref b :: As).toArray, t, U', L, hT, X', hL, e1, e2, hq, st⟩
  · dsimp only [Pt.U, Pt.locs, Pt.cells, Pt.slots] at X' e1 e2 h1 h2 h3 st hcl
    subst h1; subst h2; subst h3
    exact Or.inr ⟨q, (T.setVm vm₁).calling g' mk (Value.ref b :: As).toArray, t, U', L, E, ce, hT, X', hL, e1, e2, hq, hce, hcv, vy_cls hW₁ hcl, st⟩
end
theorem oDecl {x : MethodName} {b : ByteArray} {L : Nat} {r9 : Option FieldType} {args : Array Value} {s : State} (h1 : (Cond.instanceMethod x).before args s = true) (h2 : (Cond.code x b L r9).before args s = true) : va_Decl s ⟨x.cls, x.name, x.desc⟩ := by
  obtain ⟨r0, r, hn, hrm, hst, -⟩ := Cond.instanceMethod_spec h1
  obtain ⟨methL, cL, hmL, -, -, -, -, -, -, hsigL⟩ := Cond.code_spec hn h2
  cases hrm.symm.trans hmL
  exact ⟨r0, r, hn, hrm, hst, hsigL⟩
section OSU
variable {G : OhG} {d : Nat} {Y : OhM} {pc : Nat} {ls : List (Nat × OhV)} {st : List OhV} {k : Nat × Nat} {Φ : OhP} {Ψ : OhX} {h : OhH}
theorem oX_callU {Y1 : OhM} {x : MethodName} {bx : ByteArray} {Lx : Nat} {rx : Option FieldType} {k1 k2 : Nat × Nat} {d1 idx n ci N : Nat} {C : String} {T : u_T} {as rest : List OhV} {r : OhR} {a : Nat × Nat} {Φ1 : OhP} {Ψ1 : OhX}
    (dc : decode Y.2.1 pc = .ok (.invokevirtual idx, 3)) (hst : st = as.reverse ++ vR r :: rest) (hr : oD ci r = some a) (hc : ohCL[ci]? = some (C, T, N)) (h100 : ci < 100) (hx : x.cls ≠ "java/lang/invoke/MethodHandle" ∧ x.cls ≠ "java/lang/invoke/VarHandle" ∧ (parseMethodDescriptor x.desc).map (fun d => d.parameters.length) = some n) (hok : oOk Y1 n) (hn : as.length = n) (hcw : ohCw Y1 = Cond.code Y1.1 Y1.2.1 Y1.2.2.1 Y1.2.2.2.1)
    (w1 : Cond.methodLink Y.1.cls idx x ∈ lw_all) (w2 : Cond.instanceMethod Y1.1 ∈ lw_all) (w3 : Cond.selects C x Y1.1 ∈ lw_all) (w4 : Cond.initialized Y1.1.cls ∈ lw_all) (w6 : Cond.sameMethod x.cls x.cls x.name x.desc ∈ lw_all) (w7 : Cond.instanceMethod x ∈ lw_all) (w8 : Cond.code x bx Lx rx ∈ lw_all) (w5 : Cond.code Y1.1 Y1.2.1 Y1.2.2.1 Y1.2.2.2.1 ∈ lw_all)
    (hd : d1 + 1 ≤ d ∧ Y1.2.2.1 ≤ 45) (h8 : (rest.map fun v => if oIsL v = true then 2 else 1).sum ≤ 8)
    (hT : oT G d1 Y1 (vR (some a) :: as) h k1 Φ1 Ψ1) (kk : ∀ (v : Option OhV) (h' : OhH), Φ1 v h' → oX G d Y (pc + 3) ls (v.toList ++ rest) h' k2 Φ Ψ) (kx : ∀ (E : String) (a : Nat × Nat) (h' : OhH), Ψ1 E a h' → oXt G d Y pc ls rest h' k2 Φ Ψ E a) :
    oX G d Y pc ls st h (k1.1 + k2.1, k1.2 + k2.2) Φ Ψ := by
  intro p e s m args below meth c mc ms ad0 h0 ad H locs cells slots Ls B hE hz hl1 hs1 hS hl hk1 hk2
  subst hst
  obtain ⟨rfl, hk⟩ := oD_some hr
  obtain ⟨y, cc1, nL1, ret1, hh1⟩ := Y1
  have hwa : ∀ v ∈ vR (some a) :: as, ohWv h v := fun v hv => by
    rcases List.mem_cons.mp hv with rfl | hv
    · exact hs1 _ (List.mem_append_right _ List.mem_cons_self)
    · exact hs1 _ (List.mem_append_left _ (List.mem_reverse.mpr hv))
  have hwr : ∀ v ∈ rest, ohWv h v := fun v hv => hs1 _ (List.mem_append_right _ (List.mem_cons_of_mem _ hv))
  have hM := hT ad hwa
  rw [hcw] at hM
  have hpr := oPre_lt hk h100
  have hrv := oRecv B.2.2.2.2.2.2.2.1 hz (hwa _ List.mem_cons_self a rfl) hpr hk h100 hc
  refine oRun B hE hl1 hwr hS hl (by omega) (by omega) (vy_runU (x := x) (owner := x.cls) (b := ad a.1 a.2) (As := as.map (gVl ad)) (rest := rest.map (gVl ad)) ⟨B.1, B.2.1, B.2.2.2.2.1, B.2.2.2.2.2.1, B.2.2.2.2.2.2.1⟩ hM ⟨⟨rfl, rfl, by show d1 + 1 ≤ d; omega, by show 8 + (nL1 + 11) + 64 * d1 ≤ 64 * d; have : nL1 ≤ 45 := hd.2; omega, pay_in B.2.2.2.2.2.2.1 (lw_meth w5), List.mem_cons_self⟩, B.2.2.2.2.2.2.1 _ w5, B.2.2.2.2.2.2.1 _ w4, ⟨hx.1, hx.2.1⟩, fun sig h => by have h2 := hx.2.2; rw [h] at h2; exact (Option.some.inj h2).symm, B.2.2.2.2.2.2.1 _ w1, B.2.2.2.2.2.2.1 _ w6, oDecl (B.2.2.2.2.2.2.1 _ w7) (B.2.2.2.2.2.2.1 _ w8), B.2.2.2.2.2.2.1 _ w3, B.2.2.2.2.2.2.1 _ w2⟩ ⟨oPc_blind, hrv, fun U hU hW => ⟨rfl, by rw [hU]; exact hz, ohEnv_moved hW B.2.2.2.2.2.2.2.1⟩⟩ rfl (by rw [List.length_map]; exact hn) hl.1 ?_ (lv_room (oSumLe h8)) dc ⟨by show cells + k1.1 ≤ mc; omega, by show slots + k1.2 ≤ ms; omega⟩) kk kx
  show (as.reverse ++ vR (some a) :: rest).map (gVl ad) = _
  rw [List.map_append, List.map_reverse]; rfl
theorem oX_cU {Y1 : OhM} {x : MethodName} {bx : ByteArray} {Lx : Nat} {rx : Option FieldType} {d1 idx n ci N : Nat} {C : String} {T : u_T} {r : OhR} {a : Nat × Nat} {as rest : List OhV} {h1 : OhH} {v1 : OhV} (dc : decode Y.2.1 pc = .ok (.invokevirtual idx, 3)) (hst : st = as.reverse ++ vR r :: rest) (hr : oD ci r = some a) (hc : ohCL[ci]? = some (C, T, N)) (h100 : ci < 100) (hx : x.cls ≠ "java/lang/invoke/MethodHandle" ∧ x.cls ≠ "java/lang/invoke/VarHandle" ∧ (parseMethodDescriptor x.desc).map (fun d => d.parameters.length) = some n) (hok : oOk Y1 n) (hn : as.length = n) (hcw : ohCw Y1 = Cond.code Y1.1 Y1.2.1 Y1.2.2.1 Y1.2.2.2.1) (w1 : Cond.methodLink Y.1.cls idx x ∈ lw_all) (w2 : Cond.instanceMethod Y1.1 ∈ lw_all) (w3 : Cond.selects C x Y1.1 ∈ lw_all) (w4 : Cond.initialized Y1.1.cls ∈ lw_all) (w6 : Cond.sameMethod x.cls x.cls x.name x.desc ∈ lw_all) (w7 : Cond.instanceMethod x ∈ lw_all) (w8 : Cond.code x bx Lx rx ∈ lw_all) (w5 : Cond.code Y1.1 Y1.2.1 Y1.2.2.1 Y1.2.2.2.1 ∈ lw_all)
    (hd : d1 + 1 ≤ d ∧ Y1.2.2.1 ≤ 45) (h8 : (rest.map fun v => if oIsL v = true then 2 else 1).sum ≤ 8) (hT : oT G d1 Y1 (vR (some a) :: as) h (0, 0) (fun v h' => v = some v1 ∧ h' = h1) ohNo) (kk : oX G d Y (pc + 3) ls (v1 :: rest) h1 k Φ Ψ) : oX G d Y pc ls st h k Φ Ψ :=
  oX_k (k' := ((0, 0).1 + k.1, (0, 0).2 + k.2)) (by simp) (by simp) (oX_callU (k1 := (0, 0)) (k2 := k) dc hst hr hc h100 hx hok hn hcw w1 w2 w3 w4 w6 w7 w8 w5 hd h8 hT (fun v h' e => by obtain ⟨rfl, rfl⟩ := e; exact kk) oKx)
theorem oX_cU_ {Y1 : OhM} {x : MethodName} {bx : ByteArray} {Lx : Nat} {rx : Option FieldType} {d1 idx n ci N : Nat} {C : String} {T : u_T} {r : OhR} {a : Nat × Nat} {as rest : List OhV} {h1 : OhH} (dc : decode Y.2.1 pc = .ok (.invokevirtual idx, 3)) (hst : st = as.reverse ++ vR r :: rest) (hr : oD ci r = some a) (hc : ohCL[ci]? = some (C, T, N)) (h100 : ci < 100) (hx : x.cls ≠ "java/lang/invoke/MethodHandle" ∧ x.cls ≠ "java/lang/invoke/VarHandle" ∧ (parseMethodDescriptor x.desc).map (fun d => d.parameters.length) = some n) (hok : oOk Y1 n) (hn : as.length = n) (hcw : ohCw Y1 = Cond.code Y1.1 Y1.2.1 Y1.2.2.1 Y1.2.2.2.1) (w1 : Cond.methodLink Y.1.cls idx x ∈ lw_all) (w2 : Cond.instanceMethod Y1.1 ∈ lw_all) (w3 : Cond.selects C x Y1.1 ∈ lw_all) (w4 : Cond.initialized Y1.1.cls ∈ lw_all) (w6 : Cond.sameMethod x.cls x.cls x.name x.desc ∈ lw_all) (w7 : Cond.instanceMethod x ∈ lw_all) (w8 : Cond.code x bx Lx rx ∈ lw_all) (w5 : Cond.code Y1.1 Y1.2.1 Y1.2.2.1 Y1.2.2.2.1 ∈ lw_all)
    (hd : d1 + 1 ≤ d ∧ Y1.2.2.1 ≤ 45) (h8 : (rest.map fun v => if oIsL v = true then 2 else 1).sum ≤ 8) (hT : oT G d1 Y1 (vR (some a) :: as) h (0, 0) (fun v h' => v = none ∧ h' = h1) ohNo) (kk : oX G d Y (pc + 3) ls rest h1 k Φ Ψ) : oX G d Y pc ls st h k Φ Ψ :=
  oX_k (k' := ((0, 0).1 + k.1, (0, 0).2 + k.2)) (by simp) (by simp) (oX_callU (k1 := (0, 0)) (k2 := k) dc hst hr hc h100 hx hok hn hcw w1 w2 w3 w4 w6 w7 w8 w5 hd h8 hT (fun v h' e => by obtain ⟨rfl, rfl⟩ := e; exact kk) oKx)
end OSU
