/-! CORE 8: a method's contract out of its body; calls -/
def ohArgs : Nat → List OhV → List (Nat × OhV)
  | _, [] => []
  | i, v :: vs => (i, v) :: ohArgs (if oIsL v = true then i + 2 else i + 1) vs
def ohArgW : List OhV → Nat
  | [] => 0
  | v :: vs => (if oIsL v = true then 2 else 1) + ohArgW vs
theorem ohArgs_map (ad : Nat → Nat → Nat) : ∀ (vs : List OhV) (i : Nat), lv_args i (vs.map (gVl ad)) = (ohArgs i vs).map fun q => (q.1, gVl ad q.2)
  | [], _ => rfl
  | v :: vs, i => by
    have h := oIsL_cat v ad
    simp only [List.map_cons, lv_args, ohArgs]
    rw [ohArgs_map ad vs]
    congr 3
    by_cases h9 : oIsL v = true
    · rw [h9] at h
      rw [if_pos h9, if_pos (eq_of_beq h)]
    · rw [if_neg h9, if_neg (fun e => h9 (by rw [← h]; exact beq_iff_eq.mpr e))]
theorem ohArgW_len (ad : Nat → Nat → Nat) : ∀ (vs : List OhV), (lg_sl (vs.map (gVl ad))).length = ohArgW vs
  | [] => rfl
  | v :: vs => by
    have h := oIsL_cat v ad
    have ih := ohArgW_len ad vs
    unfold lg_sl at ih ⊢
    simp only [List.map_cons, List.flatMap_cons, List.length_append, ohArgW]
    rw [ih]
    by_cases h9 : oIsL v = true
    · rw [h9] at h
      rw [if_pos h9, if_pos (eq_of_beq h)]; rfl
    · rw [if_neg h9, if_neg (fun e => h9 (by rw [← h]; exact beq_iff_eq.mpr e))]; rfl
theorem ohArgs_mem : ∀ (vs : List OhV) (i : Nat) (q : Nat × OhV), q ∈ ohArgs i vs → q.2 ∈ vs
  | [], _, q, h => by cases h
  | v :: vs, i, q, h => by
    rcases List.mem_cons.mp h with rfl | h
    · exact List.mem_cons_self
    · exact List.mem_cons_of_mem _ (ohArgs_mem vs _ q h)
section OC
variable {G : OhG} {d : Nat} {Y : OhM} {pc : Nat} {ls : List (Nat × OhV)} {st : List OhV} {h : OhH} {k : Nat × Nat} {Φ : OhP} {Ψ : OhX}
theorem oT_ofM {as : List OhV} (hp : plainFor Y.1 = true) (hh : Y.2.2.2.2 = []) (hn : ohArgW as ≤ Y.2.2.1) (hX : oX G d Y 0 (ohArgs 0 as) [] h k Φ Ψ) : oT G d Y as h k Φ Ψ := by
  obtain ⟨y, cc, nL, ret, hs⟩ := Y
  obtain rfl : hs = [] := hh
  intro ad hwf
  refine vy_ofW (cc := cc) (maxL := nL) (ret := ret) hp rfl ?_
  intro p e s m args below meth c s₁ B hml ht hv
  obtain ⟨rfl, hz, hEnv⟩ := hv
  have hts := atoms_spec (ws := ws_ y cc nL ret) B.pre
  have hts : ∀ w ∈ lw_all, w.before _ s = true := fun w h => hts w (List.mem_cons_of_mem _ h)
  have hl := lv_entry (as.map (gVl ad)) (n := nL) (by rw [ohArgW_len]; exact hn)
  rw [ohArgs_map] at hl
  rw [lg_entry_eq]
  have hnm : meth.name = y.name := (name_of_methodNamed B.named B.method).1
  have htab : c.exceptionTable.toList = tableOf [] := by
    cases h9 : c.exceptionTable.toList with
    | nil => rfl
    | cons x xs => exact (ht x (by rw [h9]; exact List.mem_cons_self)).elim
  exact hX p e s m _ below meth c k.1 k.2 ad h ad s.heap [] 0 0 _ ⟨B.exec, B.bytes, B.returns, B.notSynchronized, hml, findClass_of_methodNamed B.named, hts, hEnv, hnm, htab⟩ ⟨fun _ _ _ => rfl, fun _ => Nat.le_refl _⟩ hz (fun q hq => hwf q.2 (ohArgs_mem as 0 q hq)) (fun v hv => by cases hv) va_S.rf hl (by omega) (by omega)
theorem oT_of {as : List OhV} (hp : plainName Y.1.cls = true) (hh : Y.2.2.2.2 = []) (hn : ohArgW as ≤ Y.2.2.1) (hX : oX G d Y 0 (ohArgs 0 as) [] h k Φ Ψ) : oT G d Y as h k Φ Ψ := oT_ofM (plainFor_of_name hp) hh hn hX
theorem oT_ofH {as : List OhV} {z : Nat × Nat × Nat × Nat} {zs : List (Nat × Nat × Nat × Nat)} (hp : plainFor Y.1 = true) (hh : Y.2.2.2.2 = z :: zs) (hn : ohArgW as ≤ Y.2.2.1) (hX : oX G d Y 0 (ohArgs 0 as) [] h k Φ Ψ) : oT G d Y as h k Φ Ψ := by
  obtain ⟨y, cc, nL, ret, hs⟩ := Y
  obtain rfl : hs = z :: zs := hh
  intro ad hwf
  refine vy_ofWH (cc := cc) (maxL := nL) (ret := ret) (hh := z :: zs) hp rfl ?_
  intro p e s m args below meth c s₁ B hml hv
  obtain ⟨rfl, hz, hEnv⟩ := hv
  have hts0 := atoms_spec (ws := Cond.codeWith y cc nL ret (z :: zs) :: lw_all) B.pre
  have hts : ∀ w ∈ lw_all, w.before _ s = true := fun w h => hts0 w (List.mem_cons_of_mem _ h)
  have hl := lv_entry (as.map (gVl ad)) (n := nL) (by rw [ohArgW_len]; exact hn)
  rw [ohArgs_map] at hl
  rw [lg_entry_eq]
  have hnm : meth.name = y.name := (name_of_methodNamed B.named B.method).1
  have htab : c.exceptionTable.toList = tableOf (z :: zs) := vx_table (x := y) B (hts0 _ List.mem_cons_self)
  exact hX p e s m _ below meth c k.1 k.2 ad h ad s.heap [] 0 0 _ ⟨B.exec, B.bytes, B.returns, B.notSynchronized, hml, findClass_of_methodNamed B.named, hts, hEnv, hnm, htab⟩ ⟨fun _ _ _ => rfl, fun _ => Nat.le_refl _⟩ hz (fun q hq => hwf q.2 (ohArgs_mem as 0 q hq)) (fun v hv => by cases hv) va_S.rf hl (by omega) (by omega)
/-- the frame at pc, with what stands at a thrown over it -/
def oXt (G : OhG) (d : Nat) (Y : OhM) (pc : Nat) (ls : List (Nat × OhV)) (st : List OhV) (h : OhH) (k : Nat × Nat) (Φ : OhP) (Ψ : OhX) (E : String) (a : Nat × Nat) : Prop :=
  ∀ (p : Program) (e : Env) (s : State) (m : MethodId) (args : Array Value) (below : List Frame) (meth : Method) (c : Code) (mc ms : Nat) (ad0 : Nat → Nat → Nat) (h0 : OhH) (ad : Nat → Nat → Nat) (H : Heap) (locs : List Loc) (cells slots : Nat) (Ls : Array Slot) (ce : Cell),
    oB G Y p s m args meth c → ohExt ad0 h0 ad h → ohCz G ad h H → (∀ q ∈ ls, ohWv h q.2) → ohLive h a → va_S (ohA G) s.heap H locs → lv_has Ls Y.2.2.1 (ls.map fun q => (q.1, gVl ad q.2)) → cells + k.1 ≤ mc → slots + k.2 ≤ ms →
    H[ad a.1 a.2]? = some ce → ce.vm = .none → s.vm.findClass E = some ce.cls →
    vy_W p G.1 e (ohRm d (mc, ms)) s m args below meth c H locs cells slots (vy_MQ below (ohQn G ad0 h0 Φ) (ohQx G ad0 h0 Ψ) args s mc ms (ohA G)) (F0 m pc Ls (st.map (gVl ad))) (ad a.1 a.2)
theorem ohWr_mono {h h' : OhH} (hc : ∀ s, hC h s ≤ hC h' s) {r : OhR} (w : ohWr h r) : ohWr h' r := fun a ha => Nat.lt_of_lt_of_le (w a ha) (hc _)
theorem ohWv_mono {h h' : OhH} (hc : ∀ s, hC h s ≤ hC h' s) {v : OhV} (w : ohWv h v) : ohWv h' v := by
  rcases v with x | x | r
  · trivial
  · trivial
  · exact ohWr_mono hc w
theorem ohExt_trans {ad0 ad1 ad2 : Nat → Nat → Nat} {h0 h1 h2 : OhH} (e1 : ohExt ad0 h0 ad1 h1) (e2 : ohExt ad1 h1 ad2 h2) : ohExt ad0 h0 ad2 h2 :=
  ⟨fun s i hi => (e2.1 s i (Nat.lt_of_lt_of_le hi (e1.2 s))).trans (e1.1 s i hi), fun s => Nat.le_trans (e1.2 s) (e2.2 s)⟩
theorem oPc_blind {as : List OhV} {ad : Nat → Nat → Nat} : FrameBlind (va_Pc (as.map (gVl ad)) (fun U => ohCz G ad h U.heap ∧ ohEnv G U)) := by
  intro a U g mk q
  obtain ⟨q0, q1, q2⟩ := q
  exact ⟨q0, q1, ohEnv_vm (u := U) (U := U.calling g mk a) rfl q2⟩
/-- behind any call: what the callee's contract says, in this frame -/
theorem oRun {p : Program} {e : Env} {s : State} {m : MethodId} {args : Array Value} {below : List Frame} {meth : Method} {c : Code} {mc ms : Nat} {ad0 : Nat → Nat → Nat} {h0 : OhH} {ad : Nat → Nat → Nat} {H : Heap} {locs : List Loc} {cells slots : Nat} {Ls : Array Slot}
    {k1 k2 : Nat × Nat} {Φ1 : OhP} {Ψ1 : OhX} {a9 : Array Value} {st0 : List Value} {rest : List OhV}
    (B : oB G Y p s m args meth c) (hE : ohExt ad0 h0 ad h) (hl1 : ∀ q ∈ ls, ohWv h q.2) (hs1 : ∀ v ∈ rest, ohWv h v) (hS : va_S (ohA G) s.heap H locs) (hl : lv_has Ls Y.2.2.1 (ls.map fun q => (q.1, gVl ad q.2))) (hk1 : cells + (k1.1 + k2.1) ≤ mc) (hk2 : slots + (k1.2 + k2.2) ≤ ms)
    (hr : vy_Run p G.1 e (ohRm d (mc, ms)) s m args below meth c H locs cells slots k1.1 k1.2 (F0 m pc Ls st0) (rest.map (gVl ad)) (ohQn G ad h Φ1 a9) (ohQx G ad h Ψ1) (ohA G))
    (kk : ∀ (v : Option OhV) (h' : OhH), Φ1 v h' → oX G d Y (pc + 3) ls (v.toList ++ rest) h' k2 Φ Ψ) (kx : ∀ (E : String) (a : Nat × Nat) (h' : OhH), Ψ1 E a h' → oXt G d Y pc ls rest h' k2 Φ Ψ E a) :
    W p G.1 e (ohRm d (mc, ms)) s m args below meth c H locs cells slots (vy_MQ below (ohQn G ad0 h0 Φ) (ohQx G ad0 h0 Ψ) args s mc ms (ohA G)) (F0 m pc Ls st0) := by
  intro T hT X
  have hA : ∀ q, q < H.size → ohA G q → ohA G q := fun _ _ h => h
  have hf : ∀ q, ohA G q → ohA G q := fun _ h => h
  rcases hr T hT X with ⟨v0, st₀, t, T', L, e0, X', hL, e1, e2, ⟨v, ad', h', hv, hΦ, hz', hE', hw', hF⟩, stp⟩ | ⟨q, st₀, t, T', L, E, ce, e0, X', hL, e1, e2, ⟨a, ad', h', hq, hla, hΨ, hz', hE', hF⟩, hce, hcv, hcl, stp⟩
  · obtain ⟨-, -, k3⟩ := vy_keep e0 e1 hS hA hf hL hF
    have hv0 : v0 = v.map (gVl ad') := by
      have := Outcome.returned.inj hv
      exact this
    have hrest : rest.map (gVl ad) = rest.map (gVl ad') := List.map_congr_left fun x hx => (gVl_congr (hs1 x hx) hE'.1).symm
    have hlm : (ls.map fun q => (q.1, gVl ad q.2)) = ls.map fun q => (q.1, gVl ad' q.2) := List.map_congr_left fun x hx => by rw [gVl_congr (hl1 x hx) hE'.1]
    rw [hlm] at hl
    have hst : v0.toList ++ rest.map (gVl ad) = (v.toList ++ rest).map (gVl ad') := by
      rw [hv0, hrest, List.map_append]
      cases v <;> rfl
    rw [← e1] at hz'
    obtain ⟨t2, a1, b1⟩ := kk v h' hΦ p e s m args below meth c mc ms ad0 h0 ad' T'.heap (locs ++ L) (cells + k1.1) (slots + k1.2) Ls B (ohExt_trans hE hE') hz' (fun q hq => ohWv_mono hE'.2 (hl1 q hq)) (fun x hx => by
      rcases List.mem_append.mp hx with h9 | h9
      · cases v with
        | none => cases h9
        | some w => rw [List.mem_singleton.mp h9]; exact hw' w rfl
      · exact ohWv_mono hE'.2 (hs1 x h9)) k3 hl (by omega) (by omega) T' rfl X'
    refine ⟨t2, stp t2 ?_, b1⟩
    rw [show ({ F0 m pc Ls st0 with pc := (F0 m pc Ls st0).pc + 3, stack := v0.toList ++ rest.map (gVl ad) } : JFrame) = F0 m (pc + 3) Ls ((v.toList ++ rest).map (gVl ad')) by rw [← hst]]
    exact a1
  · obtain ⟨-, -, k3⟩ := vy_keep e0 e1 hS hA hf hL hF
    have hrest : rest.map (gVl ad) = rest.map (gVl ad') := List.map_congr_left fun x hx => (gVl_congr (hs1 x hx) hE'.1).symm
    have hlm : (ls.map fun q => (q.1, gVl ad q.2)) = ls.map fun q => (q.1, gVl ad' q.2) := List.map_congr_left fun x hx => by rw [gVl_congr (hl1 x hx) hE'.1]
    rw [hlm] at hl
    rw [← e1] at hz'
    subst hq
    obtain ⟨t2, a1, b1⟩ := kx E a h' hΨ p e s m args below meth c mc ms ad0 h0 ad' T'.heap (locs ++ L) (cells + k1.1) (slots + k1.2) Ls ce B (ohExt_trans hE hE') hz' (fun q hq => ohWv_mono hE'.2 (hl1 q hq)) hla k3 hl (by omega) (by omega) (by rw [e1]; exact hce) hcv hcl T' rfl X'
    refine ⟨t2, stp.trans ?_, b1⟩
    rw [hrest]
    exact a1
end OC
section OC2
variable {G : OhG} {d : Nat} {Y : OhM} {pc : Nat} {ls : List (Nat × OhV)} {st : List OhV} {h : OhH} {k1 k2 : Nat × Nat} {Φ : OhP} {Ψ : OhX}
/-- the object of class ci that a reference is -/
def oD (ci : Nat) (r : OhR) : OhR := match r with
  | none => none
  | some a => if ohKd a.1 = ci then some a else none
theorem oD_some {ci : Nat} {r : OhR} {a : Nat × Nat} (e : oD ci r = some a) : r = some a ∧ ohKd a.1 = ci := by
  cases r with
  | none => cases e
  | some b =>
    unfold oD at e
    by_cases h9 : ohKd b.1 = ci
    · simp only [if_pos h9] at e
      cases e
      exact ⟨rfl, h9⟩
    · simp only [if_neg h9] at e
      cases e
/-- what is known of a callee: where it lies, its arguments -/
def oOk (y : OhM) (n : Nat) : Prop := y.1.cls ≠ "java/lang/invoke/MethodHandle" ∧ y.1.cls ≠ "java/lang/invoke/VarHandle" ∧ (parseMethodDescriptor y.1.desc).map (fun d => d.parameters.length) = some n
theorem oRecv {C : String} {T : u_T} {N ci : Nat} {ad : Nat → Nat → Nat} {H : Heap} {s : State} {a : Nat × Nat} (hEnv : ohEnv G s) (hz : ohCz G ad h H) (hla : ohLive h a) (hp : ohPre a.1 = false) (hk : ohKd a.1 = ci) (h100 : ci < 100) (hc : ohCL[ci]? = some (C, T, N)) :
    ∃ cellB : Cell, H[ad a.1 a.2]? = some cellB ∧ cellB.vm.isStatics = false ∧ s.vm.findClass C = some cellB.cls := by
  have h1 := (hz.2.2.1 a.1 a.2 hla hp).1
  unfold ohAt at h1
  rw [hk, if_pos h100] at h1
  obtain ⟨V, ⟨cell, g1, g2, g3, -⟩, -⟩ := h1
  exact ⟨cell, g1, by rw [g3]; rfl, by rw [g2]; exact (hEnv.1.1 ci _ hc).2.1⟩
theorem oPre_lt {s ci : Nat} (hk : ohKd s = ci) (h100 : ci < 100) : ohPre s = false := by
  unfold ohPre
  rw [hk]
  exact decide_eq_false (by omega)
theorem oSumLe {ad : Nat → Nat → Nat} {rest : List OhV} (h : (rest.map fun v => if oIsL v = true then 2 else 1).sum ≤ 8) : ((rest.map (gVl ad)).map fun v => v.category).sum ≤ 8 := by
  have e : (rest.map (gVl ad)).map (fun v => v.category) = rest.map fun v => if oIsL v = true then 2 else 1 := by
    rw [List.map_map]
    refine List.map_congr_left fun v _ => ?_
    simp only [Function.comp]
    rcases v with x | x | r
    · rfl
    · rfl
    · cases r <;> rfl
  rw [e]; exact h
/-- a call of a method of an object of a known class -/
theorem oX_callV {Y1 : OhM} {d1 idx n ci N : Nat} {C : String} {T : u_T} {as rest : List OhV} {r : OhR} {a : Nat × Nat} {Φ1 : OhP} {Ψ1 : OhX}
    (dc : decode Y.2.1 pc = .ok (.invokevirtual idx, 3)) (hst : st = as.reverse ++ vR r :: rest) (hr : oD ci r = some a) (hc : ohCL[ci]? = some (C, T, N)) (h100 : ci < 100) (hcls : Y1.1.cls = C) (hok : oOk Y1 n) (hn : as.length = n) (hcw : ohCw Y1 = Cond.code Y1.1 Y1.2.1 Y1.2.2.1 Y1.2.2.2.1)
    (w1 : Cond.methodLink Y.1.cls idx Y1.1 ∈ lw_all) (w2 : Cond.instanceMethod Y1.1 ∈ lw_all) (w3 : Cond.selects C Y1.1 Y1.1 ∈ lw_all) (w4 : Cond.initialized C ∈ lw_all) (w5 : Cond.code Y1.1 Y1.2.1 Y1.2.2.1 Y1.2.2.2.1 ∈ lw_all)
    (hd : d1 + 1 ≤ d ∧ Y1.2.2.1 ≤ 45) (h8 : (rest.map fun v => if oIsL v = true then 2 else 1).sum ≤ 8)
    (hT : oT G d1 Y1 (vR (some a) :: as) h k1 Φ1 Ψ1) (kk : ∀ (v : Option OhV) (h' : OhH), Φ1 v h' → oX G d Y (pc + 3) ls (v.toList ++ rest) h' k2 Φ Ψ) (kx : ∀ (E : String) (a : Nat × Nat) (h' : OhH), Ψ1 E a h' → oXt G d Y pc ls rest h' k2 Φ Ψ E a) :
    oX G d Y pc ls st h (k1.1 + k2.1, k1.2 + k2.2) Φ Ψ := by
  intro p e s m args below meth c mc ms ad0 h0 ad H locs cells slots Ls B hE hz hl1 hs1 hS hl hk1 hk2
  subst hst
  obtain ⟨rfl, hk⟩ := oD_some hr
  obtain ⟨y, cc1, nL1, ret1, hh1⟩ := Y1
  have hwa : ∀ v ∈ vR (some a) :: as, ohWv h v := fun v hv => by
    rcases List.mem_cons.mp hv with rfl | hv
    · exact hs1 _ (List.mem_append_right _ List.mem_cons_self)
    · exact hs1 _ (List.mem_append_left _ (List.mem_reverse.mpr hv))
  have hwr : ∀ v ∈ rest, ohWv h v := fun v hv => hs1 _ (List.mem_append_right _ (List.mem_cons_of_mem _ hv))
  have hM := hT ad hwa
  rw [hcw] at hM
  have hpr := oPre_lt hk h100
  have hcl : y.cls = C := hcls
  have hrv := oRecv B.2.2.2.2.2.2.2.1 hz (hwa _ List.mem_cons_self a rfl) hpr hk h100 hc
  refine oRun B hE hl1 hwr hS hl (by omega) (by omega) (vy_runV (b := ad a.1 a.2) (As := as.map (gVl ad)) (rest := rest.map (gVl ad)) ⟨B.1, B.2.1, B.2.2.2.2.1, B.2.2.2.2.2.1, B.2.2.2.2.2.2.1⟩ hM (cwV n B.2.2.2.2.2.2.1 (lw_V w1 w2 w3 w4 w5) rfl rfl rfl ⟨hcl, hok⟩ ⟨by show d1 + 1 ≤ d; omega, by show 8 + (nL1 + 11) + 64 * d1 ≤ 64 * d; have : nL1 ≤ 45 := hd.2; omega⟩) ⟨oPc_blind, hrv, fun U hU hW => ⟨rfl, by rw [hU]; exact hz, ohEnv_moved hW B.2.2.2.2.2.2.2.1⟩⟩ rfl (by rw [List.length_map]; exact hn) hl.1 ?_ (lv_room (oSumLe h8)) dc ⟨by show cells + k1.1 ≤ mc; omega, by show slots + k1.2 ≤ ms; omega⟩) kk kx
  show (as.reverse ++ vR (some a) :: rest).map (gVl ad) = _
  rw [List.map_append, List.map_reverse]; rfl
/-- .. of a method of no object -/
theorem oX_callS {Y1 : OhM} {d1 idx n : Nat} {as rest : List OhV} {Φ1 : OhP} {Ψ1 : OhX}
    (dc : decode Y.2.1 pc = .ok (.invokestatic idx, 3)) (hst : st = as.reverse ++ rest) (hok : oOk Y1 n) (hn : as.length = n) (hcw : ohCw Y1 = Cond.code Y1.1 Y1.2.1 Y1.2.2.1 Y1.2.2.2.1)
    (w1 : Cond.methodLink Y.1.cls idx Y1.1 ∈ lw_all) (w2 : Cond.static Y1.1 ∈ lw_all) (w4 : Cond.initialized Y1.1.cls ∈ lw_all) (w5 : Cond.code Y1.1 Y1.2.1 Y1.2.2.1 Y1.2.2.2.1 ∈ lw_all)
    (hd : d1 + 1 ≤ d ∧ Y1.2.2.1 ≤ 45) (h8 : (rest.map fun v => if oIsL v = true then 2 else 1).sum ≤ 8)
    (hT : oT G d1 Y1 as h k1 Φ1 Ψ1) (kk : ∀ (v : Option OhV) (h' : OhH), Φ1 v h' → oX G d Y (pc + 3) ls (v.toList ++ rest) h' k2 Φ Ψ) (kx : ∀ (E : String) (a : Nat × Nat) (h' : OhH), Ψ1 E a h' → oXt G d Y pc ls rest h' k2 Φ Ψ E a) :
    oX G d Y pc ls st h (k1.1 + k2.1, k1.2 + k2.2) Φ Ψ := by
  intro p e s m args below meth c mc ms ad0 h0 ad H locs cells slots Ls B hE hz hl1 hs1 hS hl hk1 hk2
  subst hst
  obtain ⟨y, cc1, nL1, ret1, hh1⟩ := Y1
  have hwa : ∀ v ∈ as, ohWv h v := fun v hv => hs1 _ (List.mem_append_left _ (List.mem_reverse.mpr hv))
  have hwr : ∀ v ∈ rest, ohWv h v := fun v hv => hs1 _ (List.mem_append_right _ hv)
  have hM := hT ad hwa
  rw [hcw] at hM
  refine oRun B hE hl1 hwr hS hl (by omega) (by omega) (vy_runS (As := as.map (gVl ad)) (rest := rest.map (gVl ad)) ⟨B.1, B.2.1, B.2.2.2.2.1, B.2.2.2.2.2.1, B.2.2.2.2.2.2.1⟩ hM (va_cwS n B.2.2.2.2.2.2.1 (lw_S w1 w2 w4 w5) rfl rfl rfl hok ⟨by show d1 + 1 ≤ d; omega, by show 8 + (nL1 + 11) + 64 * d1 ≤ 64 * d; have : nL1 ≤ 45 := hd.2; omega⟩) ⟨oPc_blind, fun U hU hW => ⟨rfl, by rw [hU]; exact hz, ohEnv_moved hW B.2.2.2.2.2.2.2.1⟩⟩ rfl (by rw [List.length_map]; exact hn) hl.1 ?_ (lv_room (oSumLe h8)) dc ⟨by show cells + k1.1 ≤ mc; omega, by show slots + k1.2 ≤ ms; omega⟩) kk kx
  show (as.reverse ++ rest).map (gVl ad) = _
  rw [List.map_append, List.map_reverse]
/-- .. of a constructor -/
theorem oX_callI {Y1 : OhM} {d1 idx n : Nat} {as rest : List OhV} {a : Nat × Nat} {Φ1 : OhP} {Ψ1 : OhX}
    (dc : decode Y.2.1 pc = .ok (.invokespecial idx, 3)) (hst : st = as.reverse ++ vR (some a) :: rest) (hok : oOk Y1 n) (hn : as.length = n) (hcw : ohCw Y1 = Cond.code Y1.1 Y1.2.1 Y1.2.2.1 none) (hnm : Y1.1.name = "<init>")
    (w1 : Cond.methodLink Y.1.cls idx Y1.1 ∈ lw_all) (w2 : Cond.instanceMethod Y1.1 ∈ lw_all) (w4 : Cond.initialized Y1.1.cls ∈ lw_all) (w5 : Cond.code Y1.1 Y1.2.1 Y1.2.2.1 none ∈ lw_all)
    (hd : d1 + 1 ≤ d ∧ Y1.2.2.1 ≤ 45) (h8 : (rest.map fun v => if oIsL v = true then 2 else 1).sum ≤ 8)
    (hT : oT G d1 Y1 (vR (some a) :: as) h k1 Φ1 Ψ1) (kk : ∀ (v : Option OhV) (h' : OhH), Φ1 v h' → oX G d Y (pc + 3) ls (v.toList ++ rest) h' k2 Φ Ψ) (kx : ∀ (E : String) (a : Nat × Nat) (h' : OhH), Ψ1 E a h' → oXt G d Y pc ls rest h' k2 Φ Ψ E a) :
    oX G d Y pc ls st h (k1.1 + k2.1, k1.2 + k2.2) Φ Ψ := by
  intro p e s m args below meth c mc ms ad0 h0 ad H locs cells slots Ls B hE hz hl1 hs1 hS hl hk1 hk2
  subst hst
  obtain ⟨y, cc1, nL1, ret1, hh1⟩ := Y1
  have hwa : ∀ v ∈ vR (some a) :: as, ohWv h v := fun v hv => by
    rcases List.mem_cons.mp hv with rfl | hv
    · exact hs1 _ (List.mem_append_right _ List.mem_cons_self)
    · exact hs1 _ (List.mem_append_left _ (List.mem_reverse.mpr hv))
  have hwr : ∀ v ∈ rest, ohWv h v := fun v hv => hs1 _ (List.mem_append_right _ (List.mem_cons_of_mem _ hv))
  have hM := hT ad hwa
  rw [hcw] at hM
  refine oRun B hE hl1 hwr hS hl (by omega) (by omega) (vy_runI (b := ad a.1 a.2) (As := as.map (gVl ad)) (rest := rest.map (gVl ad)) ⟨B.1, B.2.1, B.2.2.2.2.1, B.2.2.2.2.2.1, B.2.2.2.2.2.2.1⟩ hM (cwI n B.2.2.2.2.2.2.1 (lw_meth w5) rfl rfl rfl (B.2.2.2.2.2.2.1 _ w4) (B.2.2.2.2.2.2.1 _ w1) (B.2.2.2.2.2.2.1 _ w2) hnm hok ⟨by show d1 + 1 ≤ d; omega, by show 8 + (nL1 + 11) + 64 * d1 ≤ 64 * d; have : nL1 ≤ 45 := hd.2; omega⟩) ⟨oPc_blind, fun U hU hW => ⟨rfl, by rw [hU]; exact hz, ohEnv_moved hW B.2.2.2.2.2.2.2.1⟩⟩ rfl (by rw [List.length_map]; exact hn) hl.1 ?_ (lv_room (oSumLe h8)) dc ⟨by show cells + k1.1 ≤ mc; omega, by show slots + k1.2 ≤ ms; omega⟩) kk kx
  show (as.reverse ++ vR (some a) :: rest).map (gVl ad) = _
  rw [List.map_append, List.map_reverse]; rfl
/-- .. of a nest mate's private constructor -/
theorem oX_callIN {Y1 : OhM} {d1 idx n : Nat} {host : String} {as rest : List OhV} {a : Nat × Nat} {Φ1 : OhP} {Ψ1 : OhX}
    (dc : decode Y.2.1 pc = .ok (.invokespecial idx, 3)) (hst : st = as.reverse ++ vR (some a) :: rest) (hok : oOk Y1 n) (hn : as.length = n) (hcw : ohCw Y1 = Cond.code Y1.1 Y1.2.1 Y1.2.2.1 none) (hnm : Y1.1.name = "<init>")
    (w1 : Cond.methodLinkNest Y.1.cls idx Y1.1 host ∈ lw_tbl) (w2 : Cond.instanceMethod Y1.1 ∈ lw_all) (w4 : Cond.initialized Y1.1.cls ∈ lw_all) (w5 : Cond.code Y1.1 Y1.2.1 Y1.2.2.1 none ∈ lw_all)
    (hd : d1 + 1 ≤ d ∧ Y1.2.2.1 ≤ 45) (h8 : (rest.map fun v => if oIsL v = true then 2 else 1).sum ≤ 8)
    (hT : oT G d1 Y1 (vR (some a) :: as) h k1 Φ1 Ψ1) (kk : ∀ (v : Option OhV) (h' : OhH), Φ1 v h' → oX G d Y (pc + 3) ls (v.toList ++ rest) h' k2 Φ Ψ) (kx : ∀ (E : String) (a : Nat × Nat) (h' : OhH), Ψ1 E a h' → oXt G d Y pc ls rest h' k2 Φ Ψ E a) :
    oX G d Y pc ls st h (k1.1 + k2.1, k1.2 + k2.2) Φ Ψ := by
  intro p e s m args below meth c mc ms ad0 h0 ad H locs cells slots Ls B hE hz hl1 hs1 hS hl hk1 hk2
  subst hst
  obtain ⟨y, cc1, nL1, ret1, hh1⟩ := Y1
  have hwa : ∀ v ∈ vR (some a) :: as, ohWv h v := fun v hv => by
    rcases List.mem_cons.mp hv with rfl | hv
    · exact hs1 _ (List.mem_append_right _ List.mem_cons_self)
    · exact hs1 _ (List.mem_append_left _ (List.mem_reverse.mpr hv))
  have hwr : ∀ v ∈ rest, ohWv h v := fun v hv => hs1 _ (List.mem_append_right _ (List.mem_cons_of_mem _ hv))
  have hM := hT ad hwa
  rw [hcw] at hM
  refine oRun B hE hl1 hwr hS hl (by omega) (by omega) (vy_runIN (b := ad a.1 a.2) (As := as.map (gVl ad)) (rest := rest.map (gVl ad)) ⟨B.1, B.2.1, B.2.2.2.2.1, B.2.2.2.2.2.1, B.2.2.2.2.2.2.1⟩ hM ⟨va_cnB n B.2.2.2.2.2.2.1 (lw_meth w5) rfl rfl rfl (B.2.2.2.2.2.2.2.1.2.1.2.1 _ _ _ _ w1) (B.2.2.2.2.2.2.1 _ w4) hok ⟨by show d1 + 1 ≤ d; omega, by show 8 + (nL1 + 11) + 64 * d1 ≤ 64 * d; have : nL1 ≤ 45 := hd.2; omega⟩, hnm, B.2.2.2.2.2.2.1 _ w2⟩ ⟨oPc_blind, fun U hU hW => ⟨rfl, by rw [hU]; exact hz, ohEnv_moved hW B.2.2.2.2.2.2.2.1⟩⟩ rfl (by rw [List.length_map]; exact hn) hl.1 ?_ (lv_room (oSumLe h8)) dc ⟨by show cells + k1.1 ≤ mc; omega, by show slots + k1.2 ≤ ms; omega⟩) kk kx
  show (as.reverse ++ vR (some a) :: rest).map (gVl ad) = _
  rw [List.map_append, List.map_reverse]; rfl
/-- .. of a nest mate's private static method -/
theorem oX_callSN {Y1 : OhM} {d1 idx n : Nat} {host : String} {as rest : List OhV} {Φ1 : OhP} {Ψ1 : OhX}
    (dc : decode Y.2.1 pc = .ok (.invokestatic idx, 3)) (hst : st = as.reverse ++ rest) (hok : oOk Y1 n) (hn : as.length = n) (hcw : ohCw Y1 = Cond.code Y1.1 Y1.2.1 Y1.2.2.1 Y1.2.2.2.1)
    (w1 : Cond.methodLinkNest Y.1.cls idx Y1.1 host ∈ lw_tbl) (w2 : Cond.static Y1.1 ∈ lw_all) (w4 : Cond.initialized Y1.1.cls ∈ lw_all) (w5 : Cond.code Y1.1 Y1.2.1 Y1.2.2.1 Y1.2.2.2.1 ∈ lw_all)
    (hd : d1 + 1 ≤ d ∧ Y1.2.2.1 ≤ 45) (h8 : (rest.map fun v => if oIsL v = true then 2 else 1).sum ≤ 8)
    (hT : oT G d1 Y1 as h k1 Φ1 Ψ1) (kk : ∀ (v : Option OhV) (h' : OhH), Φ1 v h' → oX G d Y (pc + 3) ls (v.toList ++ rest) h' k2 Φ Ψ) (kx : ∀ (E : String) (a : Nat × Nat) (h' : OhH), Ψ1 E a h' → oXt G d Y pc ls rest h' k2 Φ Ψ E a) :
    oX G d Y pc ls st h (k1.1 + k2.1, k1.2 + k2.2) Φ Ψ := by
  intro p e s m args below meth c mc ms ad0 h0 ad H locs cells slots Ls B hE hz hl1 hs1 hS hl hk1 hk2
  subst hst
  obtain ⟨y, cc1, nL1, ret1, hh1⟩ := Y1
  have hwa : ∀ v ∈ as, ohWv h v := fun v hv => hs1 _ (List.mem_append_left _ (List.mem_reverse.mpr hv))
  have hwr : ∀ v ∈ rest, ohWv h v := fun v hv => hs1 _ (List.mem_append_right _ hv)
  have hM := hT ad hwa
  rw [hcw] at hM
  refine oRun B hE hl1 hwr hS hl (by omega) (by omega) (vy_runSN (As := as.map (gVl ad)) (rest := rest.map (gVl ad)) ⟨B.1, B.2.1, B.2.2.2.2.1, B.2.2.2.2.2.1, B.2.2.2.2.2.2.1⟩ hM ⟨va_cnB n B.2.2.2.2.2.2.1 (lw_meth w5) rfl rfl rfl (B.2.2.2.2.2.2.2.1.2.1.2.1 _ _ _ _ w1) (B.2.2.2.2.2.2.1 _ w4) hok ⟨by show d1 + 1 ≤ d; omega, by show 8 + (nL1 + 11) + 64 * d1 ≤ 64 * d; have : nL1 ≤ 45 := hd.2; omega⟩, B.2.2.2.2.2.2.1 _ w2, trivial⟩ ⟨oPc_blind, fun U hU hW => ⟨rfl, by rw [hU]; exact hz, ohEnv_moved hW B.2.2.2.2.2.2.2.1⟩⟩ rfl (by rw [List.length_map]; exact hn) hl.1 ?_ (lv_room (oSumLe h8)) dc ⟨by show cells + k1.1 ≤ mc; omega, by show slots + k1.2 ≤ ms; omega⟩) kk kx
  show (as.reverse ++ rest).map (gVl ad) = _
  rw [List.map_append, List.map_reverse]
end OC2
