/-! CORE 5: a method's contract (oT), a frame that stands at pc (oX); the rules for locals, stack, arithmetic, branches -/
/-- a method: name, code, locals, answer, handlers -/
abbrev OhM := MethodName × ByteArray × Nat × Option FieldType × List (Nat × Nat × Nat × Nat)
def ohA (G : OhG) : Nat → Prop := fun q => G.2.2.2.1 ≤ q
def ohExt (ad0 : Nat → Nat → Nat) (h0 : OhH) (ad : Nat → Nat → Nat) (h : OhH) : Prop := (∀ s i, i < hC h0 s → ad s i = ad0 s i) ∧ ∀ s, hC h0 s ≤ hC h s
abbrev OhP := Option OhV → OhH → Prop
abbrev OhX := String → (Nat × Nat) → OhH → Prop
def ohQn (G : OhG) (ad0 : Nat → Nat → Nat) (h0 : OhH) (Φ : OhP) : Array Value → State → Outcome → State → Prop := fun _ st o t =>
  ∃ (v : Option OhV) (ad : Nat → Nat → Nat) (h : OhH), o = .returned (v.map (gVl ad)) ∧ Φ v h ∧ ohCz G ad h t.heap ∧ ohExt ad0 h0 ad h ∧ (∀ x, v = some x → ohWv h x) ∧ va_F (ohA G) st t
def ohQx (G : OhG) (ad0 : Nat → Nat → Nat) (h0 : OhH) (Ψ : OhX) : String → Addr → State → State → Prop := fun E q st t =>
  ∃ (a : Nat × Nat) (ad : Nat → Nat → Nat) (h : OhH), q = ad a.1 a.2 ∧ ohLive h a ∧ Ψ E a h ∧ ohCz G ad h t.heap ∧ ohExt ad0 h0 ad h ∧ va_F (ohA G) st t
def ohRm (d : Nat) (k : Nat × Nat) : Room := { frames := d, cells := k.1, slots := k.2, locals := 64 * d }
def ohCw (Y : OhM) : Cond := match Y.2.2.2.2 with
  | [] => Cond.code Y.1 Y.2.1 Y.2.2.1 Y.2.2.2.1
  | z :: zs => Cond.codeWith Y.1 Y.2.1 Y.2.2.1 Y.2.2.2.1 (z :: zs)
def oT (G : OhG) (d : Nat) (Y : OhM) (as : List OhV) (h : OhH) (k : Nat × Nat) (Φ : OhP) (Ψ : OhX) : Prop :=
  ∀ (ad : Nat → Nat → Nat), (∀ v ∈ as, ohWv h v) → vy_Met G.1 Y.1 (ohCw Y :: lw_all) (ohRm d k) (va_Pc (as.map (gVl ad)) (fun U => ohCz G ad h U.heap ∧ ohEnv G U)) (ohQn G ad h Φ) (ohQx G ad h Ψ) k.1 k.2 (ohA G)
/-- what a body knows of itself -/
def oB (G : OhG) (Y : OhM) (p : Program) (s : State) (m : MethodId) (args : Array Value) (meth : Method) (c : Code) : Prop :=
  p.tables.exec = Jvm.exec ∧ c.code = Y.2.1 ∧ meth.sig.returnType = Y.2.2.2.1 ∧ meth.locks = false ∧ c.maxLocals = Y.2.2.1 ∧ s.vm.findClass Y.1.cls = some m.cls ∧ (∀ w ∈ lw_all, w.before args s = true) ∧ ohEnv G s ∧ meth.name = Y.1.name ∧
  c.exceptionTable.toList = tableOf Y.2.2.2.2
def oX (G : OhG) (d : Nat) (Y : OhM) (pc : Nat) (ls : List (Nat × OhV)) (st : List OhV) (h : OhH) (k : Nat × Nat) (Φ : OhP) (Ψ : OhX) : Prop :=
  ∀ (p : Program) (e : Env) (s : State) (m : MethodId) (args : Array Value) (below : List Frame) (meth : Method) (c : Code) (mc ms : Nat) (ad0 : Nat → Nat → Nat) (h0 : OhH) (ad : Nat → Nat → Nat) (H : Heap) (locs : List Loc) (cells slots : Nat) (Ls : Array Slot),
    oB G Y p s m args meth c → ohExt ad0 h0 ad h → ohCz G ad h H → (∀ q ∈ ls, ohWv h q.2) → (∀ v ∈ st, ohWv h v) → va_S (ohA G) s.heap H locs → lv_has Ls Y.2.2.1 (ls.map fun q => (q.1, gVl ad q.2)) → cells + k.1 ≤ mc → slots + k.2 ≤ ms →
    W p G.1 e (ohRm d (mc, ms)) s m args below meth c H locs cells slots (vy_MQ below (ohQn G ad0 h0 Φ) (ohQx G ad0 h0 Ψ) args s mc ms (ohA G)) (F0 m pc Ls (st.map (gVl ad)))
section OX
variable {G : OhG} {d : Nat} {Y : OhM} {pc : Nat} {ls : List (Nat × OhV)} {st : List OhV} {h : OhH} {k : Nat × Nat} {Φ : OhP} {Ψ : OhX}
theorem oW_i {x : Int32} (H : ∀ v ∈ st, ohWv h v) : ∀ v ∈ vI x :: st, ohWv h v := fun v hv => by
  rcases List.mem_cons.mp hv with rfl | hv
  · trivial
  · exact H v hv
theorem oW_l {x : Int64} (H : ∀ v ∈ st, ohWv h v) : ∀ v ∈ vL x :: st, ohWv h v := fun v hv => by
  rcases List.mem_cons.mp hv with rfl | hv
  · trivial
  · exact H v hv
theorem oW_r {r : OhR} (hr : ohWr h r) (H : ∀ v ∈ st, ohWv h v) : ∀ v ∈ vR r :: st, ohWv h v := fun v hv => by
  rcases List.mem_cons.mp hv with rfl | hv
  · exact hr
  · exact H v hv
theorem oW_c {a : OhV} (ha : ohWv h a) (H : ∀ v ∈ st, ohWv h v) : ∀ v ∈ a :: st, ohWv h v := fun v hv => by
  rcases List.mem_cons.mp hv with rfl | hv
  · exact ha
  · exact H v hv
theorem oW_t {a : OhV} (H : ∀ v ∈ a :: st, ohWv h v) : ∀ v ∈ st, ohWv h v := fun v hv => H v (List.mem_cons_of_mem _ hv)
theorem oW_h {a : OhV} (H : ∀ v ∈ a :: st, ohWv h v) : ohWv h a := H a List.mem_cons_self
theorem oX_st {pc' : Nat} {st' : List OhV} (hw : (∀ v ∈ st, ohWv h v) → ∀ v ∈ st', ohWv h v)
    (hs : ∀ (ad : Nat → Nat → Nat) (p : Program) (e : Env) (R : Room) (s : State) (m : MethodId) (args : Array Value) (below : List Frame) (meth : Method) (c : Code) (H : Heap) (locs : List Loc) (cells slots : Nat) (Q : State → Prop) (Ls : Array Slot), oB G Y p s m args meth c →
      W p G.1 e R s m args below meth c H locs cells slots Q (F0 m pc' Ls (st'.map (gVl ad))) → W p G.1 e R s m args below meth c H locs cells slots Q (F0 m pc Ls (st.map (gVl ad))))
    (kk : oX G d Y pc' ls st' h k Φ Ψ) : oX G d Y pc ls st h k Φ Ψ := by
  intro p e s m args below meth c mc ms ad0 h0 ad H locs cells slots Ls B hE hz hl1 hs1 hS hl hk1 hk2
  exact hs ad p e _ s m args below meth c H locs cells slots _ Ls B (kk p e s m args below meth c mc ms ad0 h0 ad H locs cells slots Ls B hE hz hl1 (hw hs1) hS hl hk1 hk2)
theorem oX_br {pc1 pc2 : Nat} {st' : List OhV} {cc : Prop} (hw : (∀ v ∈ st, ohWv h v) → ∀ v ∈ st', ohWv h v)
    (hs : ∀ (ad : Nat → Nat → Nat) (p : Program) (e : Env) (R : Room) (s : State) (m : MethodId) (args : Array Value) (below : List Frame) (meth : Method) (c : Code) (H : Heap) (locs : List Loc) (cells slots : Nat) (Q : State → Prop) (Ls : Array Slot), oB G Y p s m args meth c →
      (cc → W p G.1 e R s m args below meth c H locs cells slots Q (F0 m pc1 Ls (st'.map (gVl ad)))) → (¬ cc → W p G.1 e R s m args below meth c H locs cells slots Q (F0 m pc2 Ls (st'.map (gVl ad)))) → W p G.1 e R s m args below meth c H locs cells slots Q (F0 m pc Ls (st.map (gVl ad))))
    (k1 : cc → oX G d Y pc1 ls st' h k Φ Ψ) (k2 : ¬ cc → oX G d Y pc2 ls st' h k Φ Ψ) : oX G d Y pc ls st h k Φ Ψ := by
  intro p e s m args below meth c mc ms ad0 h0 ad H locs cells slots Ls B hE hz hl1 hs1 hS hl hk1 hk2
  exact hs ad p e _ s m args below meth c H locs cells slots _ Ls B (fun h9 => k1 h9 p e s m args below meth c mc ms ad0 h0 ad H locs cells slots Ls B hE hz hl1 (hw hs1) hS hl hk1 hk2) (fun h9 => k2 h9 p e s m args below meth c mc ms ad0 h0 ad H locs cells slots Ls B hE hz hl1 (hw hs1) hS hl hk1 hk2)
/-- fewer locals, in another order -/
theorem oX_sub {ls' : List (Nat × OhV)} (is : List Nat) (hs : is.filterMap (fun i => ls[i]?) = ls') (kk : oX G d Y pc ls' st h k Φ Ψ) : oX G d Y pc ls st h k Φ Ψ := by
  have hm : ∀ q ∈ ls', q ∈ ls := fun q hq => by
    rw [← hs] at hq
    obtain ⟨i, -, hi⟩ := List.mem_filterMap.mp hq
    exact List.mem_of_getElem? hi
  intro p e s m args below meth c mc ms ad0 h0 ad H locs cells slots Ls B hE hz hl1 hs1 hS hl hk1 hk2
  refine kk p e s m args below meth c mc ms ad0 h0 ad H locs cells slots Ls B hE hz (fun q hq => hl1 q (hm q hq)) hs1 hS ⟨hl.1, hl.2.1, fun q hq => ?_⟩ hk1 hk2
  obtain ⟨q', h1, rfl⟩ := List.mem_map.mp hq
  exact hl.2.2 _ (List.mem_map.mpr ⟨q', hm q' h1, rfl⟩)
/-- more budget -/
theorem oX_k {k' : Nat × Nat} (h1 : k'.1 ≤ k.1) (h2 : k'.2 ≤ k.2) (kk : oX G d Y pc ls st h k' Φ Ψ) : oX G d Y pc ls st h k Φ Ψ := by
  intro p e s m args below meth c mc ms ad0 h0 ad H locs cells slots Ls B hE hz hl1 hs1 hS hl hk1 hk2
  exact kk p e s m args below meth c mc ms ad0 h0 ad H locs cells slots Ls B hE hz hl1 hs1 hS hl (by omega) (by omega)
theorem oX_iconst {i : Int} {v : Int32} (dc : decode Y.2.1 pc = .ok (.iconst i, 1)) (hv : Int32.ofInt i = v) (kk : oX G d Y (pc + 1) ls (vI v :: st) h k Φ Ψ) : oX G d Y pc ls st h k Φ Ψ :=
  oX_st (fun H => oW_i H) (fun ad _ _ _ _ _ _ _ _ _ _ _ _ _ _ _ B w => lv_iconst B.1 B.2.1 dc hv w) kk
end OX
