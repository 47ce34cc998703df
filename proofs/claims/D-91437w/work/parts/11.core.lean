/-! CORE 2: the pure heap, what it says of the machine's heap -/
abbrev OhR := Option (Nat × Nat)
abbrev OhV := Int32 ⊕ (Int64 ⊕ OhR)
abbrev vI (x : Int32) : OhV := .inl x
abbrev vL (x : Int64) : OhV := .inr (.inl x)
abbrev vR (r : OhR) : OhV := .inr (.inr r)
abbrev OhI := Nat → Nat → Nat → Int32
abbrev OhL := Nat → Nat → Nat → Int64
abbrev OhQ := Nat → Nat → Nat → OhR
abbrev OhN := Nat → Nat → Nat
abbrev OhC := Nat → Nat
/-- ints and longs of fields, final references, references; ints and longs of arrays, references of int[][], of other arrays; lengths; how many objects of a site there are -/
abbrev OhH := OhI × OhL × OhQ × OhQ × OhI × OhL × OhQ × OhQ × OhN × OhC
def uA {α : Type} (f : Nat → α) (k : Nat) (v : α) : Nat → α := fun j => if j = k then v else f j
def sA {α : Type} (F : Nat → Nat → α) (s i : Nat) (v : α) : Nat → Nat → α := fun s' i' => if s' = s ∧ i' = i then v else F s' i'
theorem uA_same {α : Type} (f : Nat → α) (k : Nat) (v : α) : uA f k v k = v := by simp [uA]
theorem uA_ne {α : Type} (f : Nat → α) {k j : Nat} (v : α) (h : j ≠ k) : uA f k v j = f j := by simp [uA, h]
theorem sA_same {α : Type} (F : Nat → Nat → α) (s i : Nat) (v : α) : sA F s i v s i = v := by simp [sA]
theorem sA_site {α : Type} (F : Nat → Nat → α) {s s' : Nat} (i : Nat) (v : α) (h : s' ≠ s) : sA F s i v s' = F s' := by funext i'; simp [sA, h]
theorem sA_ne {α : Type} (F : Nat → Nat → α) {s s' i i' : Nat} (v : α) (h : ¬ (s' = s ∧ i' = i)) : sA F s i v s' i' = F s' i' := by simp [sA, h]
theorem sA_idx {α : Type} (F : Nat → Nat → α) {s i i' : Nat} (v : α) (h : i' ≠ i) : sA F s i v s i' = F s i' := by simp [sA, h]
theorem sA_sA {α : Type} (F : Nat → Nat → α) (s i : Nat) (v w : α) : sA (sA F s i v) s i w = sA F s i w := by
  funext s' i'; by_cases h : s' = s ∧ i' = i <;> simp [sA, h]
/-- the launch, the classes' numbers and slots, the arrays' classes, where the law's own heap begins, the heap there, where what was there before lies, and what it holds -/
abbrev OhG := Launch × va_G × (Nat → ClassId) × Nat × Heap × (Nat → Nat → Nat) × OhH
def gRf (ad : Nat → Nat → Nat) (r : OhR) : Value := va_rf (r.map fun a => ad a.1 a.2)
def gVl (ad : Nat → Nat → Nat) (v : OhV) : Value := match v with
  | .inl x => .int x
  | .inr (.inl x) => .long x
  | .inr (.inr r) => gRf ad r
theorem gVl_i (ad : Nat → Nat → Nat) (x : Int32) : gVl ad (vI x) = .int x := rfl
theorem gVl_l (ad : Nat → Nat → Nat) (x : Int64) : gVl ad (vL x) = .long x := rfl
theorem gVl_r (ad : Nat → Nat → Nat) (r : OhR) : gVl ad (vR r) = gRf ad r := rfl
/-- which fields are followed -/
def ohTrk (ci k : Nat) : Bool := if ci = 9 then (decide (k = 4) || decide (6 ≤ k)) else if ci = 20 then decide (k = 4) else if ci = 18 then decide (k < 2) else true
def ohFv (ad : Nat → Nat → Nat) (h : OhH) (ci s i k : Nat) : Value :=
  if ohFk ci k = 0 then .int (h.1 s i k) else if ohFk ci k = 1 then .long (h.2.1 s i k) else if ohFk ci k = 2 then gRf ad (h.2.2.1 s i k) else gRf ad (h.2.2.2.1 s i k)
def ohAv (ad : Nat → Nat → Nat) (h : OhH) (t s i j : Nat) : Value :=
  if t ≤ 2 then .int (h.2.2.2.2.1 s i j) else if t = 3 then .long (h.2.2.2.2.2.1 s i j) else if t = 4 then gRf ad (h.2.2.2.2.2.2.1 s i j) else gRf ad (h.2.2.2.2.2.2.2.1 s i j)
abbrev hN (h : OhH) : OhN := h.2.2.2.2.2.2.2.2.1
abbrev hC (h : OhH) : OhC := h.2.2.2.2.2.2.2.2.2
/-- nobody holds its monitor -/
def oMn (o : Nat) (H : Heap) : Prop := ∃ cell : Cell, H[o]? = some cell ∧ cell.monitor.owner = none ∧ cell.monitor.count = 0
theorem oMn.kept {o : Nat} {H H1 : Heap} (h : oMn o H) (e : H1[o]? = H[o]?) : oMn o H1 := by
  obtain ⟨c, h1, h2⟩ := h
  exact ⟨c, e.trans h1, h2⟩
/-- what stands at one made object or array -/
def ohAt (G : OhG) (ad : Nat → Nat → Nat) (h : OhH) (H : Heap) (s i : Nat) : Prop :=
  if ohKd s < 100 then ∃ V : Nat → Value, t_OB (ad s i) (G.2.1.1 (ohKd s)) (ohNf (ohKd s)) (G.2.1.2 (ohKd s)) H V ∧ (∀ k, k < ohNf (ohKd s) → ohTrk (ohKd s) k = true → V k = ohFv ad h (ohKd s) s i k) ∧ oMn (ad s i) H
  else if ohKd s < 107 then H[ad s i]? = some (arrV (G.2.2.1 (ohKd s - 100)) (hN h s i) (fun j => ohAv ad h (ohKd s - 100) s i j))
  else False
def ohLive (h : OhH) (a : Nat × Nat) : Prop := a.2 < hC h a.1
def ohWr (h : OhH) (r : OhR) : Prop := ∀ a, r = some a → ohLive h a
def ohWv (h : OhH) (v : OhV) : Prop := match v with
  | .inr (.inr r) => ohWr h r
  | _ => True
/-- every reference is live -/
def ohWf (h : OhH) : Prop := ∀ s i, (∀ k, ohWr h (h.2.2.1 s i k)) ∧ (∀ k, ohWr h (h.2.2.2.1 s i k)) ∧ (∀ k, ohWr h (h.2.2.2.2.2.2.1 s i k)) ∧ (∀ k, ohWr h (h.2.2.2.2.2.2.2.1 s i k))
/-- two heaps have the same at one place -/
def ohEq (h h' : OhH) (s i : Nat) : Prop := h'.1 s i = h.1 s i ∧ h'.2.1 s i = h.2.1 s i ∧ h'.2.2.1 s i = h.2.2.1 s i ∧ h'.2.2.2.1 s i = h.2.2.2.1 s i ∧ h'.2.2.2.2.1 s i = h.2.2.2.2.1 s i ∧ h'.2.2.2.2.2.1 s i = h.2.2.2.2.2.1 s i ∧ h'.2.2.2.2.2.2.1 s i = h.2.2.2.2.2.2.1 s i ∧ h'.2.2.2.2.2.2.2.1 s i = h.2.2.2.2.2.2.2.1 s i ∧ hN h' s i = hN h s i
theorem ohEq.rf {h : OhH} {s i : Nat} : ohEq h h s i := ⟨rfl, rfl, rfl, rfl, rfl, rfl, rfl, rfl, rfl⟩
theorem oN140 {s : Nat} (h : ohPre s = false) : ohKd s ≠ 140 := fun e => by unfold ohPre at h; rw [e] at h; cases h
/-- the pure heap h stands in H, with addresses ad (of the mirror, kind 140, it isn't known where it lies) -/
def ohCz (G : OhG) (ad : Nat → Nat → Nat) (h : OhH) (H : Heap) : Prop :=
  G.2.2.2.1 ≤ H.size ∧ (∀ q : Nat, q < G.2.2.2.1 → H[q]? = G.2.2.2.2.1[q]?) ∧
  (∀ s i, i < hC h s → ohPre s = false → ohAt G ad h H s i ∧ G.2.2.2.1 ≤ ad s i) ∧
  (∀ s i, ohPre s = true → ad s i = G.2.2.2.2.2.1 s i ∧ ohEq G.2.2.2.2.2.2 h s i) ∧
  (∀ s, ohPre s = true → hC h s = hC G.2.2.2.2.2.2 s ∧ ∀ i, i < hC h s → ohKd s ≠ 140 → ad s i < G.2.2.2.1) ∧
  (∀ s i s' i', i < hC h s → i' < hC h s' → ohKd s ≠ 140 → ohKd s' ≠ 140 → ad s i = ad s' i' → s = s' ∧ i = i') ∧ ohWf h
/-- the words of the tables that the lists can't carry -/
def ohNw (U : State) : Prop :=
  (∀ (a : String) (i : Nat) (b n d h : String), Cond.fieldLinkNest a i b n d h ∈ lw_tbl → va_Nw (.fieldLinkNest a i b n d h) U) ∧
  (∀ (a : String) (i : Nat) (x : MethodName) (h : String), Cond.methodLinkNest a i x h ∈ lw_tbl → va_Nw (.methodLinkNest a i x h) U) ∧
  (∀ (a b : String), Cond.castable a b ∈ lw_tbl → va_Nw (.castable a b) U) ∧
  (∀ (x : MethodName), Cond.declares x ∈ lw_tbl → va_Nw (.declares x) U) ∧
  (∀ (C : String), Cond.arrayOver (.object C) ∈ lw_tbl → va_AO C U)
/-- a cell that was there before: an array, or a String constant -/
def ohPreAt (G : OhG) (U : State) (s i : Nat) : Prop :=
  ∃ cell : Cell, G.2.2.2.2.1[G.2.2.2.2.2.1 s i]? = some cell ∧ cell.vm ≠ .unknown ∧ cell.vm.isStatics = false ∧ G.2.2.2.2.2.1 s i < G.2.2.2.1 ∧
    (ohKd s < 127 → ∃ ty, ohTys[ohKd s - 120]? = some ty ∧ U.isArrayOf cell ty ∧ cell.slots.size = hN G.2.2.2.2.2.2 s i ∧ ∀ j, j < hN G.2.2.2.2.2.2 s i → cell.slots[j]? = some (ohAv G.2.2.2.2.2.1 G.2.2.2.2.2.2 (ohKd s - 120) s i j)) ∧
    (ohKd s = 130 → U.vm.findClass "java/lang/String" = some cell.cls ∧ (∀ k, k < 2 → cell.slots[G.2.1.2 18 k]? = some (ohFv G.2.2.2.2.2.1 G.2.2.2.2.2.2 18 s i k)) ∧ ∀ b, G.2.2.2.2.2.2.2.2.1 s i 0 = some b → ohPre b.1 = true)
/-- statics that the statement gives: the empty array lies at e -/
def ohStt (e : Nat) : List (String × String × String × Value) := [("java/util/ArrayList", "DEFAULTCAPACITY_EMPTY_ELEMENTDATA", "[Ljava/lang/Object;", .ref e), ("java/lang/String", "COMPACT_STRINGS", "Z", .int 1), ("java/lang/StringUTF16", "$assertionsDisabled", "Z", .int 1), ("java/lang/StringUTF16", "HI_BYTE_SHIFT", "I", .int 0), ("java/lang/StringUTF16", "LO_BYTE_SHIFT", "I", .int 8), ("jdk/internal/misc/Unsafe", "ARRAY_BYTE_BASE_OFFSET", "I", .int 16), ("jdk/internal/misc/UnsafeConstants", "BIG_ENDIAN", "Z", .int 0), ("jdk/internal/util/ArraysSupport", "BIG_ENDIAN", "Z", .int 0), ("jdk/internal/util/ArraysSupport", "LOG2_ARRAY_BYTE_INDEX_SCALE", "I", .int 0), ("jdk/internal/util/ArraysSupport", "LOG2_ARRAY_INT_INDEX_SCALE", "I", .int 2), ("jdk/internal/util/ArraysSupport", "LOG2_ARRAY_LONG_INDEX_SCALE", "I", .int 3), ("jdk/internal/util/ArraysSupport", "LOG2_BYTE_BIT_SIZE", "I", .int 3)]
def ohAI (U : State) : Prop := (Cond.arrayOver (.array .int)).before #[] U = true
theorem ohAI_moved {u U : State} (hvm : u.vm.Alike U.vm) (h : ohAI u) : ohAI U := by
  show (Cond.arrayOver (.array .int)).before #[] (u.setVm U.vm) = true
  rw [Cond.arrayOver_setVmC hvm]; exact h
/-- the String constants: their entries in the class Reader, their sites, their texts -/
def ohStrs : List (Nat × Nat × String) := [(9, 41, ""), (52, 42, ";()<=>"), (108, 43, "rest"), (123, 44, "day"), (127, 45, "week"), (131, 46, "voice"), (135, 47, "leave"), (146, 48, "to"), (153, 49, "fee"), (161, 50, "if"), (176, 51, "or"), (186, 52, "and"), (188, 53, "room marks full night late cover instead hours nth over "), (202, 54, "not")]
/-- where the String constants lie -/
def ohSR (pad : Nat → Nat → Nat) (U : State) : Prop := (∃ cur, U.vm.findClass "OperaHouse$Reader" = some cur) ∧ ∀ q ∈ ohStrs, (Cond.stringRef "OperaHouse$Reader" q.1 q.2.2).before #[] U = true ∧ (Term.string "OperaHouse$Reader" q.1).eval #[] U none [] U = some (.ref (pad q.2.1 0))
theorem ohSR_moved {pad : Nat → Nat → Nat} {s U : State} (hW : s.WarmedH U.vm) (h : ohSR pad s) : ohSR pad U := by
  obtain ⟨⟨cur, hc⟩, h⟩ := h
  refine ⟨⟨cur, by rw [hW.alike.findClass]; exact hc⟩, fun q hq => ⟨?_, ?_⟩⟩
  · have h1 := Cond.stringRef_warmed hW (h q hq).1
    exact h1
  · exact (Term.string_eval_of_vm (U := s.setVm U.vm) (V := U) (args := #[]) rfl).trans (Term.string_eval_warmed hW hc (h q hq).1 (h q hq).2)
theorem ohSR_vm {pad : Nat → Nat → Nat} {u U : State} (hvm : u.vm = U.vm) (h : ohSR pad u) : ohSR pad U := by
  have e : U = U := rfl
  obtain ⟨⟨cur, hc⟩, h⟩ := h
  refine ⟨⟨cur, by rw [← hvm]; exact hc⟩, fun q hq => ⟨?_, (Term.string_eval_of_vm (U := u) (V := U) (args := #[]) hvm.symm).trans (h q hq).2⟩⟩
  have h1 := (h q hq).1
  simp only [Cond.before, Cond.holds, Cond.value, State.names, State.poolOf?, State.resolvedAt?, ← hvm] at h1 ⊢
  exact h1
/-- what the tables of a state say, all through the run -/
def ohEnv (G : OhG) (U : State) : Prop :=
  va_K G.2.1 ohCL (List.zipIdx ohTys |>.map fun q => (G.2.2.1 q.2, q.1)) U ∧ ohNw U ∧ (∀ s i, ohPre s = true → ohKd s < 135 → i < hC G.2.2.2.2.2.2 s → ohPreAt G U s i) ∧
  (∀ q ∈ ohStt (G.2.2.2.2.2.1 40 0), va_Z q.1 q.2.1 q.2.2.1 q.2.2.2 (fun a => G.2.2.2.1 ≤ a) U G.2.2.2.2.1) ∧
  vx_Zq Bundle.tN "UNASSIGNED_STACK" Bundle.steD (fun a => G.2.2.2.1 ≤ a) U G.2.2.2.2.1 ∧ vx_Zq Bundle.tN "SUPPRESSED_SENTINEL" Bundle.listD (fun a => G.2.2.2.1 ≤ a) U G.2.2.2.2.1 ∧
  va_Mi "[Ljava/lang/Object;" (G.2.2.2.2.2.1 58 0) U ∧ va_Nw (.declares ⟨"java/lang/Object", "getClass", "()Ljava/lang/Class;"⟩) U ∧ ohAI U ∧ ohSR G.2.2.2.2.2.1 U ∧ G.1.stackTraces = false
theorem ohNw_moved {s U : State} (hW : s.WarmedH U.vm) (h : ohNw s) : ohNw U :=
  ⟨fun a i b n d x hm => va_Nw.warmF hW (h.1 a i b n d x hm), fun a i x y hm => va_Nw.warmM hW (h.2.1 a i x y hm), fun a b hm => va_Nw.warmC hW (h.2.2.1 a b hm), fun x hm => va_Nw.warmD hW (h.2.2.2.1 x hm), fun C hm => va_AO.moved hW.alike (h.2.2.2.2 C hm)⟩
theorem ohPreAt_moved {G : OhG} {u U : State} (hvm : u.vm.Alike U.vm) {s i : Nat} (h : ohPreAt G u s i) : ohPreAt G U s i := by
  obtain ⟨cell, h1, h2, h3, h4, h5, h6⟩ := h
  refine ⟨cell, h1, h2, h3, h4, fun hk => ?_, fun hk => ?_⟩
  · obtain ⟨ty, g1, g2, g3⟩ := h5 hk
    exact ⟨ty, g1, State.isArrayOf_alike hvm g2, g3⟩
  · obtain ⟨g1, g2⟩ := h6 hk
    exact ⟨by rw [hvm.findClass]; exact g1, g2⟩
theorem ohEnv_moved {G : OhG} {s U : State} (hW : s.WarmedH U.vm) (h : ohEnv G s) : ohEnv G U :=
  ⟨va_K.moved hW.alike h.1, ohNw_moved hW h.2.1, fun s i h1 h2 h3 => ohPreAt_moved hW.alike (h.2.2.1 s i h1 h2 h3), fun q hq => va_Z.moved hW.alike (h.2.2.2.1 q hq), vx_Zq.moved hW.alike h.2.2.2.2.1, vx_Zq.moved hW.alike h.2.2.2.2.2.1, va_Mi.moved hW.alike h.2.2.2.2.2.2.1, va_Nw.warmD hW h.2.2.2.2.2.2.2.1, ohAI_moved hW.alike h.2.2.2.2.2.2.2.2.1, ohSR_moved hW h.2.2.2.2.2.2.2.2.2.1, h.2.2.2.2.2.2.2.2.2.2⟩
theorem ohEnv_vm {G : OhG} {u U : State} (hvm : u.vm = U.vm) (h : ohEnv G u) : ohEnv G U := by
  have ha : u.vm.Alike U.vm := by rw [hvm]; exact Vm.Alike.refl _
  refine ⟨va_K.moved ha h.1, ?_, fun s i h1 h2 h3 => ohPreAt_moved ha (h.2.2.1 s i h1 h2 h3), fun q hq => va_Z.moved ha (h.2.2.2.1 q hq), vx_Zq.moved ha h.2.2.2.2.1, vx_Zq.moved ha h.2.2.2.2.2.1, va_Mi.moved ha h.2.2.2.2.2.2.1, va_Nw.same rfl hvm h.2.2.2.2.2.2.2.1, ohAI_moved ha h.2.2.2.2.2.2.2.2.1, ohSR_vm hvm h.2.2.2.2.2.2.2.2.2.1, h.2.2.2.2.2.2.2.2.2.2⟩
  exact ⟨fun a i b n d x hm => va_Nw.same rfl hvm (h.2.1.1 a i b n d x hm), fun a i x y hm => va_Nw.same rfl hvm (h.2.1.2.1 a i x y hm), fun a b hm => va_Nw.same rfl hvm (h.2.1.2.2.1 a b hm), fun x hm => va_Nw.same rfl hvm (h.2.1.2.2.2.1 x hm), fun C hm => va_AO.moved ha (h.2.1.2.2.2.2 C hm)⟩
