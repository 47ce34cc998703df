/-! MIRRORS 1: the words of the mirrors, and rules in the form that gen/gen.py prints -/
noncomputable def gd {α : Type} (P : Prop) (x : Option α) : Option α := @ite _ P (Classical.propDecidable P) x none
def oLet {α β : Type} (e : α) (f : α → β) : β := f e
def oCost {α : Type} (q : Nat × Nat) (x : Option (α × (Nat × Nat))) : Option (α × (Nat × Nat)) := x.map fun z => (z.1, (q.1 + z.2.1, q.2 + z.2.2))
/-- a loop: at most n rounds -/
def lpF {α β : Type} (f : α → Option (α ⊕ β)) : Nat → α → Option β
  | 0, _ => none
  | n + 1, a => (f a).bind (fun r => match r with
    | .inl a' => lpF f n a'
    | .inr b => some b)
def lpK {α β : Type} (f : α → Option ((α ⊕ β) × (Nat × Nat))) : Nat → α → Option (β × (Nat × Nat))
  | 0, _ => none
  | n + 1, a => (f a).bind (fun r => match r.1 with
    | .inl a' => oCost r.2 (lpK f n a')
    | .inr b => some (b, r.2))
theorem gd_s {α : Type} {P : Prop} {x : Option α} {r : α} (h : gd P x = some r) : P ∧ x = some r := by
  unfold gd at h
  by_cases hp : P
  · rw [if_pos hp] at h; exact ⟨hp, h⟩
  · rw [if_neg hp] at h; cases h
theorem gd_t {α : Type} {P : Prop} {x : Option α} (h : P) : gd P x = x := by unfold gd; rw [if_pos h]
theorem bd_s {α β : Type} {x : Option α} {f : α → Option β} {r : β} (h : x.bind f = some r) : ∃ a, x = some a ∧ f a = some r := by
  cases x with
  | none => cases h
  | some a => exact ⟨a, rfl, h⟩
theorem oLs {α β : Type} {e : α} {f : α → Option β} {r : β} (h : oLet e f = some r) : ∃ x, x = e ∧ f x = some r := ⟨e, rfl, h⟩
theorem oc_s {α : Type} {q : Nat × Nat} {x : Option (α × (Nat × Nat))} {r : α × (Nat × Nat)} (h : oCost q x = some r) : ∃ c, x = some (r.1, c) ∧ r.2 = (q.1 + c.1, q.2 + c.2) := by
  unfold oCost at h
  cases x with
  | none => cases h
  | some z =>
    have h9 := Option.some.inj h
    refine ⟨z.2, ?_, ?_⟩
    · rw [← h9]
    · rw [← h9]
theorem ifp {α : Type} {c : Prop} [Decidable c] {a b : Option α} {r : α} (hc : c) (h : (if c then a else b) = some r) : a = some r := by rw [if_pos hc] at h; exact h
theorem ifn {α : Type} {c : Prop} [Decidable c] {a b : Option α} {r : α} (hc : ¬ c) (h : (if c then a else b) = some r) : b = some r := by rw [if_neg hc] at h; exact h
theorem el1 {α β γ : Type} {f : α → γ} {g : β → γ} {a : α} {r : γ} (h : Sum.elim f g (.inl a) = r) : f a = r := h
theorem el2 {α β γ : Type} {f : α → γ} {g : β → γ} {b : β} {r : γ} (h : Sum.elim f g (.inr b) = r) : g b = r := h
theorem lp_s {α β : Type} {f : α → Option (α ⊕ β)} {n : Nat} {a : α} {b : β} (h : lpF f (n + 1) a = some b) : ∃ r, f a = some r ∧ (match r with
    | .inl a' => lpF f n a' = some b
    | .inr b' => b' = b) := by
  obtain ⟨r, h1, h2⟩ := bd_s (show (f a).bind _ = some b from h)
  refine ⟨r, h1, ?_⟩
  cases r with
  | inl a' => exact h2
  | inr b' => exact Option.some.inj h2
theorem lk_s {α β : Type} {f : α → Option ((α ⊕ β) × (Nat × Nat))} {n : Nat} {a : α} {b : β × (Nat × Nat)} (h : lpK f (n + 1) a = some b) : ∃ r, f a = some r ∧ (match r.1 with
    | .inl a' => ∃ c, lpK f n a' = some (b.1, c) ∧ b.2 = (r.2.1 + c.1, r.2.2 + c.2)
    | .inr b' => b = (b', r.2)) := by
  obtain ⟨r, h1, h2⟩ := bd_s (show (f a).bind _ = some b from h)
  refine ⟨r, h1, ?_⟩
  obtain ⟨r1, q⟩ := r
  cases r1 with
  | inl a' => exact oc_s h2
  | inr b' => exact (Option.some.inj h2).symm
theorem oD_self {ci : Nat} {r : OhR} {a : Nat × Nat} (e : oD ci r = some a) : oD ci (some a) = some a := by
  obtain ⟨rfl, h⟩ := oD_some e
  exact e
theorem oD_t {ci : Nat} {t : Nat × Nat} (h : ohKd t.1 = ci) : oD ci (some t) = some t := by show (if ohKd t.1 = ci then some t else none) = some t; rw [if_pos h]
theorem oIn {N N' : Nat} {x : Int32} (e : N = N') (g : vp_in x N') : vp_in x N := e ▸ g
theorem oLt {N : Nat} {x : Int32} (g : vp_in x N) : x.toNatClampNeg < N := Nat.not_le.mp fun q => g (Or.inr q)
theorem oNz {v : Int32} (h : v = 0 ∨ v = 1) : narrow .boolean (.int v) = .int v := by rcases h with rfl | rfl <;> decide
theorem oNf {v : Int32} (h : v = 0 ∨ v = 1) : narrow .boolean (.int v) = .int v ∧ fits .boolean (.int v) = true := by rcases h with rfl | rfl <;> decide
def ohNo : OhX := fun _ _ _ => False
section OG
variable {G : OhG} {d : Nat} {Y : OhM} {pc : Nat} {ls : List (Nat × OhV)} {st : List OhV} {h h1 : OhH} {k : Nat × Nat} {Φ : OhP} {Ψ : OhX}
theorem oKx {rest : List OhV} {k2 : Nat × Nat} : ∀ (E : String) (a : Nat × Nat) (h' : OhH), ohNo E a h' → oXt G d Y pc ls rest h' k2 Φ Ψ E a := fun _ _ _ h => h.elim
theorem oX_cV {Y1 : OhM} {d1 idx n : Nat} {ci N : Nat} {Cn : String} {T : u_T} {r : OhR} {a : Nat × Nat} {as rest : List OhV} {v1 : OhV} (dc : decode Y.2.1 pc = .ok (.invokevirtual idx, 3)) (hst : st = as.reverse ++ vR r :: rest) (hr : oD ci r = some a) (hc : ohCL[ci]? = some (Cn, T, N)) (h100 : ci < 100) (hcls : Y1.1.cls = Cn) (hok : oOk Y1 n) (hn : as.length = n) (hcw : ohCw Y1 = Cond.code Y1.1 Y1.2.1 Y1.2.2.1 Y1.2.2.2.1) (w1 : Cond.methodLink Y.1.cls idx Y1.1 ∈ lw_all) (w2 : Cond.instanceMethod Y1.1 ∈ lw_all) (w3 : Cond.selects Cn Y1.1 Y1.1 ∈ lw_all) (w4 : Cond.initialized Cn ∈ lw_all) (w5 : Cond.code Y1.1 Y1.2.1 Y1.2.2.1 Y1.2.2.2.1 ∈ lw_all)
    (hd : d1 + 1 ≤ d ∧ Y1.2.2.1 ≤ 45) (h8 : (rest.map fun v => if oIsL v = true then 2 else 1).sum ≤ 8) (hT : oT G d1 Y1 (vR (some a) :: as) h (0, 0) (fun v h' => v = some v1 ∧ h' = h1) ohNo) (kk : oX G d Y (pc + 3) ls (v1 :: rest) h1 k Φ Ψ) : oX G d Y pc ls st h k Φ Ψ :=
  oX_k (k' := ((0, 0).1 + k.1, (0, 0).2 + k.2)) (by simp) (by simp) (oX_callV (k1 := (0, 0)) (k2 := k) dc hst hr hc h100 hcls hok hn hcw w1 w2 w3 w4 w5 hd h8 hT (fun v h' e => by obtain ⟨rfl, rfl⟩ := e; exact kk) oKx)
theorem oX_cVK {Y1 : OhM} {d1 idx n : Nat} {ci N : Nat} {Cn : String} {T : u_T} {r : OhR} {a : Nat × Nat} {as rest : List OhV} {v1 : OhV} {k1 k2 : Nat × Nat} (dc : decode Y.2.1 pc = .ok (.invokevirtual idx, 3)) (hst : st = as.reverse ++ vR r :: rest) (hr : oD ci r = some a) (hc : ohCL[ci]? = some (Cn, T, N)) (h100 : ci < 100) (hcls : Y1.1.cls = Cn) (hok : oOk Y1 n) (hn : as.length = n) (hcw : ohCw Y1 = Cond.code Y1.1 Y1.2.1 Y1.2.2.1 Y1.2.2.2.1) (w1 : Cond.methodLink Y.1.cls idx Y1.1 ∈ lw_all) (w2 : Cond.instanceMethod Y1.1 ∈ lw_all) (w3 : Cond.selects Cn Y1.1 Y1.1 ∈ lw_all) (w4 : Cond.initialized Cn ∈ lw_all) (w5 : Cond.code Y1.1 Y1.2.1 Y1.2.2.1 Y1.2.2.2.1 ∈ lw_all)
    (hd : d1 + 1 ≤ d ∧ Y1.2.2.1 ≤ 45) (h8 : (rest.map fun v => if oIsL v = true then 2 else 1).sum ≤ 8) (hT : oT G d1 Y1 (vR (some a) :: as) h k1 (fun v h' => v = some v1 ∧ h' = h1) ohNo) (hk1 : k1.1 + k2.1 ≤ k.1) (hk2 : k1.2 + k2.2 ≤ k.2) (kk : oX G d Y (pc + 3) ls (v1 :: rest) h1 k2 Φ Ψ) : oX G d Y pc ls st h k Φ Ψ :=
  oX_k (k' := (k1.1 + k2.1, k1.2 + k2.2)) (by exact hk1) (by exact hk2) (oX_callV (k1 := k1) (k2 := k2) dc hst hr hc h100 hcls hok hn hcw w1 w2 w3 w4 w5 hd h8 hT (fun v h' e => by obtain ⟨rfl, rfl⟩ := e; exact kk) oKx)
theorem oX_cV_ {Y1 : OhM} {d1 idx n : Nat} {ci N : Nat} {Cn : String} {T : u_T} {r : OhR} {a : Nat × Nat} {as rest : List OhV} (dc : decode Y.2.1 pc = .ok (.invokevirtual idx, 3)) (hst : st = as.reverse ++ vR r :: rest) (hr : oD ci r = some a) (hc : ohCL[ci]? = some (Cn, T, N)) (h100 : ci < 100) (hcls : Y1.1.cls = Cn) (hok : oOk Y1 n) (hn : as.length = n) (hcw : ohCw Y1 = Cond.code Y1.1 Y1.2.1 Y1.2.2.1 Y1.2.2.2.1) (w1 : Cond.methodLink Y.1.cls idx Y1.1 ∈ lw_all) (w2 : Cond.instanceMethod Y1.1 ∈ lw_all) (w3 : Cond.selects Cn Y1.1 Y1.1 ∈ lw_all) (w4 : Cond.initialized Cn ∈ lw_all) (w5 : Cond.code Y1.1 Y1.2.1 Y1.2.2.1 Y1.2.2.2.1 ∈ lw_all)
    (hd : d1 + 1 ≤ d ∧ Y1.2.2.1 ≤ 45) (h8 : (rest.map fun v => if oIsL v = true then 2 else 1).sum ≤ 8) (hT : oT G d1 Y1 (vR (some a) :: as) h (0, 0) (fun v h' => v = none ∧ h' = h1) ohNo) (kk : oX G d Y (pc + 3) ls rest h1 k Φ Ψ) : oX G d Y pc ls st h k Φ Ψ :=
  oX_k (k' := ((0, 0).1 + k.1, (0, 0).2 + k.2)) (by simp) (by simp) (oX_callV (k1 := (0, 0)) (k2 := k) dc hst hr hc h100 hcls hok hn hcw w1 w2 w3 w4 w5 hd h8 hT (fun v h' e => by obtain ⟨rfl, rfl⟩ := e; exact kk) oKx)
theorem oX_cVK_ {Y1 : OhM} {d1 idx n : Nat} {ci N : Nat} {Cn : String} {T : u_T} {r : OhR} {a : Nat × Nat} {as rest : List OhV} {k1 k2 : Nat × Nat} (dc : decode Y.2.1 pc = .ok (.invokevirtual idx, 3)) (hst : st = as.reverse ++ vR r :: rest) (hr : oD ci r = some a) (hc : ohCL[ci]? = some (Cn, T, N)) (h100 : ci < 100) (hcls : Y1.1.cls = Cn) (hok : oOk Y1 n) (hn : as.length = n) (hcw : ohCw Y1 = Cond.code Y1.1 Y1.2.1 Y1.2.2.1 Y1.2.2.2.1) (w1 : Cond.methodLink Y.1.cls idx Y1.1 ∈ lw_all) (w2 : Cond.instanceMethod Y1.1 ∈ lw_all) (w3 : Cond.selects Cn Y1.1 Y1.1 ∈ lw_all) (w4 : Cond.initialized Cn ∈ lw_all) (w5 : Cond.code Y1.1 Y1.2.1 Y1.2.2.1 Y1.2.2.2.1 ∈ lw_all)
    (hd : d1 + 1 ≤ d ∧ Y1.2.2.1 ≤ 45) (h8 : (rest.map fun v => if oIsL v = true then 2 else 1).sum ≤ 8) (hT : oT G d1 Y1 (vR (some a) :: as) h k1 (fun v h' => v = none ∧ h' = h1) ohNo) (hk1 : k1.1 + k2.1 ≤ k.1) (hk2 : k1.2 + k2.2 ≤ k.2) (kk : oX G d Y (pc + 3) ls rest h1 k2 Φ Ψ) : oX G d Y pc ls st h k Φ Ψ :=
  oX_k (k' := (k1.1 + k2.1, k1.2 + k2.2)) (by exact hk1) (by exact hk2) (oX_callV (k1 := k1) (k2 := k2) dc hst hr hc h100 hcls hok hn hcw w1 w2 w3 w4 w5 hd h8 hT (fun v h' e => by obtain ⟨rfl, rfl⟩ := e; exact kk) oKx)
theorem oX_cS {Y1 : OhM} {d1 idx n : Nat}  {as rest : List OhV} {v1 : OhV} (dc : decode Y.2.1 pc = .ok (.invokestatic idx, 3)) (hst : st = as.reverse ++ rest) (hok : oOk Y1 n) (hn : as.length = n) (hcw : ohCw Y1 = Cond.code Y1.1 Y1.2.1 Y1.2.2.1 Y1.2.2.2.1) (w1 : Cond.methodLink Y.1.cls idx Y1.1 ∈ lw_all) (w2 : Cond.static Y1.1 ∈ lw_all) (w4 : Cond.initialized Y1.1.cls ∈ lw_all) (w5 : Cond.code Y1.1 Y1.2.1 Y1.2.2.1 Y1.2.2.2.1 ∈ lw_all)
    (hd : d1 + 1 ≤ d ∧ Y1.2.2.1 ≤ 45) (h8 : (rest.map fun v => if oIsL v = true then 2 else 1).sum ≤ 8) (hT : oT G d1 Y1 (as) h (0, 0) (fun v h' => v = some v1 ∧ h' = h1) ohNo) (kk : oX G d Y (pc + 3) ls (v1 :: rest) h1 k Φ Ψ) : oX G d Y pc ls st h k Φ Ψ :=
  oX_k (k' := ((0, 0).1 + k.1, (0, 0).2 + k.2)) (by simp) (by simp) (oX_callS (k1 := (0, 0)) (k2 := k) dc hst hok hn hcw w1 w2 w4 w5 hd h8 hT (fun v h' e => by obtain ⟨rfl, rfl⟩ := e; exact kk) oKx)
theorem oX_cSK {Y1 : OhM} {d1 idx n : Nat}  {as rest : List OhV} {v1 : OhV} {k1 k2 : Nat × Nat} (dc : decode Y.2.1 pc = .ok (.invokestatic idx, 3)) (hst : st = as.reverse ++ rest) (hok : oOk Y1 n) (hn : as.length = n) (hcw : ohCw Y1 = Cond.code Y1.1 Y1.2.1 Y1.2.2.1 Y1.2.2.2.1) (w1 : Cond.methodLink Y.1.cls idx Y1.1 ∈ lw_all) (w2 : Cond.static Y1.1 ∈ lw_all) (w4 : Cond.initialized Y1.1.cls ∈ lw_all) (w5 : Cond.code Y1.1 Y1.2.1 Y1.2.2.1 Y1.2.2.2.1 ∈ lw_all)
    (hd : d1 + 1 ≤ d ∧ Y1.2.2.1 ≤ 45) (h8 : (rest.map fun v => if oIsL v = true then 2 else 1).sum ≤ 8) (hT : oT G d1 Y1 (as) h k1 (fun v h' => v = some v1 ∧ h' = h1) ohNo) (hk1 : k1.1 + k2.1 ≤ k.1) (hk2 : k1.2 + k2.2 ≤ k.2) (kk : oX G d Y (pc + 3) ls (v1 :: rest) h1 k2 Φ Ψ) : oX G d Y pc ls st h k Φ Ψ :=
  oX_k (k' := (k1.1 + k2.1, k1.2 + k2.2)) (by exact hk1) (by exact hk2) (oX_callS (k1 := k1) (k2 := k2) dc hst hok hn hcw w1 w2 w4 w5 hd h8 hT (fun v h' e => by obtain ⟨rfl, rfl⟩ := e; exact kk) oKx)
theorem oX_cS_ {Y1 : OhM} {d1 idx n : Nat}  {as rest : List OhV} (dc : decode Y.2.1 pc = .ok (.invokestatic idx, 3)) (hst : st = as.reverse ++ rest) (hok : oOk Y1 n) (hn : as.length = n) (hcw : ohCw Y1 = Cond.code Y1.1 Y1.2.1 Y1.2.2.1 Y1.2.2.2.1) (w1 : Cond.methodLink Y.1.cls idx Y1.1 ∈ lw_all) (w2 : Cond.static Y1.1 ∈ lw_all) (w4 : Cond.initialized Y1.1.cls ∈ lw_all) (w5 : Cond.code Y1.1 Y1.2.1 Y1.2.2.1 Y1.2.2.2.1 ∈ lw_all)
    (hd : d1 + 1 ≤ d ∧ Y1.2.2.1 ≤ 45) (h8 : (rest.map fun v => if oIsL v = true then 2 else 1).sum ≤ 8) (hT : oT G d1 Y1 (as) h (0, 0) (fun v h' => v = none ∧ h' = h1) ohNo) (kk : oX G d Y (pc + 3) ls rest h1 k Φ Ψ) : oX G d Y pc ls st h k Φ Ψ :=
  oX_k (k' := ((0, 0).1 + k.1, (0, 0).2 + k.2)) (by simp) (by simp) (oX_callS (k1 := (0, 0)) (k2 := k) dc hst hok hn hcw w1 w2 w4 w5 hd h8 hT (fun v h' e => by obtain ⟨rfl, rfl⟩ := e; exact kk) oKx)
theorem oX_cSK_ {Y1 : OhM} {d1 idx n : Nat}  {as rest : List OhV} {k1 k2 : Nat × Nat} (dc : decode Y.2.1 pc = .ok (.invokestatic idx, 3)) (hst : st = as.reverse ++ rest) (hok : oOk Y1 n) (hn : as.length = n) (hcw : ohCw Y1 = Cond.code Y1.1 Y1.2.1 Y1.2.2.1 Y1.2.2.2.1) (w1 : Cond.methodLink Y.1.cls idx Y1.1 ∈ lw_all) (w2 : Cond.static Y1.1 ∈ lw_all) (w4 : Cond.initialized Y1.1.cls ∈ lw_all) (w5 : Cond.code Y1.1 Y1.2.1 Y1.2.2.1 Y1.2.2.2.1 ∈ lw_all)
    (hd : d1 + 1 ≤ d ∧ Y1.2.2.1 ≤ 45) (h8 : (rest.map fun v => if oIsL v = true then 2 else 1).sum ≤ 8) (hT : oT G d1 Y1 (as) h k1 (fun v h' => v = none ∧ h' = h1) ohNo) (hk1 : k1.1 + k2.1 ≤ k.1) (hk2 : k1.2 + k2.2 ≤ k.2) (kk : oX G d Y (pc + 3) ls rest h1 k2 Φ Ψ) : oX G d Y pc ls st h k Φ Ψ :=
  oX_k (k' := (k1.1 + k2.1, k1.2 + k2.2)) (by exact hk1) (by exact hk2) (oX_callS (k1 := k1) (k2 := k2) dc hst hok hn hcw w1 w2 w4 w5 hd h8 hT (fun v h' e => by obtain ⟨rfl, rfl⟩ := e; exact kk) oKx)
theorem oX_cSN {Y1 : OhM} {d1 idx n : Nat} {host : String} {as rest : List OhV} {v1 : OhV} (dc : decode Y.2.1 pc = .ok (.invokestatic idx, 3)) (hst : st = as.reverse ++ rest) (hok : oOk Y1 n) (hn : as.length = n) (hcw : ohCw Y1 = Cond.code Y1.1 Y1.2.1 Y1.2.2.1 Y1.2.2.2.1) (w1 : Cond.methodLinkNest Y.1.cls idx Y1.1 host ∈ lw_tbl) (w2 : Cond.static Y1.1 ∈ lw_all) (w4 : Cond.initialized Y1.1.cls ∈ lw_all) (w5 : Cond.code Y1.1 Y1.2.1 Y1.2.2.1 Y1.2.2.2.1 ∈ lw_all)
    (hd : d1 + 1 ≤ d ∧ Y1.2.2.1 ≤ 45) (h8 : (rest.map fun v => if oIsL v = true then 2 else 1).sum ≤ 8) (hT : oT G d1 Y1 (as) h (0, 0) (fun v h' => v = some v1 ∧ h' = h1) ohNo) (kk : oX G d Y (pc + 3) ls (v1 :: rest) h1 k Φ Ψ) : oX G d Y pc ls st h k Φ Ψ :=
  oX_k (k' := ((0, 0).1 + k.1, (0, 0).2 + k.2)) (by simp) (by simp) (oX_callSN (k1 := (0, 0)) (k2 := k) dc hst hok hn hcw w1 w2 w4 w5 hd h8 hT (fun v h' e => by obtain ⟨rfl, rfl⟩ := e; exact kk) oKx)
theorem oX_cSKN {Y1 : OhM} {d1 idx n : Nat} {host : String} {as rest : List OhV} {v1 : OhV} {k1 k2 : Nat × Nat} (dc : decode Y.2.1 pc = .ok (.invokestatic idx, 3)) (hst : st = as.reverse ++ rest) (hok : oOk Y1 n) (hn : as.length = n) (hcw : ohCw Y1 = Cond.code Y1.1 Y1.2.1 Y1.2.2.1 Y1.2.2.2.1) (w1 : Cond.methodLinkNest Y.1.cls idx Y1.1 host ∈ lw_tbl) (w2 : Cond.static Y1.1 ∈ lw_all) (w4 : Cond.initialized Y1.1.cls ∈ lw_all) (w5 : Cond.code Y1.1 Y1.2.1 Y1.2.2.1 Y1.2.2.2.1 ∈ lw_all)
    (hd : d1 + 1 ≤ d ∧ Y1.2.2.1 ≤ 45) (h8 : (rest.map fun v => if oIsL v = true then 2 else 1).sum ≤ 8) (hT : oT G d1 Y1 (as) h k1 (fun v h' => v = some v1 ∧ h' = h1) ohNo) (hk1 : k1.1 + k2.1 ≤ k.1) (hk2 : k1.2 + k2.2 ≤ k.2) (kk : oX G d Y (pc + 3) ls (v1 :: rest) h1 k2 Φ Ψ) : oX G d Y pc ls st h k Φ Ψ :=
  oX_k (k' := (k1.1 + k2.1, k1.2 + k2.2)) (by exact hk1) (by exact hk2) (oX_callSN (k1 := k1) (k2 := k2) dc hst hok hn hcw w1 w2 w4 w5 hd h8 hT (fun v h' e => by obtain ⟨rfl, rfl⟩ := e; exact kk) oKx)
theorem oX_cS_N {Y1 : OhM} {d1 idx n : Nat} {host : String} {as rest : List OhV} (dc : decode Y.2.1 pc = .ok (.invokestatic idx, 3)) (hst : st = as.reverse ++ rest) (hok : oOk Y1 n) (hn : as.length = n) (hcw : ohCw Y1 = Cond.code Y1.1 Y1.2.1 Y1.2.2.1 Y1.2.2.2.1) (w1 : Cond.methodLinkNest Y.1.cls idx Y1.1 host ∈ lw_tbl) (w2 : Cond.static Y1.1 ∈ lw_all) (w4 : Cond.initialized Y1.1.cls ∈ lw_all) (w5 : Cond.code Y1.1 Y1.2.1 Y1.2.2.1 Y1.2.2.2.1 ∈ lw_all)
    (hd : d1 + 1 ≤ d ∧ Y1.2.2.1 ≤ 45) (h8 : (rest.map fun v => if oIsL v = true then 2 else 1).sum ≤ 8) (hT : oT G d1 Y1 (as) h (0, 0) (fun v h' => v = none ∧ h' = h1) ohNo) (kk : oX G d Y (pc + 3) ls rest h1 k Φ Ψ) : oX G d Y pc ls st h k Φ Ψ :=
  oX_k (k' := ((0, 0).1 + k.1, (0, 0).2 + k.2)) (by simp) (by simp) (oX_callSN (k1 := (0, 0)) (k2 := k) dc hst hok hn hcw w1 w2 w4 w5 hd h8 hT (fun v h' e => by obtain ⟨rfl, rfl⟩ := e; exact kk) oKx)
theorem oX_cSK_N {Y1 : OhM} {d1 idx n : Nat} {host : String} {as rest : List OhV} {k1 k2 : Nat × Nat} (dc : decode Y.2.1 pc = .ok (.invokestatic idx, 3)) (hst : st = as.reverse ++ rest) (hok : oOk Y1 n) (hn : as.length = n) (hcw : ohCw Y1 = Cond.code Y1.1 Y1.2.1 Y1.2.2.1 Y1.2.2.2.1) (w1 : Cond.methodLinkNest Y.1.cls idx Y1.1 host ∈ lw_tbl) (w2 : Cond.static Y1.1 ∈ lw_all) (w4 : Cond.initialized Y1.1.cls ∈ lw_all) (w5 : Cond.code Y1.1 Y1.2.1 Y1.2.2.1 Y1.2.2.2.1 ∈ lw_all)
    (hd : d1 + 1 ≤ d ∧ Y1.2.2.1 ≤ 45) (h8 : (rest.map fun v => if oIsL v = true then 2 else 1).sum ≤ 8) (hT : oT G d1 Y1 (as) h k1 (fun v h' => v = none ∧ h' = h1) ohNo) (hk1 : k1.1 + k2.1 ≤ k.1) (hk2 : k1.2 + k2.2 ≤ k.2) (kk : oX G d Y (pc + 3) ls rest h1 k2 Φ Ψ) : oX G d Y pc ls st h k Φ Ψ :=
  oX_k (k' := (k1.1 + k2.1, k1.2 + k2.2)) (by exact hk1) (by exact hk2) (oX_callSN (k1 := k1) (k2 := k2) dc hst hok hn hcw w1 w2 w4 w5 hd h8 hT (fun v h' e => by obtain ⟨rfl, rfl⟩ := e; exact kk) oKx)
theorem oX_cI {Y1 : OhM} {d1 idx n : Nat} {a : Nat × Nat} {as rest : List OhV} (dc : decode Y.2.1 pc = .ok (.invokespecial idx, 3)) (hst : st = as.reverse ++ vR (some a) :: rest) (hok : oOk Y1 n) (hn : as.length = n) (hcw : ohCw Y1 = Cond.code Y1.1 Y1.2.1 Y1.2.2.1 none) (hnm : Y1.1.name = "<init>") (w1 : Cond.methodLink Y.1.cls idx Y1.1 ∈ lw_all) (w2 : Cond.instanceMethod Y1.1 ∈ lw_all) (w4 : Cond.initialized Y1.1.cls ∈ lw_all) (w5 : Cond.code Y1.1 Y1.2.1 Y1.2.2.1 none ∈ lw_all)
    (hd : d1 + 1 ≤ d ∧ Y1.2.2.1 ≤ 45) (h8 : (rest.map fun v => if oIsL v = true then 2 else 1).sum ≤ 8) (hT : oT G d1 Y1 (vR (some a) :: as) h (0, 0) (fun v h' => v = none ∧ h' = h1) ohNo) (kk : oX G d Y (pc + 3) ls rest h1 k Φ Ψ) : oX G d Y pc ls st h k Φ Ψ :=
  oX_k (k' := ((0, 0).1 + k.1, (0, 0).2 + k.2)) (by simp) (by simp) (oX_callI (k1 := (0, 0)) (k2 := k) dc hst hok hn hcw hnm w1 w2 w4 w5 hd h8 hT (fun v h' e => by obtain ⟨rfl, rfl⟩ := e; exact kk) oKx)
theorem oX_cIK {Y1 : OhM} {d1 idx n : Nat} {a : Nat × Nat} {as rest : List OhV} {k1 k2 : Nat × Nat} (dc : decode Y.2.1 pc = .ok (.invokespecial idx, 3)) (hst : st = as.reverse ++ vR (some a) :: rest) (hok : oOk Y1 n) (hn : as.length = n) (hcw : ohCw Y1 = Cond.code Y1.1 Y1.2.1 Y1.2.2.1 none) (hnm : Y1.1.name = "<init>") (w1 : Cond.methodLink Y.1.cls idx Y1.1 ∈ lw_all) (w2 : Cond.instanceMethod Y1.1 ∈ lw_all) (w4 : Cond.initialized Y1.1.cls ∈ lw_all) (w5 : Cond.code Y1.1 Y1.2.1 Y1.2.2.1 none ∈ lw_all)
    (hd : d1 + 1 ≤ d ∧ Y1.2.2.1 ≤ 45) (h8 : (rest.map fun v => if oIsL v = true then 2 else 1).sum ≤ 8) (hT : oT G d1 Y1 (vR (some a) :: as) h k1 (fun v h' => v = none ∧ h' = h1) ohNo) (hk1 : k1.1 + k2.1 ≤ k.1) (hk2 : k1.2 + k2.2 ≤ k.2) (kk : oX G d Y (pc + 3) ls rest h1 k2 Φ Ψ) : oX G d Y pc ls st h k Φ Ψ :=
  oX_k (k' := (k1.1 + k2.1, k1.2 + k2.2)) (by exact hk1) (by exact hk2) (oX_callI (k1 := k1) (k2 := k2) dc hst hok hn hcw hnm w1 w2 w4 w5 hd h8 hT (fun v h' e => by obtain ⟨rfl, rfl⟩ := e; exact kk) oKx)
theorem oX_cIN {Y1 : OhM} {d1 idx n : Nat} {a : Nat × Nat} {host : String} {as rest : List OhV} (dc : decode Y.2.1 pc = .ok (.invokespecial idx, 3)) (hst : st = as.reverse ++ vR (some a) :: rest) (hok : oOk Y1 n) (hn : as.length = n) (hcw : ohCw Y1 = Cond.code Y1.1 Y1.2.1 Y1.2.2.1 none) (hnm : Y1.1.name = "<init>") (w1 : Cond.methodLinkNest Y.1.cls idx Y1.1 host ∈ lw_tbl) (w2 : Cond.instanceMethod Y1.1 ∈ lw_all) (w4 : Cond.initialized Y1.1.cls ∈ lw_all) (w5 : Cond.code Y1.1 Y1.2.1 Y1.2.2.1 none ∈ lw_all)
    (hd : d1 + 1 ≤ d ∧ Y1.2.2.1 ≤ 45) (h8 : (rest.map fun v => if oIsL v = true then 2 else 1).sum ≤ 8) (hT : oT G d1 Y1 (vR (some a) :: as) h (0, 0) (fun v h' => v = none ∧ h' = h1) ohNo) (kk : oX G d Y (pc + 3) ls rest h1 k Φ Ψ) : oX G d Y pc ls st h k Φ Ψ :=
  oX_k (k' := ((0, 0).1 + k.1, (0, 0).2 + k.2)) (by simp) (by simp) (oX_callIN (k1 := (0, 0)) (k2 := k) dc hst hok hn hcw hnm w1 w2 w4 w5 hd h8 hT (fun v h' e => by obtain ⟨rfl, rfl⟩ := e; exact kk) oKx)
theorem oX_cIKN {Y1 : OhM} {d1 idx n : Nat} {a : Nat × Nat} {host : String} {as rest : List OhV} {k1 k2 : Nat × Nat} (dc : decode Y.2.1 pc = .ok (.invokespecial idx, 3)) (hst : st = as.reverse ++ vR (some a) :: rest) (hok : oOk Y1 n) (hn : as.length = n) (hcw : ohCw Y1 = Cond.code Y1.1 Y1.2.1 Y1.2.2.1 none) (hnm : Y1.1.name = "<init>") (w1 : Cond.methodLinkNest Y.1.cls idx Y1.1 host ∈ lw_tbl) (w2 : Cond.instanceMethod Y1.1 ∈ lw_all) (w4 : Cond.initialized Y1.1.cls ∈ lw_all) (w5 : Cond.code Y1.1 Y1.2.1 Y1.2.2.1 none ∈ lw_all)
    (hd : d1 + 1 ≤ d ∧ Y1.2.2.1 ≤ 45) (h8 : (rest.map fun v => if oIsL v = true then 2 else 1).sum ≤ 8) (hT : oT G d1 Y1 (vR (some a) :: as) h k1 (fun v h' => v = none ∧ h' = h1) ohNo) (hk1 : k1.1 + k2.1 ≤ k.1) (hk2 : k1.2 + k2.2 ≤ k.2) (kk : oX G d Y (pc + 3) ls rest h1 k2 Φ Ψ) : oX G d Y pc ls st h k Φ Ψ :=
  oX_k (k' := (k1.1 + k2.1, k1.2 + k2.2)) (by exact hk1) (by exact hk2) (oX_callIN (k1 := k1) (k2 := k2) dc hst hok hn hcw hnm w1 w2 w4 w5 hd h8 hT (fun v h' e => by obtain ⟨rfl, rfl⟩ := e; exact kk) oKx)
end OG
/-- costs -/
def oPl (q k : Nat × Nat) : Nat × Nat := (q.1 + k.1, q.2 + k.2)
theorem oPl_assoc (a b c : Nat × Nat) : oPl (a.1 + b.1, a.2 + b.2) c = oPl a (oPl b c) := by simp [oPl, Nat.add_assoc]
theorem oEnd {α : Type} {x r : α} {q : Nat × Nat} (h : some (x, ((0 : Nat), (0 : Nat))) = some (r, q)) : r = x ∧ q = (0, 0) := by
  cases h; exact ⟨rfl, rfl⟩
theorem oX_cost {G : OhG} {d : Nat} {Y : OhM} {pc : Nat} {ls : List (Nat × OhV)} {st : List OhV} {h : OhH} {k : Nat × Nat} {Φ : OhP} {Ψ : OhX} {α : Type} {x : Option (α × (Nat × Nat))} {a : α} {b q : Nat × Nat} (hm : oCost q x = some (a, b)) (H : ∀ c, x = some (a, c) → oX G d Y pc ls st h (oPl q (oPl c k)) Φ Ψ) : oX G d Y pc ls st h (oPl b k) Φ Ψ := by
  obtain ⟨c, h1, h2⟩ := oc_s hm
  have h2 : b = (q.1 + c.1, q.2 + c.2) := h2
  rw [h2, oPl_assoc]; exact H c h1
theorem oX_z {G : OhG} {d : Nat} {Y : OhM} {pc : Nat} {ls : List (Nat × OhV)} {st : List OhV} {h : OhH} {k : Nat × Nat} {Φ : OhP} {Ψ : OhX} (kk : oX G d Y pc ls st h k Φ Ψ) : oX G d Y pc ls st h (oPl (0, 0) k) Φ Ψ := by
  have e : oPl (0, 0) k = k := by simp [oPl]
  rw [e]; exact kk
