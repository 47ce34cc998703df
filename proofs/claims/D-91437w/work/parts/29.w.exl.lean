/-! CORE 19: the words that oX_thr asks for: printed by gen/mk_exl.py -/
def oIsDecl : Cond → Bool
  | .declares _ => true
  | _ => false
theorem exL_in {ws : List Cond} (idx : List Nat) (h1 : ws = idx.filterMap (fun i => lw_tbl[i]?)) (h2 : ws.all (fun w => vx_ot w && (goodWord w || oIsDecl w)) = true) : ∀ w ∈ ws, w ∈ lw_tbl ∧ vx_ot w = true ∧ (goodWord w = true ∨ ∃ x, w = .declares x) := by
  intro w hw
  have h3 := List.all_eq_true.mp h2 w hw
  simp only [Bool.and_eq_true, Bool.or_eq_true] at h3
  refine ⟨?_, h3.1, ?_⟩
  · rw [h1] at hw
    obtain ⟨i, -, hi⟩ := List.mem_filterMap.mp hw
    exact List.mem_of_getElem? hi
  · rcases h3.2 with h4 | h4
    · exact Or.inl h4
    · cases w <;> first | exact Or.inr ⟨_, rfl⟩ | cases h4
theorem exL_Fault : ∀ w ∈ (ohExL "OperaHouse$Fault" 1 "java/lang/Exception" [] "OperaHouse$Fault" 8).filter vx_no, w ∈ lw_tbl ∧ vx_ot w = true ∧ (goodWord w = true ∨ ∃ x, w = .declares x) :=
  exL_in [153, 1008, 1017, 1020, 1023, 1025, 1009, 1010, 176, 177, 1011, 1016, 1021, 1038, 998, 1039, 1000, 1040, 1002, 1012, 1014, 1004, 1030, 1031, 1032, 1009, 993, 1029, 1030, 1031, 989, 995, 996, 997, 999, 1001, 1007, 1006, 1005] (by decide +kernel) (by decide +kernel)
theorem exL_Nsee : ∀ w ∈ (ohExL "OperaHouse" 419 "java/util/NoSuchElementException" ["java/lang/RuntimeException", "java/lang/Exception"] "java/util/NoSuchElementException" 6).filter vx_no, w ∈ lw_tbl ∧ vx_ot w = true ∧ (goodWord w = true ∨ ∃ x, w = .declares x) :=
  exL_in [153, 1008, 1017, 1020, 1023, 1025, 1009, 1010, 176, 177, 1011, 1016, 1021, 1038, 998, 1039, 1000, 1040, 1002, 1012, 1014, 1004, 1694, 1695, 1696, 1697, 1685, 1697, 1698, 1699, 1030, 991, 1030, 1031, 1032, 1009, 993, 1693, 1694, 1695, 1683, 1687, 1019, 1688, 1689, 1690, 1007, 1006, 1692] (by decide +kernel) (by decide +kernel)
section OTF
variable {G : OhG} {d : Nat} {Y : OhM} {pc : Nat} {ls : List (Nat × OhV)} {st : List OhV} {k : Nat × Nat} {Φ : OhP} {Ψ : OhX}
variable {FI AI : OhI} {FL AL : OhL} {FR GR AR BR : OhQ} {AN : OhN} {C : OhC}
theorem oX_thrFault {r : OhR} {a : Nat × Nat} (dc : decode Y.2.1 pc = .ok (.invokespecial 1, 3)) (hown : Y.1.cls = "OperaHouse$Fault") (hr : oD 9 r = some a) (hnull : GR a.1 a.2 4 = none) (hd : 4 ≤ d) (h8 : (st.map fun v => if oIsL v = true then 2 else 1).sum ≤ 8)
    (kk : oX G d Y (pc + 3) ls st (FI, FL, FR, GR, AI, AL, AR, BR, AN, C) k Φ Ψ) : oX G d Y pc ls (vR r :: st) (FI, FL, FR, GR, AI, AL, AR, BR, AN, C) k Φ Ψ :=
  oX_thr (names := []) (cls := "java/lang/Exception") dc hr rfl rfl (by decide) in_X10 tyX10_ok nmX10 (by decide +kernel) (fun n hn => by cases hn) (by rw [hown]; exact exL_Fault) (by decide) rfl rfl rfl rfl rfl rfl rfl rfl rfl hnull (by show 0 + 4 ≤ d; omega) h8 (by show 13 * (0 + 1) + 50 ≤ 64 * d; omega) kk
theorem oX_thrNsee {r : OhR} {a : Nat × Nat} (dc : decode Y.2.1 pc = .ok (.invokespecial 419, 3)) (hown : Y.1.cls = "OperaHouse") (hr : oD 20 r = some a) (hnull : GR a.1 a.2 4 = none) (hd : 6 ≤ d) (h8 : (st.map fun v => if oIsL v = true then 2 else 1).sum ≤ 8)
    (kk : oX G d Y (pc + 3) ls st (FI, FL, FR, GR, AI, AL, AR, BR, AN, C) k Φ Ψ) : oX G d Y pc ls (vR r :: st) (FI, FL, FR, GR, AI, AL, AR, BR, AN, C) k Φ Ψ :=
  oX_thr (names := ["java/lang/RuntimeException", "java/lang/Exception"]) (cls := "java/util/NoSuchElementException") dc hr rfl rfl (by decide) in_J20 tyJ20_ok nmJ20 (by decide +kernel) (fun n hn => by simp only [List.mem_cons, List.not_mem_nil, or_false] at hn; rcases hn with rfl | rfl <;> decide +kernel) (by rw [hown]; exact exL_Nsee) (by decide) rfl rfl rfl rfl rfl rfl rfl rfl rfl hnull (by show 2 + 4 ≤ d; omega) h8 (by show 13 * (2 + 1) + 50 ≤ 64 * d; omega) kk
/-- a call that may throw -/
theorem oX_cVX {Y1 : OhM} {d1 idx n : Nat} {ci N : Nat} {Cn E9 : String} {T : u_T} {r : OhR} {a : Nat × Nat} {as rest : List OhV} {h : OhH} {k1 k2 : Nat × Nat} {α β : Type} {z : α ⊕ β} {F : β → OhV} {Hh : β → OhH} {A : α → Nat × Nat} {Hx : α → OhH} (dc : decode Y.2.1 pc = .ok (.invokevirtual idx, 3)) (hst : st = as.reverse ++ vR r :: rest) (hr : oD ci r = some a) (hc : ohCL[ci]? = some (Cn, T, N)) (h100 : ci < 100) (hcls : Y1.1.cls = Cn) (hok : oOk Y1 n) (hn : as.length = n) (hcw : ohCw Y1 = Cond.code Y1.1 Y1.2.1 Y1.2.2.1 Y1.2.2.2.1) (w1 : Cond.methodLink Y.1.cls idx Y1.1 ∈ lw_all) (w2 : Cond.instanceMethod Y1.1 ∈ lw_all) (w3 : Cond.selects Cn Y1.1 Y1.1 ∈ lw_all) (w4 : Cond.initialized Cn ∈ lw_all) (w5 : Cond.code Y1.1 Y1.2.1 Y1.2.2.1 Y1.2.2.2.1 ∈ lw_all)
    (hd : d1 + 1 ≤ d ∧ Y1.2.2.1 ≤ 45) (h8 : (rest.map fun v => if oIsL v = true then 2 else 1).sum ≤ 8) (hT : oT G d1 Y1 (vR (some a) :: as) h k1 (fun v h' => ∃ o, z = .inr o ∧ v = some (F o) ∧ h' = Hh o) (fun E b h' => ∃ x, z = .inl x ∧ E = E9 ∧ b = A x ∧ h' = Hx x)) (hk1 : k1.1 + k2.1 ≤ k.1) (hk2 : k1.2 + k2.2 ≤ k.2)
    (kk : ∀ o, z = .inr o → oX G d Y (pc + 3) ls (F o :: rest) (Hh o) k2 Φ Ψ) (kx : ∀ x, z = .inl x → oXt G d Y pc ls rest (Hx x) k2 Φ Ψ E9 (A x)) : oX G d Y pc ls st h k Φ Ψ :=
  oX_k (k' := (k1.1 + k2.1, k1.2 + k2.2)) (by exact hk1) (by exact hk2) (oX_callV (k1 := k1) (k2 := k2) dc hst hr hc h100 hcls hok hn hcw w1 w2 w3 w4 w5 hd h8 hT (fun v h' e => by obtain ⟨o, e1, rfl, rfl⟩ := e; exact kk o e1) (fun E b h' e => by obtain ⟨x, e1, rfl, rfl, rfl⟩ := e; exact kx x e1))
theorem oX_cVX_ {Y1 : OhM} {d1 idx n : Nat} {ci N : Nat} {Cn E9 : String} {T : u_T} {r : OhR} {a : Nat × Nat} {as rest : List OhV} {h : OhH} {k1 k2 : Nat × Nat} {α β : Type} {z : α ⊕ β} {Hh : β → OhH} {A : α → Nat × Nat} {Hx : α → OhH} (dc : decode Y.2.1 pc = .ok (.invokevirtual idx, 3)) (hst : st = as.reverse ++ vR r :: rest) (hr : oD ci r = some a) (hc : ohCL[ci]? = some (Cn, T, N)) (h100 : ci < 100) (hcls : Y1.1.cls = Cn) (hok : oOk Y1 n) (hn : as.length = n) (hcw : ohCw Y1 = Cond.code Y1.1 Y1.2.1 Y1.2.2.1 Y1.2.2.2.1) (w1 : Cond.methodLink Y.1.cls idx Y1.1 ∈ lw_all) (w2 : Cond.instanceMethod Y1.1 ∈ lw_all) (w3 : Cond.selects Cn Y1.1 Y1.1 ∈ lw_all) (w4 : Cond.initialized Cn ∈ lw_all) (w5 : Cond.code Y1.1 Y1.2.1 Y1.2.2.1 Y1.2.2.2.1 ∈ lw_all)
    (hd : d1 + 1 ≤ d ∧ Y1.2.2.1 ≤ 45) (h8 : (rest.map fun v => if oIsL v = true then 2 else 1).sum ≤ 8) (hT : oT G d1 Y1 (vR (some a) :: as) h k1 (fun v h' => ∃ o, z = .inr o ∧ v = none ∧ h' = Hh o) (fun E b h' => ∃ x, z = .inl x ∧ E = E9 ∧ b = A x ∧ h' = Hx x)) (hk1 : k1.1 + k2.1 ≤ k.1) (hk2 : k1.2 + k2.2 ≤ k.2)
    (kk : ∀ o, z = .inr o → oX G d Y (pc + 3) ls rest (Hh o) k2 Φ Ψ) (kx : ∀ x, z = .inl x → oXt G d Y pc ls rest (Hx x) k2 Φ Ψ E9 (A x)) : oX G d Y pc ls st h k Φ Ψ :=
  oX_k (k' := (k1.1 + k2.1, k1.2 + k2.2)) (by exact hk1) (by exact hk2) (oX_callV (k1 := k1) (k2 := k2) dc hst hr hc h100 hcls hok hn hcw w1 w2 w3 w4 w5 hd h8 hT (fun v h' e => by obtain ⟨o, e1, rfl, rfl⟩ := e; exact kk o e1) (fun E b h' e => by obtain ⟨x, e1, rfl, rfl, rfl⟩ := e; exact kx x e1))
end OTF
