/-! CORE 15: Strings that the law makes and those that were there before -/
def oDS (r : OhR) : OhR := match r with
  | none => none
  | some a => if ohKd a.1 = 18 ∨ ohKd a.1 = 130 then some a else none
theorem oDS_some {r : OhR} {a : Nat × Nat} (e : oDS r = some a) : r = some a ∧ (ohKd a.1 = 18 ∨ ohKd a.1 = 130) := by
  cases r with
  | none => cases e
  | some b =>
    unfold oDS at e
    by_cases h9 : ohKd b.1 = 18 ∨ ohKd b.1 = 130
    · simp only [if_pos h9] at e
      cases e
      exact ⟨rfl, h9⟩
    · simp only [if_neg h9] at e
      cases e
theorem oDS_t {t : Nat × Nat} (h : ohKd t.1 = 18 ∨ ohKd t.1 = 130) : oDS (some t) = some t := by
  show (if ohKd t.1 = 18 ∨ ohKd t.1 = 130 then some t else none) = some t
  rw [if_pos h]
theorem oDS_self {r : OhR} {a : Nat × Nat} (e : oDS r = some a) : oDS (some a) = some a := oDS_t (oDS_some e).2
theorem oD2_t {k : Nat} {t : Nat × Nat} (h : ohKd t.1 = 100 + k ∨ ohKd t.1 = 120 + k) : oD2 k (some t) = some t := by
  show (if ohKd t.1 = 100 + k ∨ ohKd t.1 = 120 + k then some t else none) = some t
  rw [if_pos h]
section OST
variable {G : OhG} {d : Nat} {Y : OhM} {pc : Nat} {ls : List (Nat × OhV)} {st : List OhV} {k : Nat × Nat} {Φ : OhP} {Ψ : OhX} {h : OhH}
variable {FI AI : OhI} {FL AL : OhL} {FR GR AR BR : OhQ} {AN : OhN} {C : OhC}
/-- what stands at a String constant -/
theorem oPreStr {ad : Nat → Nat → Nat} {H : Heap} {s : State} {a : Nat × Nat} (hEnv : ohEnv G s) (hz : ohCz G ad h H) (hla : ohLive h a) (hk : ohKd a.1 = 130) :
    ∃ cell : Cell, H[ad a.1 a.2]? = some cell ∧ cell.vm ≠ .unknown ∧ cell.vm.isStatics = false ∧ s.vm.findClass "java/lang/String" = some cell.cls ∧ ∀ k, k < 2 → cell.slots[G.2.1.2 18 k]? = some (ohFv ad h 18 a.1 a.2 k) := by
  have hp : ohPre a.1 = true := by unfold ohPre; rw [hk]; rfl
  obtain ⟨e1, e2⟩ := hz.2.2.2.1 a.1 a.2 hp
  have hl : a.2 < hC G.2.2.2.2.2.2 a.1 := by have := hla; unfold ohLive at this; rw [(hz.2.2.2.2.1 a.1 hp).1] at this; exact this
  obtain ⟨cell, g1, g2, g3, g4, -, g6⟩ := hEnv.2.2.1 a.1 a.2 hp (by omega) hl
  obtain ⟨j1, j2, j3⟩ := g6 hk
  refine ⟨cell, by rw [e1, hz.2.1 _ g4]; exact g1, g2, g3, j1, fun k hk9 => ?_⟩
  rw [j2 k hk9]
  congr 1
  rcases Nat.lt_or_ge k 1 with h1 | h1
  · obtain rfl : k = 0 := by omega
    show gRf _ (G.2.2.2.2.2.2.2.2.1 a.1 a.2 0) = gRf ad (h.2.2.1 a.1 a.2 0)
    rw [e2.2.2.1]
    unfold gRf
    congr 1
    cases h9 : G.2.2.2.2.2.2.2.2.1 a.1 a.2 0 with
    | none => rfl
    | some b => exact congrArg some (hz.2.2.2.1 b.1 b.2 (j3 b h9)).1.symm
  · obtain rfl : k = 1 := by omega
    show Value.int (G.2.2.2.2.2.2.1 a.1 a.2 1) = Value.int (h.1 a.1 a.2 1)
    rw [e2.1]
theorem oRecvS {ad : Nat → Nat → Nat} {H : Heap} {s : State} {a : Nat × Nat} (hEnv : ohEnv G s) (hz : ohCz G ad h H) (hla : ohLive h a) (hk : ohKd a.1 = 18 ∨ ohKd a.1 = 130) :
    ∃ cellB : Cell, H[ad a.1 a.2]? = some cellB ∧ cellB.vm.isStatics = false ∧ s.vm.findClass "java/lang/String" = some cellB.cls := by
  rcases hk with hk | hk
  · exact oRecv (C := RJ8) (T := TJ8) (N := 4) hEnv hz hla (oPre_lt hk (by decide)) hk (by decide) rfl
  · obtain ⟨cell, g1, -, g3, g4, -⟩ := oPreStr hEnv hz hla hk
    exact ⟨cell, g1, g3, g4⟩
theorem oFl_getS {idx k9 : Nat} {ty : FieldType} {fin wr : Bool} (f : oFl Y.1.cls idx 18 k9 ty fin wr) (h2 : k9 < 2) {r : OhR} {a : Nat × Nat} (hr : oDS r = some a) (dc : decode Y.2.1 pc = .ok (.getfield idx, 3))
    {v : OhV} (hv : ∀ ad, ohFv ad h 18 a.1 a.2 k9 = gVl ad v) (hw : ohWf h → ohLive h a → ohWv h v) (kk : oX G d Y (pc + 3) ls (v :: st) h k Φ Ψ) : oX G d Y pc ls (vR r :: st) h k Φ Ψ := by
  obtain ⟨rfl, hkd | hkd⟩ := oDS_some hr
  · exact oFl_get f (oD_t hkd) dc hv hw kk
  intro p e s m args below meth c mc ms ad0 h0 ad H locs cells slots Ls B hE hz hl1 hs1 hS hl hk1 hk2
  obtain ⟨Cn, T, N, tyf, ref, f1, f2, f3, f4, f5, f6, f7, f8, f9, f10, f11, f12, f13⟩ := f
  have hla : ohLive h a := oW_h hs1 a rfl
  obtain ⟨cell, q1, q3, -, -, q4⟩ := oPreStr B.2.2.2.2.2.2.2.1 hz hla hkd
  obtain ⟨hSl, hfc, kC, hkC, hkind⟩ := B.2.2.2.2.2.2.2.1.1.1 18 _ f1
  obtain ⟨cf, kf, fi, fd, hi, hsl⟩ := hSl k9 f5
  have hval : cell.slots[fd.slot]? = some (gVl ad v) := by rw [hsl, q4 k9 h2, hv ad]
  have hst := (u_facts hfc hkC (u_lays B.2.2.2.2.2.2.1 f4 f5) hi).1
  have hsame : s.fieldFound? ref (T k9).2.1 (T k9).2.2.1 = some (cf, kf, fi, fd) := by
    rcases f12 with rfl | h9
    · exact hi
    · exact u_same (B.2.2.2.2.2.2.1 _ h9) _ hi
  have K := kk p e s m args below meth c mc ms ad0 h0 ad H locs cells slots Ls B hE hz hl1 (oW_c (hw hz.2.2.2.2.2.2 hla) (oW_t hs1)) hS hl hk1 hk2
  rcases f13 with h9 | ⟨host, h9⟩
  · exact W.getf B.1 B.2.1 B.2.2.2.2.2.1 (B.2.2.2.2.2.2.1 _ h9) hsame hst q1 q3 hval rfl rfl dc K
  · exact va_Wgetf B.1 B.2.1 B.2.2.2.2.2.1 (va_Nw.use rfl (B.2.2.2.2.2.2.2.1.2.1.1 _ _ _ _ _ _ h9)) hsame hst q1 q3 hval rfl rfl dc K
theorem oX_getIS {idx : Nat} {ty : FieldType} {fin wr : Bool} (f : oFl Y.1.cls idx 18 1 ty fin wr) {r : OhR} {a : Nat × Nat} (hr : oDS r = some a) (dc : decode Y.2.1 pc = .ok (.getfield idx, 3))
    (kk : oX G d Y (pc + 3) ls (vI (FI a.1 a.2 1) :: st) (FI, FL, FR, GR, AI, AL, AR, BR, AN, C) k Φ Ψ) : oX G d Y pc ls (vR r :: st) (FI, FL, FR, GR, AI, AL, AR, BR, AN, C) k Φ Ψ :=
  oFl_getS f (by decide) hr dc (v := vI (FI a.1 a.2 1)) (fun ad => rfl) (fun _ _ => trivial) kk
theorem oX_getFS {idx : Nat} {ty : FieldType} {fin wr : Bool} (f : oFl Y.1.cls idx 18 0 ty fin wr) {r : OhR} {a : Nat × Nat} (hr : oDS r = some a) (dc : decode Y.2.1 pc = .ok (.getfield idx, 3))
    (kk : oX G d Y (pc + 3) ls (vR (FR a.1 a.2 0) :: st) (FI, FL, FR, GR, AI, AL, AR, BR, AN, C) k Φ Ψ) : oX G d Y pc ls (vR r :: st) (FI, FL, FR, GR, AI, AL, AR, BR, AN, C) k Φ Ψ :=
  oFl_getS f (by decide) hr dc (v := vR (FR a.1 a.2 0)) (fun ad => rfl) (fun hw hla => (hw a.1 a.2).1 0) kk
theorem oX_bald2 {x : Int32} {r : OhR} {a : Nat × Nat} (hr : oD2 2 r = some a) (hin : vp_in x (AN a.1 a.2)) (dc : decode Y.2.1 pc = .ok (.baload, 1))
    (kk : oX G d Y (pc + 1) ls (vI (AI a.1 a.2 x.toNatClampNeg) :: st) (FI, FL, FR, GR, AI, AL, AR, BR, AN, C) k Φ Ψ) : oX G d Y pc ls (vI x :: vR r :: st) (FI, FL, FR, GR, AI, AL, AR, BR, AN, C) k Φ Ψ := by
  obtain ⟨rfl, h9 | h9⟩ := oD2_some hr
  · exact oX_bald (oD_t h9) hin dc kk
  · exact oX_baldP (oD_t h9) hin dc kk
theorem oX_castS {idx : Nat} {r : OhR} {a : Nat × Nat} (hr : oDS r = some a) (hq : Cond.classLink Y.1.cls idx "java/lang/String" ∈ lw_all) (dc : decode Y.2.1 pc = .ok (.checkcast idx, 3)) (kk : oX G d Y (pc + 3) ls (vR (some a) :: st) h k Φ Ψ) : oX G d Y pc ls (vR r :: st) h k Φ Ψ := by
  intro p e s m args below meth c mc ms ad0 h0 ad H locs cells slots Ls B hE hz hl1 hs1 hS hl hk1 hk2
  obtain ⟨rfl, hkd⟩ := oDS_some hr
  have hrv := oRecvS B.2.2.2.2.2.2.2.1 hz (oW_h hs1 a rfl) hkd
  exact va_castE B.1 B.2.1 B.2.2.2.2.2.1 (B.2.2.2.2.2.2.1 _ hq) hrv dc (kk p e s m args below meth c mc ms ad0 h0 ad H locs cells slots Ls B hE hz hl1 hs1 hS hl hk1 hk2)
theorem oX_instS {idx : Nat} {r : OhR} {a : Nat × Nat} (hr : oDS r = some a) (hq : Cond.classLink Y.1.cls idx "java/lang/String" ∈ lw_all) (dc : decode Y.2.1 pc = .ok (.instanceof idx, 3)) (kk : oX G d Y (pc + 3) ls (vI 1 :: st) h k Φ Ψ) : oX G d Y pc ls (vR r :: st) h k Φ Ψ := by
  intro p e s m args below meth c mc ms ad0 h0 ad H locs cells slots Ls B hE hz hl1 hs1 hS hl hk1 hk2
  obtain ⟨rfl, hkd⟩ := oDS_some hr
  obtain ⟨cell, g1, g2, g3⟩ := oRecvS B.2.2.2.2.2.2.2.1 hz (oW_h hs1 a rfl) hkd
  intro T hT X
  obtain ⟨vm', X', stp⟩ := X.instanceofYes B.1 B.2.2.2.2.2.1 (B.2.2.2.2.2.2.1 _ hq) (a := ad a.1 a.2) (cell := cell) (by rw [hT]; exact g1) g2 g3 (va_asg _ _) (g := F0 m pc Ls (.ref (ad a.1 a.2) :: st.map (gVl ad))) rfl rfl (by rw [B.2.1]; exact dc)
  obtain ⟨t2, a1, b1⟩ := kk p e s m args below meth c mc ms ad0 h0 ad H locs cells slots Ls B hE hz hl1 (oW_i (oW_t hs1)) hS hl hk1 hk2 (T.setVm vm') hT X'
  exact ⟨t2, stp t2 a1, b1⟩
theorem oX_ldcS {idx site : Nat} {text : String} (he : 0 < hC h site) (hm : (idx, site, text) ∈ ohStrs) (hp : ohPre site = true) (hown : Y.1.cls = "OperaHouse$Reader") (dc : decode Y.2.1 pc = .ok (.ldc idx, 2)) (kk : oX G d Y (pc + 2) ls (vR (some (site, 0)) :: st) h k Φ Ψ) : oX G d Y pc ls st h k Φ Ψ := by
  intro p e s m args below meth c mc ms ad0 h0 ad H locs cells slots Ls B hE hz hl1 hs1 hS hl hk1 hk2
  obtain ⟨-, hq⟩ := (B.2.2.2.2.2.2.2.1.2.2.2.2.2.2.2.2.2.1 : ohSR G.2.2.2.2.2.1 s)
  obtain ⟨w1, w2⟩ := hq _ hm
  have ha : G.2.2.2.2.2.1 site 0 = ad site 0 := (hz.2.2.2.1 site 0 hp).1.symm
  intro T hT X
  have stp := X.ldcString B.1 (own := "OperaHouse$Reader") (text := text) (index := idx) (a := ad site 0) (by rw [← hown]; exact B.2.2.2.2.2.1) w1 (by rw [← ha]; exact (Term.string_eval_of_vm (U := s) (V := s) (args := #[]) rfl).trans w2) (g := F0 m pc Ls (st.map (gVl ad))) rfl (by rw [B.2.1]; exact dc)
  obtain ⟨t2, a1, b1⟩ := kk p e s m args below meth c mc ms ad0 h0 ad H locs cells slots Ls B hE hz hl1 (oW_c (fun b hb => by cases hb; exact he) hs1) hS hl hk1 hk2 T hT X
  exact ⟨t2, stp t2 a1, b1⟩
theorem oX_callVS {Y1 : OhM} {d1 idx n : Nat} {k1 k2 : Nat × Nat} {as rest : List OhV} {r : OhR} {a : Nat × Nat} {Φ1 : OhP} {Ψ1 : OhX}
    (dc : decode Y.2.1 pc = .ok (.invokevirtual idx, 3)) (hst : st = as.reverse ++ vR r :: rest) (hr : oDS r = some a) (hcls : Y1.1.cls = "java/lang/String") (hok : oOk Y1 n) (hn : as.length = n) (hcw : ohCw Y1 = Cond.code Y1.1 Y1.2.1 Y1.2.2.1 Y1.2.2.2.1)
    (w1 : Cond.methodLink Y.1.cls idx Y1.1 ∈ lw_all) (w2 : Cond.instanceMethod Y1.1 ∈ lw_all) (w3 : Cond.selects "java/lang/String" Y1.1 Y1.1 ∈ lw_all) (w4 : Cond.initialized "java/lang/String" ∈ lw_all) (w5 : Cond.code Y1.1 Y1.2.1 Y1.2.2.1 Y1.2.2.2.1 ∈ lw_all)
    (hd : d1 + 1 ≤ d ∧ Y1.2.2.1 ≤ 45) (h8 : (rest.map fun v => if oIsL v = true then 2 else 1).sum ≤ 8)
    (hT : oT G d1 Y1 (vR (some a) :: as) h k1 Φ1 Ψ1) (kk : ∀ (v : Option OhV) (h' : OhH), Φ1 v h' → oX G d Y (pc + 3) ls (v.toList ++ rest) h' k2 Φ Ψ) (kx : ∀ (E : String) (a : Nat × Nat) (h' : OhH), Ψ1 E a h' → oXt G d Y pc ls rest h' k2 Φ Ψ E a) :
    oX G d Y pc ls st h (k1.1 + k2.1, k1.2 + k2.2) Φ Ψ := by
  intro p e s m args below meth c mc ms ad0 h0 ad H locs cells slots Ls B hE hz hl1 hs1 hS hl hk1 hk2
  subst hst
  obtain ⟨rfl, hk⟩ := oDS_some hr
  obtain ⟨y, cc1, nL1, ret1, hh1⟩ := Y1
  have hwa : ∀ v ∈ vR (some a) :: as, ohWv h v := fun v hv => by
    rcases List.mem_cons.mp hv with rfl | hv
    · exact hs1 _ (List.mem_append_right _ List.mem_cons_self)
    · exact hs1 _ (List.mem_append_left _ (List.mem_reverse.mpr hv))
  have hwr : ∀ v ∈ rest, ohWv h v := fun v hv => hs1 _ (List.mem_append_right _ (List.mem_cons_of_mem _ hv))
  have hM := hT ad hwa
  rw [hcw] at hM
  have hcl : y.cls = "java/lang/String" := hcls
  have hrv := oRecvS B.2.2.2.2.2.2.2.1 hz (hwa _ List.mem_cons_self a rfl) hk
  refine oRun B hE hl1 hwr hS hl (by omega) (by omega) (vy_runV (b := ad a.1 a.2) (As := as.map (gVl ad)) (rest := rest.map (gVl ad)) ⟨B.1, B.2.1, B.2.2.2.2.1, B.2.2.2.2.2.1, B.2.2.2.2.2.2.1⟩ hM (cwV n B.2.2.2.2.2.2.1 (lw_V w1 w2 w3 w4 w5) rfl rfl rfl ⟨hcl, hok⟩ ⟨by show d1 + 1 ≤ d; omega, by show 8 + (nL1 + 11) + 64 * d1 ≤ 64 * d; have : nL1 ≤ 45 := hd.2; omega⟩) ⟨oPc_blind, hrv, fun U hU hW => ⟨rfl, by rw [hU]; exact hz, ohEnv_moved hW B.2.2.2.2.2.2.2.1⟩⟩ rfl (by rw [List.length_map]; exact hn) hl.1 ?_ (lv_room (oSumLe h8)) dc ⟨by show cells + k1.1 ≤ mc; omega, by show slots + k1.2 ≤ ms; omega⟩) kk kx
  show (as.reverse ++ vR (some a) :: rest).map (gVl ad) = _
  rw [List.map_append, List.map_reverse]; rfl
theorem oX_cVS {Y1 : OhM} {d1 idx n : Nat} {r : OhR} {a : Nat × Nat} {as rest : List OhV} {v1 : OhV} {h1 : OhH} (dc : decode Y.2.1 pc = .ok (.invokevirtual idx, 3)) (hst : st = as.reverse ++ vR r :: rest) (hr : oDS r = some a) (hcls : Y1.1.cls = "java/lang/String") (hok : oOk Y1 n) (hn : as.length = n) (hcw : ohCw Y1 = Cond.code Y1.1 Y1.2.1 Y1.2.2.1 Y1.2.2.2.1) (w1 : Cond.methodLink Y.1.cls idx Y1.1 ∈ lw_all) (w2 : Cond.instanceMethod Y1.1 ∈ lw_all) (w3 : Cond.selects "java/lang/String" Y1.1 Y1.1 ∈ lw_all) (w4 : Cond.initialized "java/lang/String" ∈ lw_all) (w5 : Cond.code Y1.1 Y1.2.1 Y1.2.2.1 Y1.2.2.2.1 ∈ lw_all)
    (hd : d1 + 1 ≤ d ∧ Y1.2.2.1 ≤ 45) (h8 : (rest.map fun v => if oIsL v = true then 2 else 1).sum ≤ 8) (hT : oT G d1 Y1 (vR (some a) :: as) h (0, 0) (fun v h' => v = some v1 ∧ h' = h1) ohNo) (kk : oX G d Y (pc + 3) ls (v1 :: rest) h1 k Φ Ψ) : oX G d Y pc ls st h k Φ Ψ :=
  oX_k (k' := ((0, 0).1 + k.1, (0, 0).2 + k.2)) (by simp) (by simp) (oX_callVS (k1 := (0, 0)) (k2 := k) dc hst hr hcls hok hn hcw w1 w2 w3 w4 w5 hd h8 hT (fun v h' e => by obtain ⟨rfl, rfl⟩ := e; exact kk) oKx)
theorem oX_copyB {idx : Nat} {sp dp n : Int32} {rs rd : OhR} {a b : Nat × Nat} (ha : oD 102 rs = some a) (hb : oD 102 rd = some b) (h1 : ¬ sp < 0) (h2 : ¬ dp < 0) (h3 : ¬ n < 0) (h4 : sp.toNatClampNeg + n.toNatClampNeg ≤ AN a.1 a.2) (h5 : dp.toNatClampNeg + n.toNatClampNeg ≤ AN b.1 b.2) (hel : ∀ i : Nat, i < n.toNatClampNeg → fits .byte (.int (AI a.1 a.2 (sp.toNatClampNeg + i))) = true)
    (w1 : Cond.methodLink Y.1.cls idx arraycopyName ∈ lw_all) (w2 : Cond.native arraycopyName ∈ lw_all) (w3 : Cond.static arraycopyName ∈ lw_all) (w4 : Cond.initialized "java/lang/System" ∈ lw_all) (dc : decode Y.2.1 pc = .ok (.invokestatic idx, 3)) (hd : 2 ≤ d) (h8 : (st.map fun v => if oIsL v = true then 2 else 1).sum ≤ 8)
    {AI2 : OhI} (e9 : AI2 = sA AI b.1 b.2 (va_cpy (AI a.1 a.2) (AI b.1 b.2) sp.toNatClampNeg dp.toNatClampNeg n.toNatClampNeg))
    (kk : oX G d Y (pc + 3) ls st (FI, FL, FR, GR, AI2, AL, AR, BR, AN, C) k Φ Ψ) : oX G d Y pc ls (vI n :: vI dp :: vR rd :: vI sp :: vR rs :: st) (FI, FL, FR, GR, AI, AL, AR, BR, AN, C) k Φ Ψ := by
  subst e9
  intro p e s m args below meth c mc ms ad0 h0 ad H locs cells slots Ls B hE hz hl1 hs1 hS hl hk1 hk2
  obtain ⟨rfl, hka⟩ := oD_some ha
  obtain ⟨rfl, hkb⟩ := oD_some hb
  have hlb : ohLive (FI, FL, FR, GR, AI, AL, AR, BR, AN, C) b := oW_h (oW_t (oW_t hs1)) b rfl
  have hla : ohLive (FI, FL, FR, GR, AI, AL, AR, BR, AN, C) a := oW_h (oW_t (oW_t (oW_t (oW_t hs1)))) a rfl
  have hst : ∀ v ∈ st, ohWv (FI, FL, FR, GR, AI, AL, AR, BR, AN, C) v := oW_t (oW_t (oW_t (oW_t (oW_t hs1))))
  obtain ⟨hc0, hA0, hRA0, hp0⟩ := oArr (t := 2) rfl B.2.2.2.2.2.2.2.1 hz hla hka (by decide)
  obtain ⟨hc1, hA1, hRA1, hp1⟩ := oArr (t := 2) rfl B.2.2.2.2.2.2.2.1 hz hlb hkb (by decide)
  have nn : ∀ z : Int32, ¬ z < 0 → z.toInt = (z.toNatClampNeg : Int) := by
    intro z hz9
    have hz0 : (0 : Int) ≤ z.toInt := by
      have := Int32.not_lt.mp hz9
      simpa using Int32.le_iff_toInt_le.mp this
    show z.toInt = ((z.toInt.toNat : Nat) : Int)
    omega
  intro T hT X
  obtain ⟨-, k0, hk0, cm0, hkk0⟩ := hA0 (AN a.1 a.2) (fun j => Value.int (AI a.1 a.2 j))
  obtain ⟨-, k1', hk1', cm1, hkk1⟩ := hA1 (AN b.1 b.2) (fun j => Value.int (AI b.1 b.2 j))
  have hc0' : H[ad a.1 a.2]? = some (arrV (G.2.2.1 2) (AN a.1 a.2) (fun j => Value.int (AI a.1 a.2 j))) := hc0
  have hc1' : H[ad b.1 b.2]? = some (arrV (G.2.2.1 2) (AN b.1 b.2) (fun j => Value.int (AI b.1 b.2 j))) := hc1
  have h9 : ((st.map (gVl ad)).map fun v => v.category).sum ≤ 8 := oSumLe h8
  obtain ⟨vm', X', stp⟩ := X.arraycopy B.1 B.2.2.2.2.2.1 (B.2.2.2.2.2.2.1 _ w1) (B.2.2.2.2.2.2.1 _ w2) (B.2.2.2.2.2.2.1 _ w3) (B.2.2.2.2.2.2.1 _ w4) (src := ad a.1 a.2) (dst := ad b.1 b.2) (cs := arrV (G.2.2.1 2) (AN a.1 a.2) (fun j => Value.int (AI a.1 a.2 j))) (cd := arrV (G.2.2.1 2) (AN b.1 b.2) (fun j => Value.int (AI b.1 b.2 j))) (srcPos := sp) (destPos := dp) (n := n) (by rw [hT]; exact hc0') (by rw [hT]; exact hc1')
    (fun _ h => by cases h) (fun _ h => by cases h) (fun h => by cases h) (fun h => by cases h) hk0 hk1' hkk0 hkk1 (by simp [refKind]) h1 h2 h3
    (by rw [nn sp h1, nn n h3, arrV_size]; omega)
    (by rw [nn dp h2, nn n h3, arrV_size]; omega)
    (fun vm₁ hal i hi => by
      have e : (arrV (G.2.2.1 2) (AN a.1 a.2) (fun j => Value.int (AI a.1 a.2 j))).slots.getD (sp.toNatClampNeg + i) .null = Value.int (AI a.1 a.2 (sp.toNatClampNeg + i)) := by
        rw [Array.getD_eq_getD_getElem?, arrV_read _ _ (by omega)]
        rfl
      rw [e]
      exact ⟨hel i hi, trivial⟩)
    (g := F0 m pc Ls (.int n :: .int dp :: .ref (ad b.1 b.2) :: .int sp :: .ref (ad a.1 a.2) :: st.map (gVl ad))) rfl (by rw [B.2.2.2.2.1]; exact hl.1) (rest := st.map (gVl ad)) rfl (by rw [B.2.1]; exact dc) (by show 1 ≤ d; omega) (by
      have e5 : nativeFrameWords "java/lang/System" "arraycopy" 5 + 11 ≤ 100 := by decide
      show 2 * 0 + _ + _ ≤ 64 * d; omega)
  have e1 : copied (arrV (G.2.2.1 2) (AN a.1 a.2) (fun j => Value.int (AI a.1 a.2 j))) (arrV (G.2.2.1 2) (AN b.1 b.2) (fun j => Value.int (AI b.1 b.2 j))) sp dp n = arrV (G.2.2.1 2) (AN b.1 b.2) (fun j => Value.int (va_cpy (AI a.1 a.2) (AI b.1 b.2) sp.toNatClampNeg dp.toNatClampNeg n.toNatClampNeg j)) :=
    va_copied (fun z => Value.int z) _ _ (AI a.1 a.2) (AI b.1 b.2) h4
  rw [e1] at X' stp
  have hlt : ad b.1 b.2 < H.size := (Array.getElem?_eq_some_iff.mp hc1').1
  generalize hU : (T.setVm vm').setCell (ad b.1 b.2) (arrV (G.2.2.1 2) (AN b.1 b.2) (fun j => Value.int (va_cpy (AI a.1 a.2) (AI b.1 b.2) sp.toNatClampNeg dp.toNatClampNeg n.toNatClampNeg j))) = U at X' stp
  have hheap : U.heap = H.setIfInBounds (ad b.1 b.2) (arrV (G.2.2.1 2) (AN b.1 b.2) (fun j => Value.int (va_cpy (AI a.1 a.2) (AI b.1 b.2) sp.toNatClampNeg dp.toNatClampNeg n.toNatClampNeg j))) := by rw [← hU, ← hT]; rfl
  have hq1 : U.heap[ad b.1 b.2]? = some (arrV (G.2.2.1 2) (AN b.1 b.2) (fun j => Value.int (va_cpy (AI a.1 a.2) (AI b.1 b.2) sp.toNatClampNeg dp.toNatClampNeg n.toNatClampNeg j))) := by rw [hheap]; simp [Array.getElem?_setIfInBounds, hlt]
  have hqo : ∀ q : Nat, q ≠ ad b.1 b.2 → U.heap[q]? = H[q]? := fun q hq => by rw [hheap]; simp [Array.getElem?_setIfInBounds, Ne.symm hq]
  have hqs : U.heap.size = H.size := by rw [hheap]; simp
  have hat : ohAt G ad (FI, FL, FR, GR, sA AI b.1 b.2 (va_cpy (AI a.1 a.2) (AI b.1 b.2) sp.toNatClampNeg dp.toNatClampNeg n.toNatClampNeg), AL, AR, BR, AN, C) U.heap b.1 b.2 := by
    unfold ohAt
    rw [hkb, if_neg (by decide), if_pos (by decide), hq1]
    show some (arrV _ (AN b.1 b.2) _) = some (arrV _ (AN b.1 b.2) _)
    congr 2
    funext q
    show _ = Value.int (sA AI b.1 b.2 _ b.1 b.2 q)
    rw [sA_same]
  have hz' := ohCz_put hz hlb hp1 (h' := (FI, FL, FR, GR, sA AI b.1 b.2 (va_cpy (AI a.1 a.2) (AI b.1 b.2) sp.toNatClampNeg dp.toNatClampNeg n.toNatClampNeg), AL, AR, BR, AN, C)) rfl hqs hqo (fun s' i' hh9 => oEq_of rfl rfl rfl rfl (sA_ne _ _ hh9) rfl rfl rfl rfl) hat (fun s9 i9 => hz.2.2.2.2.2.2 s9 i9)
  have hAb := (hz.2.2.1 b.1 b.2 hlb hp1).2
  obtain ⟨t, a1, b1⟩ := kk p e s m args below meth c mc ms ad0 h0 ad U.heap _ cells slots Ls B hE hz' hl1 hst ⟨by rw [hqs]; exact hS.1, fun q g1 g2 => by
      rw [hqo q (fun e => g2 (by rw [e]; exact hAb))]
      exact hS.2.1 q g1 g2, fun q hq => by
      rcases List.mem_append.mp hq with h | h
      · exact hS.2.2 q h
      · obtain ⟨z, -, hz9⟩ := List.mem_map.mp h
        rw [← hz9]
        exact hAb⟩ hl hk1 hk2 U rfl X'
  exact ⟨t, stp t a1, b1⟩
end OST
