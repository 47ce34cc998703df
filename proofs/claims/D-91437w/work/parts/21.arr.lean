/-! CORE 12: new arrays, references stored, casts, throws, statics: printed by gen/mk_arr.py -/
section OH4
variable {G : OhG} {d : Nat} {Y : OhM} {pc : Nat} {ls : List (Nat × OhV)} {st : List OhV} {k : Nat × Nat} {Φ : OhP} {Ψ : OhX} {h : OhH}
variable {FI AI : OhI} {FL AL : OhL} {FR GR AR BR : OhQ} {AN : OhN} {C : OhC}
theorem oMono {C : OhC} {s9 n : Nat} : ∀ s, C s ≤ uA C s9 (C s9 + n) s := fun s => by
  by_cases h9 : s = s9
  · subst h9; rw [uA_same]; omega
  · rw [uA_ne _ _ h9]; exact Nat.le_refl _
/-- behind an allocation of one cell -/
theorem oX_alloc {h' : OhH} {s9 t : Nat} {ty : FieldType} {N : Nat} {H1 : Heap} {cA : ClassId} {p : Program} {e : Env} {s : State} {m : MethodId} {args : Array Value} {below : List Frame} {meth : Method} {c : Code} {mc ms : Nat} {ad0 : Nat → Nat → Nat} {h0 : OhH} {ad : Nat → Nat → Nat} {H : Heap} {locs : List Loc} {cells slots : Nat} {Ls : Array Slot} {z : Nat → Value}
    (B : oB G Y p s m args meth c) (hE : ohExt ad0 h0 ad h) (hz : ohCz G ad h H) (hl1 : ∀ q ∈ ls, ohWv h q.2) (hs1 : ∀ v ∈ st, ohWv h v) (hS : va_S (ohA G) s.heap H locs) (hl : lv_has Ls Y.2.2.1 (ls.map fun q => (q.1, gVl ad q.2))) (hk1 : cells + 1 + k.1 ≤ mc) (hk2 : slots + N + k.2 ≤ ms)
    (hkd : ohKd s9 = 100 + t) (h7 : t < 7) (hty : ohTys[t]? = some ty) (hC' : hC h' = uA (hC h) s9 (hC h s9 + 1)) (ho : ∀ s' i', ¬ (s' = s9 ∧ i' = hC h s9) → ohEq h h' s' i') (hN : hN h' s9 (hC h s9) = N) (hav : ∀ ad j, j < N → ohAv ad h' t s9 (hC h s9) j = z j) (hw : ohWf h → ohWf h')
    (hcA : va_RA s cA ty) (e1 : H1[H.size]? = some (arrV cA N z)) (z1 : H1.size = H.size + 1) (o1 : ∀ q : Nat, q < H.size → H1[q]? = H[q]?)
    (kk : oX G d Y pc ls (vR (some (s9, hC h s9)) :: st) h' k Φ Ψ) :
    W p G.1 e (ohRm d (mc, ms)) s m args below meth c H1 locs (cells + 1) (slots + N) (vy_MQ below (ohQn G ad0 h0 Φ) (ohQx G ad0 h0 Ψ) args s mc ms (ohA G)) (F0 m pc Ls (.ref H.size :: st.map (gVl ad))) := by
  have hp : ohPre s9 = false := by unfold ohPre; rw [hkd]; exact decide_eq_false (by omega)
  have h2 := B.2.2.2.2.2.2.2.1.1.2 t (G.2.2.1 t, ty) (by rw [List.getElem?_map, List.getElem?_zipIdx, hty]; simp)
  have hcl : cA = G.2.2.1 t := by
    have a1 := hcA
    have a2 := h2.2
    cases ty with
    | object Cn =>
      obtain ⟨_, _, _, _, _, b1⟩ := a1
      obtain ⟨_, _, _, _, _, b2⟩ := a2
      exact Option.some.inj (b1.symm.trans b2)
    | _ => exact Option.some.inj (a1.symm.trans a2)
  subst hcl
  have hat : ohAt G (sA ad s9 (hC h s9) H.size) h' H1 s9 (hC h s9) := by
    unfold ohAt
    rw [hkd, if_neg (by omega), if_pos (by omega), show 100 + t - 100 = t by omega, sA_same, e1, hN]
    congr 1
    unfold arrV
    congr 1
    exact Array.ext (by simp) (fun i hi1 hi2 => by simp at hi1 ⊢; exact (hav _ i hi1).symm)
  have hz' := ohCz_new hz hp hC' z1 o1 ho hat (hw hz.2.2.2.2.2.2)
  have hag : ∀ s i, i < hC h s → sA ad s9 (hC h s9) H.size s i = ad s i := fun s i hi => sA_ne _ _ (fun e9 => by obtain ⟨rfl, rfl⟩ := e9; omega)
  have hmono : ∀ s, hC h s ≤ hC h' s := fun s => by rw [hC']; exact oMono s
  have hlm : (ls.map fun q => (q.1, gVl ad q.2)) = ls.map fun q => (q.1, gVl (sA ad s9 (hC h s9) H.size) q.2) := List.map_congr_left fun x hx => by rw [gVl_congr (hl1 x hx) hag]
  have hsm : st.map (gVl ad) = st.map (gVl (sA ad s9 (hC h s9) H.size)) := List.map_congr_left fun x hx => (gVl_congr (hs1 x hx) hag).symm
  rw [hlm] at hl
  have K := kk p e s m args below meth c mc ms ad0 h0 (sA ad s9 (hC h s9) H.size) H1 locs (cells + 1) (slots + N) Ls B (ohExt_trans hE ⟨hag, hmono⟩) hz' (fun q hq => ohWv_mono hmono (hl1 q hq)) (oW_r (fun a ha => by cases ha; show hC h s9 < hC h' s9; rw [hC', uA_same]; omega) (fun v hv => ohWv_mono hmono (hs1 v hv))) ⟨Nat.le_trans hS.1 (by omega), fun x h1 h2 => (o1 x (Nat.lt_of_lt_of_le h1 hS.1)).trans (hS.2.1 x h1 h2), hS.2.2⟩ hl (by omega) (by omega)
  rw [List.map_cons, gVl_r] at K
  simp only [gRf, Option.map, sA_same, va_rf] at K
  rw [← hsm] at K
  exact K
theorem oX_newa0 {n : Int32} (s9 : Nat) (hkd : ohKd s9 = 100) (hq : Cond.arrayClass .int ∈ lw_all) (dc : decode Y.2.1 pc = .ok (.newarray .int, 2)) (hn : ¬ n < 0) (hn2 : n ≤ 100000)
    {AI2 : OhI} (eAI : AI2 = sA AI s9 (C s9) (fun _ => 0)) {AN2 : OhN} (eAN : AN2 = sA AN s9 (C s9) n.toNatClampNeg) {C2 : OhC} (eC : C2 = uA C s9 (C s9 + 1)) (kk : oX G d Y (pc + 2) ls (vR (some (s9, C s9)) :: st) (FI, FL, FR, GR, AI2, AL, AR, BR, AN2, C2) k Φ Ψ) : oX G d Y pc ls (vI n :: st) (FI, FL, FR, GR, AI, AL, AR, BR, AN, C) (1 + k.1, n.toNatClampNeg + k.2) Φ Ψ := by
  subst eAI; subst eAN; subst eC
  intro p e s m args below meth c mc ms ad0 h0 ad H locs cells slots Ls B hE hz hl1 hs1 hS hl hk1 hk2
  have hb : n.toNatClampNeg * componentBytes .int ≤ 536870912 := by
    have h9 : n.toInt ≤ 100000 := by
      have h7 := Int32.le_iff_toInt_le.mp hn2
      rwa [show (100000 : Int32).toInt = 100000 from by decide] at h7
    have h8 : n.toNatClampNeg ≤ 100000 := by show n.toInt.toNat ≤ 100000; omega
    have : componentBytes .int ≤ 8 := by decide
    calc n.toNatClampNeg * componentBytes .int ≤ 100000 * 8 := Nat.mul_le_mul h8 this
      _ ≤ 536870912 := by decide
  refine va_newaK (atype := .int) B.1 B.2.1 (B.2.2.2.2.2.2.1 _ hq) rfl dc rfl hn rfl hb (by show cells + 1 ≤ mc; omega) (by show slots + n.toNatClampNeg ≤ ms; omega) rfl fun H1 cA e1 z1 o1 hAr hNm => ?_
  exact oX_alloc (h' := (FI, FL, FR, GR, sA AI s9 (C s9) (fun _ => 0), AL, AR, BR, sA AN s9 (C s9) n.toNatClampNeg, uA C s9 (C s9 + 1))) (t := 0) (ty := .int) B hE hz hl1 (oW_t hs1) hS hl (by omega) (by omega) hkd (by decide) rfl rfl (fun s' i' hh9 => oEq_of (rfl) (rfl) (rfl) (rfl) (sA_ne _ _ hh9) (rfl) (rfl) (rfl) (sA_ne _ _ hh9)) (sA_same _ _ _ _) (fun ad j hj => by show Value.int (sA AI s9 (C s9) (fun _ => 0) s9 (C s9) j) = _; rw [sA_same]; rfl) (fun hw s i => ⟨fun j => ohWr_mono oMono ((hw s i).1 j), fun j => ohWr_mono oMono ((hw s i).2.1 j), fun j => ohWr_mono oMono ((hw s i).2.2.1 j), fun j => ohWr_mono oMono ((hw s i).2.2.2 j)⟩) hNm e1 z1 o1 kk
theorem oX_newa1 {n : Int32} (s9 : Nat) (hkd : ohKd s9 = 101) (hq : Cond.arrayClass .boolean ∈ lw_all) (dc : decode Y.2.1 pc = .ok (.newarray .boolean, 2)) (hn : ¬ n < 0) (hn2 : n ≤ 100000)
    {AI2 : OhI} (eAI : AI2 = sA AI s9 (C s9) (fun _ => 0)) {AN2 : OhN} (eAN : AN2 = sA AN s9 (C s9) n.toNatClampNeg) {C2 : OhC} (eC : C2 = uA C s9 (C s9 + 1)) (kk : oX G d Y (pc + 2) ls (vR (some (s9, C s9)) :: st) (FI, FL, FR, GR, AI2, AL, AR, BR, AN2, C2) k Φ Ψ) : oX G d Y pc ls (vI n :: st) (FI, FL, FR, GR, AI, AL, AR, BR, AN, C) (1 + k.1, n.toNatClampNeg + k.2) Φ Ψ := by
  subst eAI; subst eAN; subst eC
  intro p e s m args below meth c mc ms ad0 h0 ad H locs cells slots Ls B hE hz hl1 hs1 hS hl hk1 hk2
  have hb : n.toNatClampNeg * componentBytes .boolean ≤ 536870912 := by
    have h9 : n.toInt ≤ 100000 := by
      have h7 := Int32.le_iff_toInt_le.mp hn2
      rwa [show (100000 : Int32).toInt = 100000 from by decide] at h7
    have h8 : n.toNatClampNeg ≤ 100000 := by show n.toInt.toNat ≤ 100000; omega
    have : componentBytes .boolean ≤ 8 := by decide
    calc n.toNatClampNeg * componentBytes .boolean ≤ 100000 * 8 := Nat.mul_le_mul h8 this
      _ ≤ 536870912 := by decide
  refine va_newaK (atype := .boolean) B.1 B.2.1 (B.2.2.2.2.2.2.1 _ hq) rfl dc rfl hn rfl hb (by show cells + 1 ≤ mc; omega) (by show slots + n.toNatClampNeg ≤ ms; omega) rfl fun H1 cA e1 z1 o1 hAr hNm => ?_
  exact oX_alloc (h' := (FI, FL, FR, GR, sA AI s9 (C s9) (fun _ => 0), AL, AR, BR, sA AN s9 (C s9) n.toNatClampNeg, uA C s9 (C s9 + 1))) (t := 1) (ty := .boolean) B hE hz hl1 (oW_t hs1) hS hl (by omega) (by omega) hkd (by decide) rfl rfl (fun s' i' hh9 => oEq_of (rfl) (rfl) (rfl) (rfl) (sA_ne _ _ hh9) (rfl) (rfl) (rfl) (sA_ne _ _ hh9)) (sA_same _ _ _ _) (fun ad j hj => by show Value.int (sA AI s9 (C s9) (fun _ => 0) s9 (C s9) j) = _; rw [sA_same]; rfl) (fun hw s i => ⟨fun j => ohWr_mono oMono ((hw s i).1 j), fun j => ohWr_mono oMono ((hw s i).2.1 j), fun j => ohWr_mono oMono ((hw s i).2.2.1 j), fun j => ohWr_mono oMono ((hw s i).2.2.2 j)⟩) hNm e1 z1 o1 kk
theorem oX_newa2 {n : Int32} (s9 : Nat) (hkd : ohKd s9 = 102) (hq : Cond.arrayClass .byte ∈ lw_all) (dc : decode Y.2.1 pc = .ok (.newarray .byte, 2)) (hn : ¬ n < 0) (hn2 : n ≤ 100000)
    {AI2 : OhI} (eAI : AI2 = sA AI s9 (C s9) (fun _ => 0)) {AN2 : OhN} (eAN : AN2 = sA AN s9 (C s9) n.toNatClampNeg) {C2 : OhC} (eC : C2 = uA C s9 (C s9 + 1)) (kk : oX G d Y (pc + 2) ls (vR (some (s9, C s9)) :: st) (FI, FL, FR, GR, AI2, AL, AR, BR, AN2, C2) k Φ Ψ) : oX G d Y pc ls (vI n :: st) (FI, FL, FR, GR, AI, AL, AR, BR, AN, C) (1 + k.1, n.toNatClampNeg + k.2) Φ Ψ := by
  subst eAI; subst eAN; subst eC
  intro p e s m args below meth c mc ms ad0 h0 ad H locs cells slots Ls B hE hz hl1 hs1 hS hl hk1 hk2
  have hb : n.toNatClampNeg * componentBytes .byte ≤ 536870912 := by
    have h9 : n.toInt ≤ 100000 := by
      have h7 := Int32.le_iff_toInt_le.mp hn2
      rwa [show (100000 : Int32).toInt = 100000 from by decide] at h7
    have h8 : n.toNatClampNeg ≤ 100000 := by show n.toInt.toNat ≤ 100000; omega
    have : componentBytes .byte ≤ 8 := by decide
    calc n.toNatClampNeg * componentBytes .byte ≤ 100000 * 8 := Nat.mul_le_mul h8 this
      _ ≤ 536870912 := by decide
  refine va_newaK (atype := .byte) B.1 B.2.1 (B.2.2.2.2.2.2.1 _ hq) rfl dc rfl hn rfl hb (by show cells + 1 ≤ mc; omega) (by show slots + n.toNatClampNeg ≤ ms; omega) rfl fun H1 cA e1 z1 o1 hAr hNm => ?_
  exact oX_alloc (h' := (FI, FL, FR, GR, sA AI s9 (C s9) (fun _ => 0), AL, AR, BR, sA AN s9 (C s9) n.toNatClampNeg, uA C s9 (C s9 + 1))) (t := 2) (ty := .byte) B hE hz hl1 (oW_t hs1) hS hl (by omega) (by omega) hkd (by decide) rfl rfl (fun s' i' hh9 => oEq_of (rfl) (rfl) (rfl) (rfl) (sA_ne _ _ hh9) (rfl) (rfl) (rfl) (sA_ne _ _ hh9)) (sA_same _ _ _ _) (fun ad j hj => by show Value.int (sA AI s9 (C s9) (fun _ => 0) s9 (C s9) j) = _; rw [sA_same]; rfl) (fun hw s i => ⟨fun j => ohWr_mono oMono ((hw s i).1 j), fun j => ohWr_mono oMono ((hw s i).2.1 j), fun j => ohWr_mono oMono ((hw s i).2.2.1 j), fun j => ohWr_mono oMono ((hw s i).2.2.2 j)⟩) hNm e1 z1 o1 kk
theorem oX_newa3 {n : Int32} (s9 : Nat) (hkd : ohKd s9 = 103) (hq : Cond.arrayClass .long ∈ lw_all) (dc : decode Y.2.1 pc = .ok (.newarray .long, 2)) (hn : ¬ n < 0) (hn2 : n ≤ 100000)
    {AL2 : OhL} (eAL : AL2 = sA AL s9 (C s9) (fun _ => 0)) {AN2 : OhN} (eAN : AN2 = sA AN s9 (C s9) n.toNatClampNeg) {C2 : OhC} (eC : C2 = uA C s9 (C s9 + 1)) (kk : oX G d Y (pc + 2) ls (vR (some (s9, C s9)) :: st) (FI, FL, FR, GR, AI, AL2, AR, BR, AN2, C2) k Φ Ψ) : oX G d Y pc ls (vI n :: st) (FI, FL, FR, GR, AI, AL, AR, BR, AN, C) (1 + k.1, n.toNatClampNeg + k.2) Φ Ψ := by
  subst eAL; subst eAN; subst eC
  intro p e s m args below meth c mc ms ad0 h0 ad H locs cells slots Ls B hE hz hl1 hs1 hS hl hk1 hk2
  have hb : n.toNatClampNeg * componentBytes .long ≤ 536870912 := by
    have h9 : n.toInt ≤ 100000 := by
      have h7 := Int32.le_iff_toInt_le.mp hn2
      rwa [show (100000 : Int32).toInt = 100000 from by decide] at h7
    have h8 : n.toNatClampNeg ≤ 100000 := by show n.toInt.toNat ≤ 100000; omega
    have : componentBytes .long ≤ 8 := by decide
    calc n.toNatClampNeg * componentBytes .long ≤ 100000 * 8 := Nat.mul_le_mul h8 this
      _ ≤ 536870912 := by decide
  refine va_newaK (atype := .long) B.1 B.2.1 (B.2.2.2.2.2.2.1 _ hq) rfl dc rfl hn rfl hb (by show cells + 1 ≤ mc; omega) (by show slots + n.toNatClampNeg ≤ ms; omega) rfl fun H1 cA e1 z1 o1 hAr hNm => ?_
  exact oX_alloc (h' := (FI, FL, FR, GR, AI, sA AL s9 (C s9) (fun _ => 0), AR, BR, sA AN s9 (C s9) n.toNatClampNeg, uA C s9 (C s9 + 1))) (t := 3) (ty := .long) B hE hz hl1 (oW_t hs1) hS hl (by omega) (by omega) hkd (by decide) rfl rfl (fun s' i' hh9 => oEq_of (rfl) (rfl) (rfl) (rfl) (rfl) (sA_ne _ _ hh9) (rfl) (rfl) (sA_ne _ _ hh9)) (sA_same _ _ _ _) (fun ad j hj => by show Value.long (sA AL s9 (C s9) (fun _ => 0) s9 (C s9) j) = _; rw [sA_same]; rfl) (fun hw s i => ⟨fun j => ohWr_mono oMono ((hw s i).1 j), fun j => ohWr_mono oMono ((hw s i).2.1 j), fun j => ohWr_mono oMono ((hw s i).2.2.1 j), fun j => ohWr_mono oMono ((hw s i).2.2.2 j)⟩) hNm e1 z1 o1 kk
theorem oX_newa5 {n : Int32} {idx : Nat} (s9 : Nat) (hkd : ohKd s9 = 105) (hq : Cond.classLink Y.1.cls idx "OperaHouse$Call" ∈ lw_all) (hq2 : Cond.arrayOver (.object "OperaHouse$Call") ∈ lw_tbl) (dc : decode Y.2.1 pc = .ok (.anewarray idx, 3)) (hn : ¬ n < 0) (hn2 : n ≤ 100000)
    {BR2 : OhQ} (eBR : BR2 = sA BR s9 (C s9) (fun _ => none)) {AN2 : OhN} (eAN : AN2 = sA AN s9 (C s9) n.toNatClampNeg) {C2 : OhC} (eC : C2 = uA C s9 (C s9 + 1)) (kk : oX G d Y (pc + 3) ls (vR (some (s9, C s9)) :: st) (FI, FL, FR, GR, AI, AL, AR, BR2, AN2, C2) k Φ Ψ) : oX G d Y pc ls (vI n :: st) (FI, FL, FR, GR, AI, AL, AR, BR, AN, C) (1 + k.1, n.toNatClampNeg + k.2) Φ Ψ := by
  subst eBR; subst eAN; subst eC
  intro p e s m args below meth c mc ms ad0 h0 ad H locs cells slots Ls B hE hz hl1 hs1 hS hl hk1 hk2
  have hb : n.toNatClampNeg * 4 ≤ 536870912 := by
    have h9 : n.toInt ≤ 100000 := by
      have h7 := Int32.le_iff_toInt_le.mp hn2
      rwa [show (100000 : Int32).toInt = 100000 from by decide] at h7
    have h8 : n.toNatClampNeg ≤ 100000 := by show n.toInt.toNat ≤ 100000; omega
    omega
  refine W.anew B.1 B.2.1 B.2.2.2.2.2.1 (B.2.2.2.2.2.2.1 _ hq) (va_AO.use (B.2.2.2.2.2.2.2.1.2.1.2.2.2.2 _ hq2)) rfl dc rfl hn hb (by show cells + 1 ≤ mc; omega) (by show slots + n.toNatClampNeg ≤ ms; omega) fun cA kA comp f1 f2 f3 f4 => ?_
  generalize hH1 : H.push ({ cls := cA, slots := Array.replicate n.toNatClampNeg .null, vm := .none } : Cell) = H1
  have z1 : H1.size = H.size + 1 := by rw [← hH1, Array.size_push]
  have e1 : H1[H.size]? = some (arrV cA n.toNatClampNeg (fun _ => .null)) := by rw [← hH1, Array.getElem?_push_size, ← arrV_new]
  have o1 : ∀ q : Nat, q < H.size → H1[q]? = H[q]? := fun q hq => by rw [← hH1, Array.getElem?_push, if_neg (Nat.ne_of_lt hq)]
  exact oX_alloc (h' := (FI, FL, FR, GR, AI, AL, AR, sA BR s9 (C s9) (fun _ => none), sA AN s9 (C s9) n.toNatClampNeg, uA C s9 (C s9 + 1))) (t := 5) (ty := .object "OperaHouse$Call") B hE hz hl1 (oW_t hs1) hS hl (by omega) (by omega) hkd (by decide) rfl rfl (fun s' i' hh9 => oEq_of (rfl) (rfl) (rfl) (rfl) (rfl) (rfl) (rfl) (sA_ne _ _ hh9) (sA_ne _ _ hh9)) (sA_same _ _ _ _) (fun ad j hj => by show gRf ad (sA BR s9 (C s9) (fun _ => none) s9 (C s9) j) = _; rw [sA_same]; rfl) (fun hw s i => ⟨fun j => ohWr_mono oMono ((hw s i).1 j), fun j => ohWr_mono oMono ((hw s i).2.1 j), fun j => ohWr_mono oMono ((hw s i).2.2.1 j), fun j => by
      show ohWr _ (sA BR s9 (C s9) (fun _ => none) s i j)
      by_cases hs : s = s9 ∧ i = C s9
      · obtain ⟨rfl, rfl⟩ := hs; rw [sA_same]; exact fun a ha => by cases ha
      · rw [sA_ne _ _ hs]; exact ohWr_mono oMono ((hw s i).2.2.2 j)⟩) ⟨kA, comp, f2, f3, f4, f1⟩ e1 z1 o1 kk
theorem oX_newa6 {n : Int32} {idx : Nat} (s9 : Nat) (hkd : ohKd s9 = 106) (hq : Cond.classLink Y.1.cls idx "java/lang/Object" ∈ lw_all) (hq2 : Cond.arrayOver (.object "java/lang/Object") ∈ lw_tbl) (dc : decode Y.2.1 pc = .ok (.anewarray idx, 3)) (hn : ¬ n < 0) (hn2 : n ≤ 100000)
    {BR2 : OhQ} (eBR : BR2 = sA BR s9 (C s9) (fun _ => none)) {AN2 : OhN} (eAN : AN2 = sA AN s9 (C s9) n.toNatClampNeg) {C2 : OhC} (eC : C2 = uA C s9 (C s9 + 1)) (kk : oX G d Y (pc + 3) ls (vR (some (s9, C s9)) :: st) (FI, FL, FR, GR, AI, AL, AR, BR2, AN2, C2) k Φ Ψ) : oX G d Y pc ls (vI n :: st) (FI, FL, FR, GR, AI, AL, AR, BR, AN, C) (1 + k.1, n.toNatClampNeg + k.2) Φ Ψ := by
  subst eBR; subst eAN; subst eC
  intro p e s m args below meth c mc ms ad0 h0 ad H locs cells slots Ls B hE hz hl1 hs1 hS hl hk1 hk2
  have hb : n.toNatClampNeg * 4 ≤ 536870912 := by
    have h9 : n.toInt ≤ 100000 := by
      have h7 := Int32.le_iff_toInt_le.mp hn2
      rwa [show (100000 : Int32).toInt = 100000 from by decide] at h7
    have h8 : n.toNatClampNeg ≤ 100000 := by show n.toInt.toNat ≤ 100000; omega
    omega
  refine W.anew B.1 B.2.1 B.2.2.2.2.2.1 (B.2.2.2.2.2.2.1 _ hq) (va_AO.use (B.2.2.2.2.2.2.2.1.2.1.2.2.2.2 _ hq2)) rfl dc rfl hn hb (by show cells + 1 ≤ mc; omega) (by show slots + n.toNatClampNeg ≤ ms; omega) fun cA kA comp f1 f2 f3 f4 => ?_
  generalize hH1 : H.push ({ cls := cA, slots := Array.replicate n.toNatClampNeg .null, vm := .none } : Cell) = H1
  have z1 : H1.size = H.size + 1 := by rw [← hH1, Array.size_push]
  have e1 : H1[H.size]? = some (arrV cA n.toNatClampNeg (fun _ => .null)) := by rw [← hH1, Array.getElem?_push_size, ← arrV_new]
  have o1 : ∀ q : Nat, q < H.size → H1[q]? = H[q]? := fun q hq => by rw [← hH1, Array.getElem?_push, if_neg (Nat.ne_of_lt hq)]
  exact oX_alloc (h' := (FI, FL, FR, GR, AI, AL, AR, sA BR s9 (C s9) (fun _ => none), sA AN s9 (C s9) n.toNatClampNeg, uA C s9 (C s9 + 1))) (t := 6) (ty := .object "java/lang/Object") B hE hz hl1 (oW_t hs1) hS hl (by omega) (by omega) hkd (by decide) rfl rfl (fun s' i' hh9 => oEq_of (rfl) (rfl) (rfl) (rfl) (rfl) (rfl) (rfl) (sA_ne _ _ hh9) (sA_ne _ _ hh9)) (sA_same _ _ _ _) (fun ad j hj => by show gRf ad (sA BR s9 (C s9) (fun _ => none) s9 (C s9) j) = _; rw [sA_same]; rfl) (fun hw s i => ⟨fun j => ohWr_mono oMono ((hw s i).1 j), fun j => ohWr_mono oMono ((hw s i).2.1 j), fun j => ohWr_mono oMono ((hw s i).2.2.1 j), fun j => by
      show ohWr _ (sA BR s9 (C s9) (fun _ => none) s i j)
      by_cases hs : s = s9 ∧ i = C s9
      · obtain ⟨rfl, rfl⟩ := hs; rw [sA_same]; exact fun a ha => by cases ha
      · rw [sA_ne _ _ hs]; exact ohWr_mono oMono ((hw s i).2.2.2 j)⟩) ⟨kA, comp, f2, f3, f4, f1⟩ e1 z1 o1 kk
theorem oX_aast5 {i : Int32} {x : OhR} {r : OhR} {a : Nat × Nat} (hr : oD 105 r = some a) (hin : vp_in i (AN a.1 a.2)) (hx : x = none ∨ ∃ b, oD 14 x = some b) (dc : decode Y.2.1 pc = .ok (.aastore, 1))
    {BR2 : OhQ} (e9 : BR2 = sA BR a.1 a.2 (uA (BR a.1 a.2) i.toNatClampNeg x)) (kk : oX G d Y (pc + 1) ls st (FI, FL, FR, GR, AI, AL, AR, BR2, AN, C) k Φ Ψ) : oX G d Y pc ls (vR x :: vI i :: vR r :: st) (FI, FL, FR, GR, AI, AL, AR, BR, AN, C) k Φ Ψ := by
  subst e9
  intro p e s m args below meth c mc ms ad0 h0 ad H locs cells slots Ls B hE hz hl1 hs1 hS hl hk1 hk2
  obtain ⟨rfl, hkd⟩ := oD_some hr
  have hla : ohLive (FI, FL, FR, GR, AI, AL, AR, BR, AN, C) a := oW_h (oW_t (oW_t hs1)) a rfl
  have hwx : ohWr (FI, FL, FR, GR, AI, AL, AR, BR, AN, C) x := oW_h hs1
  obtain ⟨hc, hA, hRA, hp⟩ := oArr (t := 5) rfl B.2.2.2.2.2.2.2.1 hz hla hkd (by decide)
  have hlt : i.toNatClampNeg < AN a.1 a.2 := Nat.not_le.mp fun q => hin (Or.inr q)
  have h0' : ¬ i < 0 := fun q => hin (Or.inl q)
  have fin' : ∀ H1 : Heap, H1[ad a.1 a.2]? = some ((arrV (G.2.2.1 5) (AN a.1 a.2) (fun j => ohAv ad (FI, FL, FR, GR, AI, AL, AR, BR, AN, C) 5 a.1 a.2 j)).setSlot i.toNatClampNeg (gRf ad x)) → H1.size = H.size → (∀ q : Nat, q ≠ ad a.1 a.2 → H1[q]? = H[q]?) →
      W p G.1 e (ohRm d (mc, ms)) s m args below meth c H1 (locs ++ [⟨ad a.1 a.2, i.toNatClampNeg⟩]) cells slots (vy_MQ below (ohQn G ad0 h0 Φ) (ohQx G ad0 h0 Ψ) args s mc ms (ohA G)) (F0 m (pc + 1) Ls (st.map (gVl ad))) := by
    intro H1 e1 e2 e3
    have hat : ohAt G ad (FI, FL, FR, GR, AI, AL, AR, sA BR a.1 a.2 (uA (BR a.1 a.2) i.toNatClampNeg x), AN, C) H1 a.1 a.2 := by
      unfold ohAt
      rw [hkd, if_neg (by decide), if_pos (by decide)]
      rw [e1, arrV_store]
      show some (arrV _ (AN a.1 a.2) _) = some (arrV _ (AN a.1 a.2) _)
      congr 2
      funext q
      show (updV _ _ _ q) = _
      by_cases hq : q = i.toNatClampNeg
      · subst hq
        simp [updV, ohAv, sA_same, uA_same]
      · simp [updV, hq, ohAv, sA_same, uA_ne _ _ hq]
    exact kk p e s m args below meth c mc ms ad0 h0 ad H1 _ cells slots Ls B hE (ohCz_put hz hla hp rfl e2 e3 (fun s' i' hh9 => oEq_of (rfl) (rfl) (rfl) (rfl) (rfl) (rfl) (rfl) (sA_ne _ _ hh9) (rfl)) hat (fun s9 i9 => ⟨(hz.2.2.2.2.2.2 s9 i9).1, (hz.2.2.2.2.2.2 s9 i9).2.1, (hz.2.2.2.2.2.2 s9 i9).2.2.1, fun j => by
      show ohWr _ (sA BR a.1 a.2 (uA (BR a.1 a.2) i.toNatClampNeg x) s9 i9 j)
      by_cases hs : s9 = a.1 ∧ i9 = a.2
      · obtain ⟨rfl, rfl⟩ := hs
        rw [sA_same]
        by_cases hj : j = i.toNatClampNeg
        · subst hj; rw [uA_same]; exact hwx
        · rw [uA_ne _ _ hj]; exact (hz.2.2.2.2.2.2 _ _).2.2.2 j
      · rw [sA_ne _ _ hs]; exact (hz.2.2.2.2.2.2 s9 i9).2.2.2 j⟩)) hl1 (oW_t (oW_t (oW_t hs1))) (hS.put e2 e3 (hz.2.2.1 a.1 a.2 hla hp).2) hl hk1 hk2
  rcases hx with rfl | ⟨b, hb⟩
  · exact va_WaastN B.1 B.2.1 hc (hA _ _) (fun h => by cases h) (by show ¬ (i < 0 ∨ (arrV _ _ _).slots.size ≤ _); rw [arrV_size]; exact hin) rfl rfl dc fin'
  · obtain ⟨rfl, hkb⟩ := oD_some hb
    obtain ⟨cv, g1, g2, g3⟩ := oRecv (ci := 14) (C := RX15) (T := TX15) (N := 7) B.2.2.2.2.2.2.2.1 hz (hwx b rfl) (oPre_lt hkb (by decide)) hkb (by decide) rfl
    obtain ⟨kA, comp, k1, k2, k3, -⟩ := hRA
    obtain ⟨kE, hkE, -⟩ := Vm.findClass_spec k3
    obtain ⟨kC, hkC, -⟩ := Vm.findClass_spec g3
    have hcomp : comp = cv.cls := Option.some.inj (k3.symm.trans g3)
    exact W.aast B.1 B.2.1 hc (fun q h => by cases h) (fun h => by cases h) k1 k2 rfl hkE ⟨h0', by show _ < (arrV _ _ _).slots.size; rw [arrV_size]; exact hlt⟩ g1 (fun q h => by rw [h] at g2; cases g2) hkC (by rw [hcomp]; exact va_assign (B.2.2.2.2.2.2.2.1.1.1 14 _ rfl).2 |> fun h9 => by rw [show cv.cls = G.2.1.1 14 from Option.some.inj (g3.symm.trans (B.2.2.2.2.2.2.2.1.1.1 14 _ rfl).2.1)]; exact h9) rfl rfl dc fin'
theorem oX_aast6 {i : Int32} {x : OhR} {r : OhR} {a : Nat × Nat} (hr : oD 106 r = some a) (hin : vp_in i (AN a.1 a.2)) {ci N : Nat} {Cn : String} {T : u_T} {b : Nat × Nat} (hx : oD ci x = some b) (hcl : ohCL[ci]? = some (Cn, T, N)) (h100 : ci < 100) (hca : Cond.castable Cn "java/lang/Object" ∈ lw_tbl) (dc : decode Y.2.1 pc = .ok (.aastore, 1))
    {BR2 : OhQ} (e9 : BR2 = sA BR a.1 a.2 (uA (BR a.1 a.2) i.toNatClampNeg x)) (kk : oX G d Y (pc + 1) ls st (FI, FL, FR, GR, AI, AL, AR, BR2, AN, C) k Φ Ψ) : oX G d Y pc ls (vR x :: vI i :: vR r :: st) (FI, FL, FR, GR, AI, AL, AR, BR, AN, C) k Φ Ψ := by
  subst e9
  intro p e s m args below meth c mc ms ad0 h0 ad H locs cells slots Ls B hE hz hl1 hs1 hS hl hk1 hk2
  obtain ⟨rfl, hkd⟩ := oD_some hr
  have hla : ohLive (FI, FL, FR, GR, AI, AL, AR, BR, AN, C) a := oW_h (oW_t (oW_t hs1)) a rfl
  have hwx : ohWr (FI, FL, FR, GR, AI, AL, AR, BR, AN, C) x := oW_h hs1
  obtain ⟨hc, hA, hRA, hp⟩ := oArr (t := 6) rfl B.2.2.2.2.2.2.2.1 hz hla hkd (by decide)
  have hlt : i.toNatClampNeg < AN a.1 a.2 := Nat.not_le.mp fun q => hin (Or.inr q)
  have h0' : ¬ i < 0 := fun q => hin (Or.inl q)
  have fin' : ∀ H1 : Heap, H1[ad a.1 a.2]? = some ((arrV (G.2.2.1 6) (AN a.1 a.2) (fun j => ohAv ad (FI, FL, FR, GR, AI, AL, AR, BR, AN, C) 6 a.1 a.2 j)).setSlot i.toNatClampNeg (gRf ad x)) → H1.size = H.size → (∀ q : Nat, q ≠ ad a.1 a.2 → H1[q]? = H[q]?) →
      W p G.1 e (ohRm d (mc, ms)) s m args below meth c H1 (locs ++ [⟨ad a.1 a.2, i.toNatClampNeg⟩]) cells slots (vy_MQ below (ohQn G ad0 h0 Φ) (ohQx G ad0 h0 Ψ) args s mc ms (ohA G)) (F0 m (pc + 1) Ls (st.map (gVl ad))) := by
    intro H1 e1 e2 e3
    have hat : ohAt G ad (FI, FL, FR, GR, AI, AL, AR, sA BR a.1 a.2 (uA (BR a.1 a.2) i.toNatClampNeg x), AN, C) H1 a.1 a.2 := by
      unfold ohAt
      rw [hkd, if_neg (by decide), if_pos (by decide)]
      rw [e1, arrV_store]
      show some (arrV _ (AN a.1 a.2) _) = some (arrV _ (AN a.1 a.2) _)
      congr 2
      funext q
      show (updV _ _ _ q) = _
      by_cases hq : q = i.toNatClampNeg
      · subst hq
        simp [updV, ohAv, sA_same, uA_same]
      · simp [updV, hq, ohAv, sA_same, uA_ne _ _ hq]
    exact kk p e s m args below meth c mc ms ad0 h0 ad H1 _ cells slots Ls B hE (ohCz_put hz hla hp rfl e2 e3 (fun s' i' hh9 => oEq_of (rfl) (rfl) (rfl) (rfl) (rfl) (rfl) (rfl) (sA_ne _ _ hh9) (rfl)) hat (fun s9 i9 => ⟨(hz.2.2.2.2.2.2 s9 i9).1, (hz.2.2.2.2.2.2 s9 i9).2.1, (hz.2.2.2.2.2.2 s9 i9).2.2.1, fun j => by
      show ohWr _ (sA BR a.1 a.2 (uA (BR a.1 a.2) i.toNatClampNeg x) s9 i9 j)
      by_cases hs : s9 = a.1 ∧ i9 = a.2
      · obtain ⟨rfl, rfl⟩ := hs
        rw [sA_same]
        by_cases hj : j = i.toNatClampNeg
        · subst hj; rw [uA_same]; exact hwx
        · rw [uA_ne _ _ hj]; exact (hz.2.2.2.2.2.2 _ _).2.2.2 j
      · rw [sA_ne _ _ hs]; exact (hz.2.2.2.2.2.2 s9 i9).2.2.2 j⟩)) hl1 (oW_t (oW_t (oW_t hs1))) (hS.put e2 e3 (hz.2.2.1 a.1 a.2 hla hp).2) hl hk1 hk2
  obtain ⟨rfl, hkb⟩ := oD_some hx
  obtain ⟨cv, g1, g2, g3⟩ := oRecv (ci := ci) B.2.2.2.2.2.2.2.1 hz (hwx b rfl) (oPre_lt hkb h100) hkb h100 hcl
  obtain ⟨kA, comp, k1, k2, k3, -⟩ := hRA
  obtain ⟨kE, hkE, -⟩ := Vm.findClass_spec k3
  obtain ⟨kC, hkC, -⟩ := Vm.findClass_spec g3
  obtain ⟨c3, c4, hc3, hc4, hasg⟩ := Cond.castable_spec (va_Nw.use (A := args) rfl (B.2.2.2.2.2.2.2.1.2.1.2.2.1 _ _ hca))
  cases Option.some.inj (hc3.symm.trans g3)
  cases Option.some.inj (hc4.symm.trans k3)
  exact W.aast B.1 B.2.1 hc (fun q h => by cases h) (fun h => by cases h) k1 k2 rfl hkE ⟨h0', by show _ < (arrV _ _ _).slots.size; rw [arrV_size]; exact hlt⟩ g1 (fun q h => by rw [h] at g2; cases g2) hkC hasg rfl rfl dc fin'
theorem oX_cast {idx ci N : Nat} {Cn : String} {T : u_T} {r : OhR} {a : Nat × Nat} (hr : oD ci r = some a) (hc : ohCL[ci]? = some (Cn, T, N)) (h100 : ci < 100) (hq : Cond.classLink Y.1.cls idx Cn ∈ lw_all) (dc : decode Y.2.1 pc = .ok (.checkcast idx, 3)) (kk : oX G d Y (pc + 3) ls (vR (some a) :: st) h k Φ Ψ) : oX G d Y pc ls (vR r :: st) h k Φ Ψ := by
  intro p e s m args below meth c mc ms ad0 h0 ad H locs cells slots Ls B hE hz hl1 hs1 hS hl hk1 hk2
  obtain ⟨rfl, hkd⟩ := oD_some hr
  have hrv := oRecv B.2.2.2.2.2.2.2.1 hz (oW_h hs1 a rfl) (oPre_lt hkd h100) hkd h100 hc
  exact va_castE B.1 B.2.1 B.2.2.2.2.2.1 (B.2.2.2.2.2.2.1 _ hq) hrv dc (kk p e s m args below meth c mc ms ad0 h0 ad H locs cells slots Ls B hE hz hl1 hs1 hS hl hk1 hk2)
theorem oX_throw {ci N : Nat} {Cn : String} {T : u_T} {r : OhR} {a : Nat × Nat} (hr : oD ci r = some a) (hc : ohCL[ci]? = some (Cn, T, N)) (h100 : ci < 100) (dc : decode Y.2.1 pc = .ok (.athrow, 1)) (kk : oXt G d Y pc ls st h k Φ Ψ Cn a) : oX G d Y pc ls (vR r :: st) h k Φ Ψ := by
  intro p e s m args below meth c mc ms ad0 h0 ad H locs cells slots Ls B hE hz hl1 hs1 hS hl hk1 hk2
  obtain ⟨rfl, hkd⟩ := oD_some hr
  have hla := oW_h hs1 a rfl
  have h1 := (hz.2.2.1 a.1 a.2 hla (oPre_lt hkd h100)).1
  unfold ohAt at h1
  rw [hkd, if_pos h100] at h1
  obtain ⟨V, ⟨cell, g1, g2, g3, -⟩, -⟩ := h1
  exact vx_athrow B.1 B.2.1 dc (kk p e s m args below meth c mc ms ad0 h0 ad H locs cells slots Ls cell B hE hz hl1 hla hS hl hk1 hk2 g1 g3 (by rw [g2]; exact (B.2.2.2.2.2.2.2.1.1.1 ci _ hc).2.1))
theorem oXt_out {E : String} {a : Nat × Nat} (hh : Y.2.2.2.2 = []) (hq : Ψ E a h) : oXt G d Y pc ls st h k Φ Ψ E a := by
  intro p e s m args below meth c mc ms ad0 h0 ad H locs cells slots Ls ce B hE hz hl1 hla hS hl hk1 hk2 hce hcv hcl
  refine vy_out (fun x hx => ?_) B.2.2.2.1 hce hcv hcl (fun t ht hW => ⟨a, ad, h, rfl, hla, hq, by rw [ht]; exact hz, hE, hS.F ht⟩) hS.2.2 (by omega) (by omega)
  rw [B.2.2.2.2.2.2.2.2.2, hh] at hx
  cases hx
theorem oXt_catch {E nm : String} {a : Nat × Nat} {b e9 hp9 ct : Nat} (hh : Y.2.2.2.2 = [(b, e9, hp9, ct)]) (h1 : b ≤ pc ∧ pc < e9) (h2 : ct ≠ 0) (hq : Cond.classLink Y.1.cls ct nm ∈ lw_all) (hq2 : Cond.castable E nm ∈ lw_tbl) (kk : oX G d Y hp9 ls [vR (some a)] h k Φ Ψ) : oXt G d Y pc ls st h k Φ Ψ E a := by
  intro p e s m args below meth c mc ms ad0 h0 ad H locs cells slots Ls ce B hE hz hl1 hla hS hl hk1 hk2 hce hcv hcl
  have htab : c.exceptionTable.toList = tableOf [(b, e9, hp9, ct)] := by rw [B.2.2.2.2.2.2.2.2.2, hh]
  refine vy_catch (own := Y.1.cls) (name := nm) B.2.2.2.2.2.1 [] _ [] htab (fun z hz9 => by cases hz9) ?_ h2 (B.2.2.2.2.2.2.1 _ hq) (va_Nw.use rfl (B.2.2.2.2.2.2.2.1.2.1.2.2.1 _ _ hq2)) hce hcv hcl ?_
  · simp [covers, h1.1, h1.2]
  · exact kk p e s m args below meth c mc ms ad0 h0 ad H locs cells slots Ls B hE hz hl1 (oW_r (fun a9 ha9 => by cases ha9; exact hla) (fun v hv => by cases hv)) hS hl hk1 hk2
theorem oX_gets {idx : Nat} {Cn n ds : String} {v : OhV} {w : Value} (hv : ∀ ad, (∀ s i, ohPre s = true → ad s i = G.2.2.2.2.2.1 s i) → gVl ad v = w) (hwf : ohWv h v) (hm : (Cn, n, ds, w) ∈ ohStt (G.2.2.2.2.2.1 40 0)) (hq : Cond.fieldLink Y.1.cls idx Cn n ds ∈ lw_all) (dc : decode Y.2.1 pc = .ok (.getstatic idx, 3)) (kk : oX G d Y (pc + 3) ls (v :: st) h k Φ Ψ) : oX G d Y pc ls st h k Φ Ψ := by
  intro p e s m args below meth c mc ms ad0 h0 ad H locs cells slots Ls B hE hz hl1 hs1 hS hl hk1 hk2
  obtain ⟨cf, kf, fi, f, a, cell, g1, g2, g3, g4, g5, g6, g7, g8⟩ := B.2.2.2.2.2.2.2.1.2.2.2.1 _ hm
  have g5' : H[a]? = some cell := by rw [hz.2.1 a (by omega)]; exact g5
  have K := kk p e s m args below meth c mc ms ad0 h0 ad H locs cells slots Ls B hE hz hl1 (oW_c hwf hs1) hS hl hk1 hk2
  rw [List.map_cons, hv ad (fun s i hp => (hz.2.2.2.1 s i hp).1)] at K
  exact W.gets B.1 B.2.1 B.2.2.2.2.2.1 (B.2.2.2.2.2.2.1 _ hq) g1 g2 g3 g4 g5' (fun q => by rw [q] at g6; cases g6) g7 rfl dc K
/-- a static int; the empty array -/
theorem oX_getsI {idx : Nat} {Cn n ds : String} {x : Int32} (hm : ∀ e9, (Cn, n, ds, Value.int x) ∈ ohStt e9) (hq : Cond.fieldLink Y.1.cls idx Cn n ds ∈ lw_all) (dc : decode Y.2.1 pc = .ok (.getstatic idx, 3)) (kk : oX G d Y (pc + 3) ls (vI x :: st) h k Φ Ψ) : oX G d Y pc ls st h k Φ Ψ :=
  oX_gets (v := vI x) (fun _ _ => rfl) trivial (hm _) hq dc kk
theorem oX_getsE {idx : Nat} (he : 0 < hC h 40) (hq : Cond.fieldLink Y.1.cls idx "java/util/ArrayList" "DEFAULTCAPACITY_EMPTY_ELEMENTDATA" "[Ljava/lang/Object;" ∈ lw_all) (dc : decode Y.2.1 pc = .ok (.getstatic idx, 3)) (kk : oX G d Y (pc + 3) ls (vR (some (40, 0)) :: st) h k Φ Ψ) : oX G d Y pc ls st h k Φ Ψ :=
  oX_gets (v := vR (some (40, 0))) (w := .ref (G.2.2.2.2.2.1 40 0)) (fun ad had => by show Value.ref (ad 40 0) = _; rw [had 40 0 rfl]) (fun a ha => by cases ha; exact he) (List.mem_cons_self) hq dc kk
end OH4
