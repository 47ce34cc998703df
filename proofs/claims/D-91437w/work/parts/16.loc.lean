/-! CORE 7: locals, references compared, switches, returns -/
section OX2
variable {G : OhG} {d : Nat} {Y : OhM} {pc : Nat} {ls : List (Nat × OhV)} {st : List OhV} {h : OhH} {k : Nat × Nat} {Φ : OhP} {Ψ : OhX}
theorem oL_mem {ls : List (Nat × OhV)} {i : Nat} {v : OhV} (h : ls.lookup i = some v) : (i, v) ∈ ls := by
  induction ls with
  | nil => cases h
  | cons q ls ih =>
    obtain ⟨j, w⟩ := q
    rw [List.lookup_cons] at h
    by_cases e : i == j
    · rw [e] at h
      obtain rfl := Option.some.inj h
      rw [eq_of_beq e]
      exact List.mem_cons_self
    · rw [show (i == j) = false by simpa using e] at h
      exact List.mem_cons_of_mem _ (ih h)
theorem oX_ld {pc' : Nat} {i : Nat} {v : OhV} (hv : ls.lookup i = some v)
    (hs : ∀ (ad : Nat → Nat → Nat) (p : Program) (e : Env) (R : Room) (s : State) (m : MethodId) (args : Array Value) (below : List Frame) (meth : Method) (c : Code) (H : Heap) (locs : List Loc) (cells slots : Nat) (Q : State → Prop) (Ls : Array Slot), oB G Y p s m args meth c → Ls[i]? = some (.val (gVl ad v)) →
      W p G.1 e R s m args below meth c H locs cells slots Q (F0 m pc' Ls (gVl ad v :: st.map (gVl ad))) → W p G.1 e R s m args below meth c H locs cells slots Q (F0 m pc Ls (st.map (gVl ad))))
    (kk : oX G d Y pc' ls (v :: st) h k Φ Ψ) : oX G d Y pc ls st h k Φ Ψ := by
  intro p e s m args below meth c mc ms ad0 h0 ad H locs cells slots Ls B hE hz hl1 hs1 hS hl hk1 hk2
  have hm := oL_mem hv
  exact hs ad p e _ s m args below meth c H locs cells slots _ Ls B (hl.2.2 _ (List.mem_map.mpr ⟨_, hm, rfl⟩)) (kk p e s m args below meth c mc ms ad0 h0 ad H locs cells slots Ls B hE hz hl1 (oW_c (hl1 _ hm) hs1) hS hl hk1 hk2)
theorem oX_iload_n {j : Fin 4} {i : Nat} {x : Int32} (dc : decode Y.2.1 pc = .ok (.iload_n j, 1)) (hi : (j : Nat) = i) (hv : ls.lookup i = some (vI x)) (kk : oX G d Y (pc + 1) ls (vI x :: st) h k Φ Ψ) : oX G d Y pc ls st h k Φ Ψ :=
  oX_ld hv (fun ad _ _ _ _ _ _ _ _ _ _ _ _ _ _ _ B hL w => lv_iload_n B.1 B.2.1 dc hi hL w) kk
theorem oX_iload {i : Nat} {x : Int32} (dc : decode Y.2.1 pc = .ok (.iload i, 2)) (hv : ls.lookup i = some (vI x)) (kk : oX G d Y (pc + 2) ls (vI x :: st) h k Φ Ψ) : oX G d Y pc ls st h k Φ Ψ :=
  oX_ld hv (fun ad _ _ _ _ _ _ _ _ _ _ _ _ _ _ _ B hL w => lv_iload B.1 B.2.1 dc hL w) kk
theorem oX_lload_n {j : Fin 4} {i : Nat} {x : Int64} (dc : decode Y.2.1 pc = .ok (.lload_n j, 1)) (hi : (j : Nat) = i) (hv : ls.lookup i = some (vL x)) (kk : oX G d Y (pc + 1) ls (vL x :: st) h k Φ Ψ) : oX G d Y pc ls st h k Φ Ψ :=
  oX_ld hv (fun ad _ _ _ _ _ _ _ _ _ _ _ _ _ _ _ B hL w => lv_lload_n B.1 B.2.1 dc hi hL w) kk
theorem oX_aload_n {j : Fin 4} {i : Nat} {r : OhR} (dc : decode Y.2.1 pc = .ok (.aload_n j, 1)) (hi : (j : Nat) = i) (hv : ls.lookup i = some (vR r)) (kk : oX G d Y (pc + 1) ls (vR r :: st) h k Φ Ψ) : oX G d Y pc ls st h k Φ Ψ := by
  refine oX_ld hv (fun ad _ _ _ _ _ _ _ _ _ _ _ _ _ _ _ B hL w => ?_) kk
  cases r with
  | none => exact lv_aload_nN B.1 B.2.1 dc hi hL w
  | some a => exact lv_aload_n B.1 B.2.1 dc hi hL w
theorem oX_aload {i : Nat} {r : OhR} (dc : decode Y.2.1 pc = .ok (.aload i, 2)) (hv : ls.lookup i = some (vR r)) (kk : oX G d Y (pc + 2) ls (vR r :: st) h k Φ Ψ) : oX G d Y pc ls st h k Φ Ψ := by
  refine oX_ld hv (fun ad _ _ _ _ _ _ _ _ _ _ _ _ _ _ _ B hL w => ?_) kk
  cases r with
  | none => exact lv_aloadN B.1 B.2.1 dc hL w
  | some a => exact lv_aload B.1 B.2.1 dc hL w
def oIsL (v : OhV) : Bool := match v with
  | .inr (.inl _) => true
  | _ => false
theorem oIsL_cat (v : OhV) (ad : Nat → Nat → Nat) : ((gVl ad v).category == 2) = oIsL v := by
  rcases v with x | x | r
  · rfl
  · rfl
  · cases r <;> rfl
theorem oL_map {i : Nat} {v : OhV} {ls : List (Nat × OhV)} (ad : Nat → Nat → Nat) :
    (i, gVl ad v) :: (ls.map fun q => (q.1, gVl ad q.2)).filter (fun q => !(q.1 == i) && !(q.1 + 1 == i && q.2.category == 2)) = ((i, v) :: ls.filter (fun q => !(q.1 == i) && !(q.1 + 1 == i && oIsL q.2))).map fun q => (q.1, gVl ad q.2) := by
  rw [List.map_cons, List.filter_map]
  congr 2
  refine congrArg (fun f => ls.filter f) (funext fun q => ?_)
  simp only [Function.comp, oIsL_cat]
theorem oX_sv {pc' : Nat} {i : Nat} {v : OhV} {ls' : List (Nat × OhV)} {st' : List OhV} (hst : st = v :: st') (hls : (i, v) :: ls.filter (fun q => !(q.1 == i) && !(q.1 + 1 == i && oIsL q.2)) = ls')
    (hs : ∀ (ad : Nat → Nat → Nat) (p : Program) (e : Env) (R : Room) (s : State) (m : MethodId) (args : Array Value) (below : List Frame) (meth : Method) (c : Code) (H : Heap) (locs : List Loc) (cells slots : Nat) (Q : State → Prop) (Ls : Array Slot), oB G Y p s m args meth c → lv_has Ls Y.2.2.1 (ls.map fun q => (q.1, gVl ad q.2)) →
      (∀ Ls', lv_has Ls' Y.2.2.1 (ls'.map fun q => (q.1, gVl ad q.2)) → W p G.1 e R s m args below meth c H locs cells slots Q (F0 m pc' Ls' (st'.map (gVl ad)))) → W p G.1 e R s m args below meth c H locs cells slots Q (F0 m pc Ls (gVl ad v :: st'.map (gVl ad))))
    (kk : oX G d Y pc' ls' st' h k Φ Ψ) : oX G d Y pc ls st h k Φ Ψ := by
  subst hst
  intro p e s m args below meth c mc ms ad0 h0 ad H locs cells slots Ls B hE hz hl1 hs1 hS hl hk1 hk2
  refine hs ad p e _ s m args below meth c H locs cells slots _ Ls B hl (fun Ls' hl' => kk p e s m args below meth c mc ms ad0 h0 ad H locs cells slots Ls' B hE hz (fun q hq => ?_) (oW_t hs1) hS hl' hk1 hk2)
  rw [← hls] at hq
  rcases List.mem_cons.mp hq with rfl | hq
  · exact oW_h hs1
  · exact hl1 q ((List.mem_filter.mp hq).1)
theorem oX_istore_n {j : Fin 4} {i : Nat} {x : Int32} {ls' : List (Nat × OhV)} (dc : decode Y.2.1 pc = .ok (.istore_n j, 1)) (hi : (j : Nat) = i) (hn : i < Y.2.2.1) (hls : (i, vI x) :: ls.filter (fun q => !(q.1 == i) && !(q.1 + 1 == i && oIsL q.2)) = ls') (kk : oX G d Y (pc + 1) ls' st h k Φ Ψ) : oX G d Y pc ls (vI x :: st) h k Φ Ψ :=
  oX_sv rfl hls (fun ad _ _ _ _ _ _ _ _ _ _ _ _ _ _ _ B hl w => lv_istore_n B.1 B.2.1 dc hi hl hn (hls ▸ oL_map (v := vI x) ad) w) kk
theorem oX_istore {i : Nat} {x : Int32} {ls' : List (Nat × OhV)} (dc : decode Y.2.1 pc = .ok (.istore i, 2)) (hn : i < Y.2.2.1) (hls : (i, vI x) :: ls.filter (fun q => !(q.1 == i) && !(q.1 + 1 == i && oIsL q.2)) = ls') (kk : oX G d Y (pc + 2) ls' st h k Φ Ψ) : oX G d Y pc ls (vI x :: st) h k Φ Ψ :=
  oX_sv rfl hls (fun ad _ _ _ _ _ _ _ _ _ _ _ _ _ _ _ B hl w => lv_istore B.1 B.2.1 dc hl hn (hls ▸ oL_map (v := vI x) ad) w) kk
theorem oX_astore_n {j : Fin 4} {i : Nat} {r : OhR} {ls' : List (Nat × OhV)} (dc : decode Y.2.1 pc = .ok (.astore_n j, 1)) (hi : (j : Nat) = i) (hn : i < Y.2.2.1) (hls : (i, vR r) :: ls.filter (fun q => !(q.1 == i) && !(q.1 + 1 == i && oIsL q.2)) = ls') (kk : oX G d Y (pc + 1) ls' st h k Φ Ψ) : oX G d Y pc ls (vR r :: st) h k Φ Ψ := by
  refine oX_sv rfl hls (fun ad _ _ _ _ _ _ _ _ _ _ _ _ _ _ _ B hl w => ?_) kk
  have e9 := hls ▸ oL_map (i := i) (v := vR r) (ls := ls) ad
  cases r with
  | none => exact lv_astore_nN B.1 B.2.1 dc hi hl hn e9 w
  | some a => exact lv_astore_n B.1 B.2.1 dc hi hl hn e9 w
theorem oX_astore {i : Nat} {r : OhR} {ls' : List (Nat × OhV)} (dc : decode Y.2.1 pc = .ok (.astore i, 2)) (hn : i < Y.2.2.1) (hls : (i, vR r) :: ls.filter (fun q => !(q.1 == i) && !(q.1 + 1 == i && oIsL q.2)) = ls') (kk : oX G d Y (pc + 2) ls' st h k Φ Ψ) : oX G d Y pc ls (vR r :: st) h k Φ Ψ := by
  refine oX_sv rfl hls (fun ad _ _ _ _ _ _ _ _ _ _ _ _ _ _ _ B hl w => ?_) kk
  have e9 := hls ▸ oL_map (i := i) (v := vR r) (ls := ls) ad
  cases r with
  | none => exact lv_astoreN B.1 B.2.1 dc hl hn e9 w
  | some a => exact lv_astore B.1 B.2.1 dc hl hn e9 w
theorem oX_iinc {i : Nat} {n : Int} {x v : Int32} {ls' : List (Nat × OhV)} (dc : decode Y.2.1 pc = .ok (.iinc i n, 3)) (hk : ls.lookup i = some (vI x)) (hv : x + Int32.ofInt n = v) (hn : i < Y.2.2.1) (hls : (i, vI v) :: ls.filter (fun q => !(q.1 == i) && !(q.1 + 1 == i && oIsL q.2)) = ls') (kk : oX G d Y (pc + 3) ls' st h k Φ Ψ) : oX G d Y pc ls st h k Φ Ψ := by
  intro p e s m args below meth c mc ms ad0 h0 ad H locs cells slots Ls B hE hz hl1 hs1 hS hl hk1 hk2
  obtain ⟨j, hj⟩ := List.getElem?_of_mem (oL_mem hk)
  refine lv_iinc B.1 B.2.1 dc hl (k := j) (by rw [List.getElem?_map, hj]; rfl) hv hn (hls ▸ oL_map (i := i) (v := vI v) (ls := ls) ad) (fun Ls' hl' => kk p e s m args below meth c mc ms ad0 h0 ad H locs cells slots Ls' B hE hz (fun q hq => ?_) hs1 hS hl' hk1 hk2)
  rw [← hls] at hq
  rcases List.mem_cons.mp hq with rfl | hq
  · trivial
  · exact hl1 q ((List.mem_filter.mp hq).1)
/-- two references that can be compared: the same, or none of them to a mirror -/
def oNm (x y : OhR) : Prop := x = y ∨ ((∀ a, x = some a → ohKd a.1 ≠ 140) ∧ ∀ a, y = some a → ohKd a.1 ≠ 140)
theorem gRf_inj {ad : Nat → Nat → Nat} {H : Heap} (hz : ohCz G ad h H) {x y : OhR} (hx : ohWr h x) (hy : ohWr h y) (hn : oNm x y) : (x.map fun a => ad a.1 a.2) = (y.map fun a => ad a.1 a.2) ↔ x = y := by
  rcases hn with hn | ⟨nx, ny⟩
  · exact ⟨fun _ => hn, fun e => by rw [e]⟩
  refine ⟨fun e => ?_, fun e => by rw [e]⟩
  cases x with
  | none => cases y with
    | none => rfl
    | some b => cases e
  | some a => cases y with
    | none => cases e
    | some b =>
      have e1 := Option.some.inj e
      obtain ⟨e2, e3⟩ := hz.2.2.2.2.2.1 _ _ _ _ (hx a rfl) (hy b rfl) (nx a rfl) (ny b rfl) e1
      rw [show a = b from Prod.ext e2 e3]
theorem oX_acmp_eq {x y : OhR} {off : Int} {tgt : Nat} (hn : oNm x y) (dc : decode Y.2.1 pc = .ok (.if_acmp .eq off, 3)) (ht : (pc : Int) + off = (tgt : Int)) (k1 : x = y → oX G d Y tgt ls st h k Φ Ψ) (k2 : ¬ (x = y) → oX G d Y (pc + 3) ls st h k Φ Ψ) : oX G d Y pc ls (vR y :: vR x :: st) h k Φ Ψ := by
  intro p e s m args below meth c mc ms ad0 h0 ad H locs cells slots Ls B hE hz hl1 hs1 hS hl hk1 hk2
  have hi := gRf_inj hz (x := x) (y := y) (oW_h (oW_t hs1)) (oW_h hs1) hn
  exact lv_acmp_eq B.1 B.2.1 dc ht (fun h9 => k1 (hi.mp h9) p e s m args below meth c mc ms ad0 h0 ad H locs cells slots Ls B hE hz hl1 (oW_t (oW_t hs1)) hS hl hk1 hk2) (fun h9 => k2 (fun e9 => h9 (hi.mpr e9)) p e s m args below meth c mc ms ad0 h0 ad H locs cells slots Ls B hE hz hl1 (oW_t (oW_t hs1)) hS hl hk1 hk2)
theorem oX_acmp_ne {x y : OhR} {off : Int} {tgt : Nat} (hn : oNm x y) (dc : decode Y.2.1 pc = .ok (.if_acmp .ne off, 3)) (ht : (pc : Int) + off = (tgt : Int)) (k1 : x = y → oX G d Y (pc + 3) ls st h k Φ Ψ) (k2 : ¬ (x = y) → oX G d Y tgt ls st h k Φ Ψ) : oX G d Y pc ls (vR y :: vR x :: st) h k Φ Ψ := by
  intro p e s m args below meth c mc ms ad0 h0 ad H locs cells slots Ls B hE hz hl1 hs1 hS hl hk1 hk2
  have hi := gRf_inj hz (x := x) (y := y) (oW_h (oW_t hs1)) (oW_h hs1) hn
  exact lv_acmp_ne B.1 B.2.1 dc ht (fun h9 => k2 (fun e9 => h9 (hi.mpr e9)) p e s m args below meth c mc ms ad0 h0 ad H locs cells slots Ls B hE hz hl1 (oW_t (oW_t hs1)) hS hl hk1 hk2) (fun h9 => k1 (hi.mp h9) p e s m args below meth c mc ms ad0 h0 ad H locs cells slots Ls B hE hz hl1 (oW_t (oW_t hs1)) hS hl hk1 hk2)
/-- a tableswitch at a case, and at none -/
theorem oX_tin {dflt lo hi : Int} {offs : Array Int} {len : Nat} {x c : Int32} {off : Int} {tgt : Nat} (dc : decode Y.2.1 pc = .ok (.tableswitch dflt lo hi offs, len)) (hx : x = c) (h1 : ¬ c.toInt < lo) (h2 : ¬ hi < c.toInt) (ho : offs[(c.toInt - lo).toNat]? = some off) (ht : (pc : Int) + off = (tgt : Int)) (kk : oX G d Y tgt ls st h k Φ Ψ) : oX G d Y pc ls (vI x :: st) h k Φ Ψ := by
  subst hx
  exact oX_st (fun H => oW_t H) (fun ad _ _ _ _ _ _ _ _ _ _ _ _ _ _ _ B w => lv_tableIn B.1 B.2.1 dc h1 h2 ho ht w) kk
theorem oTs_out {x : Int32} {lo : Int} (n : Nat) {l : List Int32} (hl : l = (List.range n).map fun (j : Nat) => Int32.ofInt (lo + (j : Int))) (hn : ∀ c ∈ l, ¬ x = c) : x.toInt < lo ∨ lo + n - 1 < x.toInt := by
  rcases Int.lt_or_le x.toInt lo with h1 | h1
  · exact Or.inl h1
  · rcases Int.lt_or_le (lo + n - 1) x.toInt with h2 | h2
    · exact Or.inr h2
    · have h3 : (x.toInt - lo).toNat < n := by omega
      have h4 : Int32.ofInt (lo + ((x.toInt - lo).toNat : Int)) = x := by
        rw [show lo + ((x.toInt - lo).toNat : Int) = x.toInt by omega]
        exact Int32.ofInt_toInt x
      exact absurd rfl (hn x (by rw [hl]; exact List.mem_map.mpr ⟨(x.toInt - lo).toNat, List.mem_range.mpr h3, h4⟩))
theorem oX_tout {dflt lo hi : Int} {offs : Array Int} {len : Nat} {x : Int32} {tgt : Nat} (n : Nat) {l : List Int32} (dc : decode Y.2.1 pc = .ok (.tableswitch dflt lo hi offs, len)) (hl : l = (List.range n).map fun (j : Nat) => Int32.ofInt (lo + (j : Int))) (hn : ∀ c ∈ l, ¬ x = c) (hh : hi = lo + n - 1) (ht : (pc : Int) + dflt = (tgt : Int)) (kk : oX G d Y tgt ls st h k Φ Ψ) : oX G d Y pc ls (vI x :: st) h k Φ Ψ := by
  have h9 := oTs_out n hl hn
  rw [← hh] at h9
  exact oX_st (fun H => oW_t H) (fun ad _ _ _ _ _ _ _ _ _ _ _ _ _ _ _ B w => lv_tableOut B.1 B.2.1 dc h9 ht w) kk
/-! the ends -/
theorem oQn_of {ad0 ad : Nat → Nat → Nat} {h0 : OhH} {H : Heap} {locs : List Loc} {s t : State} {args : Array Value} {v : Option OhV} (hE : ohExt ad0 h0 ad h) (hz : ohCz G ad h H) (hv : ∀ x, v = some x → ohWv h x) (hS : va_S (ohA G) s.heap H locs) (hq : Φ v h) (ht : t.heap = H) : ohQn G ad0 h0 Φ args s (.returned (v.map (gVl ad))) t :=
  ⟨v, ad, h, rfl, hq, by rw [ht]; exact hz, hE, hv, hS.F ht⟩
theorem oX_iret {ty : FieldType} {v : Int32} (dc : decode Y.2.1 pc = .ok (.ireturn, 1)) (hr : Y.2.2.2.1 = some ty) (hn : narrow ty (.int v) = .int v) (hq : Φ (some (vI v)) h) : oX G d Y pc ls [vI v] h k Φ Ψ := by
  intro p e s m args below meth c mc ms ad0 h0 ad H locs cells slots Ls B hE hz hl1 hs1 hS hl hk1 hk2
  refine W.widen (k := mc) (n := ms) (by omega) (by omega) (vy_ret ?_)
  exact W.zret (v := v) B.1 B.2.1 (B.2.2.1.trans hr) hn (fun t ht hW => oQn_of (v := some (vI v)) hE hz (fun x hx => by cases hx; trivial) hS hq ht) hS.2.2 dc B.2.2.2.1
theorem oX_lret {v : Int64} (dc : decode Y.2.1 pc = .ok (.lreturn, 1)) (hr : Y.2.2.2.1 = some .long) (hq : Φ (some (vL v)) h) : oX G d Y pc ls [vL v] h k Φ Ψ := by
  intro p e s m args below meth c mc ms ad0 h0 ad H locs cells slots Ls B hE hz hl1 hs1 hS hl hk1 hk2
  refine W.widen (k := mc) (n := ms) (by omega) (by omega) (vy_ret ?_)
  exact W.lret (v := v) B.1 B.2.1 (B.2.2.1.trans hr) (fun t ht hW => oQn_of (v := some (vL v)) hE hz (fun x hx => by cases hx; trivial) hS hq ht) hS.2.2 dc B.2.2.2.1
theorem oX_vret (dc : decode Y.2.1 pc = .ok (.return_, 1)) (hr : Y.2.2.2.1 = none) (hq : Φ none h) : oX G d Y pc ls [] h k Φ Ψ := by
  intro p e s m args below meth c mc ms ad0 h0 ad H locs cells slots Ls B hE hz hl1 hs1 hS hl hk1 hk2
  refine W.widen (k := mc) (n := ms) (by omega) (by omega) (vy_ret ?_)
  exact W.vret B.1 B.2.1 (B.2.2.1.trans hr) (fun t ht hW => oQn_of (v := none) hE hz (fun x hx => by cases hx) hS hq ht) hS.2.2 dc B.2.2.2.1
theorem oX_aret {ty : FieldType} {r : OhR} (dc : decode Y.2.1 pc = .ok (.areturn, 1)) (hr : Y.2.2.2.1 = some ty) (hrt : (∃ n, ty = .object n) ∨ ∃ t, ty = .array t) (hq : Φ (some (vR r)) h) : oX G d Y pc ls [vR r] h k Φ Ψ := by
  intro p e s m args below meth c mc ms ad0 h0 ad H locs cells slots Ls B hE hz hl1 hs1 hS hl hk1 hk2
  refine W.widen (k := mc) (n := ms) (by omega) (by omega) (vy_ret ?_)
  have hw := oW_h hs1
  exact W.aret (v := gRf ad r) B.1 B.2.1 (B.2.2.1.trans hr) hrt (by cases r with
    | none => exact Or.inl rfl
    | some a => exact Or.inr ⟨_, rfl⟩) (fun t ht hW => oQn_of (v := some (vR r)) hE hz (fun x hx => by cases hx; exact hw) hS hq ht) hS.2.2 dc B.2.2.2.1
end OX2
