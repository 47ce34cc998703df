noncomputable section
set_option linter.unusedVariables false
/-! PLAIN 1: what a mirror answers; ints; loops -/
def wp {α : Type} (x : Option α) (Q : α → Prop) : Prop := ∃ a, x = some a ∧ Q a
section
variable {α β : Type} {Q P : α → Prop} {x : Option α}
theorem wp_some {a : α} (h : Q a) : wp (some a) Q := ⟨a, rfl, h⟩
theorem wp_gd {P : Prop} (hp : P) (h : wp x Q) : wp (gd P x) Q := by rw [gd_t hp]; exact h
theorem wp_let {e : β} {f : β → Option α} (h : wp (f e) Q) : wp (oLet e f) Q := h
theorem wp_letE {e : β} {f : β → Option α} (h : ∀ v, v = e → wp (f v) Q) : wp (oLet e f) Q := h e rfl
theorem wp_bind {f : β → Option α} {y : Option β} (h : wp y (fun a => wp (f a) Q)) : wp (y.bind f) Q := by
  obtain ⟨a, rfl, b, e, q⟩ := h
  exact ⟨b, e, q⟩
theorem wp_bindE {f : β → Option α} {y : Option β} {a : β} (e : y = some a) (h : wp (f a) Q) : wp (y.bind f) Q := by rw [e]; exact h
theorem wp_seq {f : β → Option α} {y : Option β} {R : β → Prop} (hy : wp y R) (h : ∀ a, R a → wp (f a) Q) : wp (y.bind f) Q := by
  obtain ⟨a, rfl, r⟩ := hy
  exact h a r
theorem wp_mono (h : wp x P) (hh : ∀ a, P a → Q a) : wp x Q := by
  obtain ⟨a, e, p⟩ := h
  exact ⟨a, e, hh a p⟩
theorem wp_eq {a : α} (h : wp x (fun b => b = a)) : x = some a := by
  obtain ⟨b, e, rfl⟩ := h
  exact e
theorem wp_of {a : α} (h : x = some a) (q : Q a) : wp x Q := ⟨a, h, q⟩
theorem wp_if {c : Prop} [Decidable c] {y : Option α} (h1 : c → wp x Q) (h2 : ¬ c → wp y Q) : wp (if c then x else y) Q := by
  by_cases h : c
  · rw [if_pos h]; exact h1 h
  · rw [if_neg h]; exact h2 h
end
theorem wp_ifT {α : Type} {Q : α → Prop} {x y : Option α} {c : Prop} [Decidable c] (hc : c) (h1 : wp x Q) : wp (if c then x else y) Q := by rw [if_pos hc]; exact h1
theorem wp_ifF {α : Type} {Q : α → Prop} {x y : Option α} {c : Prop} [Decidable c] (hc : ¬ c) (h1 : wp y Q) : wp (if c then x else y) Q := by rw [if_neg hc]; exact h1
theorem wp_ifJ {α : Type} {Q : α → Prop} {x y : Option α} {c c' : Prop} [Decidable c] (e : c = c') (h1 : c' → wp x Q) (h2 : ¬ c' → wp y Q) : wp (if c then x else y) Q := by subst e; exact wp_if h1 h2
theorem wp_ifJT {α : Type} {Q : α → Prop} {x y : Option α} {c c' : Prop} [Decidable c] (e : c = c') (hc : c') (h1 : wp x Q) : wp (if c then x else y) Q := by subst e; exact wp_ifT hc h1
theorem wp_ifJF {α : Type} {Q : α → Prop} {x y : Option α} {c c' : Prop} [Decidable c] (e : c = c') (hc : ¬ c') (h1 : wp y Q) : wp (if c then x else y) Q := by subst e; exact wp_ifF hc h1
theorem wp_gdJ {α : Type} {Q : α → Prop} {x : Option α} {c c' : Prop} (e : c = c') (hc : c') (h1 : wp x Q) : wp (gd c x) Q := by subst e; exact wp_gd hc h1
/-- what is so of a round: it goes on, or ends -/
def LR {α β : Type} (P : α → Prop) (Q : β → Prop) : α ⊕ β → Prop
  | .inl a => P a
  | .inr b => Q b
theorem LR_l {α β : Type} {P : α → Prop} {Q : β → Prop} {a : α} : LR P Q (.inl a) = P a := rfl
theorem LR_r {α β : Type} {P : α → Prop} {Q : β → Prop} {b : β} : LR P Q (.inr b) = Q b := rfl
theorem wp_for {α β : Type} {f : α → Option (α ⊕ β)} {Q : β → Prop} (N : Nat) (Inv : Nat → α → Prop)
    (h : ∀ k a, k ≤ N → Inv k a → wp (f a) (LR (fun a' => k < N ∧ Inv (k + 1) a') Q)) {n k0 : Nat} {a0 : α} (h0 : Inv k0 a0) (hk : k0 ≤ N) (hn : N - k0 < n) : wp (lpF f n a0) Q := by
  induction n generalizing k0 a0 with
  | zero => omega
  | succ n ih =>
    obtain ⟨r, e, q⟩ := h k0 a0 hk h0
    show wp ((f a0).bind _) Q
    rw [e]
    cases r with
    | inl a' => exact ih q.2 q.1 (by have := q.1; omega)
    | inr b => exact ⟨b, rfl, q⟩
/-- a loop with its measure -/
theorem wp_lp {α β : Type} {f : α → Option (α ⊕ β)} {Q : β → Prop} (μ : α → Nat) (Inv : α → Prop)
    (h : ∀ a, Inv a → wp (f a) (LR (fun a' => Inv a' ∧ μ a' < μ a) Q)) {n : Nat} {a0 : α} (h0 : Inv a0) (hn : μ a0 < n) : wp (lpF f n a0) Q := by
  induction n generalizing a0 with
  | zero => omega
  | succ n ih =>
    obtain ⟨r, e, q⟩ := h a0 h0
    show wp ((f a0).bind _) Q
    rw [e]
    cases r with
    | inl a' => exact ih q.1 (by have := q.2; omega)
    | inr b => exact ⟨b, rfl, q⟩
/-! with costs -/
def wk {α : Type} (x : Option (α × (Nat × Nat))) (B C : Nat) (Q : α → Prop) : Prop := ∃ a c, x = some (a, c) ∧ c.1 ≤ B ∧ c.2 ≤ C ∧ Q a
section
variable {α β : Type} {Q P : α → Prop} {x : Option (α × (Nat × Nat))} {B C : Nat}
theorem wk_some {a : α} {c : Nat × Nat} (h1 : c.1 ≤ B) (h2 : c.2 ≤ C) (h : Q a) : wk (some (a, c)) B C Q := ⟨a, c, rfl, h1, h2, h⟩
theorem wk_gd {P : Prop} (hp : P) (h : wk x B C Q) : wk (gd P x) B C Q := by rw [gd_t hp]; exact h
theorem wk_let {e : β} {f : β → Option (α × (Nat × Nat))} (h : wk (f e) B C Q) : wk (oLet e f) B C Q := h
theorem wk_letE {e : β} {f : β → Option (α × (Nat × Nat))} (h : ∀ v, v = e → wk (f v) B C Q) : wk (oLet e f) B C Q := h e rfl
theorem wk_seq {f : β → Option (α × (Nat × Nat))} {y : Option β} {R : β → Prop} (hy : wp y R) (h : ∀ a, R a → wk (f a) B C Q) : wk (y.bind f) B C Q := by
  obtain ⟨a, rfl, r⟩ := hy
  exact h a r
theorem wk_bindE {f : β → Option (α × (Nat × Nat))} {y : Option β} {a : β} (e : y = some a) (h : wk (f a) B C Q) : wk (y.bind f) B C Q := by rw [e]; exact h
theorem wk_cost {q : Nat × Nat} {B1 C1 : Nat} (h : wk x B1 C1 Q) (h1 : q.1 + B1 ≤ B) (h2 : q.2 + C1 ≤ C) : wk (oCost q x) B C Q := by
  obtain ⟨a, c, rfl, b1, b2, q'⟩ := h
  exact ⟨a, _, rfl, by show q.1 + c.1 ≤ B; omega, by show q.2 + c.2 ≤ C; omega, q'⟩
/-- a callee with a cost: what it costs is added -/
theorem wk_call {f : (β × (Nat × Nat)) → Option (α × (Nat × Nat))} {y : Option (β × (Nat × Nat))} {B1 C1 B2 C2 : Nat} {R : β → Prop} (hy : wk y B1 C1 R)
    (h : ∀ a c, R a → c.1 ≤ B1 → c.2 ≤ C1 → wk (f (a, c)) B C Q) : wk (y.bind f) B C Q := by
  obtain ⟨a, c, rfl, b1, b2, r⟩ := hy
  exact h a c r b1 b2
theorem wk_mono {B1 C1 : Nat} (h : wk x B1 C1 P) (h1 : B1 ≤ B) (h2 : C1 ≤ C) (hh : ∀ a, P a → Q a) : wk x B C Q := by
  obtain ⟨a, c, e, b1, b2, p⟩ := h
  exact ⟨a, c, e, by omega, by omega, hh a p⟩
theorem wk_if {c : Prop} [Decidable c] {y : Option (α × (Nat × Nat))} (h1 : c → wk x B C Q) (h2 : ¬ c → wk y B C Q) : wk (if c then x else y) B C Q := by
  by_cases h : c
  · rw [if_pos h]; exact h1 h
  · rw [if_neg h]; exact h2 h
end
theorem wk_for {α β : Type} {f : α → Option ((α ⊕ β) × (Nat × Nat))} {Q : β → Prop} (N B C : Nat) (Inv : Nat → α → Prop)
    (h : ∀ k a, k ≤ N → Inv k a → wk (f a) B C (LR (fun a' => k < N ∧ Inv (k + 1) a') Q)) {n k0 : Nat} {a0 : α} (h0 : Inv k0 a0) (hk : k0 ≤ N) (hn : N - k0 < n) : wk (lpK f n a0) ((N - k0 + 1) * B) ((N - k0 + 1) * C) Q := by
  induction n generalizing k0 a0 with
  | zero => omega
  | succ n ih =>
    obtain ⟨r, c, e, b1, b2, q⟩ := h k0 a0 hk h0
    show wk ((f a0).bind _) _ _ Q
    rw [e]
    cases r with
    | inl a' =>
      have h9 := ih q.2 q.1 (by have := q.1; omega)
      have e9 : N - k0 + 1 = (N - (k0 + 1) + 1) + 1 := by have := q.1; omega
      refine wk_cost h9 ?_ ?_
      · have e := Nat.succ_mul (N - (k0 + 1) + 1) B; rw [Nat.succ_eq_add_one, ← e9] at e; show c.1 + _ ≤ _; omega
      · have e := Nat.succ_mul (N - (k0 + 1) + 1) C; rw [Nat.succ_eq_add_one, ← e9] at e; show c.2 + _ ≤ _; omega
    | inr b => exact ⟨b, c, rfl, by rw [Nat.succ_mul]; omega, by rw [Nat.succ_mul]; omega, q⟩
/-! ints -/
theorem J_ex0 : ∃ f : Int → Int32, ∀ z, f z = Int32.ofInt z := ⟨fun z => Int32.ofInt z, fun _ => rfl⟩
noncomputable def J : Int → Int32 := Classical.choose J_ex0
theorem J_def (z : Int) : J z = Int32.ofInt z := Classical.choose_spec J_ex0 z
theorem J_add (a b : Int) : J a + J b = J (a + b) := by simp only [J_def]; exact (Int32.ofInt_add a b).symm
theorem J_sub (a b : Int) : J a - J b = J (a - b) := by simp only [J_def]; exact (Int32.ofInt_sub a b).symm
theorem J_mul (a b : Int) : J a * J b = J (a * b) := by simp only [J_def]; exact (Int32.ofInt_mul a b).symm
theorem J_neg (a : Int) : - J a = J (-a) := by simp only [J_def]; exact (Int32.ofInt_neg a).symm
theorem J_lit (n : Nat) : (OfNat.ofNat n : Int32) = J (OfNat.ofNat n : Int) := by rw [J_def]; exact Int32.ofInt_eq_ofNat.symm
theorem J_0 : (0 : Int32) = J 0 := J_lit 0
theorem J_1 : (1 : Int32) = J 1 := J_lit 1
theorem J_n (n : Nat) : Int32.ofNat n = J n := by rw [J_def]; exact Int32.ofInt_eq_ofNat.symm
theorem J_self (x : Int32) : J x.toInt = x := by rw [J_def]; exact Int32.ofInt_toInt x
theorem J_ex (x : Int32) : ∃ z : Int, -2147483648 ≤ z ∧ z < 2147483648 ∧ x = J z := ⟨x.toInt, Int32.le_toInt x, Int32.toInt_lt x, (J_self x).symm⟩
/-- what fits -/
def jo (z : Int) : Prop := -2147483648 ≤ z ∧ z < 2147483648
theorem toInt_J {z : Int} (h : jo z) : (J z).toInt = z := by rw [J_def]; exact Int32.toInt_ofInt_of_le h.1 h.2
theorem J_le {a b : Int} (ha : jo a) (hb : jo b) : (J a ≤ J b) = (a ≤ b) := by rw [Int32.le_iff_toInt_le, toInt_J ha, toInt_J hb]
theorem J_lt {a b : Int} (ha : jo a) (hb : jo b) : (J a < J b) = (a < b) := by rw [Int32.lt_iff_toInt_lt, toInt_J ha, toInt_J hb]
theorem J_eq {a b : Int} (ha : jo a) (hb : jo b) : (J a = J b) = (a = b) := by rw [← Int32.toInt_inj, toInt_J ha, toInt_J hb]
theorem J_nat {a : Int} (ha : jo a) : (J a).toNatClampNeg = a.toNat := by rw [J_def]; exact Int32.toNatClampNeg_ofInt_of_le ha.1 ha.2
theorem J_div {a b : Int} (ha : jo a) (hb : jo b) : J a / J b = J (a.tdiv b) := by simp only [J_def]; exact (Int32.ofInt_tdiv ha.1 (Int.le_of_lt_add_one ha.2) hb.1 (Int.le_of_lt_add_one hb.2)).symm
theorem vp_J {a : Int} {N : Nat} (h0 : 0 ≤ a) (h1 : a < N) (h2 : a < 2147483648) : vp_in (J a) N := by
  have hj : jo a := ⟨by omega, h2⟩
  rintro (h | h)
  · rw [J_0, J_lt hj ⟨by decide, by decide⟩] at h; omega
  · rw [J_nat hj] at h; omega
/-- a truth as an int -/
def bJ (b : Bool) : Int32 := if b then J 1 else J 0
theorem bJ_t : bJ true = J 1 := rfl
theorem bJ_f : bJ false = J 0 := rfl
theorem bJ_0 (b : Bool) : (bJ b = J 0) = (b = false) := by cases b <;> simp only [bJ, J_def] <;> decide
theorem nar_J (b : Bool) : vp_nar .boolean (bJ b) = bJ b := by cases b <;> simp only [bJ, J_def] <;> rfl
theorem nar_0 : vp_nar .boolean (J 0) = J 0 := by rw [J_def]; rfl
theorem nar_1 : vp_nar .boolean (J 1) = J 1 := by rw [J_def]; rfl
theorem sA_at {α : Type} (F : Nat → Nat → α) (s i : Nat) (v : α) (s' i' : Nat) : sA F s i v s' i' = if s' = s ∧ i' = i then v else F s' i' := rfl
theorem uA_at {α : Type} (f : Nat → α) (k : Nat) (v : α) (j : Nat) : uA f k v j = if j = k then v else f j := rfl
theorem rA_at {α : Type} (F : Nat → Nat → α) (s lo n : Nat) (v : α) (s' i' : Nat) : rA F s lo n v s' i' = if s' = s ∧ lo ≤ i' ∧ i' < lo + n then v else F s' i' := rfl
theorem jle {a b : Int} (h1 : -2147483648 ≤ a) (h2 : a < 2147483648) (h3 : -2147483648 ≤ b) (h4 : b < 2147483648) : (J a ≤ J b) = (a ≤ b) := J_le ⟨h1, h2⟩ ⟨h3, h4⟩
theorem jlt {a b : Int} (h1 : -2147483648 ≤ a) (h2 : a < 2147483648) (h3 : -2147483648 ≤ b) (h4 : b < 2147483648) : (J a < J b) = (a < b) := J_lt ⟨h1, h2⟩ ⟨h3, h4⟩
theorem jeq {a b : Int} (h1 : -2147483648 ≤ a) (h2 : a < 2147483648) (h3 : -2147483648 ≤ b) (h4 : b < 2147483648) : (J a = J b) = (a = b) := J_eq ⟨h1, h2⟩ ⟨h3, h4⟩
theorem jnat {a : Int} (h1 : -2147483648 ≤ a) (h2 : a < 2147483648) : (J a).toNatClampNeg = a.toNat := J_nat ⟨h1, h2⟩
theorem jnn {k : Nat} (h : k < 2147483648) : (J (k : Int)).toNatClampNeg = k := by rw [jnat (by omega) (by omega)]; rfl
theorem jdiv {a b : Int} (h1 : -2147483648 ≤ a) (h2 : a < 2147483648) (h3 : -2147483648 ≤ b) (h4 : b < 2147483648) : J a / J b = J (a.tdiv b) := J_div ⟨h1, h2⟩ ⟨h3, h4⟩
/-! any, sum -/
def anyN : Nat → (Nat → Bool) → Bool
  | 0, _ => false
  | n + 1, p => anyN n p || p n
def sumN : Nat → (Nat → Int) → Int
  | 0, _ => 0
  | n + 1, f => sumN n f + f n
theorem anyN_iff {n : Nat} {p : Nat → Bool} : anyN n p = true ↔ ∃ k, k < n ∧ p k = true := by
  induction n with
  | zero => simp [anyN]
  | succ n ih =>
    simp only [anyN, Bool.or_eq_true, ih]
    constructor
    · rintro (⟨k, h, q⟩ | q)
      · exact ⟨k, by omega, q⟩
      · exact ⟨n, by omega, q⟩
    · rintro ⟨k, h, q⟩
      by_cases e : k = n
      · subst e; exact .inr q
      · exact .inl ⟨k, by omega, q⟩
theorem anyN_of {n k : Nat} {p : Nat → Bool} (h : k < n) (q : p k = true) : anyN n p = true := anyN_iff.mpr ⟨k, h, q⟩
theorem anyN_congr {n : Nat} {p q : Nat → Bool} (h : ∀ k, k < n → p k = q k) : anyN n p = anyN n q := by
  induction n with
  | zero => rfl
  | succ n ih => simp only [anyN]; rw [ih (fun k hk => h k (by omega)), h n (by omega)]
theorem sumN_congr {n : Nat} {p q : Nat → Int} (h : ∀ k, k < n → p k = q k) : sumN n p = sumN n q := by
  induction n with
  | zero => rfl
  | succ n ih => simp only [sumN]; rw [ih (fun k hk => h k (by omega)), h n (by omega)]
theorem sumN_le {n : Nat} {f : Nat → Int} {B : Int} (h : ∀ k, k < n → f k ≤ B) : sumN n f ≤ n * B := by
  induction n with
  | zero => simp [sumN]
  | succ n ih =>
    simp only [sumN]
    have h1 := ih (fun k hk => h k (by omega))
    have h2 := h n (by omega)
    have e : ((n + 1 : Nat) : Int) * B = n * B + B := by rw [Int.natCast_add, Int.add_mul]; simp
    omega
theorem sumN_nn {n : Nat} {f : Nat → Int} (h : ∀ k, k < n → 0 ≤ f k) : 0 ≤ sumN n f := by
  induction n with
  | zero => simp [sumN]
  | succ n ih =>
    simp only [sumN]
    have h1 := ih (fun k hk => h k (by omega))
    have h2 := h n (by omega)
    omega
/-- a search: the round answers at the first k for which p holds -/
theorem wp_any {γ : Type} {f : Int32 → Option (Int32 ⊕ γ)} {e0 e1 : γ} (p : Nat → Bool) (N : Nat)
    (hs : ∀ k : Nat, k < N → wp (f (J k)) (LR (fun a' => p k = false ∧ a' = J (k + 1 : Int)) (fun b => p k = true ∧ b = e1)))
    (he : wp (f (J N)) (LR (fun _ => False) (fun b => b = e0))) {n : Nat} (hn : N < n) :
    lpF f n (J 0) = some (if anyN N p then e1 else e0) := by
  apply wp_eq
  refine wp_for N (fun k a => a = J k ∧ anyN k p = false) ?_ (k0 := 0) ⟨rfl, rfl⟩ (by omega) (by omega)
  rintro k a hk ⟨rfl, hf⟩
  by_cases e : k = N
  · subst e
    refine wp_mono he ?_
    intro r hr
    cases r with
    | inl a' => exact hr.elim
    | inr b => show b = _; rw [hf]; exact hr
  refine wp_mono (hs k (by omega)) ?_
  intro r hr
  cases r with
  | inl a' =>
    obtain ⟨h2, h3⟩ := hr
    refine ⟨by omega, h3.trans rfl, ?_⟩
    simp only [anyN, hf, h2, Bool.or_self]
  | inr b =>
    obtain ⟨h2, h3⟩ := hr
    show b = _; rw [h3, anyN_of (by omega : k < N) h2]; rfl
/-- a sum -/
theorem wp_sum {f : Int32 × Int32 → Option ((Int32 × Int32) ⊕ Int32)} (g : Nat → Int) (N : Nat)
    (hs : ∀ (k : Nat) (x : Int), k < N → wp (f (J x, J k)) (LR (fun a' => a' = (J (x + g k), J (k + 1 : Int))) (fun _ => False)))
    (he : ∀ x : Int, wp (f (J x, J N)) (LR (fun _ => False) (fun b => b = J x))) {n : Nat} (hn : N < n) :
    lpF f n (J 0, J 0) = some (J (sumN N g)) := by
  apply wp_eq
  refine wp_for N (fun k a => a = (J (sumN k g), J k)) ?_ (k0 := 0) rfl (by omega) (by omega)
  rintro k a hk rfl
  by_cases e : k = N
  · subst e
    refine wp_mono (he _) ?_
    intro r hr
    cases r with
    | inl a' => exact hr.elim
    | inr b => exact hr
  refine wp_mono (hs k _ (by omega)) ?_
  intro r hr
  cases r with
  | inl a' => exact ⟨by omega, hr.trans rfl⟩
  | inr b => exact hr.elim
/-- any state that a round carries on: what it is behind k rounds -/
theorem wp_fold {σ β : Type} {f : σ → Option (σ ⊕ β)} (st : Nat → σ) (b0 : β) (N : Nat)
    (hs : ∀ k : Nat, k < N → wp (f (st k)) (LR (fun a' => a' = st (k + 1)) (fun _ => False)))
    (he : wp (f (st N)) (LR (fun _ => False) (fun b => b = b0))) {n : Nat} (hn : N < n) {a0 : σ} (h0 : a0 = st 0) :
    lpF f n a0 = some b0 := by
  apply wp_eq
  refine wp_for N (fun k a => a = st k) ?_ (k0 := 0) h0 (by omega) (by omega)
  rintro k a hk rfl
  by_cases e : k = N
  · subst e
    refine wp_mono he ?_
    intro r hr
    cases r with
    | inl a' => exact hr.elim
    | inr b => exact hr
  refine wp_mono (hs k (by omega)) ?_
  intro r hr
  cases r with
  | inl a' => exact ⟨by omega, hr⟩
  | inr b => exact hr.elim
theorem bJ_01 (b : Bool) : (bJ b = J 0 ∨ bJ b = J 1) = True := by cases b <;> simp [bJ]
theorem gd_T {α : Type} {x : Option α} : gd True x = x := gd_t trivial
theorem bJ_1 (b : Bool) : (bJ b = J 1) = (b = true) := by cases b <;> simp only [bJ, J_def] <;> decide
theorem bft (b : Bool) : (b = false ∨ b = true) = True := by cases b <;> simp
theorem bJ_e1 {b : Bool} (h : b = true) : J 1 = bJ b := by rw [h]; rfl
theorem bJ_e0 {b : Bool} (h : b = false) : J 0 = bJ b := by rw [h]; rfl
end
