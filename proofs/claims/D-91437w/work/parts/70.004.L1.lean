noncomputable section
set_option linter.unusedVariables false
/-! PLAIN 2b: some rounds of a loop -/
def goesF {σ β : Type} (f : σ → Option (σ ⊕ β)) : Nat → σ → σ → Prop
  | 0, a, b => a = b
  | n + 1, a, b => ∃ c, f a = some (.inl c) ∧ goesF f n c b
theorem goesF_trans {σ β : Type} {f : σ → Option (σ ⊕ β)} : ∀ {m n : Nat} {a b c : σ}, goesF f m a b → goesF f n b c → goesF f (m + n) a c
  | 0, n, a, b, c, h, h2 => by cases h; rw [Nat.zero_add]; exact h2
  | m + 1, n, a, b, c, ⟨d, e, h⟩, h2 => by
    rw [show m + 1 + n = (m + n) + 1 by omega]
    exact ⟨d, e, goesF_trans h h2⟩
theorem goesF_one {σ β : Type} {f : σ → Option (σ ⊕ β)} {a b : σ} (h : f a = some (.inl b)) : goesF f 1 a b := ⟨b, h, rfl⟩
theorem lpF_goes {σ β : Type} {f : σ → Option (σ ⊕ β)} : ∀ {m n : Nat} {a b : σ}, goesF f m a b → lpF f (m + n) a = lpF f n b
  | 0, n, a, b, h => by cases h; rw [Nat.zero_add]
  | m + 1, n, a, b, ⟨d, e, h⟩ => by
    rw [show m + 1 + n = (m + n) + 1 by omega]
    show (f a).bind _ = _
    rw [e]
    exact lpF_goes h
theorem lpF_goes' {σ β : Type} {f : σ → Option (σ ⊕ β)} {m n : Nat} {a b : σ} (h : goesF f m a b) (hn : m ≤ n) : lpF f n a = lpF f (n - m) b := by
  rw [← lpF_goes h, show m + (n - m) = n by omega]
theorem lpF_end {σ β : Type} {f : σ → Option (σ ⊕ β)} {n : Nat} {a : σ} {b : β} (h : f a = some (.inr b)) (hn : 0 < n) : lpF f n a = some b := by
  cases n with
  | zero => omega
  | succ n =>
    show (f a).bind _ = _
    rw [h]; rfl
/-- a search through states -/
theorem wp_anyG {σ γ : Type} {f : σ → Option (σ ⊕ γ)} (st : Nat → σ) {e0 e1 : γ} (p : Nat → Bool) (N : Nat)
    (hs : ∀ k : Nat, k < N → wp (f (st k)) (LR (fun a' => p k = false ∧ a' = st (k + 1)) (fun b => p k = true ∧ b = e1)))
    (he : wp (f (st N)) (LR (fun _ => False) (fun b => b = e0))) {n : Nat} (hn : N < n) {a0 : σ} (h0 : a0 = st 0) :
    lpF f n a0 = some (if anyN N p then e1 else e0) := by
  apply wp_eq
  refine wp_for N (fun k a => a = st k ∧ anyN k p = false) ?_ (k0 := 0) ⟨h0, rfl⟩ (by omega) (by omega)
  rintro k a hk ⟨rfl, hf⟩
  by_cases e : k = N
  · subst e
    refine wp_mono he ?_
    intro r hr
    cases r with
    | inl a' => exact hr.elim
    | inr b => show b = _; rw [hf]; exact hr
  refine wp_mono (hs k (by omega)) ?_
  intro r hr
  cases r with
  | inl a' =>
    obtain ⟨h2, h3⟩ := hr
    refine ⟨by omega, h3, ?_⟩
    simp only [anyN, hf, h2, Bool.or_self]
  | inr b =>
    obtain ⟨h2, h3⟩ := hr
    show b = _; rw [h3, anyN_of (by omega : k < N) h2]; rfl
end
