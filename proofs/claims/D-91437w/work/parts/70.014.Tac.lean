noncomputable section
theorem wp_eli {α β γ : Type} {f : α → Option γ} {g : β → Option γ} {a : α} {Q : γ → Prop} (h : wp (f a) Q) : wp (Sum.elim f g (.inl a)) Q := h
theorem wp_elr {α β γ : Type} {f : α → Option γ} {g : β → Option γ} {b : β} {Q : γ → Prop} (h : wp (g b) Q) : wp (Sum.elim f g (.inr b)) Q := h
end
