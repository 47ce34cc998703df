/-! MIRRORS of methods that make things: printed by gen/mk_alloc.py -/
abbrev yL_law : MethodName := ⟨"OperaHouseLaw", "law", "([I)Z"⟩
theorem nL_8 : oCn "OperaHouseLaw" 8 0 37 := ⟨RX1, TX1, tyX1, rfl, rfl, by decide, in_X1, tyX1_ok, fun j hj _ => (match j, hj with | 0, _ => rfl | 1, _ => rfl | 2, _ => rfl | 3, _ => rfl | 4, _ => rfl | 5, _ => rfl | 6, _ => rfl | 7, _ => rfl | 8, _ => rfl | 9, _ => rfl | 10, _ => rfl | 11, _ => rfl | 12, _ => rfl | 13, _ => rfl | 14, _ => rfl | 15, _ => rfl | 16, _ => rfl | 17, _ => rfl | 18, _ => rfl | 19, _ => rfl | 20, _ => rfl | 21, _ => rfl | 22, _ => rfl | 23, _ => rfl | 24, _ => rfl | 25, _ => rfl | 26, _ => rfl | 27, _ => rfl | 28, _ => rfl | 29, _ => rfl | 30, _ => rfl | 31, _ => rfl | 32, _ => rfl | 33, _ => rfl | 34, _ => rfl | 35, _ => rfl | 36, _ => rfl | j + 37, h => absurd h (by omega)), q170, q171, q129⟩
theorem nL_16 : oCn "OperaHouseLaw" 16 1 101 := ⟨RX4, TX4, tyX4, rfl, rfl, by decide, in_X4, tyX4_ok, fun j hj _ => (match j, hj with | 0, _ => rfl | 1, _ => rfl | 2, _ => rfl | 3, _ => rfl | 4, _ => rfl | 5, _ => rfl | 6, _ => rfl | 7, _ => rfl | 8, _ => rfl | 9, _ => rfl | 10, _ => rfl | 11, _ => rfl | 12, _ => rfl | 13, _ => rfl | 14, _ => rfl | 15, _ => rfl | 16, _ => rfl | 17, _ => rfl | 18, _ => rfl | 19, _ => rfl | 20, _ => rfl | 21, _ => rfl | 22, _ => rfl | 23, _ => rfl | 24, _ => rfl | 25, _ => rfl | 26, _ => rfl | 27, _ => rfl | 28, _ => rfl | 29, _ => rfl | 30, _ => rfl | 31, _ => rfl | 32, _ => rfl | 33, _ => rfl | 34, _ => rfl | 35, _ => rfl | 36, _ => rfl | 37, _ => rfl | 38, _ => rfl | 39, _ => rfl | 40, _ => rfl | 41, _ => rfl | 42, _ => rfl | 43, _ => rfl | 44, _ => rfl | 45, _ => rfl | 46, _ => rfl | 47, _ => rfl | 48, _ => rfl | 49, _ => rfl | 50, _ => rfl | 51, _ => rfl | 52, _ => rfl | 53, _ => rfl | 54, _ => rfl | 55, _ => rfl | 56, _ => rfl | 57, _ => rfl | 58, _ => rfl | 59, _ => rfl | 60, _ => rfl | 61, _ => rfl | 62, _ => rfl | 63, _ => rfl | 64, _ => rfl | 65, _ => rfl | 66, _ => rfl | 67, _ => rfl | 68, _ => rfl | 69, _ => rfl | 70, _ => rfl | 71, _ => rfl | 72, _ => rfl | 73, _ => rfl | 74, _ => rfl | 75, _ => rfl | 76, _ => rfl | 77, _ => rfl | 78, _ => rfl | 79, _ => rfl | 80, _ => rfl | 81, _ => rfl | 82, _ => rfl | 83, _ => rfl | 84, _ => rfl | 85, _ => rfl | 86, _ => rfl | 87, _ => rfl | 88, _ => rfl | 89, _ => rfl | 90, _ => rfl | 91, _ => rfl | 92, _ => rfl | 93, _ => rfl | 94, _ => rfl | 95, _ => rfl | 96, _ => rfl | 97, _ => rfl | 98, _ => rfl | 99, _ => rfl | 100, _ => rfl | j + 101, h => absurd h (by omega)), q1702, q1703, q136⟩
abbrev iL_law : OhM := (yL_law, cL_law, 7, (some .boolean), [])
theorem ok_L_law : oOk iL_law 1 := ⟨by decide, by decide, by decide +kernel⟩
noncomputable def mL_law_j354 (n : Nat) (FI : OhI) (FL : OhL) (FR : OhQ) (GR : OhQ) (AI : OhI) (AL : OhL) (AR : OhQ) (BR : OhQ) (AN : OhN) (C : OhC) (x4 : Int32) (y0 : Int32) (y2 : Int32) (y3 : Int32) (y4 : Int32) : Option (((Int32 × OhI × OhL × OhQ × OhQ × OhI × OhL × OhQ × OhN × OhC) ⊕ ((OhI × OhL × OhQ × OhQ × OhI × OhL × OhQ × OhN × OhC) ⊕ ((OhI × OhL × OhQ × OhQ × OhI × OhL × OhQ × OhN × OhC) ⊕ ((OhI × OhL × OhQ × OhQ × OhI × OhL × OhQ × OhN × OhC) ⊕ ((OhI × OhL × OhQ × OhQ × OhI × OhL × OhQ × OhN × OhC) ⊕ ((OhI × OhL × OhQ × OhQ × OhI × OhL × OhQ × OhN × OhC) ⊕ ((OhI × OhL × OhQ × OhQ × OhI × OhL × OhQ × OhN × OhC) ⊕ ((OhI × OhL × OhQ × OhQ × OhI × OhL × OhQ × OhN × OhC) ⊕ ((OhI × OhL × OhQ × OhQ × OhI × OhL × OhQ × OhN × OhC) ⊕ ((OhI × OhL × OhQ × OhQ × OhI × OhL × OhQ × OhN × OhC) ⊕ ((OhI × OhL × OhQ × OhQ × OhI × OhL × OhQ × OhN × OhC) ⊕ ((OhI × OhL × OhQ × OhQ × OhI × OhL × OhQ × OhN × OhC) ⊕ ((OhI × OhL × OhQ × OhQ × OhI × OhL × OhQ × OhN × OhC) ⊕ ((OhI × OhL × OhQ × OhQ × OhI × OhL × OhQ × OhN × OhC) ⊕ ((OhI × OhL × OhQ × OhQ × OhI × OhL × OhQ × OhN × OhC) ⊕ ((OhI × OhL × OhQ × OhQ × OhI × OhL × OhQ × OhN × OhC) ⊕ ((OhI × OhL × OhQ × OhQ × OhI × OhL × OhQ × OhN × OhC) ⊕ ((OhI × OhL × OhQ × OhQ × OhI × OhL × OhQ × OhN × OhC) ⊕ ((OhI × OhL × OhQ × OhQ × OhI × OhL × OhQ × OhN × OhC) ⊕ ((OhI × OhL × OhQ × OhQ × OhI × OhL × OhQ × OhN × OhC) ⊕ ((OhI × OhL × OhQ × OhQ × OhI × OhL × OhQ × OhN × OhC) ⊕ ((OhI × OhL × OhQ × OhQ × OhI × OhL × OhQ × OhN × OhC) ⊕ ((OhI × OhL × OhQ × OhQ × OhI × OhL × OhQ × OhN × OhC) ⊕ ((OhI × OhL × OhQ × OhQ × OhI × OhL × OhQ × OhN × OhC) ⊕ ((OhI × OhL × OhQ × OhQ × OhI × OhL × OhQ × OhN × OhC) ⊕ ((OhI × OhL × OhQ × OhQ × OhI × OhL × OhQ × OhN × OhC) ⊕ ((OhI × OhL × OhQ × OhQ × OhI × OhL × OhQ × OhN × OhC) ⊕ ((OhI × OhL × OhQ × OhQ × OhI × OhL × OhQ × OhN × OhC) ⊕ ((OhI × OhL × OhQ × OhQ × OhI × OhL × OhQ × OhN × OhC) ⊕ ((OhI × OhL × OhQ × OhQ × OhI × OhL × OhQ × OhN × OhC) ⊕ (OhI × OhL × OhQ × OhQ × OhI × OhL × OhQ × OhN × OhC))))))))))))))))))))))))))))))) × (Nat × Nat)) :=
  gd (vp_in (x4 + (4 : Int32)) (AN 3 0)) <|
  gd (ohShM FR AN) <|
  (mX4_opera n FI FR AI AN y2 y3 y4 (AI 3 0 (x4 + (4 : Int32)).toNatClampNeg)).bind fun r51 =>
  (if y0 = r51.1 then
  some (.inl (x4 + (6 : Int32), r51.2.1, FL, FR, GR, r51.2.2, AL, BR, AN, C), (0, 0))
else
  some (.inr (.inr (.inr (.inr (.inr (.inl (r51.2.1, FL, FR, GR, r51.2.2, AL, BR, AN, C)))))), (0, 0)))
theorem x_mL_law_j354 {G : OhG} {FI AI : OhI} {FL AL : OhL} {FR GR AR BR : OhQ} {AN : OhN} {C : OhC} {k : Nat × Nat} {Φ : OhP} {Ψ : OhX} (n : Nat) (x4 : Int32) (y0 : Int32) (y2 : Int32) (y3 : Int32) (y4 : Int32) {r : ((Int32 × OhI × OhL × OhQ × OhQ × OhI × OhL × OhQ × OhN × OhC) ⊕ ((OhI × OhL × OhQ × OhQ × OhI × OhL × OhQ × OhN × OhC) ⊕ ((OhI × OhL × OhQ × OhQ × OhI × OhL × OhQ × OhN × OhC) ⊕ ((OhI × OhL × OhQ × OhQ × OhI × OhL × OhQ × OhN × OhC) ⊕ ((OhI × OhL × OhQ × OhQ × OhI × OhL × OhQ × OhN × OhC) ⊕ ((OhI × OhL × OhQ × OhQ × OhI × OhL × OhQ × OhN × OhC) ⊕ ((OhI × OhL × OhQ × OhQ × OhI × OhL × OhQ × OhN × OhC) ⊕ ((OhI × OhL × OhQ × OhQ × OhI × OhL × OhQ × OhN × OhC) ⊕ ((OhI × OhL × OhQ × OhQ × OhI × OhL × OhQ × OhN × OhC) ⊕ ((OhI × OhL × OhQ × OhQ × OhI × OhL × OhQ × OhN × OhC) ⊕ ((OhI × OhL × OhQ × OhQ × OhI × OhL × OhQ × OhN × OhC) ⊕ ((OhI × OhL × OhQ × OhQ × OhI × OhL × OhQ × OhN × OhC) ⊕ ((OhI × OhL × OhQ × OhQ × OhI × OhL × OhQ × OhN × OhC) ⊕ ((OhI × OhL × OhQ × OhQ × OhI × OhL × OhQ × OhN × OhC) ⊕ ((OhI × OhL × OhQ × OhQ × OhI × OhL × OhQ × OhN × OhC) ⊕ ((OhI × OhL × OhQ × OhQ × OhI × OhL × OhQ × OhN × OhC) ⊕ ((OhI × OhL × OhQ × OhQ × OhI × OhL × OhQ × OhN × OhC) ⊕ ((OhI × OhL × OhQ × OhQ × OhI × OhL × OhQ × OhN × OhC) ⊕ ((OhI × OhL × OhQ × OhQ × OhI × OhL × OhQ × OhN × OhC) ⊕ ((OhI × OhL × OhQ × OhQ × OhI × OhL × OhQ × OhN × OhC) ⊕ ((OhI × OhL × OhQ × OhQ × OhI × OhL × OhQ × OhN × OhC) ⊕ ((OhI × OhL × OhQ × OhQ × OhI × OhL × OhQ × OhN × OhC) ⊕ ((OhI × OhL × OhQ × OhQ × OhI × OhL × OhQ × OhN × OhC) ⊕ ((OhI × OhL × OhQ × OhQ × OhI × OhL × OhQ × OhN × OhC) ⊕ ((OhI × OhL × OhQ × OhQ × OhI × OhL × OhQ × OhN × OhC) ⊕ ((OhI × OhL × OhQ × OhQ × OhI × OhL × OhQ × OhN × OhC) ⊕ ((OhI × OhL × OhQ × OhQ × OhI × OhL × OhQ × OhN × OhC) ⊕ ((OhI × OhL × OhQ × OhQ × OhI × OhL × OhQ × OhN × OhC) ⊕ ((OhI × OhL × OhQ × OhQ × OhI × OhL × OhQ × OhN × OhC) ⊕ ((OhI × OhL × OhQ × OhQ × OhI × OhL × OhQ × OhN × OhC) ⊕ (OhI × OhL × OhQ × OhQ × OhI × OhL × OhQ × OhN × OhC))))))))))))))))))))))))))))))) × (Nat × Nat)} (hm : mL_law_j354 n FI FL FR GR AI AL AR BR AN C x4 y0 y2 y3 y4 = some r) (hk : ∀ v : Int32 × OhI × OhL × OhQ × OhQ × OhI × OhL × OhQ × OhN × OhC, r.1 = .inl v → oX G 106 iL_law 23 [(0, vR (some (3, 0))), (1, vR (some (0, 0))), (2, vR (some (1, 0))), (3, vR (some (2, 0))), (4, vI v.1)] [] (v.2.1, v.2.2.1, v.2.2.2.1, v.2.2.2.2.1, v.2.2.2.2.2.1, v.2.2.2.2.2.2.1, AR, v.2.2.2.2.2.2.2.1, v.2.2.2.2.2.2.2.2.1, v.2.2.2.2.2.2.2.2.2) k Φ Ψ) (hx1 : ∀ v : OhI × OhL × OhQ × OhQ × OhI × OhL × OhQ × OhN × OhC, r.1 = .inr (.inl v) → oX G 106 iL_law 1469 [] [] (v.1, v.2.1, v.2.2.1, v.2.2.2.1, v.2.2.2.2.1, v.2.2.2.2.2.1, AR, v.2.2.2.2.2.2.1, v.2.2.2.2.2.2.2.1, v.2.2.2.2.2.2.2.2) k Φ Ψ) (hx2 : ∀ v : OhI × OhL × OhQ × OhQ × OhI × OhL × OhQ × OhN × OhC, r.1 = .inr (.inr (.inl v)) → oX G 106 iL_law 239 [] [] (v.1, v.2.1, v.2.2.1, v.2.2.2.1, v.2.2.2.2.1, v.2.2.2.2.2.1, AR, v.2.2.2.2.2.2.1, v.2.2.2.2.2.2.2.1, v.2.2.2.2.2.2.2.2) k Φ Ψ) (hx3 : ∀ v : OhI × OhL × OhQ × OhQ × OhI × OhL × OhQ × OhN × OhC, r.1 = .inr (.inr (.inr (.inl v))) → oX G 106 iL_law 264 [] [] (v.1, v.2.1, v.2.2.1, v.2.2.2.1, v.2.2.2.2.1, v.2.2.2.2.2.1, AR, v.2.2.2.2.2.2.1, v.2.2.2.2.2.2.2.1, v.2.2.2.2.2.2.2.2) k Φ Ψ) (hx4 : ∀ v : OhI × OhL × OhQ × OhQ × OhI × OhL × OhQ × OhN × OhC, r.1 = .inr (.inr (.inr (.inr (.inl v)))) → oX G 106 iL_law 289 [] [] (v.1, v.2.1, v.2.2.1, v.2.2.2.1, v.2.2.2.2.1, v.2.2.2.2.2.1, AR, v.2.2.2.2.2.2.1, v.2.2.2.2.2.2.2.1, v.2.2.2.2.2.2.2.2) k Φ Ψ) (hx5 : ∀ v : OhI × OhL × OhQ × OhQ × OhI × OhL × OhQ × OhN × OhC, r.1 = .inr (.inr (.inr (.inr (.inr (.inl v))))) → oX G 106 iL_law 366 [] [] (v.1, v.2.1, v.2.2.1, v.2.2.2.1, v.2.2.2.2.1, v.2.2.2.2.2.1, AR, v.2.2.2.2.2.2.1, v.2.2.2.2.2.2.2.1, v.2.2.2.2.2.2.2.2) k Φ Ψ) (hx6 : ∀ v : OhI × OhL × OhQ × OhQ × OhI × OhL × OhQ × OhN × OhC, r.1 = .inr (.inr (.inr (.inr (.inr (.inr (.inl v)))))) → oX G 106 iL_law 415 [] [] (v.1, v.2.1, v.2.2.1, v.2.2.2.1, v.2.2.2.2.1, v.2.2.2.2.2.1, AR, v.2.2.2.2.2.2.1, v.2.2.2.2.2.2.2.1, v.2.2.2.2.2.2.2.2) k Φ Ψ) (hx7 : ∀ v : OhI × OhL × OhQ × OhQ × OhI × OhL × OhQ × OhN × OhC, r.1 = .inr (.inr (.inr (.inr (.inr (.inr (.inr (.inl v))))))) → oX G 106 iL_law 464 [] [] (v.1, v.2.1, v.2.2.1, v.2.2.2.1, v.2.2.2.2.1, v.2.2.2.2.2.1, AR, v.2.2.2.2.2.2.1, v.2.2.2.2.2.2.2.1, v.2.2.2.2.2.2.2.2) k Φ Ψ) (hx8 : ∀ v : OhI × OhL × OhQ × OhQ × OhI × OhL × OhQ × OhN × OhC, r.1 = .inr (.inr (.inr (.inr (.inr (.inr (.inr (.inr (.inl v)))))))) → oX G 106 iL_law 501 [] [] (v.1, v.2.1, v.2.2.1, v.2.2.2.1, v.2.2.2.2.1, v.2.2.2.2.2.1, AR, v.2.2.2.2.2.2.1, v.2.2.2.2.2.2.2.1, v.2.2.2.2.2.2.2.2) k Φ Ψ) (hx9 : ∀ v : OhI × OhL × OhQ × OhQ × OhI × OhL × OhQ × OhN × OhC, r.1 = .inr (.inr (.inr (.inr (.inr (.inr (.inr (.inr (.inr (.inl v))))))))) → oX G 106 iL_law 526 [] [] (v.1, v.2.1, v.2.2.1, v.2.2.2.1, v.2.2.2.2.1, v.2.2.2.2.2.1, AR, v.2.2.2.2.2.2.1, v.2.2.2.2.2.2.2.1, v.2.2.2.2.2.2.2.2) k Φ Ψ) (hx10 : ∀ v : OhI × OhL × OhQ × OhQ × OhI × OhL × OhQ × OhN × OhC, r.1 = .inr (.inr (.inr (.inr (.inr (.inr (.inr (.inr (.inr (.inr (.inl v)))))))))) → oX G 106 iL_law 539 [] [] (v.1, v.2.1, v.2.2.1, v.2.2.2.1, v.2.2.2.2.1, v.2.2.2.2.2.1, AR, v.2.2.2.2.2.2.1, v.2.2.2.2.2.2.2.1, v.2.2.2.2.2.2.2.2) k Φ Ψ) (hx11 : ∀ v : OhI × OhL × OhQ × OhQ × OhI × OhL × OhQ × OhN × OhC, r.1 = .inr (.inr (.inr (.inr (.inr (.inr (.inr (.inr (.inr (.inr (.inr (.inl v))))))))))) → oX G 106 iL_law 600 [] [] (v.1, v.2.1, v.2.2.1, v.2.2.2.1, v.2.2.2.2.1, v.2.2.2.2.2.1, AR, v.2.2.2.2.2.2.1, v.2.2.2.2.2.2.2.1, v.2.2.2.2.2.2.2.2) k Φ Ψ) (hx12 : ∀ v : OhI × OhL × OhQ × OhQ × OhI × OhL × OhQ × OhN × OhC, r.1 = .inr (.inr (.inr (.inr (.inr (.inr (.inr (.inr (.inr (.inr (.inr (.inr (.inl v)))))))))))) → oX G 106 iL_law 673 [] [] (v.1, v.2.1, v.2.2.1, v.2.2.2.1, v.2.2.2.2.1, v.2.2.2.2.2.1, AR, v.2.2.2.2.2.2.1, v.2.2.2.2.2.2.2.1, v.2.2.2.2.2.2.2.2) k Φ Ψ) (hx13 : ∀ v : OhI × OhL × OhQ × OhQ × OhI × OhL × OhQ × OhN × OhC, r.1 = .inr (.inr (.inr (.inr (.inr (.inr (.inr (.inr (.inr (.inr (.inr (.inr (.inr (.inl v))))))))))))) → oX G 106 iL_law 750 [] [] (v.1, v.2.1, v.2.2.1, v.2.2.2.1, v.2.2.2.2.1, v.2.2.2.2.2.1, AR, v.2.2.2.2.2.2.1, v.2.2.2.2.2.2.2.1, v.2.2.2.2.2.2.2.2) k Φ Ψ) (hx14 : ∀ v : OhI × OhL × OhQ × OhQ × OhI × OhL × OhQ × OhN × OhC, r.1 = .inr (.inr (.inr (.inr (.inr (.inr (.inr (.inr (.inr (.inr (.inr (.inr (.inr (.inr (.inl v)))))))))))))) → oX G 106 iL_law 799 [] [] (v.1, v.2.1, v.2.2.1, v.2.2.2.1, v.2.2.2.2.1, v.2.2.2.2.2.1, AR, v.2.2.2.2.2.2.1, v.2.2.2.2.2.2.2.1, v.2.2.2.2.2.2.2.2) k Φ Ψ) (hx15 : ∀ v : OhI × OhL × OhQ × OhQ × OhI × OhL × OhQ × OhN × OhC, r.1 = .inr (.inr (.inr (.inr (.inr (.inr (.inr (.inr (.inr (.inr (.inr (.inr (.inr (.inr (.inr (.inl v))))))))))))))) → oX G 106 iL_law 876 [] [] (v.1, v.2.1, v.2.2.1, v.2.2.2.1, v.2.2.2.2.1, v.2.2.2.2.2.1, AR, v.2.2.2.2.2.2.1, v.2.2.2.2.2.2.2.1, v.2.2.2.2.2.2.2.2) k Φ Ψ) (hx16 : ∀ v : OhI × OhL × OhQ × OhQ × OhI × OhL × OhQ × OhN × OhC, r.1 = .inr (.inr (.inr (.inr (.inr (.inr (.inr (.inr (.inr (.inr (.inr (.inr (.inr (.inr (.inr (.inr (.inl v)))))))))))))))) → oX G 106 iL_law 901 [] [] (v.1, v.2.1, v.2.2.1, v.2.2.2.1, v.2.2.2.2.1, v.2.2.2.2.2.1, AR, v.2.2.2.2.2.2.1, v.2.2.2.2.2.2.2.1, v.2.2.2.2.2.2.2.2) k Φ Ψ) (hx17 : ∀ v : OhI × OhL × OhQ × OhQ × OhI × OhL × OhQ × OhN × OhC, r.1 = .inr (.inr (.inr (.inr (.inr (.inr (.inr (.inr (.inr (.inr (.inr (.inr (.inr (.inr (.inr (.inr (.inr (.inl v))))))))))))))))) → oX G 106 iL_law 949 [] [] (v.1, v.2.1, v.2.2.1, v.2.2.2.1, v.2.2.2.2.1, v.2.2.2.2.2.1, AR, v.2.2.2.2.2.2.1, v.2.2.2.2.2.2.2.1, v.2.2.2.2.2.2.2.2) k Φ Ψ) (hx18 : ∀ v : OhI × OhL × OhQ × OhQ × OhI × OhL × OhQ × OhN × OhC, r.1 = .inr (.inr (.inr (.inr (.inr (.inr (.inr (.inr (.inr (.inr (.inr (.inr (.inr (.inr (.inr (.inr (.inr (.inr (.inl v)))))))))))))))))) → oX G 106 iL_law 966 [] [] (v.1, v.2.1, v.2.2.1, v.2.2.2.1, v.2.2.2.2.1, v.2.2.2.2.2.1, AR, v.2.2.2.2.2.2.1, v.2.2.2.2.2.2.2.1, v.2.2.2.2.2.2.2.2) k Φ Ψ) (hx19 : ∀ v : OhI × OhL × OhQ × OhQ × OhI × OhL × OhQ × OhN × OhC, r.1 = .inr (.inr (.inr (.inr (.inr (.inr (.inr (.inr (.inr (.inr (.inr (.inr (.inr (.inr (.inr (.inr (.inr (.inr (.inr (.inl v))))))))))))))))))) → oX G 106 iL_law 1030 [] [] (v.1, v.2.1, v.2.2.1, v.2.2.2.1, v.2.2.2.2.1, v.2.2.2.2.2.1, AR, v.2.2.2.2.2.2.1, v.2.2.2.2.2.2.2.1, v.2.2.2.2.2.2.2.2) k Φ Ψ) (hx20 : ∀ v : OhI × OhL × OhQ × OhQ × OhI × OhL × OhQ × OhN × OhC, r.1 = .inr (.inr (.inr (.inr (.inr (.inr (.inr (.inr (.inr (.inr (.inr (.inr (.inr (.inr (.inr (.inr (.inr (.inr (.inr (.inr (.inl v)))))))))))))))))))) → oX G 106 iL_law 1079 [] [] (v.1, v.2.1, v.2.2.1, v.2.2.2.1, v.2.2.2.2.1, v.2.2.2.2.2.1, AR, v.2.2.2.2.2.2.1, v.2.2.2.2.2.2.2.1, v.2.2.2.2.2.2.2.2) k Φ Ψ) (hx21 : ∀ v : OhI × OhL × OhQ × OhQ × OhI × OhL × OhQ × OhN × OhC, r.1 = .inr (.inr (.inr (.inr (.inr (.inr (.inr (.inr (.inr (.inr (.inr (.inr (.inr (.inr (.inr (.inr (.inr (.inr (.inr (.inr (.inr (.inl v))))))))))))))))))))) → oX G 106 iL_law 1128 [] [] (v.1, v.2.1, v.2.2.1, v.2.2.2.1, v.2.2.2.2.1, v.2.2.2.2.2.1, AR, v.2.2.2.2.2.2.1, v.2.2.2.2.2.2.2.1, v.2.2.2.2.2.2.2.2) k Φ Ψ) (hx22 : ∀ v : OhI × OhL × OhQ × OhQ × OhI × OhL × OhQ × OhN × OhC, r.1 = .inr (.inr (.inr (.inr (.inr (.inr (.inr (.inr (.inr (.inr (.inr (.inr (.inr (.inr (.inr (.inr (.inr (.inr (.inr (.inr (.inr (.inr (.inl v)))))))))))))))))))))) → oX G 106 iL_law 1177 [] [] (v.1, v.2.1, v.2.2.1, v.2.2.2.1, v.2.2.2.2.1, v.2.2.2.2.2.1, AR, v.2.2.2.2.2.2.1, v.2.2.2.2.2.2.2.1, v.2.2.2.2.2.2.2.2) k Φ Ψ) (hx23 : ∀ v : OhI × OhL × OhQ × OhQ × OhI × OhL × OhQ × OhN × OhC, r.1 = .inr (.inr (.inr (.inr (.inr (.inr (.inr (.inr (.inr (.inr (.inr (.inr (.inr (.inr (.inr (.inr (.inr (.inr (.inr (.inr (.inr (.inr (.inr (.inl v))))))))))))))))))))))) → oX G 106 iL_law 1214 [] [] (v.1, v.2.1, v.2.2.1, v.2.2.2.1, v.2.2.2.2.1, v.2.2.2.2.2.1, AR, v.2.2.2.2.2.2.1, v.2.2.2.2.2.2.2.1, v.2.2.2.2.2.2.2.2) k Φ Ψ) (hx24 : ∀ v : OhI × OhL × OhQ × OhQ × OhI × OhL × OhQ × OhN × OhC, r.1 = .inr (.inr (.inr (.inr (.inr (.inr (.inr (.inr (.inr (.inr (.inr (.inr (.inr (.inr (.inr (.inr (.inr (.inr (.inr (.inr (.inr (.inr (.inr (.inr (.inl v)))))))))))))))))))))))) → oX G 106 iL_law 1263 [] [] (v.1, v.2.1, v.2.2.1, v.2.2.2.1, v.2.2.2.2.1, v.2.2.2.2.2.1, AR, v.2.2.2.2.2.2.1, v.2.2.2.2.2.2.2.1, v.2.2.2.2.2.2.2.2) k Φ Ψ) (hx25 : ∀ v : OhI × OhL × OhQ × OhQ × OhI × OhL × OhQ × OhN × OhC, r.1 = .inr (.inr (.inr (.inr (.inr (.inr (.inr (.inr (.inr (.inr (.inr (.inr (.inr (.inr (.inr (.inr (.inr (.inr (.inr (.inr (.inr (.inr (.inr (.inr (.inr (.inl v))))))))))))))))))))))))) → oX G 106 iL_law 1312 [] [] (v.1, v.2.1, v.2.2.1, v.2.2.2.1, v.2.2.2.2.1, v.2.2.2.2.2.1, AR, v.2.2.2.2.2.2.1, v.2.2.2.2.2.2.2.1, v.2.2.2.2.2.2.2.2) k Φ Ψ) (hx26 : ∀ v : OhI × OhL × OhQ × OhQ × OhI × OhL × OhQ × OhN × OhC, r.1 = .inr (.inr (.inr (.inr (.inr (.inr (.inr (.inr (.inr (.inr (.inr (.inr (.inr (.inr (.inr (.inr (.inr (.inr (.inr (.inr (.inr (.inr (.inr (.inr (.inr (.inr (.inl v)))))))))))))))))))))))))) → oX G 106 iL_law 1349 [] [] (v.1, v.2.1, v.2.2.1, v.2.2.2.1, v.2.2.2.2.1, v.2.2.2.2.2.1, AR, v.2.2.2.2.2.2.1, v.2.2.2.2.2.2.2.1, v.2.2.2.2.2.2.2.2) k Φ Ψ) (hx27 : ∀ v : OhI × OhL × OhQ × OhQ × OhI × OhL × OhQ × OhN × OhC, r.1 = .inr (.inr (.inr (.inr (.inr (.inr (.inr (.inr (.inr (.inr (.inr (.inr (.inr (.inr (.inr (.inr (.inr (.inr (.inr (.inr (.inr (.inr (.inr (.inr (.inr (.inr (.inr (.inl v))))))))))))))))))))))))))) → oX G 106 iL_law 1398 [] [] (v.1, v.2.1, v.2.2.1, v.2.2.2.1, v.2.2.2.2.1, v.2.2.2.2.2.1, AR, v.2.2.2.2.2.2.1, v.2.2.2.2.2.2.2.1, v.2.2.2.2.2.2.2.2) k Φ Ψ) (hx28 : ∀ v : OhI × OhL × OhQ × OhQ × OhI × OhL × OhQ × OhN × OhC, r.1 = .inr (.inr (.inr (.inr (.inr (.inr (.inr (.inr (.inr (.inr (.inr (.inr (.inr (.inr (.inr (.inr (.inr (.inr (.inr (.inr (.inr (.inr (.inr (.inr (.inr (.inr (.inr (.inr (.inl v)))))))))))))))))))))))))))) → oX G 106 iL_law 1423 [] [] (v.1, v.2.1, v.2.2.1, v.2.2.2.1, v.2.2.2.2.1, v.2.2.2.2.2.1, AR, v.2.2.2.2.2.2.1, v.2.2.2.2.2.2.2.1, v.2.2.2.2.2.2.2.2) k Φ Ψ) (hx29 : ∀ v : OhI × OhL × OhQ × OhQ × OhI × OhL × OhQ × OhN × OhC, r.1 = .inr (.inr (.inr (.inr (.inr (.inr (.inr (.inr (.inr (.inr (.inr (.inr (.inr (.inr (.inr (.inr (.inr (.inr (.inr (.inr (.inr (.inr (.inr (.inr (.inr (.inr (.inr (.inr (.inr (.inl v))))))))))))))))))))))))))))) → oX G 106 iL_law 1436 [] [] (v.1, v.2.1, v.2.2.1, v.2.2.2.1, v.2.2.2.2.1, v.2.2.2.2.2.1, AR, v.2.2.2.2.2.2.1, v.2.2.2.2.2.2.2.1, v.2.2.2.2.2.2.2.2) k Φ Ψ) (hx30 : ∀ v : OhI × OhL × OhQ × OhQ × OhI × OhL × OhQ × OhN × OhC, r.1 = .inr (.inr (.inr (.inr (.inr (.inr (.inr (.inr (.inr (.inr (.inr (.inr (.inr (.inr (.inr (.inr (.inr (.inr (.inr (.inr (.inr (.inr (.inr (.inr (.inr (.inr (.inr (.inr (.inr (.inr v))))))))))))))))))))))))))))) → oX G 106 iL_law 1461 [] [] (v.1, v.2.1, v.2.2.1, v.2.2.2.1, v.2.2.2.2.1, v.2.2.2.2.2.1, AR, v.2.2.2.2.2.2.1, v.2.2.2.2.2.2.2.1, v.2.2.2.2.2.2.2.2) k Φ Ψ) : oX G 106 iL_law 354 [(0, vR (some (3, 0))), (1, vR (some (0, 0))), (2, vR (some (1, 0))), (3, vR (some (2, 0))), (4, vI x4)] [vI y4, vI y3, vI y2, vR (some (1, 0)), vI y0] (FI, FL, FR, GR, AI, AL, AR, BR, AN, C) (oPl r.2 k) Φ Ψ := by
  obtain ⟨r, q0⟩ := r
  unfold mL_law_j354 at hm
  refine oX_aload_n dL_law_354 rfl rfl ?_
  refine oX_iload dL_law_355 rfl ?_
  refine oX_iconst (v := (4 : Int32)) dL_law_357 (by decide) ?_
  refine oX_iadd dL_law_358 ?_
  obtain ⟨g49, hm⟩ := gd_s hm
  refine oX_ialdP oDs3 g49 dL_law_359 ?_
  obtain ⟨s50, hm⟩ := gd_s hm
  obtain ⟨r51, g51, hm⟩ := bd_s hm
  refine oX_cV (as := [vI y2, vI y3, vI y4, vI (AI 3 0 (x4 + (4 : Int32)).toNatClampNeg)]) dL_law_360 rfl oDs1 rfl (by decide) rfl ok_X4_opera rfl rfl q2035 q2036 q2037 q136 q2038 (by decide) (Nat.le_of_ble_eq_true rfl) (t_X4_opera s50 n y2 y3 y4 (AI 3 0 (x4 + (4 : Int32)).toNatClampNeg) g51) ?_
  refine oX_icmp_eq (tgt := 1463) dL_law_363 (by decide) (fun c52 => ?_) (fun c52 => ?_)
  · have hm := ifp c52 hm
    refine oX_iinc (v := x4 + (6 : Int32)) (ls' := [(4, vI (x4 + (6 : Int32))), (0, vR (some (3, 0))), (1, vR (some (0, 0))), (2, vR (some (1, 0))), (3, vR (some (2, 0)))]) dL_law_1463 rfl rfl (by decide) rfl ?_
    refine oX_goto (tgt := 23) dL_law_1466 (by decide) ?_
    obtain ⟨hr, rfl⟩ := oEnd hm
    exact oX_sub [1, 2, 3, 4, 0] rfl (oX_z (hk (x4 + (6 : Int32), r51.2.1, FL, FR, GR, r51.2.2, AL, BR, AN, C) hr))
  · have hm := ifn c52 hm
    obtain ⟨hr, rfl⟩ := oEnd hm
    exact oX_sub [] rfl (oX_z (hx5 (r51.2.1, FL, FR, GR, r51.2.2, AL, BR, AN, C) hr))
noncomputable def mL_law_j318 (n : Nat) (FI : OhI) (FL : OhL) (FR : OhQ) (GR : OhQ) (AI : OhI) (AL : OhL) (AR : OhQ) (BR : OhQ) (AN : OhN) (C : OhC) (x4 : Int32) (y1 : Int32) (y2 : Int32) (y3 : Int32) : Option (((Int32 × OhI × OhL × OhQ × OhQ × OhI × OhL × OhQ × OhN × OhC) ⊕ ((OhI × OhL × OhQ × OhQ × OhI × OhL × OhQ × OhN × OhC) ⊕ ((OhI × OhL × OhQ × OhQ × OhI × OhL × OhQ × OhN × OhC) ⊕ ((OhI × OhL × OhQ × OhQ × OhI × OhL × OhQ × OhN × OhC) ⊕ ((OhI × OhL × OhQ × OhQ × OhI × OhL × OhQ × OhN × OhC) ⊕ ((OhI × OhL × OhQ × OhQ × OhI × OhL × OhQ × OhN × OhC) ⊕ ((OhI × OhL × OhQ × OhQ × OhI × OhL × OhQ × OhN × OhC) ⊕ ((OhI × OhL × OhQ × OhQ × OhI × OhL × OhQ × OhN × OhC) ⊕ ((OhI × OhL × OhQ × OhQ × OhI × OhL × OhQ × OhN × OhC) ⊕ ((OhI × OhL × OhQ × OhQ × OhI × OhL × OhQ × OhN × OhC) ⊕ ((OhI × OhL × OhQ × OhQ × OhI × OhL × OhQ × OhN × OhC) ⊕ ((OhI × OhL × OhQ × OhQ × OhI × OhL × OhQ × OhN × OhC) ⊕ ((OhI × OhL × OhQ × OhQ × OhI × OhL × OhQ × OhN × OhC) ⊕ ((OhI × OhL × OhQ × OhQ × OhI × OhL × OhQ × OhN × OhC) ⊕ ((OhI × OhL × OhQ × OhQ × OhI × OhL × OhQ × OhN × OhC) ⊕ ((OhI × OhL × OhQ × OhQ × OhI × OhL × OhQ × OhN × OhC) ⊕ ((OhI × OhL × OhQ × OhQ × OhI × OhL × OhQ × OhN × OhC) ⊕ ((OhI × OhL × OhQ × OhQ × OhI × OhL × OhQ × OhN × OhC) ⊕ ((OhI × OhL × OhQ × OhQ × OhI × OhL × OhQ × OhN × OhC) ⊕ ((OhI × OhL × OhQ × OhQ × OhI × OhL × OhQ × OhN × OhC) ⊕ ((OhI × OhL × OhQ × OhQ × OhI × OhL × OhQ × OhN × OhC) ⊕ ((OhI × OhL × OhQ × OhQ × OhI × OhL × OhQ × OhN × OhC) ⊕ ((OhI × OhL × OhQ × OhQ × OhI × OhL × OhQ × OhN × OhC) ⊕ ((OhI × OhL × OhQ × OhQ × OhI × OhL × OhQ × OhN × OhC) ⊕ ((OhI × OhL × OhQ × OhQ × OhI × OhL × OhQ × OhN × OhC) ⊕ ((OhI × OhL × OhQ × OhQ × OhI × OhL × OhQ × OhN × OhC) ⊕ ((OhI × OhL × OhQ × OhQ × OhI × OhL × OhQ × OhN × OhC) ⊕ ((OhI × OhL × OhQ × OhQ × OhI × OhL × OhQ × OhN × OhC) ⊕ ((OhI × OhL × OhQ × OhQ × OhI × OhL × OhQ × OhN × OhC) ⊕ ((OhI × OhL × OhQ × OhQ × OhI × OhL × OhQ × OhN × OhC) ⊕ (OhI × OhL × OhQ × OhQ × OhI × OhL × OhQ × OhN × OhC))))))))))))))))))))))))))))))) × (Nat × Nat)) :=
  gd (vp_in (x4 + (4 : Int32)) (AN 3 0)) <|
  (mX1_opera n FI FR GR AI AR BR AN C y1 y2 y3 (AI 3 0 (x4 + (4 : Int32)).toNatClampNeg)).bind fun r44 =>
  oCost r44.2 <|
  gd (vp_in (x4 + (1 : Int32)) (r44.1.2.2.2.2.2.2.1 3 0)) <|
  gd (vp_in (x4 + (2 : Int32)) (r44.1.2.2.2.2.2.2.1 3 0)) <|
  gd (vp_in (x4 + (3 : Int32)) (r44.1.2.2.2.2.2.2.1 3 0)) <|
  (if (r44.1.2.2.2.2.1 3 0 (x4 + (3 : Int32)).toNatClampNeg) = 0 then
  mL_law_j354 n r44.1.2.1 FL r44.1.2.2.1 r44.1.2.2.2.1 r44.1.2.2.2.2.1 AL AR r44.1.2.2.2.2.2.1 r44.1.2.2.2.2.2.2.1 r44.1.2.2.2.2.2.2.2 x4 r44.1.1 (r44.1.2.2.2.2.1 3 0 (x4 + (1 : Int32)).toNatClampNeg) (r44.1.2.2.2.2.1 3 0 (x4 + (2 : Int32)).toNatClampNeg) (0 : Int32)
else
  mL_law_j354 n r44.1.2.1 FL r44.1.2.2.1 r44.1.2.2.2.1 r44.1.2.2.2.2.1 AL AR r44.1.2.2.2.2.2.1 r44.1.2.2.2.2.2.2.1 r44.1.2.2.2.2.2.2.2 x4 r44.1.1 (r44.1.2.2.2.2.1 3 0 (x4 + (1 : Int32)).toNatClampNeg) (r44.1.2.2.2.2.1 3 0 (x4 + (2 : Int32)).toNatClampNeg) (1 : Int32))
theorem x_mL_law_j318 {G : OhG} {FI AI : OhI} {FL AL : OhL} {FR GR AR BR : OhQ} {AN : OhN} {C : OhC} {k : Nat × Nat} {Φ : OhP} {Ψ : OhX} (n : Nat) (x4 : Int32) (y1 : Int32) (y2 : Int32) (y3 : Int32) {r : ((Int32 × OhI × OhL × OhQ × OhQ × OhI × OhL × OhQ × OhN × OhC) ⊕ ((OhI × OhL × OhQ × OhQ × OhI × OhL × OhQ × OhN × OhC) ⊕ ((OhI × OhL × OhQ × OhQ × OhI × OhL × OhQ × OhN × OhC) ⊕ ((OhI × OhL × OhQ × OhQ × OhI × OhL × OhQ × OhN × OhC) ⊕ ((OhI × OhL × OhQ × OhQ × OhI × OhL × OhQ × OhN × OhC) ⊕ ((OhI × OhL × OhQ × OhQ × OhI × OhL × OhQ × OhN × OhC) ⊕ ((OhI × OhL × OhQ × OhQ × OhI × OhL × OhQ × OhN × OhC) ⊕ ((OhI × OhL × OhQ × OhQ × OhI × OhL × OhQ × OhN × OhC) ⊕ ((OhI × OhL × OhQ × OhQ × OhI × OhL × OhQ × OhN × OhC) ⊕ ((OhI × OhL × OhQ × OhQ × OhI × OhL × OhQ × OhN × OhC) ⊕ ((OhI × OhL × OhQ × OhQ × OhI × OhL × OhQ × OhN × OhC) ⊕ ((OhI × OhL × OhQ × OhQ × OhI × OhL × OhQ × OhN × OhC) ⊕ ((OhI × OhL × OhQ × OhQ × OhI × OhL × OhQ × OhN × OhC) ⊕ ((OhI × OhL × OhQ × OhQ × OhI × OhL × OhQ × OhN × OhC) ⊕ ((OhI × OhL × OhQ × OhQ × OhI × OhL × OhQ × OhN × OhC) ⊕ ((OhI × OhL × OhQ × OhQ × OhI × OhL × OhQ × OhN × OhC) ⊕ ((OhI × OhL × OhQ × OhQ × OhI × OhL × OhQ × OhN × OhC) ⊕ ((OhI × OhL × OhQ × OhQ × OhI × OhL × OhQ × OhN × OhC) ⊕ ((OhI × OhL × OhQ × OhQ × OhI × OhL × OhQ × OhN × OhC) ⊕ ((OhI × OhL × OhQ × OhQ × OhI × OhL × OhQ × OhN × OhC) ⊕ ((OhI × OhL × OhQ × OhQ × OhI × OhL × OhQ × OhN × OhC) ⊕ ((OhI × OhL × OhQ × OhQ × OhI × OhL × OhQ × OhN × OhC) ⊕ ((OhI × OhL × OhQ × OhQ × OhI × OhL × OhQ × OhN × OhC) ⊕ ((OhI × OhL × OhQ × OhQ × OhI × OhL × OhQ × OhN × OhC) ⊕ ((OhI × OhL × OhQ × OhQ × OhI × OhL × OhQ × OhN × OhC) ⊕ ((OhI × OhL × OhQ × OhQ × OhI × OhL × OhQ × OhN × OhC) ⊕ ((OhI × OhL × OhQ × OhQ × OhI × OhL × OhQ × OhN × OhC) ⊕ ((OhI × OhL × OhQ × OhQ × OhI × OhL × OhQ × OhN × OhC) ⊕ ((OhI × OhL × OhQ × OhQ × OhI × OhL × OhQ × OhN × OhC) ⊕ ((OhI × OhL × OhQ × OhQ × OhI × OhL × OhQ × OhN × OhC) ⊕ (OhI × OhL × OhQ × OhQ × OhI × OhL × OhQ × OhN × OhC))))))))))))))))))))))))))))))) × (Nat × Nat)} (hm : mL_law_j318 n FI FL FR GR AI AL AR BR AN C x4 y1 y2 y3 = some r) (hk : ∀ v : Int32 × OhI × OhL × OhQ × OhQ × OhI × OhL × OhQ × OhN × OhC, r.1 = .inl v → oX G 106 iL_law 23 [(0, vR (some (3, 0))), (1, vR (some (0, 0))), (2, vR (some (1, 0))), (3, vR (some (2, 0))), (4, vI v.1)] [] (v.2.1, v.2.2.1, v.2.2.2.1, v.2.2.2.2.1, v.2.2.2.2.2.1, v.2.2.2.2.2.2.1, AR, v.2.2.2.2.2.2.2.1, v.2.2.2.2.2.2.2.2.1, v.2.2.2.2.2.2.2.2.2) k Φ Ψ) (hx1 : ∀ v : OhI × OhL × OhQ × OhQ × OhI × OhL × OhQ × OhN × OhC, r.1 = .inr (.inl v) → oX G 106 iL_law 1469 [] [] (v.1, v.2.1, v.2.2.1, v.2.2.2.1, v.2.2.2.2.1, v.2.2.2.2.2.1, AR, v.2.2.2.2.2.2.1, v.2.2.2.2.2.2.2.1, v.2.2.2.2.2.2.2.2) k Φ Ψ) (hx2 : ∀ v : OhI × OhL × OhQ × OhQ × OhI × OhL × OhQ × OhN × OhC, r.1 = .inr (.inr (.inl v)) → oX G 106 iL_law 239 [] [] (v.1, v.2.1, v.2.2.1, v.2.2.2.1, v.2.2.2.2.1, v.2.2.2.2.2.1, AR, v.2.2.2.2.2.2.1, v.2.2.2.2.2.2.2.1, v.2.2.2.2.2.2.2.2) k Φ Ψ) (hx3 : ∀ v : OhI × OhL × OhQ × OhQ × OhI × OhL × OhQ × OhN × OhC, r.1 = .inr (.inr (.inr (.inl v))) → oX G 106 iL_law 264 [] [] (v.1, v.2.1, v.2.2.1, v.2.2.2.1, v.2.2.2.2.1, v.2.2.2.2.2.1, AR, v.2.2.2.2.2.2.1, v.2.2.2.2.2.2.2.1, v.2.2.2.2.2.2.2.2) k Φ Ψ) (hx4 : ∀ v : OhI × OhL × OhQ × OhQ × OhI × OhL × OhQ × OhN × OhC, r.1 = .inr (.inr (.inr (.inr (.inl v)))) → oX G 106 iL_law 289 [] [] (v.1, v.2.1, v.2.2.1, v.2.2.2.1, v.2.2.2.2.1, v.2.2.2.2.2.1, AR, v.2.2.2.2.2.2.1, v.2.2.2.2.2.2.2.1, v.2.2.2.2.2.2.2.2) k Φ Ψ) (hx5 : ∀ v : OhI × OhL × OhQ × OhQ × OhI × OhL × OhQ × OhN × OhC, r.1 = .inr (.inr (.inr (.inr (.inr (.inl v))))) → oX G 106 iL_law 366 [] [] (v.1, v.2.1, v.2.2.1, v.2.2.2.1, v.2.2.2.2.1, v.2.2.2.2.2.1, AR, v.2.2.2.2.2.2.1, v.2.2.2.2.2.2.2.1, v.2.2.2.2.2.2.2.2) k Φ Ψ) (hx6 : ∀ v : OhI × OhL × OhQ × OhQ × OhI × OhL × OhQ × OhN × OhC, r.1 = .inr (.inr (.inr (.inr (.inr (.inr (.inl v)))))) → oX G 106 iL_law 415 [] [] (v.1, v.2.1, v.2.2.1, v.2.2.2.1, v.2.2.2.2.1, v.2.2.2.2.2.1, AR, v.2.2.2.2.2.2.1, v.2.2.2.2.2.2.2.1, v.2.2.2.2.2.2.2.2) k Φ Ψ) (hx7 : ∀ v : OhI × OhL × OhQ × OhQ × OhI × OhL × OhQ × OhN × OhC, r.1 = .inr (.inr (.inr (.inr (.inr (.inr (.inr (.inl v))))))) → oX G 106 iL_law 464 [] [] (v.1, v.2.1, v.2.2.1, v.2.2.2.1, v.2.2.2.2.1, v.2.2.2.2.2.1, AR, v.2.2.2.2.2.2.1, v.2.2.2.2.2.2.2.1, v.2.2.2.2.2.2.2.2) k Φ Ψ) (hx8 : ∀ v : OhI × OhL × OhQ × OhQ × OhI × OhL × OhQ × OhN × OhC, r.1 = .inr (.inr (.inr (.inr (.inr (.inr (.inr (.inr (.inl v)))))))) → oX G 106 iL_law 501 [] [] (v.1, v.2.1, v.2.2.1, v.2.2.2.1, v.2.2.2.2.1, v.2.2.2.2.2.1, AR, v.2.2.2.2.2.2.1, v.2.2.2.2.2.2.2.1, v.2.2.2.2.2.2.2.2) k Φ Ψ) (hx9 : ∀ v : OhI × OhL × OhQ × OhQ × OhI × OhL × OhQ × OhN × OhC, r.1 = .inr (.inr (.inr (.inr (.inr (.inr (.inr (.inr (.inr (.inl v))))))))) → oX G 106 iL_law 526 [] [] (v.1, v.2.1, v.2.2.1, v.2.2.2.1, v.2.2.2.2.1, v.2.2.2.2.2.1, AR, v.2.2.2.2.2.2.1, v.2.2.2.2.2.2.2.1, v.2.2.2.2.2.2.2.2) k Φ Ψ) (hx10 : ∀ v : OhI × OhL × OhQ × OhQ × OhI × OhL × OhQ × OhN × OhC, r.1 = .inr (.inr (.inr (.inr (.inr (.inr (.inr (.inr (.inr (.inr (.inl v)))))))))) → oX G 106 iL_law 539 [] [] (v.1, v.2.1, v.2.2.1, v.2.2.2.1, v.2.2.2.2.1, v.2.2.2.2.2.1, AR, v.2.2.2.2.2.2.1, v.2.2.2.2.2.2.2.1, v.2.2.2.2.2.2.2.2) k Φ Ψ) (hx11 : ∀ v : OhI × OhL × OhQ × OhQ × OhI × OhL × OhQ × OhN × OhC, r.1 = .inr (.inr (.inr (.inr (.inr (.inr (.inr (.inr (.inr (.inr (.inr (.inl v))))))))))) → oX G 106 iL_law 600 [] [] (v.1, v.2.1, v.2.2.1, v.2.2.2.1, v.2.2.2.2.1, v.2.2.2.2.2.1, AR, v.2.2.2.2.2.2.1, v.2.2.2.2.2.2.2.1, v.2.2.2.2.2.2.2.2) k Φ Ψ) (hx12 : ∀ v : OhI × OhL × OhQ × OhQ × OhI × OhL × OhQ × OhN × OhC, r.1 = .inr (.inr (.inr (.inr (.inr (.inr (.inr (.inr (.inr (.inr (.inr (.inr (.inl v)))))))))))) → oX G 106 iL_law 673 [] [] (v.1, v.2.1, v.2.2.1, v.2.2.2.1, v.2.2.2.2.1, v.2.2.2.2.2.1, AR, v.2.2.2.2.2.2.1, v.2.2.2.2.2.2.2.1, v.2.2.2.2.2.2.2.2) k Φ Ψ) (hx13 : ∀ v : OhI × OhL × OhQ × OhQ × OhI × OhL × OhQ × OhN × OhC, r.1 = .inr (.inr (.inr (.inr (.inr (.inr (.inr (.inr (.inr (.inr (.inr (.inr (.inr (.inl v))))))))))))) → oX G 106 iL_law 750 [] [] (v.1, v.2.1, v.2.2.1, v.2.2.2.1, v.2.2.2.2.1, v.2.2.2.2.2.1, AR, v.2.2.2.2.2.2.1, v.2.2.2.2.2.2.2.1, v.2.2.2.2.2.2.2.2) k Φ Ψ) (hx14 : ∀ v : OhI × OhL × OhQ × OhQ × OhI × OhL × OhQ × OhN × OhC, r.1 = .inr (.inr (.inr (.inr (.inr (.inr (.inr (.inr (.inr (.inr (.inr (.inr (.inr (.inr (.inl v)))))))))))))) → oX G 106 iL_law 799 [] [] (v.1, v.2.1, v.2.2.1, v.2.2.2.1, v.2.2.2.2.1, v.2.2.2.2.2.1, AR, v.2.2.2.2.2.2.1, v.2.2.2.2.2.2.2.1, v.2.2.2.2.2.2.2.2) k Φ Ψ) (hx15 : ∀ v : OhI × OhL × OhQ × OhQ × OhI × OhL × OhQ × OhN × OhC, r.1 = .inr (.inr (.inr (.inr (.inr (.inr (.inr (.inr (.inr (.inr (.inr (.inr (.inr (.inr (.inr (.inl v))))))))))))))) → oX G 106 iL_law 876 [] [] (v.1, v.2.1, v.2.2.1, v.2.2.2.1, v.2.2.2.2.1, v.2.2.2.2.2.1, AR, v.2.2.2.2.2.2.1, v.2.2.2.2.2.2.2.1, v.2.2.2.2.2.2.2.2) k Φ Ψ) (hx16 : ∀ v : OhI × OhL × OhQ × OhQ × OhI × OhL × OhQ × OhN × OhC, r.1 = .inr (.inr (.inr (.inr (.inr (.inr (.inr (.inr (.inr (.inr (.inr (.inr (.inr (.inr (.inr (.inr (.inl v)))))))))))))))) → oX G 106 iL_law 901 [] [] (v.1, v.2.1, v.2.2.1, v.2.2.2.1, v.2.2.2.2.1, v.2.2.2.2.2.1, AR, v.2.2.2.2.2.2.1, v.2.2.2.2.2.2.2.1, v.2.2.2.2.2.2.2.2) k Φ Ψ) (hx17 : ∀ v : OhI × OhL × OhQ × OhQ × OhI × OhL × OhQ × OhN × OhC, r.1 = .inr (.inr (.inr (.inr (.inr (.inr (.inr (.inr (.inr (.inr (.inr (.inr (.inr (.inr (.inr (.inr (.inr (.inl v))))))))))))))))) → oX G 106 iL_law 949 [] [] (v.1, v.2.1, v.2.2.1, v.2.2.2.1, v.2.2.2.2.1, v.2.2.2.2.2.1, AR, v.2.2.2.2.2.2.1, v.2.2.2.2.2.2.2.1, v.2.2.2.2.2.2.2.2) k Φ Ψ) (hx18 : ∀ v : OhI × OhL × OhQ × OhQ × OhI × OhL × OhQ × OhN × OhC, r.1 = .inr (.inr (.inr (.inr (.inr (.inr (.inr (.inr (.inr (.inr (.inr (.inr (.inr (.inr (.inr (.inr (.inr (.inr (.inl v)))))))))))))))))) → oX G 106 iL_law 966 [] [] (v.1, v.2.1, v.2.2.1, v.2.2.2.1, v.2.2.2.2.1, v.2.2.2.2.2.1, AR, v.2.2.2.2.2.2.1, v.2.2.2.2.2.2.2.1, v.2.2.2.2.2.2.2.2) k Φ Ψ) (hx19 : ∀ v : OhI × OhL × OhQ × OhQ × OhI × OhL × OhQ × OhN × OhC, r.1 = .inr (.inr (.inr (.inr (.inr (.inr (.inr (.inr (.inr (.inr (.inr (.inr (.inr (.inr (.inr (.inr (.inr (.inr (.inr (.inl v))))))))))))))))))) → oX G 106 iL_law 1030 [] [] (v.1, v.2.1, v.2.2.1, v.2.2.2.1, v.2.2.2.2.1, v.2.2.2.2.2.1, AR, v.2.2.2.2.2.2.1, v.2.2.2.2.2.2.2.1, v.2.2.2.2.2.2.2.2) k Φ Ψ) (hx20 : ∀ v : OhI × OhL × OhQ × OhQ × OhI × OhL × OhQ × OhN × OhC, r.1 = .inr (.inr (.inr (.inr (.inr (.inr (.inr (.inr (.inr (.inr (.inr (.inr (.inr (.inr (.inr (.inr (.inr (.inr (.inr (.inr (.inl v)))))))))))))))))))) → oX G 106 iL_law 1079 [] [] (v.1, v.2.1, v.2.2.1, v.2.2.2.1, v.2.2.2.2.1, v.2.2.2.2.2.1, AR, v.2.2.2.2.2.2.1, v.2.2.2.2.2.2.2.1, v.2.2.2.2.2.2.2.2) k Φ Ψ) (hx21 : ∀ v : OhI × OhL × OhQ × OhQ × OhI × OhL × OhQ × OhN × OhC, r.1 = .inr (.inr (.inr (.inr (.inr (.inr (.inr (.inr (.inr (.inr (.inr (.inr (.inr (.inr (.inr (.inr (.inr (.inr (.inr (.inr (.inr (.inl v))))))))))))))))))))) → oX G 106 iL_law 1128 [] [] (v.1, v.2.1, v.2.2.1, v.2.2.2.1, v.2.2.2.2.1, v.2.2.2.2.2.1, AR, v.2.2.2.2.2.2.1, v.2.2.2.2.2.2.2.1, v.2.2.2.2.2.2.2.2) k Φ Ψ) (hx22 : ∀ v : OhI × OhL × OhQ × OhQ × OhI × OhL × OhQ × OhN × OhC, r.1 = .inr (.inr (.inr (.inr (.inr (.inr (.inr (.inr (.inr (.inr (.inr (.inr (.inr (.inr (.inr (.inr (.inr (.inr (.inr (.inr (.inr (.inr (.inl v)))))))))))))))))))))) → oX G 106 iL_law 1177 [] [] (v.1, v.2.1, v.2.2.1, v.2.2.2.1, v.2.2.2.2.1, v.2.2.2.2.2.1, AR, v.2.2.2.2.2.2.1, v.2.2.2.2.2.2.2.1, v.2.2.2.2.2.2.2.2) k Φ Ψ) (hx23 : ∀ v : OhI × OhL × OhQ × OhQ × OhI × OhL × OhQ × OhN × OhC, r.1 = .inr (.inr (.inr (.inr (.inr (.inr (.inr (.inr (.inr (.inr (.inr (.inr (.inr (.inr (.inr (.inr (.inr (.inr (.inr (.inr (.inr (.inr (.inr (.inl v))))))))))))))))))))))) → oX G 106 iL_law 1214 [] [] (v.1, v.2.1, v.2.2.1, v.2.2.2.1, v.2.2.2.2.1, v.2.2.2.2.2.1, AR, v.2.2.2.2.2.2.1, v.2.2.2.2.2.2.2.1, v.2.2.2.2.2.2.2.2) k Φ Ψ) (hx24 : ∀ v : OhI × OhL × OhQ × OhQ × OhI × OhL × OhQ × OhN × OhC, r.1 = .inr (.inr (.inr (.inr (.inr (.inr (.inr (.inr (.inr (.inr (.inr (.inr (.inr (.inr (.inr (.inr (.inr (.inr (.inr (.inr (.inr (.inr (.inr (.inr (.inl v)))))))))))))))))))))))) → oX G 106 iL_law 1263 [] [] (v.1, v.2.1, v.2.2.1, v.2.2.2.1, v.2.2.2.2.1, v.2.2.2.2.2.1, AR, v.2.2.2.2.2.2.1, v.2.2.2.2.2.2.2.1, v.2.2.2.2.2.2.2.2) k Φ Ψ) (hx25 : ∀ v : OhI × OhL × OhQ × OhQ × OhI × OhL × OhQ × OhN × OhC, r.1 = .inr (.inr (.inr (.inr (.inr (.inr (.inr (.inr (.inr (.inr (.inr (.inr (.inr (.inr (.inr (.inr (.inr (.inr (.inr (.inr (.inr (.inr (.inr (.inr (.inr (.inl v))))))))))))))))))))))))) → oX G 106 iL_law 1312 [] [] (v.1, v.2.1, v.2.2.1, v.2.2.2.1, v.2.2.2.2.1, v.2.2.2.2.2.1, AR, v.2.2.2.2.2.2.1, v.2.2.2.2.2.2.2.1, v.2.2.2.2.2.2.2.2) k Φ Ψ) (hx26 : ∀ v : OhI × OhL × OhQ × OhQ × OhI × OhL × OhQ × OhN × OhC, r.1 = .inr (.inr (.inr (.inr (.inr (.inr (.inr (.inr (.inr (.inr (.inr (.inr (.inr (.inr (.inr (.inr (.inr (.inr (.inr (.inr (.inr (.inr (.inr (.inr (.inr (.inr (.inl v)))))))))))))))))))))))))) → oX G 106 iL_law 1349 [] [] (v.1, v.2.1, v.2.2.1, v.2.2.2.1, v.2.2.2.2.1, v.2.2.2.2.2.1, AR, v.2.2.2.2.2.2.1, v.2.2.2.2.2.2.2.1, v.2.2.2.2.2.2.2.2) k Φ Ψ) (hx27 : ∀ v : OhI × OhL × OhQ × OhQ × OhI × OhL × OhQ × OhN × OhC, r.1 = .inr (.inr (.inr (.inr (.inr (.inr (.inr (.inr (.inr (.inr (.inr (.inr (.inr (.inr (.inr (.inr (.inr (.inr (.inr (.inr (.inr (.inr (.inr (.inr (.inr (.inr (.inr (.inl v))))))))))))))))))))))))))) → oX G 106 iL_law 1398 [] [] (v.1, v.2.1, v.2.2.1, v.2.2.2.1, v.2.2.2.2.1, v.2.2.2.2.2.1, AR, v.2.2.2.2.2.2.1, v.2.2.2.2.2.2.2.1, v.2.2.2.2.2.2.2.2) k Φ Ψ) (hx28 : ∀ v : OhI × OhL × OhQ × OhQ × OhI × OhL × OhQ × OhN × OhC, r.1 = .inr (.inr (.inr (.inr (.inr (.inr (.inr (.inr (.inr (.inr (.inr (.inr (.inr (.inr (.inr (.inr (.inr (.inr (.inr (.inr (.inr (.inr (.inr (.inr (.inr (.inr (.inr (.inr (.inl v)))))))))))))))))))))))))))) → oX G 106 iL_law 1423 [] [] (v.1, v.2.1, v.2.2.1, v.2.2.2.1, v.2.2.2.2.1, v.2.2.2.2.2.1, AR, v.2.2.2.2.2.2.1, v.2.2.2.2.2.2.2.1, v.2.2.2.2.2.2.2.2) k Φ Ψ) (hx29 : ∀ v : OhI × OhL × OhQ × OhQ × OhI × OhL × OhQ × OhN × OhC, r.1 = .inr (.inr (.inr (.inr (.inr (.inr (.inr (.inr (.inr (.inr (.inr (.inr (.inr (.inr (.inr (.inr (.inr (.inr (.inr (.inr (.inr (.inr (.inr (.inr (.inr (.inr (.inr (.inr (.inr (.inl v))))))))))))))))))))))))))))) → oX G 106 iL_law 1436 [] [] (v.1, v.2.1, v.2.2.1, v.2.2.2.1, v.2.2.2.2.1, v.2.2.2.2.2.1, AR, v.2.2.2.2.2.2.1, v.2.2.2.2.2.2.2.1, v.2.2.2.2.2.2.2.2) k Φ Ψ) (hx30 : ∀ v : OhI × OhL × OhQ × OhQ × OhI × OhL × OhQ × OhN × OhC, r.1 = .inr (.inr (.inr (.inr (.inr (.inr (.inr (.inr (.inr (.inr (.inr (.inr (.inr (.inr (.inr (.inr (.inr (.inr (.inr (.inr (.inr (.inr (.inr (.inr (.inr (.inr (.inr (.inr (.inr (.inr v))))))))))))))))))))))))))))) → oX G 106 iL_law 1461 [] [] (v.1, v.2.1, v.2.2.1, v.2.2.2.1, v.2.2.2.2.1, v.2.2.2.2.2.1, AR, v.2.2.2.2.2.2.1, v.2.2.2.2.2.2.2.1, v.2.2.2.2.2.2.2.2) k Φ Ψ) : oX G 106 iL_law 318 [(0, vR (some (3, 0))), (1, vR (some (0, 0))), (2, vR (some (1, 0))), (3, vR (some (2, 0))), (4, vI x4)] [vI y3, vI y2, vI y1, vR (some (0, 0))] (FI, FL, FR, GR, AI, AL, AR, BR, AN, C) (oPl r.2 k) Φ Ψ := by
  obtain ⟨r, q0⟩ := r
  unfold mL_law_j318 at hm
  refine oX_aload_n dL_law_318 rfl rfl ?_
  refine oX_iload dL_law_319 rfl ?_
  refine oX_iconst (v := (4 : Int32)) dL_law_321 (by decide) ?_
  refine oX_iadd dL_law_322 ?_
  obtain ⟨g43, hm⟩ := gd_s hm
  refine oX_ialdP oDs3 g43 dL_law_323 ?_
  obtain ⟨r44, g44, hm⟩ := bd_s hm
  refine oX_cost hm (fun qq44 hm => ?_)
  refine oX_cVK (as := [vI y1, vI y2, vI y3, vI (AI 3 0 (x4 + (4 : Int32)).toNatClampNeg)]) dL_law_324 rfl oDs0 rfl (by decide) rfl ok_X1_opera rfl rfl q422 q423 q424 q129 q425 (by decide) (Nat.le_of_ble_eq_true rfl) (t_X1_opera n y1 y2 y3 (AI 3 0 (x4 + (4 : Int32)).toNatClampNeg) g44) (Nat.le_refl _) (Nat.le_refl _) ?_
  refine oX_aload_n dL_law_327 rfl rfl ?_
  refine oX_aload_n dL_law_328 rfl rfl ?_
  refine oX_iload dL_law_329 rfl ?_
  refine oX_iconst (v := (1 : Int32)) dL_law_331 (by decide) ?_
  refine oX_iadd dL_law_332 ?_
  obtain ⟨g45, hm⟩ := gd_s hm
  refine oX_ialdP oDs3 g45 dL_law_333 ?_
  refine oX_aload_n dL_law_334 rfl rfl ?_
  refine oX_iload dL_law_335 rfl ?_
  refine oX_iconst (v := (2 : Int32)) dL_law_337 (by decide) ?_
  refine oX_iadd dL_law_338 ?_
  obtain ⟨g46, hm⟩ := gd_s hm
  refine oX_ialdP oDs3 g46 dL_law_339 ?_
  refine oX_aload_n dL_law_340 rfl rfl ?_
  refine oX_iload dL_law_341 rfl ?_
  refine oX_iconst (v := (3 : Int32)) dL_law_343 (by decide) ?_
  refine oX_iadd dL_law_344 ?_
  obtain ⟨g47, hm⟩ := gd_s hm
  refine oX_ialdP oDs3 g47 dL_law_345 ?_
  refine oX_if_eq (tgt := 353) dL_law_346 (by decide) (fun c48 => ?_) (fun c48 => ?_)
  · have hm := ifp c48 hm
    refine oX_iconst (v := (0 : Int32)) dL_law_353 (by decide) ?_
    exact oX_sub [0, 1, 2, 3, 4] rfl (x_mL_law_j354 n x4 r44.1.1 (r44.1.2.2.2.2.1 3 0 (x4 + (1 : Int32)).toNatClampNeg) (r44.1.2.2.2.2.1 3 0 (x4 + (2 : Int32)).toNatClampNeg) (0 : Int32) hm hk hx1 hx2 hx3 hx4 hx5 hx6 hx7 hx8 hx9 hx10 hx11 hx12 hx13 hx14 hx15 hx16 hx17 hx18 hx19 hx20 hx21 hx22 hx23 hx24 hx25 hx26 hx27 hx28 hx29 hx30)
  · have hm := ifn c48 hm
    refine oX_iconst (v := (1 : Int32)) dL_law_349 (by decide) ?_
    refine oX_goto (tgt := 354) dL_law_350 (by decide) ?_
    exact oX_sub [0, 1, 2, 3, 4] rfl (x_mL_law_j354 n x4 r44.1.1 (r44.1.2.2.2.2.1 3 0 (x4 + (1 : Int32)).toNatClampNeg) (r44.1.2.2.2.2.1 3 0 (x4 + (2 : Int32)).toNatClampNeg) (1 : Int32) hm hk hx1 hx2 hx3 hx4 hx5 hx6 hx7 hx8 hx9 hx10 hx11 hx12 hx13 hx14 hx15 hx16 hx17 hx18 hx19 hx20 hx21 hx22 hx23 hx24 hx25 hx26 hx27 hx28 hx29 hx30)
noncomputable def mL_law_j744 (n : Nat) (FI : OhI) (FL : OhL) (FR : OhQ) (GR : OhQ) (AI : OhI) (AL : OhL) (AR : OhQ) (BR : OhQ) (AN : OhN) (C : OhC) (x4 : Int32) (y0 : Int32) (y2 : Int32) (y3 : Int32) (y4 : Int32) (y5 : Int32) : Option (((Int32 × OhI × OhL × OhQ × OhQ × OhI × OhL × OhQ × OhN × OhC) ⊕ ((OhI × OhL × OhQ × OhQ × OhI × OhL × OhQ × OhN × OhC) ⊕ ((OhI × OhL × OhQ × OhQ × OhI × OhL × OhQ × OhN × OhC) ⊕ ((OhI × OhL × OhQ × OhQ × OhI × OhL × OhQ × OhN × OhC) ⊕ ((OhI × OhL × OhQ × OhQ × OhI × OhL × OhQ × OhN × OhC) ⊕ ((OhI × OhL × OhQ × OhQ × OhI × OhL × OhQ × OhN × OhC) ⊕ ((OhI × OhL × OhQ × OhQ × OhI × OhL × OhQ × OhN × OhC) ⊕ ((OhI × OhL × OhQ × OhQ × OhI × OhL × OhQ × OhN × OhC) ⊕ ((OhI × OhL × OhQ × OhQ × OhI × OhL × OhQ × OhN × OhC) ⊕ ((OhI × OhL × OhQ × OhQ × OhI × OhL × OhQ × OhN × OhC) ⊕ ((OhI × OhL × OhQ × OhQ × OhI × OhL × OhQ × OhN × OhC) ⊕ ((OhI × OhL × OhQ × OhQ × OhI × OhL × OhQ × OhN × OhC) ⊕ ((OhI × OhL × OhQ × OhQ × OhI × OhL × OhQ × OhN × OhC) ⊕ ((OhI × OhL × OhQ × OhQ × OhI × OhL × OhQ × OhN × OhC) ⊕ ((OhI × OhL × OhQ × OhQ × OhI × OhL × OhQ × OhN × OhC) ⊕ ((OhI × OhL × OhQ × OhQ × OhI × OhL × OhQ × OhN × OhC) ⊕ ((OhI × OhL × OhQ × OhQ × OhI × OhL × OhQ × OhN × OhC) ⊕ ((OhI × OhL × OhQ × OhQ × OhI × OhL × OhQ × OhN × OhC) ⊕ ((OhI × OhL × OhQ × OhQ × OhI × OhL × OhQ × OhN × OhC) ⊕ ((OhI × OhL × OhQ × OhQ × OhI × OhL × OhQ × OhN × OhC) ⊕ ((OhI × OhL × OhQ × OhQ × OhI × OhL × OhQ × OhN × OhC) ⊕ ((OhI × OhL × OhQ × OhQ × OhI × OhL × OhQ × OhN × OhC) ⊕ ((OhI × OhL × OhQ × OhQ × OhI × OhL × OhQ × OhN × OhC) ⊕ ((OhI × OhL × OhQ × OhQ × OhI × OhL × OhQ × OhN × OhC) ⊕ ((OhI × OhL × OhQ × OhQ × OhI × OhL × OhQ × OhN × OhC) ⊕ ((OhI × OhL × OhQ × OhQ × OhI × OhL × OhQ × OhN × OhC) ⊕ ((OhI × OhL × OhQ × OhQ × OhI × OhL × OhQ × OhN × OhC) ⊕ ((OhI × OhL × OhQ × OhQ × OhI × OhL × OhQ × OhN × OhC) ⊕ ((OhI × OhL × OhQ × OhQ × OhI × OhL × OhQ × OhN × OhC) ⊕ ((OhI × OhL × OhQ × OhQ × OhI × OhL × OhQ × OhN × OhC) ⊕ (OhI × OhL × OhQ × OhQ × OhI × OhL × OhQ × OhN × OhC))))))))))))))))))))))))))))))) × (Nat × Nat)) :=
  gd (ohShM FR AN) <|
  (mX4_cast FI FR AI AN y2 y3 y4 y5).bind fun r136 =>
  (if y0 = r136.1 then
  some (.inl (x4 + (6 : Int32), r136.2.1, FL, FR, GR, r136.2.2, AL, BR, AN, C), (0, 0))
else
  some (.inr (.inr (.inr (.inr (.inr (.inr (.inr (.inr (.inr (.inr (.inr (.inr (.inr (.inl (r136.2.1, FL, FR, GR, r136.2.2, AL, BR, AN, C)))))))))))))), (0, 0)))
theorem x_mL_law_j744 {G : OhG} {FI AI : OhI} {FL AL : OhL} {FR GR AR BR : OhQ} {AN : OhN} {C : OhC} {k : Nat × Nat} {Φ : OhP} {Ψ : OhX} (n : Nat) (x4 : Int32) (y0 : Int32) (y2 : Int32) (y3 : Int32) (y4 : Int32) (y5 : Int32) {r : ((Int32 × OhI × OhL × OhQ × OhQ × OhI × OhL × OhQ × OhN × OhC) ⊕ ((OhI × OhL × OhQ × OhQ × OhI × OhL × OhQ × OhN × OhC) ⊕ ((OhI × OhL × OhQ × OhQ × OhI × OhL × OhQ × OhN × OhC) ⊕ ((OhI × OhL × OhQ × OhQ × OhI × OhL × OhQ × OhN × OhC) ⊕ ((OhI × OhL × OhQ × OhQ × OhI × OhL × OhQ × OhN × OhC) ⊕ ((OhI × OhL × OhQ × OhQ × OhI × OhL × OhQ × OhN × OhC) ⊕ ((OhI × OhL × OhQ × OhQ × OhI × OhL × OhQ × OhN × OhC) ⊕ ((OhI × OhL × OhQ × OhQ × OhI × OhL × OhQ × OhN × OhC) ⊕ ((OhI × OhL × OhQ × OhQ × OhI × OhL × OhQ × OhN × OhC) ⊕ ((OhI × OhL × OhQ × OhQ × OhI × OhL × OhQ × OhN × OhC) ⊕ ((OhI × OhL × OhQ × OhQ × OhI × OhL × OhQ × OhN × OhC) ⊕ ((OhI × OhL × OhQ × OhQ × OhI × OhL × OhQ × OhN × OhC) ⊕ ((OhI × OhL × OhQ × OhQ × OhI × OhL × OhQ × OhN × OhC) ⊕ ((OhI × OhL × OhQ × OhQ × OhI × OhL × OhQ × OhN × OhC) ⊕ ((OhI × OhL × OhQ × OhQ × OhI × OhL × OhQ × OhN × OhC) ⊕ ((OhI × OhL × OhQ × OhQ × OhI × OhL × OhQ × OhN × OhC) ⊕ ((OhI × OhL × OhQ × OhQ × OhI × OhL × OhQ × OhN × OhC) ⊕ ((OhI × OhL × OhQ × OhQ × OhI × OhL × OhQ × OhN × OhC) ⊕ ((OhI × OhL × OhQ × OhQ × OhI × OhL × OhQ × OhN × OhC) ⊕ ((OhI × OhL × OhQ × OhQ × OhI × OhL × OhQ × OhN × OhC) ⊕ ((OhI × OhL × OhQ × OhQ × OhI × OhL × OhQ × OhN × OhC) ⊕ ((OhI × OhL × OhQ × OhQ × OhI × OhL × OhQ × OhN × OhC) ⊕ ((OhI × OhL × OhQ × OhQ × OhI × OhL × OhQ × OhN × OhC) ⊕ ((OhI × OhL × OhQ × OhQ × OhI × OhL × OhQ × OhN × OhC) ⊕ ((OhI × OhL × OhQ × OhQ × OhI × OhL × OhQ × OhN × OhC) ⊕ ((OhI × OhL × OhQ × OhQ × OhI × OhL × OhQ × OhN × OhC) ⊕ ((OhI × OhL × OhQ × OhQ × OhI × OhL × OhQ × OhN × OhC) ⊕ ((OhI × OhL × OhQ × OhQ × OhI × OhL × OhQ × OhN × OhC) ⊕ ((OhI × OhL × OhQ × OhQ × OhI × OhL × OhQ × OhN × OhC) ⊕ ((OhI × OhL × OhQ × OhQ × OhI × OhL × OhQ × OhN × OhC) ⊕ (OhI × OhL × OhQ × OhQ × OhI × OhL × OhQ × OhN × OhC))))))))))))))))))))))))))))))) × (Nat × Nat)} (hm : mL_law_j744 n FI FL FR GR AI AL AR BR AN C x4 y0 y2 y3 y4 y5 = some r) (hk : ∀ v : Int32 × OhI × OhL × OhQ × OhQ × OhI × OhL × OhQ × OhN × OhC, r.1 = .inl v → oX G 106 iL_law 23 [(0, vR (some (3, 0))), (1, vR (some (0, 0))), (2, vR (some (1, 0))), (3, vR (some (2, 0))), (4, vI v.1)] [] (v.2.1, v.2.2.1, v.2.2.2.1, v.2.2.2.2.1, v.2.2.2.2.2.1, v.2.2.2.2.2.2.1, AR, v.2.2.2.2.2.2.2.1, v.2.2.2.2.2.2.2.2.1, v.2.2.2.2.2.2.2.2.2) k Φ Ψ) (hx1 : ∀ v : OhI × OhL × OhQ × OhQ × OhI × OhL × OhQ × OhN × OhC, r.1 = .inr (.inl v) → oX G 106 iL_law 1469 [] [] (v.1, v.2.1, v.2.2.1, v.2.2.2.1, v.2.2.2.2.1, v.2.2.2.2.2.1, AR, v.2.2.2.2.2.2.1, v.2.2.2.2.2.2.2.1, v.2.2.2.2.2.2.2.2) k Φ Ψ) (hx2 : ∀ v : OhI × OhL × OhQ × OhQ × OhI × OhL × OhQ × OhN × OhC, r.1 = .inr (.inr (.inl v)) → oX G 106 iL_law 239 [] [] (v.1, v.2.1, v.2.2.1, v.2.2.2.1, v.2.2.2.2.1, v.2.2.2.2.2.1, AR, v.2.2.2.2.2.2.1, v.2.2.2.2.2.2.2.1, v.2.2.2.2.2.2.2.2) k Φ Ψ) (hx3 : ∀ v : OhI × OhL × OhQ × OhQ × OhI × OhL × OhQ × OhN × OhC, r.1 = .inr (.inr (.inr (.inl v))) → oX G 106 iL_law 264 [] [] (v.1, v.2.1, v.2.2.1, v.2.2.2.1, v.2.2.2.2.1, v.2.2.2.2.2.1, AR, v.2.2.2.2.2.2.1, v.2.2.2.2.2.2.2.1, v.2.2.2.2.2.2.2.2) k Φ Ψ) (hx4 : ∀ v : OhI × OhL × OhQ × OhQ × OhI × OhL × OhQ × OhN × OhC, r.1 = .inr (.inr (.inr (.inr (.inl v)))) → oX G 106 iL_law 289 [] [] (v.1, v.2.1, v.2.2.1, v.2.2.2.1, v.2.2.2.2.1, v.2.2.2.2.2.1, AR, v.2.2.2.2.2.2.1, v.2.2.2.2.2.2.2.1, v.2.2.2.2.2.2.2.2) k Φ Ψ) (hx5 : ∀ v : OhI × OhL × OhQ × OhQ × OhI × OhL × OhQ × OhN × OhC, r.1 = .inr (.inr (.inr (.inr (.inr (.inl v))))) → oX G 106 iL_law 366 [] [] (v.1, v.2.1, v.2.2.1, v.2.2.2.1, v.2.2.2.2.1, v.2.2.2.2.2.1, AR, v.2.2.2.2.2.2.1, v.2.2.2.2.2.2.2.1, v.2.2.2.2.2.2.2.2) k Φ Ψ) (hx6 : ∀ v : OhI × OhL × OhQ × OhQ × OhI × OhL × OhQ × OhN × OhC, r.1 = .inr (.inr (.inr (.inr (.inr (.inr (.inl v)))))) → oX G 106 iL_law 415 [] [] (v.1, v.2.1, v.2.2.1, v.2.2.2.1, v.2.2.2.2.1, v.2.2.2.2.2.1, AR, v.2.2.2.2.2.2.1, v.2.2.2.2.2.2.2.1, v.2.2.2.2.2.2.2.2) k Φ Ψ) (hx7 : ∀ v : OhI × OhL × OhQ × OhQ × OhI × OhL × OhQ × OhN × OhC, r.1 = .inr (.inr (.inr (.inr (.inr (.inr (.inr (.inl v))))))) → oX G 106 iL_law 464 [] [] (v.1, v.2.1, v.2.2.1, v.2.2.2.1, v.2.2.2.2.1, v.2.2.2.2.2.1, AR, v.2.2.2.2.2.2.1, v.2.2.2.2.2.2.2.1, v.2.2.2.2.2.2.2.2) k Φ Ψ) (hx8 : ∀ v : OhI × OhL × OhQ × OhQ × OhI × OhL × OhQ × OhN × OhC, r.1 = .inr (.inr (.inr (.inr (.inr (.inr (.inr (.inr (.inl v)))))))) → oX G 106 iL_law 501 [] [] (v.1, v.2.1, v.2.2.1, v.2.2.2.1, v.2.2.2.2.1, v.2.2.2.2.2.1, AR, v.2.2.2.2.2.2.1, v.2.2.2.2.2.2.2.1, v.2.2.2.2.2.2.2.2) k Φ Ψ) (hx9 : ∀ v : OhI × OhL × OhQ × OhQ × OhI × OhL × OhQ × OhN × OhC, r.1 = .inr (.inr (.inr (.inr (.inr (.inr (.inr (.inr (.inr (.inl v))))))))) → oX G 106 iL_law 526 [] [] (v.1, v.2.1, v.2.2.1, v.2.2.2.1, v.2.2.2.2.1, v.2.2.2.2.2.1, AR, v.2.2.2.2.2.2.1, v.2.2.2.2.2.2.2.1, v.2.2.2.2.2.2.2.2) k Φ Ψ) (hx10 : ∀ v : OhI × OhL × OhQ × OhQ × OhI × OhL × OhQ × OhN × OhC, r.1 = .inr (.inr (.inr (.inr (.inr (.inr (.inr (.inr (.inr (.inr (.inl v)))))))))) → oX G 106 iL_law 539 [] [] (v.1, v.2.1, v.2.2.1, v.2.2.2.1, v.2.2.2.2.1, v.2.2.2.2.2.1, AR, v.2.2.2.2.2.2.1, v.2.2.2.2.2.2.2.1, v.2.2.2.2.2.2.2.2) k Φ Ψ) (hx11 : ∀ v : OhI × OhL × OhQ × OhQ × OhI × OhL × OhQ × OhN × OhC, r.1 = .inr (.inr (.inr (.inr (.inr (.inr (.inr (.inr (.inr (.inr (.inr (.inl v))))))))))) → oX G 106 iL_law 600 [] [] (v.1, v.2.1, v.2.2.1, v.2.2.2.1, v.2.2.2.2.1, v.2.2.2.2.2.1, AR, v.2.2.2.2.2.2.1, v.2.2.2.2.2.2.2.1, v.2.2.2.2.2.2.2.2) k Φ Ψ) (hx12 : ∀ v : OhI × OhL × OhQ × OhQ × OhI × OhL × OhQ × OhN × OhC, r.1 = .inr (.inr (.inr (.inr (.inr (.inr (.inr (.inr (.inr (.inr (.inr (.inr (.inl v)))))))))))) → oX G 106 iL_law 673 [] [] (v.1, v.2.1, v.2.2.1, v.2.2.2.1, v.2.2.2.2.1, v.2.2.2.2.2.1, AR, v.2.2.2.2.2.2.1, v.2.2.2.2.2.2.2.1, v.2.2.2.2.2.2.2.2) k Φ Ψ) (hx13 : ∀ v : OhI × OhL × OhQ × OhQ × OhI × OhL × OhQ × OhN × OhC, r.1 = .inr (.inr (.inr (.inr (.inr (.inr (.inr (.inr (.inr (.inr (.inr (.inr (.inr (.inl v))))))))))))) → oX G 106 iL_law 750 [] [] (v.1, v.2.1, v.2.2.1, v.2.2.2.1, v.2.2.2.2.1, v.2.2.2.2.2.1, AR, v.2.2.2.2.2.2.1, v.2.2.2.2.2.2.2.1, v.2.2.2.2.2.2.2.2) k Φ Ψ) (hx14 : ∀ v : OhI × OhL × OhQ × OhQ × OhI × OhL × OhQ × OhN × OhC, r.1 = .inr (.inr (.inr (.inr (.inr (.inr (.inr (.inr (.inr (.inr (.inr (.inr (.inr (.inr (.inl v)))))))))))))) → oX G 106 iL_law 799 [] [] (v.1, v.2.1, v.2.2.1, v.2.2.2.1, v.2.2.2.2.1, v.2.2.2.2.2.1, AR, v.2.2.2.2.2.2.1, v.2.2.2.2.2.2.2.1, v.2.2.2.2.2.2.2.2) k Φ Ψ) (hx15 : ∀ v : OhI × OhL × OhQ × OhQ × OhI × OhL × OhQ × OhN × OhC, r.1 = .inr (.inr (.inr (.inr (.inr (.inr (.inr (.inr (.inr (.inr (.inr (.inr (.inr (.inr (.inr (.inl v))))))))))))))) → oX G 106 iL_law 876 [] [] (v.1, v.2.1, v.2.2.1, v.2.2.2.1, v.2.2.2.2.1, v.2.2.2.2.2.1, AR, v.2.2.2.2.2.2.1, v.2.2.2.2.2.2.2.1, v.2.2.2.2.2.2.2.2) k Φ Ψ) (hx16 : ∀ v : OhI × OhL × OhQ × OhQ × OhI × OhL × OhQ × OhN × OhC, r.1 = .inr (.inr (.inr (.inr (.inr (.inr (.inr (.inr (.inr (.inr (.inr (.inr (.inr (.inr (.inr (.inr (.inl v)))))))))))))))) → oX G 106 iL_law 901 [] [] (v.1, v.2.1, v.2.2.1, v.2.2.2.1, v.2.2.2.2.1, v.2.2.2.2.2.1, AR, v.2.2.2.2.2.2.1, v.2.2.2.2.2.2.2.1, v.2.2.2.2.2.2.2.2) k Φ Ψ) (hx17 : ∀ v : OhI × OhL × OhQ × OhQ × OhI × OhL × OhQ × OhN × OhC, r.1 = .inr (.inr (.inr (.inr (.inr (.inr (.inr (.inr (.inr (.inr (.inr (.inr (.inr (.inr (.inr (.inr (.inr (.inl v))))))))))))))))) → oX G 106 iL_law 949 [] [] (v.1, v.2.1, v.2.2.1, v.2.2.2.1, v.2.2.2.2.1, v.2.2.2.2.2.1, AR, v.2.2.2.2.2.2.1, v.2.2.2.2.2.2.2.1, v.2.2.2.2.2.2.2.2) k Φ Ψ) (hx18 : ∀ v : OhI × OhL × OhQ × OhQ × OhI × OhL × OhQ × OhN × OhC, r.1 = .inr (.inr (.inr (.inr (.inr (.inr (.inr (.inr (.inr (.inr (.inr (.inr (.inr (.inr (.inr (.inr (.inr (.inr (.inl v)))))))))))))))))) → oX G 106 iL_law 966 [] [] (v.1, v.2.1, v.2.2.1, v.2.2.2.1, v.2.2.2.2.1, v.2.2.2.2.2.1, AR, v.2.2.2.2.2.2.1, v.2.2.2.2.2.2.2.1, v.2.2.2.2.2.2.2.2) k Φ Ψ) (hx19 : ∀ v : OhI × OhL × OhQ × OhQ × OhI × OhL × OhQ × OhN × OhC, r.1 = .inr (.inr (.inr (.inr (.inr (.inr (.inr (.inr (.inr (.inr (.inr (.inr (.inr (.inr (.inr (.inr (.inr (.inr (.inr (.inl v))))))))))))))))))) → oX G 106 iL_law 1030 [] [] (v.1, v.2.1, v.2.2.1, v.2.2.2.1, v.2.2.2.2.1, v.2.2.2.2.2.1, AR, v.2.2.2.2.2.2.1, v.2.2.2.2.2.2.2.1, v.2.2.2.2.2.2.2.2) k Φ Ψ) (hx20 : ∀ v : OhI × OhL × OhQ × OhQ × OhI × OhL × OhQ × OhN × OhC, r.1 = .inr (.inr (.inr (.inr (.inr (.inr (.inr (.inr (.inr (.inr (.inr (.inr (.inr (.inr (.inr (.inr (.inr (.inr (.inr (.inr (.inl v)))))))))))))))))))) → oX G 106 iL_law 1079 [] [] (v.1, v.2.1, v.2.2.1, v.2.2.2.1, v.2.2.2.2.1, v.2.2.2.2.2.1, AR, v.2.2.2.2.2.2.1, v.2.2.2.2.2.2.2.1, v.2.2.2.2.2.2.2.2) k Φ Ψ) (hx21 : ∀ v : OhI × OhL × OhQ × OhQ × OhI × OhL × OhQ × OhN × OhC, r.1 = .inr (.inr (.inr (.inr (.inr (.inr (.inr (.inr (.inr (.inr (.inr (.inr (.inr (.inr (.inr (.inr (.inr (.inr (.inr (.inr (.inr (.inl v))))))))))))))))))))) → oX G 106 iL_law 1128 [] [] (v.1, v.2.1, v.2.2.1, v.2.2.2.1, v.2.2.2.2.1, v.2.2.2.2.2.1, AR, v.2.2.2.2.2.2.1, v.2.2.2.2.2.2.2.1, v.2.2.2.2.2.2.2.2) k Φ Ψ) (hx22 : ∀ v : OhI × OhL × OhQ × OhQ × OhI × OhL × OhQ × OhN × OhC, r.1 = .inr (.inr (.inr (.inr (.inr (.inr (.inr (.inr (.inr (.inr (.inr (.inr (.inr (.inr (.inr (.inr (.inr (.inr (.inr (.inr (.inr (.inr (.inl v)))))))))))))))))))))) → oX G 106 iL_law 1177 [] [] (v.1, v.2.1, v.2.2.1, v.2.2.2.1, v.2.2.2.2.1, v.2.2.2.2.2.1, AR, v.2.2.2.2.2.2.1, v.2.2.2.2.2.2.2.1, v.2.2.2.2.2.2.2.2) k Φ Ψ) (hx23 : ∀ v : OhI × OhL × OhQ × OhQ × OhI × OhL × OhQ × OhN × OhC, r.1 = .inr (.inr (.inr (.inr (.inr (.inr (.inr (.inr (.inr (.inr (.inr (.inr (.inr (.inr (.inr (.inr (.inr (.inr (.inr (.inr (.inr (.inr (.inr (.inl v))))))))))))))))))))))) → oX G 106 iL_law 1214 [] [] (v.1, v.2.1, v.2.2.1, v.2.2.2.1, v.2.2.2.2.1, v.2.2.2.2.2.1, AR, v.2.2.2.2.2.2.1, v.2.2.2.2.2.2.2.1, v.2.2.2.2.2.2.2.2) k Φ Ψ) (hx24 : ∀ v : OhI × OhL × OhQ × OhQ × OhI × OhL × OhQ × OhN × OhC, r.1 = .inr (.inr (.inr (.inr (.inr (.inr (.inr (.inr (.inr (.inr (.inr (.inr (.inr (.inr (.inr (.inr (.inr (.inr (.inr (.inr (.inr (.inr (.inr (.inr (.inl v)))))))))))))))))))))))) → oX G 106 iL_law 1263 [] [] (v.1, v.2.1, v.2.2.1, v.2.2.2.1, v.2.2.2.2.1, v.2.2.2.2.2.1, AR, v.2.2.2.2.2.2.1, v.2.2.2.2.2.2.2.1, v.2.2.2.2.2.2.2.2) k Φ Ψ) (hx25 : ∀ v : OhI × OhL × OhQ × OhQ × OhI × OhL × OhQ × OhN × OhC, r.1 = .inr (.inr (.inr (.inr (.inr (.inr (.inr (.inr (.inr (.inr (.inr (.inr (.inr (.inr (.inr (.inr (.inr (.inr (.inr (.inr (.inr (.inr (.inr (.inr (.inr (.inl v))))))))))))))))))))))))) → oX G 106 iL_law 1312 [] [] (v.1, v.2.1, v.2.2.1, v.2.2.2.1, v.2.2.2.2.1, v.2.2.2.2.2.1, AR, v.2.2.2.2.2.2.1, v.2.2.2.2.2.2.2.1, v.2.2.2.2.2.2.2.2) k Φ Ψ) (hx26 : ∀ v : OhI × OhL × OhQ × OhQ × OhI × OhL × OhQ × OhN × OhC, r.1 = .inr (.inr (.inr (.inr (.inr (.inr (.inr (.inr (.inr (.inr (.inr (.inr (.inr (.inr (.inr (.inr (.inr (.inr (.inr (.inr (.inr (.inr (.inr (.inr (.inr (.inr (.inl v)))))))))))))))))))))))))) → oX G 106 iL_law 1349 [] [] (v.1, v.2.1, v.2.2.1, v.2.2.2.1, v.2.2.2.2.1, v.2.2.2.2.2.1, AR, v.2.2.2.2.2.2.1, v.2.2.2.2.2.2.2.1, v.2.2.2.2.2.2.2.2) k Φ Ψ) (hx27 : ∀ v : OhI × OhL × OhQ × OhQ × OhI × OhL × OhQ × OhN × OhC, r.1 = .inr (.inr (.inr (.inr (.inr (.inr (.inr (.inr (.inr (.inr (.inr (.inr (.inr (.inr (.inr (.inr (.inr (.inr (.inr (.inr (.inr (.inr (.inr (.inr (.inr (.inr (.inr (.inl v))))))))))))))))))))))))))) → oX G 106 iL_law 1398 [] [] (v.1, v.2.1, v.2.2.1, v.2.2.2.1, v.2.2.2.2.1, v.2.2.2.2.2.1, AR, v.2.2.2.2.2.2.1, v.2.2.2.2.2.2.2.1, v.2.2.2.2.2.2.2.2) k Φ Ψ) (hx28 : ∀ v : OhI × OhL × OhQ × OhQ × OhI × OhL × OhQ × OhN × OhC, r.1 = .inr (.inr (.inr (.inr (.inr (.inr (.inr (.inr (.inr (.inr (.inr (.inr (.inr (.inr (.inr (.inr (.inr (.inr (.inr (.inr (.inr (.inr (.inr (.inr (.inr (.inr (.inr (.inr (.inl v)))))))))))))))))))))))))))) → oX G 106 iL_law 1423 [] [] (v.1, v.2.1, v.2.2.1, v.2.2.2.1, v.2.2.2.2.1, v.2.2.2.2.2.1, AR, v.2.2.2.2.2.2.1, v.2.2.2.2.2.2.2.1, v.2.2.2.2.2.2.2.2) k Φ Ψ) (hx29 : ∀ v : OhI × OhL × OhQ × OhQ × OhI × OhL × OhQ × OhN × OhC, r.1 = .inr (.inr (.inr (.inr (.inr (.inr (.inr (.inr (.inr (.inr (.inr (.inr (.inr (.inr (.inr (.inr (.inr (.inr (.inr (.inr (.inr (.inr (.inr (.inr (.inr (.inr (.inr (.inr (.inr (.inl v))))))))))))))))))))))))))))) → oX G 106 iL_law 1436 [] [] (v.1, v.2.1, v.2.2.1, v.2.2.2.1, v.2.2.2.2.1, v.2.2.2.2.2.1, AR, v.2.2.2.2.2.2.1, v.2.2.2.2.2.2.2.1, v.2.2.2.2.2.2.2.2) k Φ Ψ) (hx30 : ∀ v : OhI × OhL × OhQ × OhQ × OhI × OhL × OhQ × OhN × OhC, r.1 = .inr (.inr (.inr (.inr (.inr (.inr (.inr (.inr (.inr (.inr (.inr (.inr (.inr (.inr (.inr (.inr (.inr (.inr (.inr (.inr (.inr (.inr (.inr (.inr (.inr (.inr (.inr (.inr (.inr (.inr v))))))))))))))))))))))))))))) → oX G 106 iL_law 1461 [] [] (v.1, v.2.1, v.2.2.1, v.2.2.2.1, v.2.2.2.2.1, v.2.2.2.2.2.1, AR, v.2.2.2.2.2.2.1, v.2.2.2.2.2.2.2.1, v.2.2.2.2.2.2.2.2) k Φ Ψ) : oX G 106 iL_law 744 [(0, vR (some (3, 0))), (1, vR (some (0, 0))), (2, vR (some (1, 0))), (3, vR (some (2, 0))), (4, vI x4)] [vI y5, vI y4, vI y3, vI y2, vR (some (1, 0)), vI y0] (FI, FL, FR, GR, AI, AL, AR, BR, AN, C) (oPl r.2 k) Φ Ψ := by
  obtain ⟨r, q0⟩ := r
  unfold mL_law_j744 at hm
  obtain ⟨s135, hm⟩ := gd_s hm
  obtain ⟨r136, g136, hm⟩ := bd_s hm
  refine oX_cV (as := [vI y2, vI y3, vI y4, vI y5]) dL_law_744 rfl oDs1 rfl (by decide) rfl ok_X4_cast rfl rfl q2189 q2190 q2191 q136 q2192 (by decide) (Nat.le_of_ble_eq_true rfl) (t_X4_cast s135 y2 y3 y4 y5 g136) ?_
  refine oX_icmp_eq (tgt := 1463) dL_law_747 (by decide) (fun c137 => ?_) (fun c137 => ?_)
  · have hm := ifp c137 hm
    refine oX_iinc (v := x4 + (6 : Int32)) (ls' := [(4, vI (x4 + (6 : Int32))), (0, vR (some (3, 0))), (1, vR (some (0, 0))), (2, vR (some (1, 0))), (3, vR (some (2, 0)))]) dL_law_1463 rfl rfl (by decide) rfl ?_
    refine oX_goto (tgt := 23) dL_law_1466 (by decide) ?_
    obtain ⟨hr, rfl⟩ := oEnd hm
    exact oX_sub [1, 2, 3, 4, 0] rfl (oX_z (hk (x4 + (6 : Int32), r136.2.1, FL, FR, GR, r136.2.2, AL, BR, AN, C) hr))
  · have hm := ifn c137 hm
    obtain ⟨hr, rfl⟩ := oEnd hm
    exact oX_sub [] rfl (oX_z (hx13 (r136.2.1, FL, FR, GR, r136.2.2, AL, BR, AN, C) hr))
noncomputable def mL_law_j708 (n : Nat) (FI : OhI) (FL : OhL) (FR : OhQ) (GR : OhQ) (AI : OhI) (AL : OhL) (AR : OhQ) (BR : OhQ) (AN : OhN) (C : OhC) (x4 : Int32) (y1 : Int32) (y2 : Int32) (y3 : Int32) (y4 : Int32) : Option (((Int32 × OhI × OhL × OhQ × OhQ × OhI × OhL × OhQ × OhN × OhC) ⊕ ((OhI × OhL × OhQ × OhQ × OhI × OhL × OhQ × OhN × OhC) ⊕ ((OhI × OhL × OhQ × OhQ × OhI × OhL × OhQ × OhN × OhC) ⊕ ((OhI × OhL × OhQ × OhQ × OhI × OhL × OhQ × OhN × OhC) ⊕ ((OhI × OhL × OhQ × OhQ × OhI × OhL × OhQ × OhN × OhC) ⊕ ((OhI × OhL × OhQ × OhQ × OhI × OhL × OhQ × OhN × OhC) ⊕ ((OhI × OhL × OhQ × OhQ × OhI × OhL × OhQ × OhN × OhC) ⊕ ((OhI × OhL × OhQ × OhQ × OhI × OhL × OhQ × OhN × OhC) ⊕ ((OhI × OhL × OhQ × OhQ × OhI × OhL × OhQ × OhN × OhC) ⊕ ((OhI × OhL × OhQ × OhQ × OhI × OhL × OhQ × OhN × OhC) ⊕ ((OhI × OhL × OhQ × OhQ × OhI × OhL × OhQ × OhN × OhC) ⊕ ((OhI × OhL × OhQ × OhQ × OhI × OhL × OhQ × OhN × OhC) ⊕ ((OhI × OhL × OhQ × OhQ × OhI × OhL × OhQ × OhN × OhC) ⊕ ((OhI × OhL × OhQ × OhQ × OhI × OhL × OhQ × OhN × OhC) ⊕ ((OhI × OhL × OhQ × OhQ × OhI × OhL × OhQ × OhN × OhC) ⊕ ((OhI × OhL × OhQ × OhQ × OhI × OhL × OhQ × OhN × OhC) ⊕ ((OhI × OhL × OhQ × OhQ × OhI × OhL × OhQ × OhN × OhC) ⊕ ((OhI × OhL × OhQ × OhQ × OhI × OhL × OhQ × OhN × OhC) ⊕ ((OhI × OhL × OhQ × OhQ × OhI × OhL × OhQ × OhN × OhC) ⊕ ((OhI × OhL × OhQ × OhQ × OhI × OhL × OhQ × OhN × OhC) ⊕ ((OhI × OhL × OhQ × OhQ × OhI × OhL × OhQ × OhN × OhC) ⊕ ((OhI × OhL × OhQ × OhQ × OhI × OhL × OhQ × OhN × OhC) ⊕ ((OhI × OhL × OhQ × OhQ × OhI × OhL × OhQ × OhN × OhC) ⊕ ((OhI × OhL × OhQ × OhQ × OhI × OhL × OhQ × OhN × OhC) ⊕ ((OhI × OhL × OhQ × OhQ × OhI × OhL × OhQ × OhN × OhC) ⊕ ((OhI × OhL × OhQ × OhQ × OhI × OhL × OhQ × OhN × OhC) ⊕ ((OhI × OhL × OhQ × OhQ × OhI × OhL × OhQ × OhN × OhC) ⊕ ((OhI × OhL × OhQ × OhQ × OhI × OhL × OhQ × OhN × OhC) ⊕ ((OhI × OhL × OhQ × OhQ × OhI × OhL × OhQ × OhN × OhC) ⊕ ((OhI × OhL × OhQ × OhQ × OhI × OhL × OhQ × OhN × OhC) ⊕ (OhI × OhL × OhQ × OhQ × OhI × OhL × OhQ × OhN × OhC))))))))))))))))))))))))))))))) × (Nat × Nat)) :=
  (mX1_cast FI FR GR AR BR AN C y1 y2 y3 y4).bind fun r129 =>
  oCost r129.2 <|
  gd (vp_in (x4 + (1 : Int32)) (r129.1.2.2.2.2.1 3 0)) <|
  gd (vp_in (x4 + (2 : Int32)) (r129.1.2.2.2.2.1 3 0)) <|
  gd (vp_in (x4 + (3 : Int32)) (r129.1.2.2.2.2.1 3 0)) <|
  gd (vp_in (x4 + (4 : Int32)) (r129.1.2.2.2.2.1 3 0)) <|
  (if (AI 3 0 (x4 + (4 : Int32)).toNatClampNeg) = 0 then
  mL_law_j744 n r129.1.2.1 FL FR r129.1.2.2.1 AI AL AR r129.1.2.2.2.1 r129.1.2.2.2.2.1 r129.1.2.2.2.2.2 x4 r129.1.1 (AI 3 0 (x4 + (1 : Int32)).toNatClampNeg) (AI 3 0 (x4 + (2 : Int32)).toNatClampNeg) (AI 3 0 (x4 + (3 : Int32)).toNatClampNeg) (0 : Int32)
else
  mL_law_j744 n r129.1.2.1 FL FR r129.1.2.2.1 AI AL AR r129.1.2.2.2.1 r129.1.2.2.2.2.1 r129.1.2.2.2.2.2 x4 r129.1.1 (AI 3 0 (x4 + (1 : Int32)).toNatClampNeg) (AI 3 0 (x4 + (2 : Int32)).toNatClampNeg) (AI 3 0 (x4 + (3 : Int32)).toNatClampNeg) (1 : Int32))
theorem x_mL_law_j708 {G : OhG} {FI AI : OhI} {FL AL : OhL} {FR GR AR BR : OhQ} {AN : OhN} {C : OhC} {k : Nat × Nat} {Φ : OhP} {Ψ : OhX} (n : Nat) (x4 : Int32) (y1 : Int32) (y2 : Int32) (y3 : Int32) (y4 : Int32) {r : ((Int32 × OhI × OhL × OhQ × OhQ × OhI × OhL × OhQ × OhN × OhC) ⊕ ((OhI × OhL × OhQ × OhQ × OhI × OhL × OhQ × OhN × OhC) ⊕ ((OhI × OhL × OhQ × OhQ × OhI × OhL × OhQ × OhN × OhC) ⊕ ((OhI × OhL × OhQ × OhQ × OhI × OhL × OhQ × OhN × OhC) ⊕ ((OhI × OhL × OhQ × OhQ × OhI × OhL × OhQ × OhN × OhC) ⊕ ((OhI × OhL × OhQ × OhQ × OhI × OhL × OhQ × OhN × OhC) ⊕ ((OhI × OhL × OhQ × OhQ × OhI × OhL × OhQ × OhN × OhC) ⊕ ((OhI × OhL × OhQ × OhQ × OhI × OhL × OhQ × OhN × OhC) ⊕ ((OhI × OhL × OhQ × OhQ × OhI × OhL × OhQ × OhN × OhC) ⊕ ((OhI × OhL × OhQ × OhQ × OhI × OhL × OhQ × OhN × OhC) ⊕ ((OhI × OhL × OhQ × OhQ × OhI × OhL × OhQ × OhN × OhC) ⊕ ((OhI × OhL × OhQ × OhQ × OhI × OhL × OhQ × OhN × OhC) ⊕ ((OhI × OhL × OhQ × OhQ × OhI × OhL × OhQ × OhN × OhC) ⊕ ((OhI × OhL × OhQ × OhQ × OhI × OhL × OhQ × OhN × OhC) ⊕ ((OhI × OhL × OhQ × OhQ × OhI × OhL × OhQ × OhN × OhC) ⊕ ((OhI × OhL × OhQ × OhQ × OhI × OhL × OhQ × OhN × OhC) ⊕ ((OhI × OhL × OhQ × OhQ × OhI × OhL × OhQ × OhN × OhC) ⊕ ((OhI × OhL × OhQ × OhQ × OhI × OhL × OhQ × OhN × OhC) ⊕ ((OhI × OhL × OhQ × OhQ × OhI × OhL × OhQ × OhN × OhC) ⊕ ((OhI × OhL × OhQ × OhQ × OhI × OhL × OhQ × OhN × OhC) ⊕ ((OhI × OhL × OhQ × OhQ × OhI × OhL × OhQ × OhN × OhC) ⊕ ((OhI × OhL × OhQ × OhQ × OhI × OhL × OhQ × OhN × OhC) ⊕ ((OhI × OhL × OhQ × OhQ × OhI × OhL × OhQ × OhN × OhC) ⊕ ((OhI × OhL × OhQ × OhQ × OhI × OhL × OhQ × OhN × OhC) ⊕ ((OhI × OhL × OhQ × OhQ × OhI × OhL × OhQ × OhN × OhC) ⊕ ((OhI × OhL × OhQ × OhQ × OhI × OhL × OhQ × OhN × OhC) ⊕ ((OhI × OhL × OhQ × OhQ × OhI × OhL × OhQ × OhN × OhC) ⊕ ((OhI × OhL × OhQ × OhQ × OhI × OhL × OhQ × OhN × OhC) ⊕ ((OhI × OhL × OhQ × OhQ × OhI × OhL × OhQ × OhN × OhC) ⊕ ((OhI × OhL × OhQ × OhQ × OhI × OhL × OhQ × OhN × OhC) ⊕ (OhI × OhL × OhQ × OhQ × OhI × OhL × OhQ × OhN × OhC))))))))))))))))))))))))))))))) × (Nat × Nat)} (hm : mL_law_j708 n FI FL FR GR AI AL AR BR AN C x4 y1 y2 y3 y4 = some r) (hk : ∀ v : Int32 × OhI × OhL × OhQ × OhQ × OhI × OhL × OhQ × OhN × OhC, r.1 = .inl v → oX G 106 iL_law 23 [(0, vR (some (3, 0))), (1, vR (some (0, 0))), (2, vR (some (1, 0))), (3, vR (some (2, 0))), (4, vI v.1)] [] (v.2.1, v.2.2.1, v.2.2.2.1, v.2.2.2.2.1, v.2.2.2.2.2.1, v.2.2.2.2.2.2.1, AR, v.2.2.2.2.2.2.2.1, v.2.2.2.2.2.2.2.2.1, v.2.2.2.2.2.2.2.2.2) k Φ Ψ) (hx1 : ∀ v : OhI × OhL × OhQ × OhQ × OhI × OhL × OhQ × OhN × OhC, r.1 = .inr (.inl v) → oX G 106 iL_law 1469 [] [] (v.1, v.2.1, v.2.2.1, v.2.2.2.1, v.2.2.2.2.1, v.2.2.2.2.2.1, AR, v.2.2.2.2.2.2.1, v.2.2.2.2.2.2.2.1, v.2.2.2.2.2.2.2.2) k Φ Ψ) (hx2 : ∀ v : OhI × OhL × OhQ × OhQ × OhI × OhL × OhQ × OhN × OhC, r.1 = .inr (.inr (.inl v)) → oX G 106 iL_law 239 [] [] (v.1, v.2.1, v.2.2.1, v.2.2.2.1, v.2.2.2.2.1, v.2.2.2.2.2.1, AR, v.2.2.2.2.2.2.1, v.2.2.2.2.2.2.2.1, v.2.2.2.2.2.2.2.2) k Φ Ψ) (hx3 : ∀ v : OhI × OhL × OhQ × OhQ × OhI × OhL × OhQ × OhN × OhC, r.1 = .inr (.inr (.inr (.inl v))) → oX G 106 iL_law 264 [] [] (v.1, v.2.1, v.2.2.1, v.2.2.2.1, v.2.2.2.2.1, v.2.2.2.2.2.1, AR, v.2.2.2.2.2.2.1, v.2.2.2.2.2.2.2.1, v.2.2.2.2.2.2.2.2) k Φ Ψ) (hx4 : ∀ v : OhI × OhL × OhQ × OhQ × OhI × OhL × OhQ × OhN × OhC, r.1 = .inr (.inr (.inr (.inr (.inl v)))) → oX G 106 iL_law 289 [] [] (v.1, v.2.1, v.2.2.1, v.2.2.2.1, v.2.2.2.2.1, v.2.2.2.2.2.1, AR, v.2.2.2.2.2.2.1, v.2.2.2.2.2.2.2.1, v.2.2.2.2.2.2.2.2) k Φ Ψ) (hx5 : ∀ v : OhI × OhL × OhQ × OhQ × OhI × OhL × OhQ × OhN × OhC, r.1 = .inr (.inr (.inr (.inr (.inr (.inl v))))) → oX G 106 iL_law 366 [] [] (v.1, v.2.1, v.2.2.1, v.2.2.2.1, v.2.2.2.2.1, v.2.2.2.2.2.1, AR, v.2.2.2.2.2.2.1, v.2.2.2.2.2.2.2.1, v.2.2.2.2.2.2.2.2) k Φ Ψ) (hx6 : ∀ v : OhI × OhL × OhQ × OhQ × OhI × OhL × OhQ × OhN × OhC, r.1 = .inr (.inr (.inr (.inr (.inr (.inr (.inl v)))))) → oX G 106 iL_law 415 [] [] (v.1, v.2.1, v.2.2.1, v.2.2.2.1, v.2.2.2.2.1, v.2.2.2.2.2.1, AR, v.2.2.2.2.2.2.1, v.2.2.2.2.2.2.2.1, v.2.2.2.2.2.2.2.2) k Φ Ψ) (hx7 : ∀ v : OhI × OhL × OhQ × OhQ × OhI × OhL × OhQ × OhN × OhC, r.1 = .inr (.inr (.inr (.inr (.inr (.inr (.inr (.inl v))))))) → oX G 106 iL_law 464 [] [] (v.1, v.2.1, v.2.2.1, v.2.2.2.1, v.2.2.2.2.1, v.2.2.2.2.2.1, AR, v.2.2.2.2.2.2.1, v.2.2.2.2.2.2.2.1, v.2.2.2.2.2.2.2.2) k Φ Ψ) (hx8 : ∀ v : OhI × OhL × OhQ × OhQ × OhI × OhL × OhQ × OhN × OhC, r.1 = .inr (.inr (.inr (.inr (.inr (.inr (.inr (.inr (.inl v)))))))) → oX G 106 iL_law 501 [] [] (v.1, v.2.1, v.2.2.1, v.2.2.2.1, v.2.2.2.2.1, v.2.2.2.2.2.1, AR, v.2.2.2.2.2.2.1, v.2.2.2.2.2.2.2.1, v.2.2.2.2.2.2.2.2) k Φ Ψ) (hx9 : ∀ v : OhI × OhL × OhQ × OhQ × OhI × OhL × OhQ × OhN × OhC, r.1 = .inr (.inr (.inr (.inr (.inr (.inr (.inr (.inr (.inr (.inl v))))))))) → oX G 106 iL_law 526 [] [] (v.1, v.2.1, v.2.2.1, v.2.2.2.1, v.2.2.2.2.1, v.2.2.2.2.2.1, AR, v.2.2.2.2.2.2.1, v.2.2.2.2.2.2.2.1, v.2.2.2.2.2.2.2.2) k Φ Ψ) (hx10 : ∀ v : OhI × OhL × OhQ × OhQ × OhI × OhL × OhQ × OhN × OhC, r.1 = .inr (.inr (.inr (.inr (.inr (.inr (.inr (.inr (.inr (.inr (.inl v)))))))))) → oX G 106 iL_law 539 [] [] (v.1, v.2.1, v.2.2.1, v.2.2.2.1, v.2.2.2.2.1, v.2.2.2.2.2.1, AR, v.2.2.2.2.2.2.1, v.2.2.2.2.2.2.2.1, v.2.2.2.2.2.2.2.2) k Φ Ψ) (hx11 : ∀ v : OhI × OhL × OhQ × OhQ × OhI × OhL × OhQ × OhN × OhC, r.1 = .inr (.inr (.inr (.inr (.inr (.inr (.inr (.inr (.inr (.inr (.inr (.inl v))))))))))) → oX G 106 iL_law 600 [] [] (v.1, v.2.1, v.2.2.1, v.2.2.2.1, v.2.2.2.2.1, v.2.2.2.2.2.1, AR, v.2.2.2.2.2.2.1, v.2.2.2.2.2.2.2.1, v.2.2.2.2.2.2.2.2) k Φ Ψ) (hx12 : ∀ v : OhI × OhL × OhQ × OhQ × OhI × OhL × OhQ × OhN × OhC, r.1 = .inr (.inr (.inr (.inr (.inr (.inr (.inr (.inr (.inr (.inr (.inr (.inr (.inl v)))))))))))) → oX G 106 iL_law 673 [] [] (v.1, v.2.1, v.2.2.1, v.2.2.2.1, v.2.2.2.2.1, v.2.2.2.2.2.1, AR, v.2.2.2.2.2.2.1, v.2.2.2.2.2.2.2.1, v.2.2.2.2.2.2.2.2) k Φ Ψ) (hx13 : ∀ v : OhI × OhL × OhQ × OhQ × OhI × OhL × OhQ × OhN × OhC, r.1 = .inr (.inr (.inr (.inr (.inr (.inr (.inr (.inr (.inr (.inr (.inr (.inr (.inr (.inl v))))))))))))) → oX G 106 iL_law 750 [] [] (v.1, v.2.1, v.2.2.1, v.2.2.2.1, v.2.2.2.2.1, v.2.2.2.2.2.1, AR, v.2.2.2.2.2.2.1, v.2.2.2.2.2.2.2.1, v.2.2.2.2.2.2.2.2) k Φ Ψ) (hx14 : ∀ v : OhI × OhL × OhQ × OhQ × OhI × OhL × OhQ × OhN × OhC, r.1 = .inr (.inr (.inr (.inr (.inr (.inr (.inr (.inr (.inr (.inr (.inr (.inr (.inr (.inr (.inl v)))))))))))))) → oX G 106 iL_law 799 [] [] (v.1, v.2.1, v.2.2.1, v.2.2.2.1, v.2.2.2.2.1, v.2.2.2.2.2.1, AR, v.2.2.2.2.2.2.1, v.2.2.2.2.2.2.2.1, v.2.2.2.2.2.2.2.2) k Φ Ψ) (hx15 : ∀ v : OhI × OhL × OhQ × OhQ × OhI × OhL × OhQ × OhN × OhC, r.1 = .inr (.inr (.inr (.inr (.inr (.inr (.inr (.inr (.inr (.inr (.inr (.inr (.inr (.inr (.inr (.inl v))))))))))))))) → oX G 106 iL_law 876 [] [] (v.1, v.2.1, v.2.2.1, v.2.2.2.1, v.2.2.2.2.1, v.2.2.2.2.2.1, AR, v.2.2.2.2.2.2.1, v.2.2.2.2.2.2.2.1, v.2.2.2.2.2.2.2.2) k Φ Ψ) (hx16 : ∀ v : OhI × OhL × OhQ × OhQ × OhI × OhL × OhQ × OhN × OhC, r.1 = .inr (.inr (.inr (.inr (.inr (.inr (.inr (.inr (.inr (.inr (.inr (.inr (.inr (.inr (.inr (.inr (.inl v)))))))))))))))) → oX G 106 iL_law 901 [] [] (v.1, v.2.1, v.2.2.1, v.2.2.2.1, v.2.2.2.2.1, v.2.2.2.2.2.1, AR, v.2.2.2.2.2.2.1, v.2.2.2.2.2.2.2.1, v.2.2.2.2.2.2.2.2) k Φ Ψ) (hx17 : ∀ v : OhI × OhL × OhQ × OhQ × OhI × OhL × OhQ × OhN × OhC, r.1 = .inr (.inr (.inr (.inr (.inr (.inr (.inr (.inr (.inr (.inr (.inr (.inr (.inr (.inr (.inr (.inr (.inr (.inl v))))))))))))))))) → oX G 106 iL_law 949 [] [] (v.1, v.2.1, v.2.2.1, v.2.2.2.1, v.2.2.2.2.1, v.2.2.2.2.2.1, AR, v.2.2.2.2.2.2.1, v.2.2.2.2.2.2.2.1, v.2.2.2.2.2.2.2.2) k Φ Ψ) (hx18 : ∀ v : OhI × OhL × OhQ × OhQ × OhI × OhL × OhQ × OhN × OhC, r.1 = .inr (.inr (.inr (.inr (.inr (.inr (.inr (.inr (.inr (.inr (.inr (.inr (.inr (.inr (.inr (.inr (.inr (.inr (.inl v)))))))))))))))))) → oX G 106 iL_law 966 [] [] (v.1, v.2.1, v.2.2.1, v.2.2.2.1, v.2.2.2.2.1, v.2.2.2.2.2.1, AR, v.2.2.2.2.2.2.1, v.2.2.2.2.2.2.2.1, v.2.2.2.2.2.2.2.2) k Φ Ψ) (hx19 : ∀ v : OhI × OhL × OhQ × OhQ × OhI × OhL × OhQ × OhN × OhC, r.1 = .inr (.inr (.inr (.inr (.inr (.inr (.inr (.inr (.inr (.inr (.inr (.inr (.inr (.inr (.inr (.inr (.inr (.inr (.inr (.inl v))))))))))))))))))) → oX G 106 iL_law 1030 [] [] (v.1, v.2.1, v.2.2.1, v.2.2.2.1, v.2.2.2.2.1, v.2.2.2.2.2.1, AR, v.2.2.2.2.2.2.1, v.2.2.2.2.2.2.2.1, v.2.2.2.2.2.2.2.2) k Φ Ψ) (hx20 : ∀ v : OhI × OhL × OhQ × OhQ × OhI × OhL × OhQ × OhN × OhC, r.1 = .inr (.inr (.inr (.inr (.inr (.inr (.inr (.inr (.inr (.inr (.inr (.inr (.inr (.inr (.inr (.inr (.inr (.inr (.inr (.inr (.inl v)))))))))))))))))))) → oX G 106 iL_law 1079 [] [] (v.1, v.2.1, v.2.2.1, v.2.2.2.1, v.2.2.2.2.1, v.2.2.2.2.2.1, AR, v.2.2.2.2.2.2.1, v.2.2.2.2.2.2.2.1, v.2.2.2.2.2.2.2.2) k Φ Ψ) (hx21 : ∀ v : OhI × OhL × OhQ × OhQ × OhI × OhL × OhQ × OhN × OhC, r.1 = .inr (.inr (.inr (.inr (.inr (.inr (.inr (.inr (.inr (.inr (.inr (.inr (.inr (.inr (.inr (.inr (.inr (.inr (.inr (.inr (.inr (.inl v))))))))))))))))))))) → oX G 106 iL_law 1128 [] [] (v.1, v.2.1, v.2.2.1, v.2.2.2.1, v.2.2.2.2.1, v.2.2.2.2.2.1, AR, v.2.2.2.2.2.2.1, v.2.2.2.2.2.2.2.1, v.2.2.2.2.2.2.2.2) k Φ Ψ) (hx22 : ∀ v : OhI × OhL × OhQ × OhQ × OhI × OhL × OhQ × OhN × OhC, r.1 = .inr (.inr (.inr (.inr (.inr (.inr (.inr (.inr (.inr (.inr (.inr (.inr (.inr (.inr (.inr (.inr (.inr (.inr (.inr (.inr (.inr (.inr (.inl v)))))))))))))))))))))) → oX G 106 iL_law 1177 [] [] (v.1, v.2.1, v.2.2.1, v.2.2.2.1, v.2.2.2.2.1, v.2.2.2.2.2.1, AR, v.2.2.2.2.2.2.1, v.2.2.2.2.2.2.2.1, v.2.2.2.2.2.2.2.2) k Φ Ψ) (hx23 : ∀ v : OhI × OhL × OhQ × OhQ × OhI × OhL × OhQ × OhN × OhC, r.1 = .inr (.inr (.inr (.inr (.inr (.inr (.inr (.inr (.inr (.inr (.inr (.inr (.inr (.inr (.inr (.inr (.inr (.inr (.inr (.inr (.inr (.inr (.inr (.inl v))))))))))))))))))))))) → oX G 106 iL_law 1214 [] [] (v.1, v.2.1, v.2.2.1, v.2.2.2.1, v.2.2.2.2.1, v.2.2.2.2.2.1, AR, v.2.2.2.2.2.2.1, v.2.2.2.2.2.2.2.1, v.2.2.2.2.2.2.2.2) k Φ Ψ) (hx24 : ∀ v : OhI × OhL × OhQ × OhQ × OhI × OhL × OhQ × OhN × OhC, r.1 = .inr (.inr (.inr (.inr (.inr (.inr (.inr (.inr (.inr (.inr (.inr (.inr (.inr (.inr (.inr (.inr (.inr (.inr (.inr (.inr (.inr (.inr (.inr (.inr (.inl v)))))))))))))))))))))))) → oX G 106 iL_law 1263 [] [] (v.1, v.2.1, v.2.2.1, v.2.2.2.1, v.2.2.2.2.1, v.2.2.2.2.2.1, AR, v.2.2.2.2.2.2.1, v.2.2.2.2.2.2.2.1, v.2.2.2.2.2.2.2.2) k Φ Ψ) (hx25 : ∀ v : OhI × OhL × OhQ × OhQ × OhI × OhL × OhQ × OhN × OhC, r.1 = .inr (.inr (.inr (.inr (.inr (.inr (.inr (.inr (.inr (.inr (.inr (.inr (.inr (.inr (.inr (.inr (.inr (.inr (.inr (.inr (.inr (.inr (.inr (.inr (.inr (.inl v))))))))))))))))))))))))) → oX G 106 iL_law 1312 [] [] (v.1, v.2.1, v.2.2.1, v.2.2.2.1, v.2.2.2.2.1, v.2.2.2.2.2.1, AR, v.2.2.2.2.2.2.1, v.2.2.2.2.2.2.2.1, v.2.2.2.2.2.2.2.2) k Φ Ψ) (hx26 : ∀ v : OhI × OhL × OhQ × OhQ × OhI × OhL × OhQ × OhN × OhC, r.1 = .inr (.inr (.inr (.inr (.inr (.inr (.inr (.inr (.inr (.inr (.inr (.inr (.inr (.inr (.inr (.inr (.inr (.inr (.inr (.inr (.inr (.inr (.inr (.inr (.inr (.inr (.inl v)))))))))))))))))))))))))) → oX G 106 iL_law 1349 [] [] (v.1, v.2.1, v.2.2.1, v.2.2.2.1, v.2.2.2.2.1, v.2.2.2.2.2.1, AR, v.2.2.2.2.2.2.1, v.2.2.2.2.2.2.2.1, v.2.2.2.2.2.2.2.2) k Φ Ψ) (hx27 : ∀ v : OhI × OhL × OhQ × OhQ × OhI × OhL × OhQ × OhN × OhC, r.1 = .inr (.inr (.inr (.inr (.inr (.inr (.inr (.inr (.inr (.inr (.inr (.inr (.inr (.inr (.inr (.inr (.inr (.inr (.inr (.inr (.inr (.inr (.inr (.inr (.inr (.inr (.inr (.inl v))))))))))))))))))))))))))) → oX G 106 iL_law 1398 [] [] (v.1, v.2.1, v.2.2.1, v.2.2.2.1, v.2.2.2.2.1, v.2.2.2.2.2.1, AR, v.2.2.2.2.2.2.1, v.2.2.2.2.2.2.2.1, v.2.2.2.2.2.2.2.2) k Φ Ψ) (hx28 : ∀ v : OhI × OhL × OhQ × OhQ × OhI × OhL × OhQ × OhN × OhC, r.1 = .inr (.inr (.inr (.inr (.inr (.inr (.inr (.inr (.inr (.inr (.inr (.inr (.inr (.inr (.inr (.inr (.inr (.inr (.inr (.inr (.inr (.inr (.inr (.inr (.inr (.inr (.inr (.inr (.inl v)))))))))))))))))))))))))))) → oX G 106 iL_law 1423 [] [] (v.1, v.2.1, v.2.2.1, v.2.2.2.1, v.2.2.2.2.1, v.2.2.2.2.2.1, AR, v.2.2.2.2.2.2.1, v.2.2.2.2.2.2.2.1, v.2.2.2.2.2.2.2.2) k Φ Ψ) (hx29 : ∀ v : OhI × OhL × OhQ × OhQ × OhI × OhL × OhQ × OhN × OhC, r.1 = .inr (.inr (.inr (.inr (.inr (.inr (.inr (.inr (.inr (.inr (.inr (.inr (.inr (.inr (.inr (.inr (.inr (.inr (.inr (.inr (.inr (.inr (.inr (.inr (.inr (.inr (.inr (.inr (.inr (.inl v))))))))))))))))))))))))))))) → oX G 106 iL_law 1436 [] [] (v.1, v.2.1, v.2.2.1, v.2.2.2.1, v.2.2.2.2.1, v.2.2.2.2.2.1, AR, v.2.2.2.2.2.2.1, v.2.2.2.2.2.2.2.1, v.2.2.2.2.2.2.2.2) k Φ Ψ) (hx30 : ∀ v : OhI × OhL × OhQ × OhQ × OhI × OhL × OhQ × OhN × OhC, r.1 = .inr (.inr (.inr (.inr (.inr (.inr (.inr (.inr (.inr (.inr (.inr (.inr (.inr (.inr (.inr (.inr (.inr (.inr (.inr (.inr (.inr (.inr (.inr (.inr (.inr (.inr (.inr (.inr (.inr (.inr v))))))))))))))))))))))))))))) → oX G 106 iL_law 1461 [] [] (v.1, v.2.1, v.2.2.1, v.2.2.2.1, v.2.2.2.2.1, v.2.2.2.2.2.1, AR, v.2.2.2.2.2.2.1, v.2.2.2.2.2.2.2.1, v.2.2.2.2.2.2.2.2) k Φ Ψ) : oX G 106 iL_law 708 [(0, vR (some (3, 0))), (1, vR (some (0, 0))), (2, vR (some (1, 0))), (3, vR (some (2, 0))), (4, vI x4)] [vI y4, vI y3, vI y2, vI y1, vR (some (0, 0))] (FI, FL, FR, GR, AI, AL, AR, BR, AN, C) (oPl r.2 k) Φ Ψ := by
  obtain ⟨r, q0⟩ := r
  unfold mL_law_j708 at hm
  obtain ⟨r129, g129, hm⟩ := bd_s hm
  refine oX_cost hm (fun qq129 hm => ?_)
  refine oX_cVK (as := [vI y1, vI y2, vI y3, vI y4]) dL_law_708 rfl oDs0 rfl (by decide) rfl ok_X1_cast rfl rfl q1344 q1345 q1346 q129 q1347 (by decide) (Nat.le_of_ble_eq_true rfl) (t_X1_cast y1 y2 y3 y4 g129) (Nat.le_refl _) (Nat.le_refl _) ?_
  refine oX_aload_n dL_law_711 rfl rfl ?_
  refine oX_aload_n dL_law_712 rfl rfl ?_
  refine oX_iload dL_law_713 rfl ?_
  refine oX_iconst (v := (1 : Int32)) dL_law_715 (by decide) ?_
  refine oX_iadd dL_law_716 ?_
  obtain ⟨g130, hm⟩ := gd_s hm
  refine oX_ialdP oDs3 g130 dL_law_717 ?_
  refine oX_aload_n dL_law_718 rfl rfl ?_
  refine oX_iload dL_law_719 rfl ?_
  refine oX_iconst (v := (2 : Int32)) dL_law_721 (by decide) ?_
  refine oX_iadd dL_law_722 ?_
  obtain ⟨g131, hm⟩ := gd_s hm
  refine oX_ialdP oDs3 g131 dL_law_723 ?_
  refine oX_aload_n dL_law_724 rfl rfl ?_
  refine oX_iload dL_law_725 rfl ?_
  refine oX_iconst (v := (3 : Int32)) dL_law_727 (by decide) ?_
  refine oX_iadd dL_law_728 ?_
  obtain ⟨g132, hm⟩ := gd_s hm
  refine oX_ialdP oDs3 g132 dL_law_729 ?_
  refine oX_aload_n dL_law_730 rfl rfl ?_
  refine oX_iload dL_law_731 rfl ?_
  refine oX_iconst (v := (4 : Int32)) dL_law_733 (by decide) ?_
  refine oX_iadd dL_law_734 ?_
  obtain ⟨g133, hm⟩ := gd_s hm
  refine oX_ialdP oDs3 g133 dL_law_735 ?_
  refine oX_if_eq (tgt := 743) dL_law_736 (by decide) (fun c134 => ?_) (fun c134 => ?_)
  · have hm := ifp c134 hm
    refine oX_iconst (v := (0 : Int32)) dL_law_743 (by decide) ?_
    exact oX_sub [0, 1, 2, 3, 4] rfl (x_mL_law_j744 n x4 r129.1.1 (AI 3 0 (x4 + (1 : Int32)).toNatClampNeg) (AI 3 0 (x4 + (2 : Int32)).toNatClampNeg) (AI 3 0 (x4 + (3 : Int32)).toNatClampNeg) (0 : Int32) hm hk hx1 hx2 hx3 hx4 hx5 hx6 hx7 hx8 hx9 hx10 hx11 hx12 hx13 hx14 hx15 hx16 hx17 hx18 hx19 hx20 hx21 hx22 hx23 hx24 hx25 hx26 hx27 hx28 hx29 hx30)
  · have hm := ifn c134 hm
    refine oX_iconst (v := (1 : Int32)) dL_law_739 (by decide) ?_
    refine oX_goto (tgt := 744) dL_law_740 (by decide) ?_
    exact oX_sub [0, 1, 2, 3, 4] rfl (x_mL_law_j744 n x4 r129.1.1 (AI 3 0 (x4 + (1 : Int32)).toNatClampNeg) (AI 3 0 (x4 + (2 : Int32)).toNatClampNeg) (AI 3 0 (x4 + (3 : Int32)).toNatClampNeg) (1 : Int32) hm hk hx1 hx2 hx3 hx4 hx5 hx6 hx7 hx8 hx9 hx10 hx11 hx12 hx13 hx14 hx15 hx16 hx17 hx18 hx19 hx20 hx21 hx22 hx23 hx24 hx25 hx26 hx27 hx28 hx29 hx30)
noncomputable def mL_law_j864 (n : Nat) (FI : OhI) (FL : OhL) (FR : OhQ) (GR : OhQ) (AI : OhI) (AL : OhL) (AR : OhQ) (BR : OhQ) (AN : OhN) (C : OhC) (x4 : Int32) (y0 : Int32) (y2 : Int32) (y3 : Int32) (y4 : Int32) : Option (((Int32 × OhI × OhL × OhQ × OhQ × OhI × OhL × OhQ × OhN × OhC) ⊕ ((OhI × OhL × OhQ × OhQ × OhI × OhL × OhQ × OhN × OhC) ⊕ ((OhI × OhL × OhQ × OhQ × OhI × OhL × OhQ × OhN × OhC) ⊕ ((OhI × OhL × OhQ × OhQ × OhI × OhL × OhQ × OhN × OhC) ⊕ ((OhI × OhL × OhQ × OhQ × OhI × OhL × OhQ × OhN × OhC) ⊕ ((OhI × OhL × OhQ × OhQ × OhI × OhL × OhQ × OhN × OhC) ⊕ ((OhI × OhL × OhQ × OhQ × OhI × OhL × OhQ × OhN × OhC) ⊕ ((OhI × OhL × OhQ × OhQ × OhI × OhL × OhQ × OhN × OhC) ⊕ ((OhI × OhL × OhQ × OhQ × OhI × OhL × OhQ × OhN × OhC) ⊕ ((OhI × OhL × OhQ × OhQ × OhI × OhL × OhQ × OhN × OhC) ⊕ ((OhI × OhL × OhQ × OhQ × OhI × OhL × OhQ × OhN × OhC) ⊕ ((OhI × OhL × OhQ × OhQ × OhI × OhL × OhQ × OhN × OhC) ⊕ ((OhI × OhL × OhQ × OhQ × OhI × OhL × OhQ × OhN × OhC) ⊕ ((OhI × OhL × OhQ × OhQ × OhI × OhL × OhQ × OhN × OhC) ⊕ ((OhI × OhL × OhQ × OhQ × OhI × OhL × OhQ × OhN × OhC) ⊕ ((OhI × OhL × OhQ × OhQ × OhI × OhL × OhQ × OhN × OhC) ⊕ ((OhI × OhL × OhQ × OhQ × OhI × OhL × OhQ × OhN × OhC) ⊕ ((OhI × OhL × OhQ × OhQ × OhI × OhL × OhQ × OhN × OhC) ⊕ ((OhI × OhL × OhQ × OhQ × OhI × OhL × OhQ × OhN × OhC) ⊕ ((OhI × OhL × OhQ × OhQ × OhI × OhL × OhQ × OhN × OhC) ⊕ ((OhI × OhL × OhQ × OhQ × OhI × OhL × OhQ × OhN × OhC) ⊕ ((OhI × OhL × OhQ × OhQ × OhI × OhL × OhQ × OhN × OhC) ⊕ ((OhI × OhL × OhQ × OhQ × OhI × OhL × OhQ × OhN × OhC) ⊕ ((OhI × OhL × OhQ × OhQ × OhI × OhL × OhQ × OhN × OhC) ⊕ ((OhI × OhL × OhQ × OhQ × OhI × OhL × OhQ × OhN × OhC) ⊕ ((OhI × OhL × OhQ × OhQ × OhI × OhL × OhQ × OhN × OhC) ⊕ ((OhI × OhL × OhQ × OhQ × OhI × OhL × OhQ × OhN × OhC) ⊕ ((OhI × OhL × OhQ × OhQ × OhI × OhL × OhQ × OhN × OhC) ⊕ ((OhI × OhL × OhQ × OhQ × OhI × OhL × OhQ × OhN × OhC) ⊕ ((OhI × OhL × OhQ × OhQ × OhI × OhL × OhQ × OhN × OhC) ⊕ (OhI × OhL × OhQ × OhQ × OhI × OhL × OhQ × OhN × OhC))))))))))))))))))))))))))))))) × (Nat × Nat)) :=
  gd (vp_in (x4 + (4 : Int32)) (AN 3 0)) <|
  gd (ohShM FR AN) <|
  (mX4_who n FI FR AI AN y2 y3 y4 (AI 3 0 (x4 + (4 : Int32)).toNatClampNeg)).bind fun r163 =>
  (if y0 = r163.1 then
  some (.inl (x4 + (6 : Int32), r163.2.1, FL, FR, GR, r163.2.2, AL, BR, AN, C), (0, 0))
else
  some (.inr (.inr (.inr (.inr (.inr (.inr (.inr (.inr (.inr (.inr (.inr (.inr (.inr (.inr (.inr (.inl (r163.2.1, FL, FR, GR, r163.2.2, AL, BR, AN, C)))))))))))))))), (0, 0)))
theorem x_mL_law_j864 {G : OhG} {FI AI : OhI} {FL AL : OhL} {FR GR AR BR : OhQ} {AN : OhN} {C : OhC} {k : Nat × Nat} {Φ : OhP} {Ψ : OhX} (n : Nat) (x4 : Int32) (y0 : Int32) (y2 : Int32) (y3 : Int32) (y4 : Int32) {r : ((Int32 × OhI × OhL × OhQ × OhQ × OhI × OhL × OhQ × OhN × OhC) ⊕ ((OhI × OhL × OhQ × OhQ × OhI × OhL × OhQ × OhN × OhC) ⊕ ((OhI × OhL × OhQ × OhQ × OhI × OhL × OhQ × OhN × OhC) ⊕ ((OhI × OhL × OhQ × OhQ × OhI × OhL × OhQ × OhN × OhC) ⊕ ((OhI × OhL × OhQ × OhQ × OhI × OhL × OhQ × OhN × OhC) ⊕ ((OhI × OhL × OhQ × OhQ × OhI × OhL × OhQ × OhN × OhC) ⊕ ((OhI × OhL × OhQ × OhQ × OhI × OhL × OhQ × OhN × OhC) ⊕ ((OhI × OhL × OhQ × OhQ × OhI × OhL × OhQ × OhN × OhC) ⊕ ((OhI × OhL × OhQ × OhQ × OhI × OhL × OhQ × OhN × OhC) ⊕ ((OhI × OhL × OhQ × OhQ × OhI × OhL × OhQ × OhN × OhC) ⊕ ((OhI × OhL × OhQ × OhQ × OhI × OhL × OhQ × OhN × OhC) ⊕ ((OhI × OhL × OhQ × OhQ × OhI × OhL × OhQ × OhN × OhC) ⊕ ((OhI × OhL × OhQ × OhQ × OhI × OhL × OhQ × OhN × OhC) ⊕ ((OhI × OhL × OhQ × OhQ × OhI × OhL × OhQ × OhN × OhC) ⊕ ((OhI × OhL × OhQ × OhQ × OhI × OhL × OhQ × OhN × OhC) ⊕ ((OhI × OhL × OhQ × OhQ × OhI × OhL × OhQ × OhN × OhC) ⊕ ((OhI × OhL × OhQ × OhQ × OhI × OhL × OhQ × OhN × OhC) ⊕ ((OhI × OhL × OhQ × OhQ × OhI × OhL × OhQ × OhN × OhC) ⊕ ((OhI × OhL × OhQ × OhQ × OhI × OhL × OhQ × OhN × OhC) ⊕ ((OhI × OhL × OhQ × OhQ × OhI × OhL × OhQ × OhN × OhC) ⊕ ((OhI × OhL × OhQ × OhQ × OhI × OhL × OhQ × OhN × OhC) ⊕ ((OhI × OhL × OhQ × OhQ × OhI × OhL × OhQ × OhN × OhC) ⊕ ((OhI × OhL × OhQ × OhQ × OhI × OhL × OhQ × OhN × OhC) ⊕ ((OhI × OhL × OhQ × OhQ × OhI × OhL × OhQ × OhN × OhC) ⊕ ((OhI × OhL × OhQ × OhQ × OhI × OhL × OhQ × OhN × OhC) ⊕ ((OhI × OhL × OhQ × OhQ × OhI × OhL × OhQ × OhN × OhC) ⊕ ((OhI × OhL × OhQ × OhQ × OhI × OhL × OhQ × OhN × OhC) ⊕ ((OhI × OhL × OhQ × OhQ × OhI × OhL × OhQ × OhN × OhC) ⊕ ((OhI × OhL × OhQ × OhQ × OhI × OhL × OhQ × OhN × OhC) ⊕ ((OhI × OhL × OhQ × OhQ × OhI × OhL × OhQ × OhN × OhC) ⊕ (OhI × OhL × OhQ × OhQ × OhI × OhL × OhQ × OhN × OhC))))))))))))))))))))))))))))))) × (Nat × Nat)} (hm : mL_law_j864 n FI FL FR GR AI AL AR BR AN C x4 y0 y2 y3 y4 = some r) (hk : ∀ v : Int32 × OhI × OhL × OhQ × OhQ × OhI × OhL × OhQ × OhN × OhC, r.1 = .inl v → oX G 106 iL_law 23 [(0, vR (some (3, 0))), (1, vR (some (0, 0))), (2, vR (some (1, 0))), (3, vR (some (2, 0))), (4, vI v.1)] [] (v.2.1, v.2.2.1, v.2.2.2.1, v.2.2.2.2.1, v.2.2.2.2.2.1, v.2.2.2.2.2.2.1, AR, v.2.2.2.2.2.2.2.1, v.2.2.2.2.2.2.2.2.1, v.2.2.2.2.2.2.2.2.2) k Φ Ψ) (hx1 : ∀ v : OhI × OhL × OhQ × OhQ × OhI × OhL × OhQ × OhN × OhC, r.1 = .inr (.inl v) → oX G 106 iL_law 1469 [] [] (v.1, v.2.1, v.2.2.1, v.2.2.2.1, v.2.2.2.2.1, v.2.2.2.2.2.1, AR, v.2.2.2.2.2.2.1, v.2.2.2.2.2.2.2.1, v.2.2.2.2.2.2.2.2) k Φ Ψ) (hx2 : ∀ v : OhI × OhL × OhQ × OhQ × OhI × OhL × OhQ × OhN × OhC, r.1 = .inr (.inr (.inl v)) → oX G 106 iL_law 239 [] [] (v.1, v.2.1, v.2.2.1, v.2.2.2.1, v.2.2.2.2.1, v.2.2.2.2.2.1, AR, v.2.2.2.2.2.2.1, v.2.2.2.2.2.2.2.1, v.2.2.2.2.2.2.2.2) k Φ Ψ) (hx3 : ∀ v : OhI × OhL × OhQ × OhQ × OhI × OhL × OhQ × OhN × OhC, r.1 = .inr (.inr (.inr (.inl v))) → oX G 106 iL_law 264 [] [] (v.1, v.2.1, v.2.2.1, v.2.2.2.1, v.2.2.2.2.1, v.2.2.2.2.2.1, AR, v.2.2.2.2.2.2.1, v.2.2.2.2.2.2.2.1, v.2.2.2.2.2.2.2.2) k Φ Ψ) (hx4 : ∀ v : OhI × OhL × OhQ × OhQ × OhI × OhL × OhQ × OhN × OhC, r.1 = .inr (.inr (.inr (.inr (.inl v)))) → oX G 106 iL_law 289 [] [] (v.1, v.2.1, v.2.2.1, v.2.2.2.1, v.2.2.2.2.1, v.2.2.2.2.2.1, AR, v.2.2.2.2.2.2.1, v.2.2.2.2.2.2.2.1, v.2.2.2.2.2.2.2.2) k Φ Ψ) (hx5 : ∀ v : OhI × OhL × OhQ × OhQ × OhI × OhL × OhQ × OhN × OhC, r.1 = .inr (.inr (.inr (.inr (.inr (.inl v))))) → oX G 106 iL_law 366 [] [] (v.1, v.2.1, v.2.2.1, v.2.2.2.1, v.2.2.2.2.1, v.2.2.2.2.2.1, AR, v.2.2.2.2.2.2.1, v.2.2.2.2.2.2.2.1, v.2.2.2.2.2.2.2.2) k Φ Ψ) (hx6 : ∀ v : OhI × OhL × OhQ × OhQ × OhI × OhL × OhQ × OhN × OhC, r.1 = .inr (.inr (.inr (.inr (.inr (.inr (.inl v)))))) → oX G 106 iL_law 415 [] [] (v.1, v.2.1, v.2.2.1, v.2.2.2.1, v.2.2.2.2.1, v.2.2.2.2.2.1, AR, v.2.2.2.2.2.2.1, v.2.2.2.2.2.2.2.1, v.2.2.2.2.2.2.2.2) k Φ Ψ) (hx7 : ∀ v : OhI × OhL × OhQ × OhQ × OhI × OhL × OhQ × OhN × OhC, r.1 = .inr (.inr (.inr (.inr (.inr (.inr (.inr (.inl v))))))) → oX G 106 iL_law 464 [] [] (v.1, v.2.1, v.2.2.1, v.2.2.2.1, v.2.2.2.2.1, v.2.2.2.2.2.1, AR, v.2.2.2.2.2.2.1, v.2.2.2.2.2.2.2.1, v.2.2.2.2.2.2.2.2) k Φ Ψ) (hx8 : ∀ v : OhI × OhL × OhQ × OhQ × OhI × OhL × OhQ × OhN × OhC, r.1 = .inr (.inr (.inr (.inr (.inr (.inr (.inr (.inr (.inl v)))))))) → oX G 106 iL_law 501 [] [] (v.1, v.2.1, v.2.2.1, v.2.2.2.1, v.2.2.2.2.1, v.2.2.2.2.2.1, AR, v.2.2.2.2.2.2.1, v.2.2.2.2.2.2.2.1, v.2.2.2.2.2.2.2.2) k Φ Ψ) (hx9 : ∀ v : OhI × OhL × OhQ × OhQ × OhI × OhL × OhQ × OhN × OhC, r.1 = .inr (.inr (.inr (.inr (.inr (.inr (.inr (.inr (.inr (.inl v))))))))) → oX G 106 iL_law 526 [] [] (v.1, v.2.1, v.2.2.1, v.2.2.2.1, v.2.2.2.2.1, v.2.2.2.2.2.1, AR, v.2.2.2.2.2.2.1, v.2.2.2.2.2.2.2.1, v.2.2.2.2.2.2.2.2) k Φ Ψ) (hx10 : ∀ v : OhI × OhL × OhQ × OhQ × OhI × OhL × OhQ × OhN × OhC, r.1 = .inr (.inr (.inr (.inr (.inr (.inr (.inr (.inr (.inr (.inr (.inl v)))))))))) → oX G 106 iL_law 539 [] [] (v.1, v.2.1, v.2.2.1, v.2.2.2.1, v.2.2.2.2.1, v.2.2.2.2.2.1, AR, v.2.2.2.2.2.2.1, v.2.2.2.2.2.2.2.1, v.2.2.2.2.2.2.2.2) k Φ Ψ) (hx11 : ∀ v : OhI × OhL × OhQ × OhQ × OhI × OhL × OhQ × OhN × OhC, r.1 = .inr (.inr (.inr (.inr (.inr (.inr (.inr (.inr (.inr (.inr (.inr (.inl v))))))))))) → oX G 106 iL_law 600 [] [] (v.1, v.2.1, v.2.2.1, v.2.2.2.1, v.2.2.2.2.1, v.2.2.2.2.2.1, AR, v.2.2.2.2.2.2.1, v.2.2.2.2.2.2.2.1, v.2.2.2.2.2.2.2.2) k Φ Ψ) (hx12 : ∀ v : OhI × OhL × OhQ × OhQ × OhI × OhL × OhQ × OhN × OhC, r.1 = .inr (.inr (.inr (.inr (.inr (.inr (.inr (.inr (.inr (.inr (.inr (.inr (.inl v)))))))))))) → oX G 106 iL_law 673 [] [] (v.1, v.2.1, v.2.2.1, v.2.2.2.1, v.2.2.2.2.1, v.2.2.2.2.2.1, AR, v.2.2.2.2.2.2.1, v.2.2.2.2.2.2.2.1, v.2.2.2.2.2.2.2.2) k Φ Ψ) (hx13 : ∀ v : OhI × OhL × OhQ × OhQ × OhI × OhL × OhQ × OhN × OhC, r.1 = .inr (.inr (.inr (.inr (.inr (.inr (.inr (.inr (.inr (.inr (.inr (.inr (.inr (.inl v))))))))))))) → oX G 106 iL_law 750 [] [] (v.1, v.2.1, v.2.2.1, v.2.2.2.1, v.2.2.2.2.1, v.2.2.2.2.2.1, AR, v.2.2.2.2.2.2.1, v.2.2.2.2.2.2.2.1, v.2.2.2.2.2.2.2.2) k Φ Ψ) (hx14 : ∀ v : OhI × OhL × OhQ × OhQ × OhI × OhL × OhQ × OhN × OhC, r.1 = .inr (.inr (.inr (.inr (.inr (.inr (.inr (.inr (.inr (.inr (.inr (.inr (.inr (.inr (.inl v)))))))))))))) → oX G 106 iL_law 799 [] [] (v.1, v.2.1, v.2.2.1, v.2.2.2.1, v.2.2.2.2.1, v.2.2.2.2.2.1, AR, v.2.2.2.2.2.2.1, v.2.2.2.2.2.2.2.1, v.2.2.2.2.2.2.2.2) k Φ Ψ) (hx15 : ∀ v : OhI × OhL × OhQ × OhQ × OhI × OhL × OhQ × OhN × OhC, r.1 = .inr (.inr (.inr (.inr (.inr (.inr (.inr (.inr (.inr (.inr (.inr (.inr (.inr (.inr (.inr (.inl v))))))))))))))) → oX G 106 iL_law 876 [] [] (v.1, v.2.1, v.2.2.1, v.2.2.2.1, v.2.2.2.2.1, v.2.2.2.2.2.1, AR, v.2.2.2.2.2.2.1, v.2.2.2.2.2.2.2.1, v.2.2.2.2.2.2.2.2) k Φ Ψ) (hx16 : ∀ v : OhI × OhL × OhQ × OhQ × OhI × OhL × OhQ × OhN × OhC, r.1 = .inr (.inr (.inr (.inr (.inr (.inr (.inr (.inr (.inr (.inr (.inr (.inr (.inr (.inr (.inr (.inr (.inl v)))))))))))))))) → oX G 106 iL_law 901 [] [] (v.1, v.2.1, v.2.2.1, v.2.2.2.1, v.2.2.2.2.1, v.2.2.2.2.2.1, AR, v.2.2.2.2.2.2.1, v.2.2.2.2.2.2.2.1, v.2.2.2.2.2.2.2.2) k Φ Ψ) (hx17 : ∀ v : OhI × OhL × OhQ × OhQ × OhI × OhL × OhQ × OhN × OhC, r.1 = .inr (.inr (.inr (.inr (.inr (.inr (.inr (.inr (.inr (.inr (.inr (.inr (.inr (.inr (.inr (.inr (.inr (.inl v))))))))))))))))) → oX G 106 iL_law 949 [] [] (v.1, v.2.1, v.2.2.1, v.2.2.2.1, v.2.2.2.2.1, v.2.2.2.2.2.1, AR, v.2.2.2.2.2.2.1, v.2.2.2.2.2.2.2.1, v.2.2.2.2.2.2.2.2) k Φ Ψ) (hx18 : ∀ v : OhI × OhL × OhQ × OhQ × OhI × OhL × OhQ × OhN × OhC, r.1 = .inr (.inr (.inr (.inr (.inr (.inr (.inr (.inr (.inr (.inr (.inr (.inr (.inr (.inr (.inr (.inr (.inr (.inr (.inl v)))))))))))))))))) → oX G 106 iL_law 966 [] [] (v.1, v.2.1, v.2.2.1, v.2.2.2.1, v.2.2.2.2.1, v.2.2.2.2.2.1, AR, v.2.2.2.2.2.2.1, v.2.2.2.2.2.2.2.1, v.2.2.2.2.2.2.2.2) k Φ Ψ) (hx19 : ∀ v : OhI × OhL × OhQ × OhQ × OhI × OhL × OhQ × OhN × OhC, r.1 = .inr (.inr (.inr (.inr (.inr (.inr (.inr (.inr (.inr (.inr (.inr (.inr (.inr (.inr (.inr (.inr (.inr (.inr (.inr (.inl v))))))))))))))))))) → oX G 106 iL_law 1030 [] [] (v.1, v.2.1, v.2.2.1, v.2.2.2.1, v.2.2.2.2.1, v.2.2.2.2.2.1, AR, v.2.2.2.2.2.2.1, v.2.2.2.2.2.2.2.1, v.2.2.2.2.2.2.2.2) k Φ Ψ) (hx20 : ∀ v : OhI × OhL × OhQ × OhQ × OhI × OhL × OhQ × OhN × OhC, r.1 = .inr (.inr (.inr (.inr (.inr (.inr (.inr (.inr (.inr (.inr (.inr (.inr (.inr (.inr (.inr (.inr (.inr (.inr (.inr (.inr (.inl v)))))))))))))))))))) → oX G 106 iL_law 1079 [] [] (v.1, v.2.1, v.2.2.1, v.2.2.2.1, v.2.2.2.2.1, v.2.2.2.2.2.1, AR, v.2.2.2.2.2.2.1, v.2.2.2.2.2.2.2.1, v.2.2.2.2.2.2.2.2) k Φ Ψ) (hx21 : ∀ v : OhI × OhL × OhQ × OhQ × OhI × OhL × OhQ × OhN × OhC, r.1 = .inr (.inr (.inr (.inr (.inr (.inr (.inr (.inr (.inr (.inr (.inr (.inr (.inr (.inr (.inr (.inr (.inr (.inr (.inr (.inr (.inr (.inl v))))))))))))))))))))) → oX G 106 iL_law 1128 [] [] (v.1, v.2.1, v.2.2.1, v.2.2.2.1, v.2.2.2.2.1, v.2.2.2.2.2.1, AR, v.2.2.2.2.2.2.1, v.2.2.2.2.2.2.2.1, v.2.2.2.2.2.2.2.2) k Φ Ψ) (hx22 : ∀ v : OhI × OhL × OhQ × OhQ × OhI × OhL × OhQ × OhN × OhC, r.1 = .inr (.inr (.inr (.inr (.inr (.inr (.inr (.inr (.inr (.inr (.inr (.inr (.inr (.inr (.inr (.inr (.inr (.inr (.inr (.inr (.inr (.inr (.inl v)))))))))))))))))))))) → oX G 106 iL_law 1177 [] [] (v.1, v.2.1, v.2.2.1, v.2.2.2.1, v.2.2.2.2.1, v.2.2.2.2.2.1, AR, v.2.2.2.2.2.2.1, v.2.2.2.2.2.2.2.1, v.2.2.2.2.2.2.2.2) k Φ Ψ) (hx23 : ∀ v : OhI × OhL × OhQ × OhQ × OhI × OhL × OhQ × OhN × OhC, r.1 = .inr (.inr (.inr (.inr (.inr (.inr (.inr (.inr (.inr (.inr (.inr (.inr (.inr (.inr (.inr (.inr (.inr (.inr (.inr (.inr (.inr (.inr (.inr (.inl v))))))))))))))))))))))) → oX G 106 iL_law 1214 [] [] (v.1, v.2.1, v.2.2.1, v.2.2.2.1, v.2.2.2.2.1, v.2.2.2.2.2.1, AR, v.2.2.2.2.2.2.1, v.2.2.2.2.2.2.2.1, v.2.2.2.2.2.2.2.2) k Φ Ψ) (hx24 : ∀ v : OhI × OhL × OhQ × OhQ × OhI × OhL × OhQ × OhN × OhC, r.1 = .inr (.inr (.inr (.inr (.inr (.inr (.inr (.inr (.inr (.inr (.inr (.inr (.inr (.inr (.inr (.inr (.inr (.inr (.inr (.inr (.inr (.inr (.inr (.inr (.inl v)))))))))))))))))))))))) → oX G 106 iL_law 1263 [] [] (v.1, v.2.1, v.2.2.1, v.2.2.2.1, v.2.2.2.2.1, v.2.2.2.2.2.1, AR, v.2.2.2.2.2.2.1, v.2.2.2.2.2.2.2.1, v.2.2.2.2.2.2.2.2) k Φ Ψ) (hx25 : ∀ v : OhI × OhL × OhQ × OhQ × OhI × OhL × OhQ × OhN × OhC, r.1 = .inr (.inr (.inr (.inr (.inr (.inr (.inr (.inr (.inr (.inr (.inr (.inr (.inr (.inr (.inr (.inr (.inr (.inr (.inr (.inr (.inr (.inr (.inr (.inr (.inr (.inl v))))))))))))))))))))))))) → oX G 106 iL_law 1312 [] [] (v.1, v.2.1, v.2.2.1, v.2.2.2.1, v.2.2.2.2.1, v.2.2.2.2.2.1, AR, v.2.2.2.2.2.2.1, v.2.2.2.2.2.2.2.1, v.2.2.2.2.2.2.2.2) k Φ Ψ) (hx26 : ∀ v : OhI × OhL × OhQ × OhQ × OhI × OhL × OhQ × OhN × OhC, r.1 = .inr (.inr (.inr (.inr (.inr (.inr (.inr (.inr (.inr (.inr (.inr (.inr (.inr (.inr (.inr (.inr (.inr (.inr (.inr (.inr (.inr (.inr (.inr (.inr (.inr (.inr (.inl v)))))))))))))))))))))))))) → oX G 106 iL_law 1349 [] [] (v.1, v.2.1, v.2.2.1, v.2.2.2.1, v.2.2.2.2.1, v.2.2.2.2.2.1, AR, v.2.2.2.2.2.2.1, v.2.2.2.2.2.2.2.1, v.2.2.2.2.2.2.2.2) k Φ Ψ) (hx27 : ∀ v : OhI × OhL × OhQ × OhQ × OhI × OhL × OhQ × OhN × OhC, r.1 = .inr (.inr (.inr (.inr (.inr (.inr (.inr (.inr (.inr (.inr (.inr (.inr (.inr (.inr (.inr (.inr (.inr (.inr (.inr (.inr (.inr (.inr (.inr (.inr (.inr (.inr (.inr (.inl v))))))))))))))))))))))))))) → oX G 106 iL_law 1398 [] [] (v.1, v.2.1, v.2.2.1, v.2.2.2.1, v.2.2.2.2.1, v.2.2.2.2.2.1, AR, v.2.2.2.2.2.2.1, v.2.2.2.2.2.2.2.1, v.2.2.2.2.2.2.2.2) k Φ Ψ) (hx28 : ∀ v : OhI × OhL × OhQ × OhQ × OhI × OhL × OhQ × OhN × OhC, r.1 = .inr (.inr (.inr (.inr (.inr (.inr (.inr (.inr (.inr (.inr (.inr (.inr (.inr (.inr (.inr (.inr (.inr (.inr (.inr (.inr (.inr (.inr (.inr (.inr (.inr (.inr (.inr (.inr (.inl v)))))))))))))))))))))))))))) → oX G 106 iL_law 1423 [] [] (v.1, v.2.1, v.2.2.1, v.2.2.2.1, v.2.2.2.2.1, v.2.2.2.2.2.1, AR, v.2.2.2.2.2.2.1, v.2.2.2.2.2.2.2.1, v.2.2.2.2.2.2.2.2) k Φ Ψ) (hx29 : ∀ v : OhI × OhL × OhQ × OhQ × OhI × OhL × OhQ × OhN × OhC, r.1 = .inr (.inr (.inr (.inr (.inr (.inr (.inr (.inr (.inr (.inr (.inr (.inr (.inr (.inr (.inr (.inr (.inr (.inr (.inr (.inr (.inr (.inr (.inr (.inr (.inr (.inr (.inr (.inr (.inr (.inl v))))))))))))))))))))))))))))) → oX G 106 iL_law 1436 [] [] (v.1, v.2.1, v.2.2.1, v.2.2.2.1, v.2.2.2.2.1, v.2.2.2.2.2.1, AR, v.2.2.2.2.2.2.1, v.2.2.2.2.2.2.2.1, v.2.2.2.2.2.2.2.2) k Φ Ψ) (hx30 : ∀ v : OhI × OhL × OhQ × OhQ × OhI × OhL × OhQ × OhN × OhC, r.1 = .inr (.inr (.inr (.inr (.inr (.inr (.inr (.inr (.inr (.inr (.inr (.inr (.inr (.inr (.inr (.inr (.inr (.inr (.inr (.inr (.inr (.inr (.inr (.inr (.inr (.inr (.inr (.inr (.inr (.inr v))))))))))))))))))))))))))))) → oX G 106 iL_law 1461 [] [] (v.1, v.2.1, v.2.2.1, v.2.2.2.1, v.2.2.2.2.1, v.2.2.2.2.2.1, AR, v.2.2.2.2.2.2.1, v.2.2.2.2.2.2.2.1, v.2.2.2.2.2.2.2.2) k Φ Ψ) : oX G 106 iL_law 864 [(0, vR (some (3, 0))), (1, vR (some (0, 0))), (2, vR (some (1, 0))), (3, vR (some (2, 0))), (4, vI x4)] [vI y4, vI y3, vI y2, vR (some (1, 0)), vI y0] (FI, FL, FR, GR, AI, AL, AR, BR, AN, C) (oPl r.2 k) Φ Ψ := by
  obtain ⟨r, q0⟩ := r
  unfold mL_law_j864 at hm
  refine oX_aload_n dL_law_864 rfl rfl ?_
  refine oX_iload dL_law_865 rfl ?_
  refine oX_iconst (v := (4 : Int32)) dL_law_867 (by decide) ?_
  refine oX_iadd dL_law_868 ?_
  obtain ⟨g161, hm⟩ := gd_s hm
  refine oX_ialdP oDs3 g161 dL_law_869 ?_
  obtain ⟨s162, hm⟩ := gd_s hm
  obtain ⟨r163, g163, hm⟩ := bd_s hm
  refine oX_cV (as := [vI y2, vI y3, vI y4, vI (AI 3 0 (x4 + (4 : Int32)).toNatClampNeg)]) dL_law_870 rfl oDs1 rfl (by decide) rfl ok_X4_who rfl rfl q2205 q2206 q2207 q136 q2208 (by decide) (Nat.le_of_ble_eq_true rfl) (t_X4_who s162 n y2 y3 y4 (AI 3 0 (x4 + (4 : Int32)).toNatClampNeg) g163) ?_
  refine oX_icmp_eq (tgt := 1463) dL_law_873 (by decide) (fun c164 => ?_) (fun c164 => ?_)
  · have hm := ifp c164 hm
    refine oX_iinc (v := x4 + (6 : Int32)) (ls' := [(4, vI (x4 + (6 : Int32))), (0, vR (some (3, 0))), (1, vR (some (0, 0))), (2, vR (some (1, 0))), (3, vR (some (2, 0)))]) dL_law_1463 rfl rfl (by decide) rfl ?_
    refine oX_goto (tgt := 23) dL_law_1466 (by decide) ?_
    obtain ⟨hr, rfl⟩ := oEnd hm
    exact oX_sub [1, 2, 3, 4, 0] rfl (oX_z (hk (x4 + (6 : Int32), r163.2.1, FL, FR, GR, r163.2.2, AL, BR, AN, C) hr))
  · have hm := ifn c164 hm
    obtain ⟨hr, rfl⟩ := oEnd hm
    exact oX_sub [] rfl (oX_z (hx15 (r163.2.1, FL, FR, GR, r163.2.2, AL, BR, AN, C) hr))
noncomputable def mL_law_j828 (n : Nat) (FI : OhI) (FL : OhL) (FR : OhQ) (GR : OhQ) (AI : OhI) (AL : OhL) (AR : OhQ) (BR : OhQ) (AN : OhN) (C : OhC) (x4 : Int32) (y1 : Int32) (y2 : Int32) (y3 : Int32) : Option (((Int32 × OhI × OhL × OhQ × OhQ × OhI × OhL × OhQ × OhN × OhC) ⊕ ((OhI × OhL × OhQ × OhQ × OhI × OhL × OhQ × OhN × OhC) ⊕ ((OhI × OhL × OhQ × OhQ × OhI × OhL × OhQ × OhN × OhC) ⊕ ((OhI × OhL × OhQ × OhQ × OhI × OhL × OhQ × OhN × OhC) ⊕ ((OhI × OhL × OhQ × OhQ × OhI × OhL × OhQ × OhN × OhC) ⊕ ((OhI × OhL × OhQ × OhQ × OhI × OhL × OhQ × OhN × OhC) ⊕ ((OhI × OhL × OhQ × OhQ × OhI × OhL × OhQ × OhN × OhC) ⊕ ((OhI × OhL × OhQ × OhQ × OhI × OhL × OhQ × OhN × OhC) ⊕ ((OhI × OhL × OhQ × OhQ × OhI × OhL × OhQ × OhN × OhC) ⊕ ((OhI × OhL × OhQ × OhQ × OhI × OhL × OhQ × OhN × OhC) ⊕ ((OhI × OhL × OhQ × OhQ × OhI × OhL × OhQ × OhN × OhC) ⊕ ((OhI × OhL × OhQ × OhQ × OhI × OhL × OhQ × OhN × OhC) ⊕ ((OhI × OhL × OhQ × OhQ × OhI × OhL × OhQ × OhN × OhC) ⊕ ((OhI × OhL × OhQ × OhQ × OhI × OhL × OhQ × OhN × OhC) ⊕ ((OhI × OhL × OhQ × OhQ × OhI × OhL × OhQ × OhN × OhC) ⊕ ((OhI × OhL × OhQ × OhQ × OhI × OhL × OhQ × OhN × OhC) ⊕ ((OhI × OhL × OhQ × OhQ × OhI × OhL × OhQ × OhN × OhC) ⊕ ((OhI × OhL × OhQ × OhQ × OhI × OhL × OhQ × OhN × OhC) ⊕ ((OhI × OhL × OhQ × OhQ × OhI × OhL × OhQ × OhN × OhC) ⊕ ((OhI × OhL × OhQ × OhQ × OhI × OhL × OhQ × OhN × OhC) ⊕ ((OhI × OhL × OhQ × OhQ × OhI × OhL × OhQ × OhN × OhC) ⊕ ((OhI × OhL × OhQ × OhQ × OhI × OhL × OhQ × OhN × OhC) ⊕ ((OhI × OhL × OhQ × OhQ × OhI × OhL × OhQ × OhN × OhC) ⊕ ((OhI × OhL × OhQ × OhQ × OhI × OhL × OhQ × OhN × OhC) ⊕ ((OhI × OhL × OhQ × OhQ × OhI × OhL × OhQ × OhN × OhC) ⊕ ((OhI × OhL × OhQ × OhQ × OhI × OhL × OhQ × OhN × OhC) ⊕ ((OhI × OhL × OhQ × OhQ × OhI × OhL × OhQ × OhN × OhC) ⊕ ((OhI × OhL × OhQ × OhQ × OhI × OhL × OhQ × OhN × OhC) ⊕ ((OhI × OhL × OhQ × OhQ × OhI × OhL × OhQ × OhN × OhC) ⊕ ((OhI × OhL × OhQ × OhQ × OhI × OhL × OhQ × OhN × OhC) ⊕ (OhI × OhL × OhQ × OhQ × OhI × OhL × OhQ × OhN × OhC))))))))))))))))))))))))))))))) × (Nat × Nat)) :=
  gd (vp_in (x4 + (4 : Int32)) (AN 3 0)) <|
  gd (ohShH FR AR AN) <|
  (mX1_who n FI FR GR AI AR BR AN y1 y2 y3 (AI 3 0 (x4 + (4 : Int32)).toNatClampNeg)).bind fun r156 =>
  gd (vp_in (x4 + (1 : Int32)) (AN 3 0)) <|
  gd (vp_in (x4 + (2 : Int32)) (AN 3 0)) <|
  gd (vp_in (x4 + (3 : Int32)) (AN 3 0)) <|
  (if (r156.2.2.1 3 0 (x4 + (3 : Int32)).toNatClampNeg) = 0 then
  mL_law_j864 n r156.2.1 FL FR GR r156.2.2.1 AL AR r156.2.2.2 AN C x4 r156.1 (r156.2.2.1 3 0 (x4 + (1 : Int32)).toNatClampNeg) (r156.2.2.1 3 0 (x4 + (2 : Int32)).toNatClampNeg) (0 : Int32)
else
  mL_law_j864 n r156.2.1 FL FR GR r156.2.2.1 AL AR r156.2.2.2 AN C x4 r156.1 (r156.2.2.1 3 0 (x4 + (1 : Int32)).toNatClampNeg) (r156.2.2.1 3 0 (x4 + (2 : Int32)).toNatClampNeg) (1 : Int32))
theorem x_mL_law_j828 {G : OhG} {FI AI : OhI} {FL AL : OhL} {FR GR AR BR : OhQ} {AN : OhN} {C : OhC} {k : Nat × Nat} {Φ : OhP} {Ψ : OhX} (n : Nat) (x4 : Int32) (y1 : Int32) (y2 : Int32) (y3 : Int32) {r : ((Int32 × OhI × OhL × OhQ × OhQ × OhI × OhL × OhQ × OhN × OhC) ⊕ ((OhI × OhL × OhQ × OhQ × OhI × OhL × OhQ × OhN × OhC) ⊕ ((OhI × OhL × OhQ × OhQ × OhI × OhL × OhQ × OhN × OhC) ⊕ ((OhI × OhL × OhQ × OhQ × OhI × OhL × OhQ × OhN × OhC) ⊕ ((OhI × OhL × OhQ × OhQ × OhI × OhL × OhQ × OhN × OhC) ⊕ ((OhI × OhL × OhQ × OhQ × OhI × OhL × OhQ × OhN × OhC) ⊕ ((OhI × OhL × OhQ × OhQ × OhI × OhL × OhQ × OhN × OhC) ⊕ ((OhI × OhL × OhQ × OhQ × OhI × OhL × OhQ × OhN × OhC) ⊕ ((OhI × OhL × OhQ × OhQ × OhI × OhL × OhQ × OhN × OhC) ⊕ ((OhI × OhL × OhQ × OhQ × OhI × OhL × OhQ × OhN × OhC) ⊕ ((OhI × OhL × OhQ × OhQ × OhI × OhL × OhQ × OhN × OhC) ⊕ ((OhI × OhL × OhQ × OhQ × OhI × OhL × OhQ × OhN × OhC) ⊕ ((OhI × OhL × OhQ × OhQ × OhI × OhL × OhQ × OhN × OhC) ⊕ ((OhI × OhL × OhQ × OhQ × OhI × OhL × OhQ × OhN × OhC) ⊕ ((OhI × OhL × OhQ × OhQ × OhI × OhL × OhQ × OhN × OhC) ⊕ ((OhI × OhL × OhQ × OhQ × OhI × OhL × OhQ × OhN × OhC) ⊕ ((OhI × OhL × OhQ × OhQ × OhI × OhL × OhQ × OhN × OhC) ⊕ ((OhI × OhL × OhQ × OhQ × OhI × OhL × OhQ × OhN × OhC) ⊕ ((OhI × OhL × OhQ × OhQ × OhI × OhL × OhQ × OhN × OhC) ⊕ ((OhI × OhL × OhQ × OhQ × OhI × OhL × OhQ × OhN × OhC) ⊕ ((OhI × OhL × OhQ × OhQ × OhI × OhL × OhQ × OhN × OhC) ⊕ ((OhI × OhL × OhQ × OhQ × OhI × OhL × OhQ × OhN × OhC) ⊕ ((OhI × OhL × OhQ × OhQ × OhI × OhL × OhQ × OhN × OhC) ⊕ ((OhI × OhL × OhQ × OhQ × OhI × OhL × OhQ × OhN × OhC) ⊕ ((OhI × OhL × OhQ × OhQ × OhI × OhL × OhQ × OhN × OhC) ⊕ ((OhI × OhL × OhQ × OhQ × OhI × OhL × OhQ × OhN × OhC) ⊕ ((OhI × OhL × OhQ × OhQ × OhI × OhL × OhQ × OhN × OhC) ⊕ ((OhI × OhL × OhQ × OhQ × OhI × OhL × OhQ × OhN × OhC) ⊕ ((OhI × OhL × OhQ × OhQ × OhI × OhL × OhQ × OhN × OhC) ⊕ ((OhI × OhL × OhQ × OhQ × OhI × OhL × OhQ × OhN × OhC) ⊕ (OhI × OhL × OhQ × OhQ × OhI × OhL × OhQ × OhN × OhC))))))))))))))))))))))))))))))) × (Nat × Nat)} (hm : mL_law_j828 n FI FL FR GR AI AL AR BR AN C x4 y1 y2 y3 = some r) (hk : ∀ v : Int32 × OhI × OhL × OhQ × OhQ × OhI × OhL × OhQ × OhN × OhC, r.1 = .inl v → oX G 106 iL_law 23 [(0, vR (some (3, 0))), (1, vR (some (0, 0))), (2, vR (some (1, 0))), (3, vR (some (2, 0))), (4, vI v.1)] [] (v.2.1, v.2.2.1, v.2.2.2.1, v.2.2.2.2.1, v.2.2.2.2.2.1, v.2.2.2.2.2.2.1, AR, v.2.2.2.2.2.2.2.1, v.2.2.2.2.2.2.2.2.1, v.2.2.2.2.2.2.2.2.2) k Φ Ψ) (hx1 : ∀ v : OhI × OhL × OhQ × OhQ × OhI × OhL × OhQ × OhN × OhC, r.1 = .inr (.inl v) → oX G 106 iL_law 1469 [] [] (v.1, v.2.1, v.2.2.1, v.2.2.2.1, v.2.2.2.2.1, v.2.2.2.2.2.1, AR, v.2.2.2.2.2.2.1, v.2.2.2.2.2.2.2.1, v.2.2.2.2.2.2.2.2) k Φ Ψ) (hx2 : ∀ v : OhI × OhL × OhQ × OhQ × OhI × OhL × OhQ × OhN × OhC, r.1 = .inr (.inr (.inl v)) → oX G 106 iL_law 239 [] [] (v.1, v.2.1, v.2.2.1, v.2.2.2.1, v.2.2.2.2.1, v.2.2.2.2.2.1, AR, v.2.2.2.2.2.2.1, v.2.2.2.2.2.2.2.1, v.2.2.2.2.2.2.2.2) k Φ Ψ) (hx3 : ∀ v : OhI × OhL × OhQ × OhQ × OhI × OhL × OhQ × OhN × OhC, r.1 = .inr (.inr (.inr (.inl v))) → oX G 106 iL_law 264 [] [] (v.1, v.2.1, v.2.2.1, v.2.2.2.1, v.2.2.2.2.1, v.2.2.2.2.2.1, AR, v.2.2.2.2.2.2.1, v.2.2.2.2.2.2.2.1, v.2.2.2.2.2.2.2.2) k Φ Ψ) (hx4 : ∀ v : OhI × OhL × OhQ × OhQ × OhI × OhL × OhQ × OhN × OhC, r.1 = .inr (.inr (.inr (.inr (.inl v)))) → oX G 106 iL_law 289 [] [] (v.1, v.2.1, v.2.2.1, v.2.2.2.1, v.2.2.2.2.1, v.2.2.2.2.2.1, AR, v.2.2.2.2.2.2.1, v.2.2.2.2.2.2.2.1, v.2.2.2.2.2.2.2.2) k Φ Ψ) (hx5 : ∀ v : OhI × OhL × OhQ × OhQ × OhI × OhL × OhQ × OhN × OhC, r.1 = .inr (.inr (.inr (.inr (.inr (.inl v))))) → oX G 106 iL_law 366 [] [] (v.1, v.2.1, v.2.2.1, v.2.2.2.1, v.2.2.2.2.1, v.2.2.2.2.2.1, AR, v.2.2.2.2.2.2.1, v.2.2.2.2.2.2.2.1, v.2.2.2.2.2.2.2.2) k Φ Ψ) (hx6 : ∀ v : OhI × OhL × OhQ × OhQ × OhI × OhL × OhQ × OhN × OhC, r.1 = .inr (.inr (.inr (.inr (.inr (.inr (.inl v)))))) → oX G 106 iL_law 415 [] [] (v.1, v.2.1, v.2.2.1, v.2.2.2.1, v.2.2.2.2.1, v.2.2.2.2.2.1, AR, v.2.2.2.2.2.2.1, v.2.2.2.2.2.2.2.1, v.2.2.2.2.2.2.2.2) k Φ Ψ) (hx7 : ∀ v : OhI × OhL × OhQ × OhQ × OhI × OhL × OhQ × OhN × OhC, r.1 = .inr (.inr (.inr (.inr (.inr (.inr (.inr (.inl v))))))) → oX G 106 iL_law 464 [] [] (v.1, v.2.1, v.2.2.1, v.2.2.2.1, v.2.2.2.2.1, v.2.2.2.2.2.1, AR, v.2.2.2.2.2.2.1, v.2.2.2.2.2.2.2.1, v.2.2.2.2.2.2.2.2) k Φ Ψ) (hx8 : ∀ v : OhI × OhL × OhQ × OhQ × OhI × OhL × OhQ × OhN × OhC, r.1 = .inr (.inr (.inr (.inr (.inr (.inr (.inr (.inr (.inl v)))))))) → oX G 106 iL_law 501 [] [] (v.1, v.2.1, v.2.2.1, v.2.2.2.1, v.2.2.2.2.1, v.2.2.2.2.2.1, AR, v.2.2.2.2.2.2.1, v.2.2.2.2.2.2.2.1, v.2.2.2.2.2.2.2.2) k Φ Ψ) (hx9 : ∀ v : OhI × OhL × OhQ × OhQ × OhI × OhL × OhQ × OhN × OhC, r.1 = .inr (.inr (.inr (.inr (.inr (.inr (.inr (.inr (.inr (.inl v))))))))) → oX G 106 iL_law 526 [] [] (v.1, v.2.1, v.2.2.1, v.2.2.2.1, v.2.2.2.2.1, v.2.2.2.2.2.1, AR, v.2.2.2.2.2.2.1, v.2.2.2.2.2.2.2.1, v.2.2.2.2.2.2.2.2) k Φ Ψ) (hx10 : ∀ v : OhI × OhL × OhQ × OhQ × OhI × OhL × OhQ × OhN × OhC, r.1 = .inr (.inr (.inr (.inr (.inr (.inr (.inr (.inr (.inr (.inr (.inl v)))))))))) → oX G 106 iL_law 539 [] [] (v.1, v.2.1, v.2.2.1, v.2.2.2.1, v.2.2.2.2.1, v.2.2.2.2.2.1, AR, v.2.2.2.2.2.2.1, v.2.2.2.2.2.2.2.1, v.2.2.2.2.2.2.2.2) k Φ Ψ) (hx11 : ∀ v : OhI × OhL × OhQ × OhQ × OhI × OhL × OhQ × OhN × OhC, r.1 = .inr (.inr (.inr (.inr (.inr (.inr (.inr (.inr (.inr (.inr (.inr (.inl v))))))))))) → oX G 106 iL_law 600 [] [] (v.1, v.2.1, v.2.2.1, v.2.2.2.1, v.2.2.2.2.1, v.2.2.2.2.2.1, AR, v.2.2.2.2.2.2.1, v.2.2.2.2.2.2.2.1, v.2.2.2.2.2.2.2.2) k Φ Ψ) (hx12 : ∀ v : OhI × OhL × OhQ × OhQ × OhI × OhL × OhQ × OhN × OhC, r.1 = .inr (.inr (.inr (.inr (.inr (.inr (.inr (.inr (.inr (.inr (.inr (.inr (.inl v)))))))))))) → oX G 106 iL_law 673 [] [] (v.1, v.2.1, v.2.2.1, v.2.2.2.1, v.2.2.2.2.1, v.2.2.2.2.2.1, AR, v.2.2.2.2.2.2.1, v.2.2.2.2.2.2.2.1, v.2.2.2.2.2.2.2.2) k Φ Ψ) (hx13 : ∀ v : OhI × OhL × OhQ × OhQ × OhI × OhL × OhQ × OhN × OhC, r.1 = .inr (.inr (.inr (.inr (.inr (.inr (.inr (.inr (.inr (.inr (.inr (.inr (.inr (.inl v))))))))))))) → oX G 106 iL_law 750 [] [] (v.1, v.2.1, v.2.2.1, v.2.2.2.1, v.2.2.2.2.1, v.2.2.2.2.2.1, AR, v.2.2.2.2.2.2.1, v.2.2.2.2.2.2.2.1, v.2.2.2.2.2.2.2.2) k Φ Ψ) (hx14 : ∀ v : OhI × OhL × OhQ × OhQ × OhI × OhL × OhQ × OhN × OhC, r.1 = .inr (.inr (.inr (.inr (.inr (.inr (.inr (.inr (.inr (.inr (.inr (.inr (.inr (.inr (.inl v)))))))))))))) → oX G 106 iL_law 799 [] [] (v.1, v.2.1, v.2.2.1, v.2.2.2.1, v.2.2.2.2.1, v.2.2.2.2.2.1, AR, v.2.2.2.2.2.2.1, v.2.2.2.2.2.2.2.1, v.2.2.2.2.2.2.2.2) k Φ Ψ) (hx15 : ∀ v : OhI × OhL × OhQ × OhQ × OhI × OhL × OhQ × OhN × OhC, r.1 = .inr (.inr (.inr (.inr (.inr (.inr (.inr (.inr (.inr (.inr (.inr (.inr (.inr (.inr (.inr (.inl v))))))))))))))) → oX G 106 iL_law 876 [] [] (v.1, v.2.1, v.2.2.1, v.2.2.2.1, v.2.2.2.2.1, v.2.2.2.2.2.1, AR, v.2.2.2.2.2.2.1, v.2.2.2.2.2.2.2.1, v.2.2.2.2.2.2.2.2) k Φ Ψ) (hx16 : ∀ v : OhI × OhL × OhQ × OhQ × OhI × OhL × OhQ × OhN × OhC, r.1 = .inr (.inr (.inr (.inr (.inr (.inr (.inr (.inr (.inr (.inr (.inr (.inr (.inr (.inr (.inr (.inr (.inl v)))))))))))))))) → oX G 106 iL_law 901 [] [] (v.1, v.2.1, v.2.2.1, v.2.2.2.1, v.2.2.2.2.1, v.2.2.2.2.2.1, AR, v.2.2.2.2.2.2.1, v.2.2.2.2.2.2.2.1, v.2.2.2.2.2.2.2.2) k Φ Ψ) (hx17 : ∀ v : OhI × OhL × OhQ × OhQ × OhI × OhL × OhQ × OhN × OhC, r.1 = .inr (.inr (.inr (.inr (.inr (.inr (.inr (.inr (.inr (.inr (.inr (.inr (.inr (.inr (.inr (.inr (.inr (.inl v))))))))))))))))) → oX G 106 iL_law 949 [] [] (v.1, v.2.1, v.2.2.1, v.2.2.2.1, v.2.2.2.2.1, v.2.2.2.2.2.1, AR, v.2.2.2.2.2.2.1, v.2.2.2.2.2.2.2.1, v.2.2.2.2.2.2.2.2) k Φ Ψ) (hx18 : ∀ v : OhI × OhL × OhQ × OhQ × OhI × OhL × OhQ × OhN × OhC, r.1 = .inr (.inr (.inr (.inr (.inr (.inr (.inr (.inr (.inr (.inr (.inr (.inr (.inr (.inr (.inr (.inr (.inr (.inr (.inl v)))))))))))))))))) → oX G 106 iL_law 966 [] [] (v.1, v.2.1, v.2.2.1, v.2.2.2.1, v.2.2.2.2.1, v.2.2.2.2.2.1, AR, v.2.2.2.2.2.2.1, v.2.2.2.2.2.2.2.1, v.2.2.2.2.2.2.2.2) k Φ Ψ) (hx19 : ∀ v : OhI × OhL × OhQ × OhQ × OhI × OhL × OhQ × OhN × OhC, r.1 = .inr (.inr (.inr (.inr (.inr (.inr (.inr (.inr (.inr (.inr (.inr (.inr (.inr (.inr (.inr (.inr (.inr (.inr (.inr (.inl v))))))))))))))))))) → oX G 106 iL_law 1030 [] [] (v.1, v.2.1, v.2.2.1, v.2.2.2.1, v.2.2.2.2.1, v.2.2.2.2.2.1, AR, v.2.2.2.2.2.2.1, v.2.2.2.2.2.2.2.1, v.2.2.2.2.2.2.2.2) k Φ Ψ) (hx20 : ∀ v : OhI × OhL × OhQ × OhQ × OhI × OhL × OhQ × OhN × OhC, r.1 = .inr (.inr (.inr (.inr (.inr (.inr (.inr (.inr (.inr (.inr (.inr (.inr (.inr (.inr (.inr (.inr (.inr (.inr (.inr (.inr (.inl v)))))))))))))))))))) → oX G 106 iL_law 1079 [] [] (v.1, v.2.1, v.2.2.1, v.2.2.2.1, v.2.2.2.2.1, v.2.2.2.2.2.1, AR, v.2.2.2.2.2.2.1, v.2.2.2.2.2.2.2.1, v.2.2.2.2.2.2.2.2) k Φ Ψ) (hx21 : ∀ v : OhI × OhL × OhQ × OhQ × OhI × OhL × OhQ × OhN × OhC, r.1 = .inr (.inr (.inr (.inr (.inr (.inr (.inr (.inr (.inr (.inr (.inr (.inr (.inr (.inr (.inr (.inr (.inr (.inr (.inr (.inr (.inr (.inl v))))))))))))))))))))) → oX G 106 iL_law 1128 [] [] (v.1, v.2.1, v.2.2.1, v.2.2.2.1, v.2.2.2.2.1, v.2.2.2.2.2.1, AR, v.2.2.2.2.2.2.1, v.2.2.2.2.2.2.2.1, v.2.2.2.2.2.2.2.2) k Φ Ψ) (hx22 : ∀ v : OhI × OhL × OhQ × OhQ × OhI × OhL × OhQ × OhN × OhC, r.1 = .inr (.inr (.inr (.inr (.inr (.inr (.inr (.inr (.inr (.inr (.inr (.inr (.inr (.inr (.inr (.inr (.inr (.inr (.inr (.inr (.inr (.inr (.inl v)))))))))))))))))))))) → oX G 106 iL_law 1177 [] [] (v.1, v.2.1, v.2.2.1, v.2.2.2.1, v.2.2.2.2.1, v.2.2.2.2.2.1, AR, v.2.2.2.2.2.2.1, v.2.2.2.2.2.2.2.1, v.2.2.2.2.2.2.2.2) k Φ Ψ) (hx23 : ∀ v : OhI × OhL × OhQ × OhQ × OhI × OhL × OhQ × OhN × OhC, r.1 = .inr (.inr (.inr (.inr (.inr (.inr (.inr (.inr (.inr (.inr (.inr (.inr (.inr (.inr (.inr (.inr (.inr (.inr (.inr (.inr (.inr (.inr (.inr (.inl v))))))))))))))))))))))) → oX G 106 iL_law 1214 [] [] (v.1, v.2.1, v.2.2.1, v.2.2.2.1, v.2.2.2.2.1, v.2.2.2.2.2.1, AR, v.2.2.2.2.2.2.1, v.2.2.2.2.2.2.2.1, v.2.2.2.2.2.2.2.2) k Φ Ψ) (hx24 : ∀ v : OhI × OhL × OhQ × OhQ × OhI × OhL × OhQ × OhN × OhC, r.1 = .inr (.inr (.inr (.inr (.inr (.inr (.inr (.inr (.inr (.inr (.inr (.inr (.inr (.inr (.inr (.inr (.inr (.inr (.inr (.inr (.inr (.inr (.inr (.inr (.inl v)))))))))))))))))))))))) → oX G 106 iL_law 1263 [] [] (v.1, v.2.1, v.2.2.1, v.2.2.2.1, v.2.2.2.2.1, v.2.2.2.2.2.1, AR, v.2.2.2.2.2.2.1, v.2.2.2.2.2.2.2.1, v.2.2.2.2.2.2.2.2) k Φ Ψ) (hx25 : ∀ v : OhI × OhL × OhQ × OhQ × OhI × OhL × OhQ × OhN × OhC, r.1 = .inr (.inr (.inr (.inr (.inr (.inr (.inr (.inr (.inr (.inr (.inr (.inr (.inr (.inr (.inr (.inr (.inr (.inr (.inr (.inr (.inr (.inr (.inr (.inr (.inr (.inl v))))))))))))))))))))))))) → oX G 106 iL_law 1312 [] [] (v.1, v.2.1, v.2.2.1, v.2.2.2.1, v.2.2.2.2.1, v.2.2.2.2.2.1, AR, v.2.2.2.2.2.2.1, v.2.2.2.2.2.2.2.1, v.2.2.2.2.2.2.2.2) k Φ Ψ) (hx26 : ∀ v : OhI × OhL × OhQ × OhQ × OhI × OhL × OhQ × OhN × OhC, r.1 = .inr (.inr (.inr (.inr (.inr (.inr (.inr (.inr (.inr (.inr (.inr (.inr (.inr (.inr (.inr (.inr (.inr (.inr (.inr (.inr (.inr (.inr (.inr (.inr (.inr (.inr (.inl v)))))))))))))))))))))))))) → oX G 106 iL_law 1349 [] [] (v.1, v.2.1, v.2.2.1, v.2.2.2.1, v.2.2.2.2.1, v.2.2.2.2.2.1, AR, v.2.2.2.2.2.2.1, v.2.2.2.2.2.2.2.1, v.2.2.2.2.2.2.2.2) k Φ Ψ) (hx27 : ∀ v : OhI × OhL × OhQ × OhQ × OhI × OhL × OhQ × OhN × OhC, r.1 = .inr (.inr (.inr (.inr (.inr (.inr (.inr (.inr (.inr (.inr (.inr (.inr (.inr (.inr (.inr (.inr (.inr (.inr (.inr (.inr (.inr (.inr (.inr (.inr (.inr (.inr (.inr (.inl v))))))))))))))))))))))))))) → oX G 106 iL_law 1398 [] [] (v.1, v.2.1, v.2.2.1, v.2.2.2.1, v.2.2.2.2.1, v.2.2.2.2.2.1, AR, v.2.2.2.2.2.2.1, v.2.2.2.2.2.2.2.1, v.2.2.2.2.2.2.2.2) k Φ Ψ) (hx28 : ∀ v : OhI × OhL × OhQ × OhQ × OhI × OhL × OhQ × OhN × OhC, r.1 = .inr (.inr (.inr (.inr (.inr (.inr (.inr (.inr (.inr (.inr (.inr (.inr (.inr (.inr (.inr (.inr (.inr (.inr (.inr (.inr (.inr (.inr (.inr (.inr (.inr (.inr (.inr (.inr (.inl v)))))))))))))))))))))))))))) → oX G 106 iL_law 1423 [] [] (v.1, v.2.1, v.2.2.1, v.2.2.2.1, v.2.2.2.2.1, v.2.2.2.2.2.1, AR, v.2.2.2.2.2.2.1, v.2.2.2.2.2.2.2.1, v.2.2.2.2.2.2.2.2) k Φ Ψ) (hx29 : ∀ v : OhI × OhL × OhQ × OhQ × OhI × OhL × OhQ × OhN × OhC, r.1 = .inr (.inr (.inr (.inr (.inr (.inr (.inr (.inr (.inr (.inr (.inr (.inr (.inr (.inr (.inr (.inr (.inr (.inr (.inr (.inr (.inr (.inr (.inr (.inr (.inr (.inr (.inr (.inr (.inr (.inl v))))))))))))))))))))))))))))) → oX G 106 iL_law 1436 [] [] (v.1, v.2.1, v.2.2.1, v.2.2.2.1, v.2.2.2.2.1, v.2.2.2.2.2.1, AR, v.2.2.2.2.2.2.1, v.2.2.2.2.2.2.2.1, v.2.2.2.2.2.2.2.2) k Φ Ψ) (hx30 : ∀ v : OhI × OhL × OhQ × OhQ × OhI × OhL × OhQ × OhN × OhC, r.1 = .inr (.inr (.inr (.inr (.inr (.inr (.inr (.inr (.inr (.inr (.inr (.inr (.inr (.inr (.inr (.inr (.inr (.inr (.inr (.inr (.inr (.inr (.inr (.inr (.inr (.inr (.inr (.inr (.inr (.inr v))))))))))))))))))))))))))))) → oX G 106 iL_law 1461 [] [] (v.1, v.2.1, v.2.2.1, v.2.2.2.1, v.2.2.2.2.1, v.2.2.2.2.2.1, AR, v.2.2.2.2.2.2.1, v.2.2.2.2.2.2.2.1, v.2.2.2.2.2.2.2.2) k Φ Ψ) : oX G 106 iL_law 828 [(0, vR (some (3, 0))), (1, vR (some (0, 0))), (2, vR (some (1, 0))), (3, vR (some (2, 0))), (4, vI x4)] [vI y3, vI y2, vI y1, vR (some (0, 0))] (FI, FL, FR, GR, AI, AL, AR, BR, AN, C) (oPl r.2 k) Φ Ψ := by
  obtain ⟨r, q0⟩ := r
  unfold mL_law_j828 at hm
  refine oX_aload_n dL_law_828 rfl rfl ?_
  refine oX_iload dL_law_829 rfl ?_
  refine oX_iconst (v := (4 : Int32)) dL_law_831 (by decide) ?_
  refine oX_iadd dL_law_832 ?_
  obtain ⟨g154, hm⟩ := gd_s hm
  refine oX_ialdP oDs3 g154 dL_law_833 ?_
  obtain ⟨s155, hm⟩ := gd_s hm
  obtain ⟨r156, g156, hm⟩ := bd_s hm
  refine oX_cV (as := [vI y1, vI y2, vI y3, vI (AI 3 0 (x4 + (4 : Int32)).toNatClampNeg)]) dL_law_834 rfl oDs0 rfl (by decide) rfl ok_X1_who rfl rfl q1414 q1415 q1416 q129 q1417 (by decide) (Nat.le_of_ble_eq_true rfl) (t_X1_who s155 n y1 y2 y3 (AI 3 0 (x4 + (4 : Int32)).toNatClampNeg) g156) ?_
  refine oX_aload_n dL_law_837 rfl rfl ?_
  refine oX_aload_n dL_law_838 rfl rfl ?_
  refine oX_iload dL_law_839 rfl ?_
  refine oX_iconst (v := (1 : Int32)) dL_law_841 (by decide) ?_
  refine oX_iadd dL_law_842 ?_
  obtain ⟨g157, hm⟩ := gd_s hm
  refine oX_ialdP oDs3 g157 dL_law_843 ?_
  refine oX_aload_n dL_law_844 rfl rfl ?_
  refine oX_iload dL_law_845 rfl ?_
  refine oX_iconst (v := (2 : Int32)) dL_law_847 (by decide) ?_
  refine oX_iadd dL_law_848 ?_
  obtain ⟨g158, hm⟩ := gd_s hm
  refine oX_ialdP oDs3 g158 dL_law_849 ?_
  refine oX_aload_n dL_law_850 rfl rfl ?_
  refine oX_iload dL_law_851 rfl ?_
  refine oX_iconst (v := (3 : Int32)) dL_law_853 (by decide) ?_
  refine oX_iadd dL_law_854 ?_
  obtain ⟨g159, hm⟩ := gd_s hm
  refine oX_ialdP oDs3 g159 dL_law_855 ?_
  refine oX_if_eq (tgt := 863) dL_law_856 (by decide) (fun c160 => ?_) (fun c160 => ?_)
  · have hm := ifp c160 hm
    refine oX_iconst (v := (0 : Int32)) dL_law_863 (by decide) ?_
    exact oX_sub [0, 1, 2, 3, 4] rfl (x_mL_law_j864 n x4 r156.1 (r156.2.2.1 3 0 (x4 + (1 : Int32)).toNatClampNeg) (r156.2.2.1 3 0 (x4 + (2 : Int32)).toNatClampNeg) (0 : Int32) hm hk hx1 hx2 hx3 hx4 hx5 hx6 hx7 hx8 hx9 hx10 hx11 hx12 hx13 hx14 hx15 hx16 hx17 hx18 hx19 hx20 hx21 hx22 hx23 hx24 hx25 hx26 hx27 hx28 hx29 hx30)
  · have hm := ifn c160 hm
    refine oX_iconst (v := (1 : Int32)) dL_law_859 (by decide) ?_
    refine oX_goto (tgt := 864) dL_law_860 (by decide) ?_
    exact oX_sub [0, 1, 2, 3, 4] rfl (x_mL_law_j864 n x4 r156.1 (r156.2.2.1 3 0 (x4 + (1 : Int32)).toNatClampNeg) (r156.2.2.1 3 0 (x4 + (2 : Int32)).toNatClampNeg) (1 : Int32) hm hk hx1 hx2 hx3 hx4 hx5 hx6 hx7 hx8 hx9 hx10 hx11 hx12 hx13 hx14 hx15 hx16 hx17 hx18 hx19 hx20 hx21 hx22 hx23 hx24 hx25 hx26 hx27 hx28 hx29 hx30)
noncomputable def mL_law_b23 (n : Nat) (FI : OhI) (FL : OhL) (FR : OhQ) (GR : OhQ) (AI : OhI) (AL : OhL) (AR : OhQ) (BR : OhQ) (AN : OhN) (C : OhC) (x4 : Int32) : Option (((Int32 × OhI × OhL × OhQ × OhQ × OhI × OhL × OhQ × OhN × OhC) ⊕ ((OhI × OhL × OhQ × OhQ × OhI × OhL × OhQ × OhN × OhC) ⊕ ((OhI × OhL × OhQ × OhQ × OhI × OhL × OhQ × OhN × OhC) ⊕ ((OhI × OhL × OhQ × OhQ × OhI × OhL × OhQ × OhN × OhC) ⊕ ((OhI × OhL × OhQ × OhQ × OhI × OhL × OhQ × OhN × OhC) ⊕ ((OhI × OhL × OhQ × OhQ × OhI × OhL × OhQ × OhN × OhC) ⊕ ((OhI × OhL × OhQ × OhQ × OhI × OhL × OhQ × OhN × OhC) ⊕ ((OhI × OhL × OhQ × OhQ × OhI × OhL × OhQ × OhN × OhC) ⊕ ((OhI × OhL × OhQ × OhQ × OhI × OhL × OhQ × OhN × OhC) ⊕ ((OhI × OhL × OhQ × OhQ × OhI × OhL × OhQ × OhN × OhC) ⊕ ((OhI × OhL × OhQ × OhQ × OhI × OhL × OhQ × OhN × OhC) ⊕ ((OhI × OhL × OhQ × OhQ × OhI × OhL × OhQ × OhN × OhC) ⊕ ((OhI × OhL × OhQ × OhQ × OhI × OhL × OhQ × OhN × OhC) ⊕ ((OhI × OhL × OhQ × OhQ × OhI × OhL × OhQ × OhN × OhC) ⊕ ((OhI × OhL × OhQ × OhQ × OhI × OhL × OhQ × OhN × OhC) ⊕ ((OhI × OhL × OhQ × OhQ × OhI × OhL × OhQ × OhN × OhC) ⊕ ((OhI × OhL × OhQ × OhQ × OhI × OhL × OhQ × OhN × OhC) ⊕ ((OhI × OhL × OhQ × OhQ × OhI × OhL × OhQ × OhN × OhC) ⊕ ((OhI × OhL × OhQ × OhQ × OhI × OhL × OhQ × OhN × OhC) ⊕ ((OhI × OhL × OhQ × OhQ × OhI × OhL × OhQ × OhN × OhC) ⊕ ((OhI × OhL × OhQ × OhQ × OhI × OhL × OhQ × OhN × OhC) ⊕ ((OhI × OhL × OhQ × OhQ × OhI × OhL × OhQ × OhN × OhC) ⊕ ((OhI × OhL × OhQ × OhQ × OhI × OhL × OhQ × OhN × OhC) ⊕ ((OhI × OhL × OhQ × OhQ × OhI × OhL × OhQ × OhN × OhC) ⊕ ((OhI × OhL × OhQ × OhQ × OhI × OhL × OhQ × OhN × OhC) ⊕ ((OhI × OhL × OhQ × OhQ × OhI × OhL × OhQ × OhN × OhC) ⊕ ((OhI × OhL × OhQ × OhQ × OhI × OhL × OhQ × OhN × OhC) ⊕ ((OhI × OhL × OhQ × OhQ × OhI × OhL × OhQ × OhN × OhC) ⊕ ((OhI × OhL × OhQ × OhQ × OhI × OhL × OhQ × OhN × OhC) ⊕ ((OhI × OhL × OhQ × OhQ × OhI × OhL × OhQ × OhN × OhC) ⊕ (OhI × OhL × OhQ × OhQ × OhI × OhL × OhQ × OhN × OhC))))))))))))))))))))))))))))))) × (Nat × Nat)) :=
  (if ((Int32.ofNat (AN 3 0)) - (6 : Int32)) < x4 then
  some (.inr (.inl (FI, FL, FR, GR, AI, AL, BR, AN, C)), (0, 0))
else
  gd (vp_in x4 (AN 3 0)) <|
    (if ((AI 3 0 x4.toNatClampNeg) &&& (31 : Int32)) = (0 : Int32) then
    gd (vp_in (x4 + (1 : Int32)) (AN 3 0)) <|
      gd (vp_in (x4 + (2 : Int32)) (AN 3 0)) <|
      gd (vp_in (x4 + (3 : Int32)) (AN 3 0)) <|
      gd (vp_in (x4 + (4 : Int32)) (AN 3 0)) <|
      gd (vp_in (x4 + (5 : Int32)) (AN 3 0)) <|
      gd (ohShH FR AR AN) <|
      (mX1_feed n FI FR AI AN (AI 3 0 (x4 + (1 : Int32)).toNatClampNeg) (AI 3 0 (x4 + (2 : Int32)).toNatClampNeg) (AI 3 0 (x4 + (3 : Int32)).toNatClampNeg) (AI 3 0 (x4 + (4 : Int32)).toNatClampNeg) (AI 3 0 (x4 + (5 : Int32)).toNatClampNeg)).bind fun r17 =>
      gd (vp_in (x4 + (1 : Int32)) (AN 3 0)) <|
      gd (vp_in (x4 + (2 : Int32)) (AN 3 0)) <|
      gd (vp_in (x4 + (3 : Int32)) (AN 3 0)) <|
      gd (vp_in (x4 + (4 : Int32)) (AN 3 0)) <|
      gd (vp_in (x4 + (5 : Int32)) (AN 3 0)) <|
      gd (ohShM FR AN) <|
      (mX4_feed n r17.2.1 FR r17.2.2 AN (r17.2.2 3 0 (x4 + (1 : Int32)).toNatClampNeg) (r17.2.2 3 0 (x4 + (2 : Int32)).toNatClampNeg) (r17.2.2 3 0 (x4 + (3 : Int32)).toNatClampNeg) (r17.2.2 3 0 (x4 + (4 : Int32)).toNatClampNeg) (r17.2.2 3 0 (x4 + (5 : Int32)).toNatClampNeg)).bind fun r24 =>
      (if r17.1 = r24.1 then
      some (.inl (x4 + (6 : Int32), r24.2.1, FL, FR, GR, r24.2.2, AL, BR, AN, C), (0, 0))
    else
      some (.inr (.inr (.inl (r24.2.1, FL, FR, GR, r24.2.2, AL, BR, AN, C))), (0, 0)))
  else
  if ((AI 3 0 x4.toNatClampNeg) &&& (31 : Int32)) = (1 : Int32) then
    gd (vp_in (x4 + (1 : Int32)) (AN 3 0)) <|
      (mX1_end FI (AI 3 0 (x4 + (1 : Int32)).toNatClampNeg)).bind fun r28 =>
      gd (vp_in (x4 + (1 : Int32)) (AN 3 0)) <|
      (mX4_end r28.2 (AI 3 0 (x4 + (1 : Int32)).toNatClampNeg)).bind fun r30 =>
      (if r28.1 = r30.1 then
      some (.inl (x4 + (6 : Int32), r30.2, FL, FR, GR, AI, AL, BR, AN, C), (0, 0))
    else
      some (.inr (.inr (.inr (.inl (r30.2, FL, FR, GR, AI, AL, BR, AN, C)))), (0, 0)))
  else
  if ((AI 3 0 x4.toNatClampNeg) &&& (31 : Int32)) = (2 : Int32) then
    gd (vp_in (x4 + (1 : Int32)) (AN 3 0)) <|
      (mX1_next FI (AI 3 0 (x4 + (1 : Int32)).toNatClampNeg)).bind fun r34 =>
      gd (vp_in (x4 + (1 : Int32)) (AN 3 0)) <|
      (mX4_next r34.2 (AI 3 0 (x4 + (1 : Int32)).toNatClampNeg)).bind fun r36 =>
      (if r34.1 = r36.1 then
      some (.inl (x4 + (6 : Int32), r36.2, FL, FR, GR, AI, AL, BR, AN, C), (0, 0))
    else
      some (.inr (.inr (.inr (.inr (.inl (r36.2, FL, FR, GR, AI, AL, BR, AN, C))))), (0, 0)))
  else
  if ((AI 3 0 x4.toNatClampNeg) &&& (31 : Int32)) = (3 : Int32) then
    gd (vp_in (x4 + (1 : Int32)) (AN 3 0)) <|
      gd (vp_in (x4 + (2 : Int32)) (AN 3 0)) <|
      gd (vp_in (x4 + (3 : Int32)) (AN 3 0)) <|
      (if (AI 3 0 (x4 + (3 : Int32)).toNatClampNeg) = 0 then
      mL_law_j318 n FI FL FR GR AI AL AR BR AN C x4 (AI 3 0 (x4 + (1 : Int32)).toNatClampNeg) (AI 3 0 (x4 + (2 : Int32)).toNatClampNeg) (0 : Int32)
    else
      mL_law_j318 n FI FL FR GR AI AL AR BR AN C x4 (AI 3 0 (x4 + (1 : Int32)).toNatClampNeg) (AI 3 0 (x4 + (2 : Int32)).toNatClampNeg) (1 : Int32))
  else
  if ((AI 3 0 x4.toNatClampNeg) &&& (31 : Int32)) = (4 : Int32) then
    gd (vp_in (x4 + (1 : Int32)) (AN 3 0)) <|
      gd (vp_in (x4 + (2 : Int32)) (AN 3 0)) <|
      gd (vp_in (x4 + (3 : Int32)) (AN 3 0)) <|
      (mX1_singer FI FR GR AR BR AN C (AI 3 0 (x4 + (1 : Int32)).toNatClampNeg) (AI 3 0 (x4 + (2 : Int32)).toNatClampNeg) (AI 3 0 (x4 + (3 : Int32)).toNatClampNeg)).bind fun r57 =>
      oCost r57.2 <|
      gd (vp_in (x4 + (1 : Int32)) (r57.1.2.2.2.2.2.1 3 0)) <|
      gd (vp_in (x4 + (2 : Int32)) (r57.1.2.2.2.2.2.1 3 0)) <|
      gd (vp_in (x4 + (3 : Int32)) (r57.1.2.2.2.2.2.1 3 0)) <|
      gd (ohShM r57.1.2.2.1 r57.1.2.2.2.2.2.1) <|
      (mX4_singer r57.1.2.1 r57.1.2.2.1 AI r57.1.2.2.2.2.2.1 (AI 3 0 (x4 + (1 : Int32)).toNatClampNeg) (AI 3 0 (x4 + (2 : Int32)).toNatClampNeg) (AI 3 0 (x4 + (3 : Int32)).toNatClampNeg)).bind fun r62 =>
      (if r57.1.1 = r62.1 then
      some (.inl (x4 + (6 : Int32), r62.2.1, FL, r57.1.2.2.1, r57.1.2.2.2.1, r62.2.2, AL, r57.1.2.2.2.2.1, r57.1.2.2.2.2.2.1, r57.1.2.2.2.2.2.2), (0, 0))
    else
      some (.inr (.inr (.inr (.inr (.inr (.inr (.inl (r62.2.1, FL, r57.1.2.2.1, r57.1.2.2.2.1, r62.2.2, AL, r57.1.2.2.2.2.1, r57.1.2.2.2.2.2.1, r57.1.2.2.2.2.2.2))))))), (0, 0)))
  else
  if ((AI 3 0 x4.toNatClampNeg) &&& (31 : Int32)) = (5 : Int32) then
    gd (vp_in (x4 + (1 : Int32)) (AN 3 0)) <|
      gd (vp_in (x4 + (2 : Int32)) (AN 3 0)) <|
      gd (vp_in (x4 + (3 : Int32)) (AN 3 0)) <|
      gd (ohShH FR AR AN) <|
      (mX1_players FI FR AI AN (AI 3 0 (x4 + (1 : Int32)).toNatClampNeg) (AI 3 0 (x4 + (2 : Int32)).toNatClampNeg) (AI 3 0 (x4 + (3 : Int32)).toNatClampNeg)).bind fun r69 =>
      gd (vp_in (x4 + (1 : Int32)) (AN 3 0)) <|
      gd (vp_in (x4 + (2 : Int32)) (AN 3 0)) <|
      gd (vp_in (x4 + (3 : Int32)) (AN 3 0)) <|
      gd (ohShM FR AN) <|
      (mX4_players r69.2.1 FR r69.2.2 AN (r69.2.2 3 0 (x4 + (1 : Int32)).toNatClampNeg) (r69.2.2 3 0 (x4 + (2 : Int32)).toNatClampNeg) (r69.2.2 3 0 (x4 + (3 : Int32)).toNatClampNeg)).bind fun r74 =>
      (if r69.1 = r74.1 then
      some (.inl (x4 + (6 : Int32), r74.2.1, FL, FR, GR, r74.2.2, AL, BR, AN, C), (0, 0))
    else
      some (.inr (.inr (.inr (.inr (.inr (.inr (.inr (.inl (r74.2.1, FL, FR, GR, r74.2.2, AL, BR, AN, C)))))))), (0, 0)))
  else
  if ((AI 3 0 x4.toNatClampNeg) &&& (31 : Int32)) = (6 : Int32) then
    gd (vp_in (x4 + (1 : Int32)) (AN 3 0)) <|
      gd (vp_in (x4 + (2 : Int32)) (AN 3 0)) <|
      (mX1_chorus FI (AI 3 0 (x4 + (1 : Int32)).toNatClampNeg) (AI 3 0 (x4 + (2 : Int32)).toNatClampNeg)).bind fun r79 =>
      gd (vp_in (x4 + (1 : Int32)) (AN 3 0)) <|
      gd (vp_in (x4 + (2 : Int32)) (AN 3 0)) <|
      (mX4_chorus r79.2 (AI 3 0 (x4 + (1 : Int32)).toNatClampNeg) (AI 3 0 (x4 + (2 : Int32)).toNatClampNeg)).bind fun r82 =>
      (if r79.1 = r82.1 then
      some (.inl (x4 + (6 : Int32), r82.2, FL, FR, GR, AI, AL, BR, AN, C), (0, 0))
    else
      some (.inr (.inr (.inr (.inr (.inr (.inr (.inr (.inr (.inl (r82.2, FL, FR, GR, AI, AL, BR, AN, C))))))))), (0, 0)))
  else
  if ((AI 3 0 x4.toNatClampNeg) &&& (31 : Int32)) = (7 : Int32) then
    gd (vp_in (x4 + (1 : Int32)) (AN 3 0)) <|
      (mX1_contract n FI FR GR AI AR BR AN C (AI 3 0 (x4 + (1 : Int32)).toNatClampNeg)).bind fun r86 =>
      oCost r86.2 <|
      gd (vp_in (x4 + (1 : Int32)) (r86.1.2.2.2.2.2.2.1 3 0)) <|
      gd (ohShM r86.1.2.2.1 r86.1.2.2.2.2.2.2.1) <|
      (mX4_contract n r86.1.2.1 FL r86.1.2.2.1 r86.1.2.2.2.2.1 r86.1.2.2.2.2.2.2.1 (r86.1.2.2.2.2.1 3 0 (x4 + (1 : Int32)).toNatClampNeg)).bind fun r89 =>
      (if r86.1.1 = r89.1 then
      some (.inl (x4 + (6 : Int32), r89.2.1, r89.2.2.1, r86.1.2.2.1, r86.1.2.2.2.1, r89.2.2.2, AL, r86.1.2.2.2.2.2.1, r86.1.2.2.2.2.2.2.1, r86.1.2.2.2.2.2.2.2), (0, 0))
    else
      some (.inr (.inr (.inr (.inr (.inr (.inr (.inr (.inr (.inr (.inl (r89.2.1, r89.2.2.1, r86.1.2.2.1, r86.1.2.2.2.1, r89.2.2.2, AL, r86.1.2.2.2.2.2.1, r86.1.2.2.2.2.2.2.1, r86.1.2.2.2.2.2.2.2)))))))))), (0, 0)))
  else
  if ((AI 3 0 x4.toNatClampNeg) &&& (31 : Int32)) = (8 : Int32) then
    (mX1_fault FI).bind fun r92 =>
      (mX4_fault FI).bind fun r93 =>
      (if r92 = r93.1 then
      some (.inl (x4 + (6 : Int32), r93.2, FL, FR, GR, AI, AL, BR, AN, C), (0, 0))
    else
      some (.inr (.inr (.inr (.inr (.inr (.inr (.inr (.inr (.inr (.inr (.inl (r93.2, FL, FR, GR, AI, AL, BR, AN, C))))))))))), (0, 0)))
  else
  if ((AI 3 0 x4.toNatClampNeg) &&& (31 : Int32)) = (9 : Int32) then
    gd (vp_in (x4 + (1 : Int32)) (AN 3 0)) <|
      gd (vp_in (x4 + (2 : Int32)) (AN 3 0)) <|
      gd (vp_in (x4 + (3 : Int32)) (AN 3 0)) <|
      gd (vp_in (x4 + (4 : Int32)) (AN 3 0)) <|
      (mX1_learn FI FR GR AR BR AN C (AI 3 0 (x4 + (1 : Int32)).toNatClampNeg) (AI 3 0 (x4 + (2 : Int32)).toNatClampNeg) (AI 3 0 (x4 + (3 : Int32)).toNatClampNeg) (AI 3 0 (x4 + (4 : Int32)).toNatClampNeg)).bind fun r100 =>
      oCost r100.2 <|
      gd (vp_in (x4 + (1 : Int32)) (r100.1.2.2.2.2.1 3 0)) <|
      gd (vp_in (x4 + (2 : Int32)) (r100.1.2.2.2.2.1 3 0)) <|
      gd (vp_in (x4 + (3 : Int32)) (r100.1.2.2.2.2.1 3 0)) <|
      gd (vp_in (x4 + (4 : Int32)) (r100.1.2.2.2.2.1 3 0)) <|
      gd (ohShM FR r100.1.2.2.2.2.1) <|
      (mX4_learn r100.1.2.1 FR AI r100.1.2.2.2.2.1 (AI 3 0 (x4 + (1 : Int32)).toNatClampNeg) (AI 3 0 (x4 + (2 : Int32)).toNatClampNeg) (AI 3 0 (x4 + (3 : Int32)).toNatClampNeg) (AI 3 0 (x4 + (4 : Int32)).toNatClampNeg)).bind fun r106 =>
      (if r100.1.1 = r106.1 then
      some (.inl (x4 + (6 : Int32), r106.2.1, FL, FR, r100.1.2.2.1, r106.2.2, AL, r100.1.2.2.2.1, r100.1.2.2.2.2.1, r100.1.2.2.2.2.2), (0, 0))
    else
      some (.inr (.inr (.inr (.inr (.inr (.inr (.inr (.inr (.inr (.inr (.inr (.inl (r106.2.1, FL, FR, r100.1.2.2.1, r106.2.2, AL, r100.1.2.2.2.1, r100.1.2.2.2.2.1, r100.1.2.2.2.2.2)))))))))))), (0, 0)))
  else
  if ((AI 3 0 x4.toNatClampNeg) &&& (31 : Int32)) = (10 : Int32) then
    gd (vp_in (x4 + (1 : Int32)) (AN 3 0)) <|
      gd (vp_in (x4 + (2 : Int32)) (AN 3 0)) <|
      gd (vp_in (x4 + (3 : Int32)) (AN 3 0)) <|
      gd (vp_in (x4 + (4 : Int32)) (AN 3 0)) <|
      gd (vp_in (x4 + (5 : Int32)) (AN 3 0)) <|
      (mX1_call FI FR GR AR BR AN C (AI 3 0 (x4 + (1 : Int32)).toNatClampNeg) (AI 3 0 (x4 + (2 : Int32)).toNatClampNeg) (AI 3 0 (x4 + (3 : Int32)).toNatClampNeg) (AI 3 0 (x4 + (4 : Int32)).toNatClampNeg) (AI 3 0 (x4 + (5 : Int32)).toNatClampNeg)).bind fun r114 =>
      oCost r114.2 <|
      gd (vp_in (x4 + (1 : Int32)) (r114.1.2.2.2.2.2.1 3 0)) <|
      gd (vp_in (x4 + (2 : Int32)) (r114.1.2.2.2.2.2.1 3 0)) <|
      gd (vp_in (x4 + (3 : Int32)) (r114.1.2.2.2.2.2.1 3 0)) <|
      gd (vp_in (x4 + (4 : Int32)) (r114.1.2.2.2.2.2.1 3 0)) <|
      gd (vp_in (x4 + (5 : Int32)) (r114.1.2.2.2.2.2.1 3 0)) <|
      gd (ohShM r114.1.2.2.1 r114.1.2.2.2.2.2.1) <|
      (mX4_call r114.1.2.1 r114.1.2.2.1 AI r114.1.2.2.2.2.2.1 (AI 3 0 (x4 + (1 : Int32)).toNatClampNeg) (AI 3 0 (x4 + (2 : Int32)).toNatClampNeg) (AI 3 0 (x4 + (3 : Int32)).toNatClampNeg) (AI 3 0 (x4 + (4 : Int32)).toNatClampNeg) (AI 3 0 (x4 + (5 : Int32)).toNatClampNeg)).bind fun r121 =>
      (if r114.1.1 = r121.1 then
      some (.inl (x4 + (6 : Int32), r121.2.1, FL, r114.1.2.2.1, r114.1.2.2.2.1, r121.2.2, AL, r114.1.2.2.2.2.1, r114.1.2.2.2.2.2.1, r114.1.2.2.2.2.2.2), (0, 0))
    else
      some (.inr (.inr (.inr (.inr (.inr (.inr (.inr (.inr (.inr (.inr (.inr (.inr (.inl (r121.2.1, FL, r114.1.2.2.1, r114.1.2.2.2.1, r121.2.2, AL, r114.1.2.2.2.2.1, r114.1.2.2.2.2.2.1, r114.1.2.2.2.2.2.2))))))))))))), (0, 0)))
  else
  if ((AI 3 0 x4.toNatClampNeg) &&& (31 : Int32)) = (11 : Int32) then
    gd (vp_in (x4 + (1 : Int32)) (AN 3 0)) <|
      gd (vp_in (x4 + (2 : Int32)) (AN 3 0)) <|
      gd (vp_in (x4 + (3 : Int32)) (AN 3 0)) <|
      gd (vp_in (x4 + (4 : Int32)) (AN 3 0)) <|
      (if (AI 3 0 (x4 + (4 : Int32)).toNatClampNeg) = 0 then
      mL_law_j708 n FI FL FR GR AI AL AR BR AN C x4 (AI 3 0 (x4 + (1 : Int32)).toNatClampNeg) (AI 3 0 (x4 + (2 : Int32)).toNatClampNeg) (AI 3 0 (x4 + (3 : Int32)).toNatClampNeg) (0 : Int32)
    else
      mL_law_j708 n FI FL FR GR AI AL AR BR AN C x4 (AI 3 0 (x4 + (1 : Int32)).toNatClampNeg) (AI 3 0 (x4 + (2 : Int32)).toNatClampNeg) (AI 3 0 (x4 + (3 : Int32)).toNatClampNeg) (1 : Int32))
  else
  if ((AI 3 0 x4.toNatClampNeg) &&& (31 : Int32)) = (12 : Int32) then
    gd (vp_in (x4 + (1 : Int32)) (AN 3 0)) <|
      gd (vp_in (x4 + (2 : Int32)) (AN 3 0)) <|
      gd (vp_in (x4 + (3 : Int32)) (AN 3 0)) <|
      (mX1_ill FI FR GR AR BR AN C (AI 3 0 (x4 + (1 : Int32)).toNatClampNeg) (AI 3 0 (x4 + (2 : Int32)).toNatClampNeg) (AI 3 0 (x4 + (3 : Int32)).toNatClampNeg)).bind fun r142 =>
      oCost r142.2 <|
      gd (vp_in (x4 + (1 : Int32)) (r142.1.2.2.2.2.1 3 0)) <|
      gd (vp_in (x4 + (2 : Int32)) (r142.1.2.2.2.2.1 3 0)) <|
      gd (vp_in (x4 + (3 : Int32)) (r142.1.2.2.2.2.1 3 0)) <|
      gd (ohShM FR r142.1.2.2.2.2.1) <|
      (mX4_ill r142.1.2.1 FR AI r142.1.2.2.2.2.1 (AI 3 0 (x4 + (1 : Int32)).toNatClampNeg) (AI 3 0 (x4 + (2 : Int32)).toNatClampNeg) (AI 3 0 (x4 + (3 : Int32)).toNatClampNeg)).bind fun r147 =>
      (if r142.1.1 = r147.1 then
      some (.inl (x4 + (6 : Int32), r147.2.1, FL, FR, r142.1.2.2.1, r147.2.2, AL, r142.1.2.2.2.1, r142.1.2.2.2.2.1, r142.1.2.2.2.2.2), (0, 0))
    else
      some (.inr (.inr (.inr (.inr (.inr (.inr (.inr (.inr (.inr (.inr (.inr (.inr (.inr (.inr (.inl (r147.2.1, FL, FR, r142.1.2.2.1, r147.2.2, AL, r142.1.2.2.2.1, r142.1.2.2.2.2.1, r142.1.2.2.2.2.2))))))))))))))), (0, 0)))
  else
  if ((AI 3 0 x4.toNatClampNeg) &&& (31 : Int32)) = (13 : Int32) then
    gd (vp_in (x4 + (1 : Int32)) (AN 3 0)) <|
      gd (vp_in (x4 + (2 : Int32)) (AN 3 0)) <|
      gd (vp_in (x4 + (3 : Int32)) (AN 3 0)) <|
      (if (AI 3 0 (x4 + (3 : Int32)).toNatClampNeg) = 0 then
      mL_law_j828 n FI FL FR GR AI AL AR BR AN C x4 (AI 3 0 (x4 + (1 : Int32)).toNatClampNeg) (AI 3 0 (x4 + (2 : Int32)).toNatClampNeg) (0 : Int32)
    else
      mL_law_j828 n FI FL FR GR AI AL AR BR AN C x4 (AI 3 0 (x4 + (1 : Int32)).toNatClampNeg) (AI 3 0 (x4 + (2 : Int32)).toNatClampNeg) (1 : Int32))
  else
  if ((AI 3 0 x4.toNatClampNeg) &&& (31 : Int32)) = (14 : Int32) then
    gd (vp_in (x4 + (1 : Int32)) (AN 3 0)) <|
      (mX1_wrong n FI FR GR AI AR BR AN C (AI 3 0 (x4 + (1 : Int32)).toNatClampNeg)).bind fun r167 =>
      oCost r167.2 <|
      gd (vp_in (x4 + (1 : Int32)) (r167.1.2.2.2.2.2.1 3 0)) <|
      gd (ohShM FR r167.1.2.2.2.2.2.1) <|
      (mX4_wrong n r167.1.2.1 FR r167.1.2.2.2.1 r167.1.2.2.2.2.2.1 (r167.1.2.2.2.1 3 0 (x4 + (1 : Int32)).toNatClampNeg)).bind fun r170 =>
      (if r167.1.1 = r170.1 then
      some (.inl (x4 + (6 : Int32), r170.2.1, FL, FR, r167.1.2.2.1, r170.2.2, AL, r167.1.2.2.2.2.1, r167.1.2.2.2.2.2.1, r167.1.2.2.2.2.2.2), (0, 0))
    else
      some (.inr (.inr (.inr (.inr (.inr (.inr (.inr (.inr (.inr (.inr (.inr (.inr (.inr (.inr (.inr (.inr (.inl (r170.2.1, FL, FR, r167.1.2.2.1, r170.2.2, AL, r167.1.2.2.2.2.1, r167.1.2.2.2.2.2.1, r167.1.2.2.2.2.2.2))))))))))))))))), (0, 0)))
  else
  if ((AI 3 0 x4.toNatClampNeg) &&& (31 : Int32)) = (15 : Int32) then
    gd (vp_in (x4 + (1 : Int32)) (AN 3 0)) <|
      gd (vp_in (x4 + (2 : Int32)) (AN 3 0)) <|
      (mX0_told FR GR AI AL AR AN C (AI 3 0 (x4 + (1 : Int32)).toNatClampNeg) (AI 3 0 (x4 + (2 : Int32)).toNatClampNeg)).bind fun r175 =>
      oCost r175.2 <|
      gd (vp_in (x4 + (1 : Int32)) (AN 3 0)) <|
      gd (vp_in (x4 + (2 : Int32)) (AN 3 0)) <|
      gd (ohShM FR AN) <|
      (mX4_told FI FR AI AN (AI 3 0 (x4 + (1 : Int32)).toNatClampNeg) (AI 3 0 (x4 + (2 : Int32)).toNatClampNeg)).bind fun r179 =>
      (mX4_thrown r179.2).bind fun r180 =>
      (if r180 = r175.1.1 then
      (if r175.1.1 = 0 then
        gd (vp_in (0 : Int32) (AN 2 0)) <|
          (if (lg_cmp (r175.1.2.2.1 2 0 (0 : Int32).toNatClampNeg) r179.1.toInt64) = 0 then
          some (.inl (x4 + (6 : Int32), r179.2, FL, FR, r175.1.2.1, AI, r175.1.2.2.1, BR, AN, r175.1.2.2.2), (0, 0))
        else
          some (.inr (.inr (.inr (.inr (.inr (.inr (.inr (.inr (.inr (.inr (.inr (.inr (.inr (.inr (.inr (.inr (.inr (.inr (.inl (r179.2, FL, FR, r175.1.2.1, AI, r175.1.2.2.1, BR, AN, r175.1.2.2.2))))))))))))))))))), (0, 0)))
      else
        some (.inl (x4 + (6 : Int32), r179.2, FL, FR, r175.1.2.1, AI, r175.1.2.2.1, BR, AN, r175.1.2.2.2), (0, 0)))
    else
      some (.inr (.inr (.inr (.inr (.inr (.inr (.inr (.inr (.inr (.inr (.inr (.inr (.inr (.inr (.inr (.inr (.inr (.inl (r179.2, FL, FR, r175.1.2.1, AI, r175.1.2.2.1, BR, AN, r175.1.2.2.2)))))))))))))))))), (0, 0)))
  else
  if ((AI 3 0 x4.toNatClampNeg) &&& (31 : Int32)) = (16 : Int32) then
    gd (vp_in (x4 + (1 : Int32)) (AN 3 0)) <|
      gd (vp_in (x4 + (2 : Int32)) (AN 3 0)) <|
      gd (vp_in (x4 + (3 : Int32)) (AN 3 0)) <|
      gd (vp_in (x4 + (4 : Int32)) (AN 3 0)) <|
      gd (ohShH FR AR AN) <|
      (mX1_learned n FI FR GR AI AR BR AN (AI 3 0 (x4 + (1 : Int32)).toNatClampNeg) (AI 3 0 (x4 + (2 : Int32)).toNatClampNeg) (AI 3 0 (x4 + (3 : Int32)).toNatClampNeg) (AI 3 0 (x4 + (4 : Int32)).toNatClampNeg)).bind fun r191 =>
      gd (vp_in (x4 + (1 : Int32)) (AN 3 0)) <|
      gd (vp_in (x4 + (2 : Int32)) (AN 3 0)) <|
      gd (vp_in (x4 + (3 : Int32)) (AN 3 0)) <|
      gd (vp_in (x4 + (4 : Int32)) (AN 3 0)) <|
      gd (ohShM FR AN) <|
      (mX4_learned n r191.2.1 FR r191.2.2.1 AN (r191.2.2.1 3 0 (x4 + (1 : Int32)).toNatClampNeg) (r191.2.2.1 3 0 (x4 + (2 : Int32)).toNatClampNeg) (r191.2.2.1 3 0 (x4 + (3 : Int32)).toNatClampNeg) (r191.2.2.1 3 0 (x4 + (4 : Int32)).toNatClampNeg)).bind fun r197 =>
      (if r191.1 = r197.1 then
      some (.inl (x4 + (6 : Int32), r197.2.1, FL, FR, GR, r197.2.2, AL, r191.2.2.2, AN, C), (0, 0))
    else
      some (.inr (.inr (.inr (.inr (.inr (.inr (.inr (.inr (.inr (.inr (.inr (.inr (.inr (.inr (.inr (.inr (.inr (.inr (.inr (.inl (r197.2.1, FL, FR, GR, r197.2.2, AL, r191.2.2.2, AN, C)))))))))))))))))))), (0, 0)))
  else
  if ((AI 3 0 x4.toNatClampNeg) &&& (31 : Int32)) = (17 : Int32) then
    gd (vp_in (x4 + (1 : Int32)) (AN 3 0)) <|
      gd (vp_in (x4 + (2 : Int32)) (AN 3 0)) <|
      gd (vp_in (x4 + (3 : Int32)) (AN 3 0)) <|
      gd (ohShH FR AR AN) <|
      (mX1_tired n FI FR GR AI AR BR AN (AI 3 0 (x4 + (1 : Int32)).toNatClampNeg) (AI 3 0 (x4 + (2 : Int32)).toNatClampNeg) (AI 3 0 (x4 + (3 : Int32)).toNatClampNeg)).bind fun r204 =>
      gd (vp_in (x4 + (1 : Int32)) (AN 3 0)) <|
      gd (vp_in (x4 + (2 : Int32)) (AN 3 0)) <|
      gd (vp_in (x4 + (3 : Int32)) (AN 3 0)) <|
      gd (ohShM FR AN) <|
      (mX4_tired n r204.2.1 FR r204.2.2.1 AN (r204.2.2.1 3 0 (x4 + (1 : Int32)).toNatClampNeg) (r204.2.2.1 3 0 (x4 + (2 : Int32)).toNatClampNeg) (r204.2.2.1 3 0 (x4 + (3 : Int32)).toNatClampNeg)).bind fun r209 =>
      (if r204.1 = r209.1 then
      some (.inl (x4 + (6 : Int32), r209.2.1, FL, FR, GR, r209.2.2, AL, r204.2.2.2, AN, C), (0, 0))
    else
      some (.inr (.inr (.inr (.inr (.inr (.inr (.inr (.inr (.inr (.inr (.inr (.inr (.inr (.inr (.inr (.inr (.inr (.inr (.inr (.inr (.inl (r209.2.1, FL, FR, GR, r209.2.2, AL, r204.2.2.2, AN, C))))))))))))))))))))), (0, 0)))
  else
  if ((AI 3 0 x4.toNatClampNeg) &&& (31 : Int32)) = (18 : Int32) then
    gd (vp_in (x4 + (1 : Int32)) (AN 3 0)) <|
      gd (vp_in (x4 + (2 : Int32)) (AN 3 0)) <|
      gd (vp_in (x4 + (3 : Int32)) (AN 3 0)) <|
      gd (ohShH FR AR AN) <|
      (mX1_fee n FI FR GR AI AR BR AN (AI 3 0 (x4 + (1 : Int32)).toNatClampNeg) (AI 3 0 (x4 + (2 : Int32)).toNatClampNeg) (AI 3 0 (x4 + (3 : Int32)).toNatClampNeg)).bind fun r216 =>
      gd (vp_in (x4 + (1 : Int32)) (AN 3 0)) <|
      gd (vp_in (x4 + (2 : Int32)) (AN 3 0)) <|
      gd (vp_in (x4 + (3 : Int32)) (AN 3 0)) <|
      gd (ohShM FR AN) <|
      (mX4_fee_2 n r216.2.1 FR r216.2.2.1 AN (r216.2.2.1 3 0 (x4 + (1 : Int32)).toNatClampNeg) (r216.2.2.1 3 0 (x4 + (2 : Int32)).toNatClampNeg) (r216.2.2.1 3 0 (x4 + (3 : Int32)).toNatClampNeg)).bind fun r221 =>
      (if r216.1 = r221.1 then
      some (.inl (x4 + (6 : Int32), r221.2.1, FL, FR, GR, r221.2.2, AL, r216.2.2.2, AN, C), (0, 0))
    else
      some (.inr (.inr (.inr (.inr (.inr (.inr (.inr (.inr (.inr (.inr (.inr (.inr (.inr (.inr (.inr (.inr (.inr (.inr (.inr (.inr (.inr (.inl (r221.2.1, FL, FR, GR, r221.2.2, AL, r216.2.2.2, AN, C)))))))))))))))))))))), (0, 0)))
  else
  if ((AI 3 0 x4.toNatClampNeg) &&& (31 : Int32)) = (19 : Int32) then
    gd (vp_in (x4 + (1 : Int32)) (AN 3 0)) <|
      gd (vp_in (x4 + (2 : Int32)) (AN 3 0)) <|
      gd (vp_in (x4 + (3 : Int32)) (AN 3 0)) <|
      gd (ohShH FR AR AN) <|
      (mX1_pay n FI FR GR AI AR BR AN (AI 3 0 (x4 + (1 : Int32)).toNatClampNeg) (AI 3 0 (x4 + (2 : Int32)).toNatClampNeg) (AI 3 0 (x4 + (3 : Int32)).toNatClampNeg)).bind fun r228 =>
      gd (vp_in (x4 + (1 : Int32)) (AN 3 0)) <|
      gd (vp_in (x4 + (2 : Int32)) (AN 3 0)) <|
      gd (vp_in (x4 + (3 : Int32)) (AN 3 0)) <|
      gd (ohShM FR AN) <|
      (mX4_pay n r228.2.1 FR r228.2.2.1 AN (r228.2.2.1 3 0 (x4 + (1 : Int32)).toNatClampNeg) (r228.2.2.1 3 0 (x4 + (2 : Int32)).toNatClampNeg) (r228.2.2.1 3 0 (x4 + (3 : Int32)).toNatClampNeg)).bind fun r233 =>
      (if r228.1 = r233.1 then
      some (.inl (x4 + (6 : Int32), r233.2.1, FL, FR, GR, r233.2.2, AL, r228.2.2.2, AN, C), (0, 0))
    else
      some (.inr (.inr (.inr (.inr (.inr (.inr (.inr (.inr (.inr (.inr (.inr (.inr (.inr (.inr (.inr (.inr (.inr (.inr (.inr (.inr (.inr (.inr (.inl (r233.2.1, FL, FR, GR, r233.2.2, AL, r228.2.2.2, AN, C))))))))))))))))))))))), (0, 0)))
  else
  if ((AI 3 0 x4.toNatClampNeg) &&& (31 : Int32)) = (20 : Int32) then
    gd (vp_in (x4 + (1 : Int32)) (AN 3 0)) <|
      gd (vp_in (x4 + (2 : Int32)) (AN 3 0)) <|
      gd (ohShH FR AR AN) <|
      (mX1_moves n FI FR AI AR BR AN (AI 3 0 (x4 + (1 : Int32)).toNatClampNeg) (AI 3 0 (x4 + (2 : Int32)).toNatClampNeg)).bind fun r239 =>
      gd (vp_in (x4 + (1 : Int32)) (AN 3 0)) <|
      gd (vp_in (x4 + (2 : Int32)) (AN 3 0)) <|
      gd (ohShM FR AN) <|
      (mX4_moves n FI FR r239.2 AN (r239.2 3 0 (x4 + (1 : Int32)).toNatClampNeg) (r239.2 3 0 (x4 + (2 : Int32)).toNatClampNeg)).bind fun r243 =>
      (if r239.1 = r243.1 then
      some (.inl (x4 + (6 : Int32), r243.2.1, FL, FR, GR, r243.2.2, AL, BR, AN, C), (0, 0))
    else
      some (.inr (.inr (.inr (.inr (.inr (.inr (.inr (.inr (.inr (.inr (.inr (.inr (.inr (.inr (.inr (.inr (.inr (.inr (.inr (.inr (.inr (.inr (.inr (.inl (r243.2.1, FL, FR, GR, r243.2.2, AL, BR, AN, C)))))))))))))))))))))))), (0, 0)))
  else
  if ((AI 3 0 x4.toNatClampNeg) &&& (31 : Int32)) = (21 : Int32) then
    gd (vp_in (x4 + (1 : Int32)) (AN 3 0)) <|
      gd (vp_in (x4 + (2 : Int32)) (AN 3 0)) <|
      gd (vp_in (x4 + (3 : Int32)) (AN 3 0)) <|
      gd (ohShH FR AR AN) <|
      (mX1_may n FI FR GR AI AR BR AN (AI 3 0 (x4 + (1 : Int32)).toNatClampNeg) (AI 3 0 (x4 + (2 : Int32)).toNatClampNeg) (AI 3 0 (x4 + (3 : Int32)).toNatClampNeg)).bind fun r250 =>
      gd (vp_in (x4 + (1 : Int32)) (AN 3 0)) <|
      gd (vp_in (x4 + (2 : Int32)) (AN 3 0)) <|
      gd (vp_in (x4 + (3 : Int32)) (AN 3 0)) <|
      gd (ohShM FR AN) <|
      (mX4_may n r250.2.1 FR r250.2.2.1 AN (r250.2.2.1 3 0 (x4 + (1 : Int32)).toNatClampNeg) (r250.2.2.1 3 0 (x4 + (2 : Int32)).toNatClampNeg) (r250.2.2.1 3 0 (x4 + (3 : Int32)).toNatClampNeg)).bind fun r255 =>
      (if r250.1 = r255.1 then
      some (.inl (x4 + (6 : Int32), r255.2.1, FL, FR, GR, r255.2.2, AL, r250.2.2.2, AN, C), (0, 0))
    else
      some (.inr (.inr (.inr (.inr (.inr (.inr (.inr (.inr (.inr (.inr (.inr (.inr (.inr (.inr (.inr (.inr (.inr (.inr (.inr (.inr (.inr (.inr (.inr (.inr (.inl (r255.2.1, FL, FR, GR, r255.2.2, AL, r250.2.2.2, AN, C))))))))))))))))))))))))), (0, 0)))
  else
  if ((AI 3 0 x4.toNatClampNeg) &&& (31 : Int32)) = (22 : Int32) then
    gd (vp_in (x4 + (1 : Int32)) (AN 3 0)) <|
      gd (vp_in (x4 + (2 : Int32)) (AN 3 0)) <|
      gd (vp_in (x4 + (3 : Int32)) (AN 3 0)) <|
      gd (ohShH FR AR AN) <|
      (mX1_harm n FI FR GR AI AR BR AN (AI 3 0 (x4 + (1 : Int32)).toNatClampNeg) (AI 3 0 (x4 + (2 : Int32)).toNatClampNeg) (AI 3 0 (x4 + (3 : Int32)).toNatClampNeg)).bind fun r262 =>
      gd (vp_in (x4 + (1 : Int32)) (AN 3 0)) <|
      gd (vp_in (x4 + (2 : Int32)) (AN 3 0)) <|
      gd (vp_in (x4 + (3 : Int32)) (AN 3 0)) <|
      gd (ohShM FR AN) <|
      (mX4_harm n r262.2.1 FR r262.2.2.1 AN (r262.2.2.1 3 0 (x4 + (1 : Int32)).toNatClampNeg) (r262.2.2.1 3 0 (x4 + (2 : Int32)).toNatClampNeg) (r262.2.2.1 3 0 (x4 + (3 : Int32)).toNatClampNeg)).bind fun r267 =>
      (if r262.1 = r267.1 then
      some (.inl (x4 + (6 : Int32), r267.2.1, FL, FR, GR, r267.2.2, AL, r262.2.2.2, AN, C), (0, 0))
    else
      some (.inr (.inr (.inr (.inr (.inr (.inr (.inr (.inr (.inr (.inr (.inr (.inr (.inr (.inr (.inr (.inr (.inr (.inr (.inr (.inr (.inr (.inr (.inr (.inr (.inr (.inl (r267.2.1, FL, FR, GR, r267.2.2, AL, r262.2.2.2, AN, C)))))))))))))))))))))))))), (0, 0)))
  else
  if ((AI 3 0 x4.toNatClampNeg) &&& (31 : Int32)) = (23 : Int32) then
    gd (vp_in (x4 + (1 : Int32)) (AN 3 0)) <|
      gd (vp_in (x4 + (2 : Int32)) (AN 3 0)) <|
      gd (ohShH FR AR AN) <|
      (mX1_instead n FI FR GR AI AR BR AN (AI 3 0 (x4 + (1 : Int32)).toNatClampNeg) (AI 3 0 (x4 + (2 : Int32)).toNatClampNeg)).bind fun r273 =>
      gd (vp_in (x4 + (1 : Int32)) (AN 3 0)) <|
      gd (vp_in (x4 + (2 : Int32)) (AN 3 0)) <|
      gd (ohShM FR AN) <|
      (mX4_instead n r273.2.1 FR r273.2.2.1 AN (r273.2.2.1 3 0 (x4 + (1 : Int32)).toNatClampNeg) (r273.2.2.1 3 0 (x4 + (2 : Int32)).toNatClampNeg)).bind fun r277 =>
      (if r273.1 = r277.1 then
      some (.inl (x4 + (6 : Int32), r277.2.1, FL, FR, GR, r277.2.2, AL, r273.2.2.2, AN, C), (0, 0))
    else
      some (.inr (.inr (.inr (.inr (.inr (.inr (.inr (.inr (.inr (.inr (.inr (.inr (.inr (.inr (.inr (.inr (.inr (.inr (.inr (.inr (.inr (.inr (.inr (.inr (.inr (.inr (.inl (r277.2.1, FL, FR, GR, r277.2.2, AL, r273.2.2.2, AN, C))))))))))))))))))))))))))), (0, 0)))
  else
  if ((AI 3 0 x4.toNatClampNeg) &&& (31 : Int32)) = (24 : Int32) then
    gd (vp_in (x4 + (1 : Int32)) (AN 3 0)) <|
      gd (vp_in (x4 + (2 : Int32)) (AN 3 0)) <|
      gd (vp_in (x4 + (3 : Int32)) (AN 3 0)) <|
      (mX1_lay n FI FR GR AI AR BR AN C (AI 3 0 (x4 + (1 : Int32)).toNatClampNeg) (AI 3 0 (x4 + (2 : Int32)).toNatClampNeg) (AI 3 0 (x4 + (3 : Int32)).toNatClampNeg)).bind fun r283 =>
      oCost r283.2 <|
      gd (vp_in (x4 + (1 : Int32)) (AN 3 0)) <|
      gd (vp_in (x4 + (2 : Int32)) (AN 3 0)) <|
      gd (vp_in (x4 + (3 : Int32)) (AN 3 0)) <|
      gd (ohShM r283.1.2.2.1 AN) <|
      (mX4_lay n r283.1.2.1 r283.1.2.2.1 r283.1.2.2.2.1 AN (r283.1.2.2.2.1 3 0 (x4 + (1 : Int32)).toNatClampNeg) (r283.1.2.2.2.1 3 0 (x4 + (2 : Int32)).toNatClampNeg) (r283.1.2.2.2.1 3 0 (x4 + (3 : Int32)).toNatClampNeg)).bind fun r288 =>
      (if r283.1.1 = r288.1 then
      some (.inl (x4 + (6 : Int32), r288.2.1, FL, r283.1.2.2.1, GR, r288.2.2, AL, r283.1.2.2.2.2.1, AN, r283.1.2.2.2.2.2), (0, 0))
    else
      some (.inr (.inr (.inr (.inr (.inr (.inr (.inr (.inr (.inr (.inr (.inr (.inr (.inr (.inr (.inr (.inr (.inr (.inr (.inr (.inr (.inr (.inr (.inr (.inr (.inr (.inr (.inr (.inl (r288.2.1, FL, r283.1.2.2.1, GR, r288.2.2, AL, r283.1.2.2.2.2.1, AN, r283.1.2.2.2.2.2)))))))))))))))))))))))))))), (0, 0)))
  else
  if ((AI 3 0 x4.toNatClampNeg) &&& (31 : Int32)) = (25 : Int32) then
    gd (vp_in (x4 + (1 : Int32)) (AN 3 0)) <|
      gd (ohShH FR AR AN) <|
      (mX1_laid FI FR AR BR AN (AI 3 0 (x4 + (1 : Int32)).toNatClampNeg)).bind fun r293 =>
      gd (vp_in (x4 + (1 : Int32)) (AN 3 0)) <|
      gd (ohShM FR AN) <|
      (mX4_laid FI FR AI AN (AI 3 0 (x4 + (1 : Int32)).toNatClampNeg)).bind fun r296 =>
      (if r293 = r296.1 then
      some (.inl (x4 + (6 : Int32), r296.2, FL, FR, GR, AI, AL, BR, AN, C), (0, 0))
    else
      some (.inr (.inr (.inr (.inr (.inr (.inr (.inr (.inr (.inr (.inr (.inr (.inr (.inr (.inr (.inr (.inr (.inr (.inr (.inr (.inr (.inr (.inr (.inr (.inr (.inr (.inr (.inr (.inr (.inl (r296.2, FL, FR, GR, AI, AL, BR, AN, C))))))))))))))))))))))))))))), (0, 0)))
  else
  if ((AI 3 0 x4.toNatClampNeg) &&& (31 : Int32)) = (26 : Int32) then
    (mX1_keep n FI FR GR AI AR BR AN C).bind fun r299 =>
      oCost r299.2 <|
      gd (ohShM FR r299.1.2.2.2.2.2.1) <|
      (mX4_keep n r299.1.2.1 FR r299.1.2.2.2.1 r299.1.2.2.2.2.2.1).bind fun r301 =>
      (if r299.1.1 = r301.1 then
      some (.inl (x4 + (6 : Int32), r301.2.1, FL, FR, r299.1.2.2.1, r301.2.2, AL, r299.1.2.2.2.2.1, r299.1.2.2.2.2.2.1, r299.1.2.2.2.2.2.2), (0, 0))
    else
      some (.inr (.inr (.inr (.inr (.inr (.inr (.inr (.inr (.inr (.inr (.inr (.inr (.inr (.inr (.inr (.inr (.inr (.inr (.inr (.inr (.inr (.inr (.inr (.inr (.inr (.inr (.inr (.inr (.inr (.inl (r301.2.1, FL, FR, r299.1.2.2.1, r301.2.2, AL, r299.1.2.2.2.2.1, r299.1.2.2.2.2.2.1, r299.1.2.2.2.2.2.2)))))))))))))))))))))))))))))), (0, 0)))
  else
  if ((AI 3 0 x4.toNatClampNeg) &&& (31 : Int32)) = (27 : Int32) then
    gd (vp_in (x4 + (1 : Int32)) (AN 3 0)) <|
      gd (ohShH FR AR AN) <|
      (mX1_count FI FR (AI 3 0 (x4 + (1 : Int32)).toNatClampNeg)).bind fun r306 =>
      gd (vp_in (x4 + (1 : Int32)) (AN 3 0)) <|
      (mX4_count FI (AI 3 0 (x4 + (1 : Int32)).toNatClampNeg)).bind fun r308 =>
      (if r306 = r308.1 then
      some (.inl (x4 + (6 : Int32), r308.2, FL, FR, GR, AI, AL, BR, AN, C), (0, 0))
    else
      some (.inr (.inr (.inr (.inr (.inr (.inr (.inr (.inr (.inr (.inr (.inr (.inr (.inr (.inr (.inr (.inr (.inr (.inr (.inr (.inr (.inr (.inr (.inr (.inr (.inr (.inr (.inr (.inr (.inr (.inr (r308.2, FL, FR, GR, AI, AL, BR, AN, C)))))))))))))))))))))))))))))), (0, 0)))
  else
    some (.inl (x4 + (6 : Int32), FI, FL, FR, GR, AI, AL, BR, AN, C), (0, 0))))
theorem x_mL_law_b23 {G : OhG} {FI AI : OhI} {FL AL : OhL} {FR GR AR BR : OhQ} {AN : OhN} {C : OhC} {k : Nat × Nat} {Φ : OhP} {Ψ : OhX} (n : Nat) (x4 : Int32) {r : ((Int32 × OhI × OhL × OhQ × OhQ × OhI × OhL × OhQ × OhN × OhC) ⊕ ((OhI × OhL × OhQ × OhQ × OhI × OhL × OhQ × OhN × OhC) ⊕ ((OhI × OhL × OhQ × OhQ × OhI × OhL × OhQ × OhN × OhC) ⊕ ((OhI × OhL × OhQ × OhQ × OhI × OhL × OhQ × OhN × OhC) ⊕ ((OhI × OhL × OhQ × OhQ × OhI × OhL × OhQ × OhN × OhC) ⊕ ((OhI × OhL × OhQ × OhQ × OhI × OhL × OhQ × OhN × OhC) ⊕ ((OhI × OhL × OhQ × OhQ × OhI × OhL × OhQ × OhN × OhC) ⊕ ((OhI × OhL × OhQ × OhQ × OhI × OhL × OhQ × OhN × OhC) ⊕ ((OhI × OhL × OhQ × OhQ × OhI × OhL × OhQ × OhN × OhC) ⊕ ((OhI × OhL × OhQ × OhQ × OhI × OhL × OhQ × OhN × OhC) ⊕ ((OhI × OhL × OhQ × OhQ × OhI × OhL × OhQ × OhN × OhC) ⊕ ((OhI × OhL × OhQ × OhQ × OhI × OhL × OhQ × OhN × OhC) ⊕ ((OhI × OhL × OhQ × OhQ × OhI × OhL × OhQ × OhN × OhC) ⊕ ((OhI × OhL × OhQ × OhQ × OhI × OhL × OhQ × OhN × OhC) ⊕ ((OhI × OhL × OhQ × OhQ × OhI × OhL × OhQ × OhN × OhC) ⊕ ((OhI × OhL × OhQ × OhQ × OhI × OhL × OhQ × OhN × OhC) ⊕ ((OhI × OhL × OhQ × OhQ × OhI × OhL × OhQ × OhN × OhC) ⊕ ((OhI × OhL × OhQ × OhQ × OhI × OhL × OhQ × OhN × OhC) ⊕ ((OhI × OhL × OhQ × OhQ × OhI × OhL × OhQ × OhN × OhC) ⊕ ((OhI × OhL × OhQ × OhQ × OhI × OhL × OhQ × OhN × OhC) ⊕ ((OhI × OhL × OhQ × OhQ × OhI × OhL × OhQ × OhN × OhC) ⊕ ((OhI × OhL × OhQ × OhQ × OhI × OhL × OhQ × OhN × OhC) ⊕ ((OhI × OhL × OhQ × OhQ × OhI × OhL × OhQ × OhN × OhC) ⊕ ((OhI × OhL × OhQ × OhQ × OhI × OhL × OhQ × OhN × OhC) ⊕ ((OhI × OhL × OhQ × OhQ × OhI × OhL × OhQ × OhN × OhC) ⊕ ((OhI × OhL × OhQ × OhQ × OhI × OhL × OhQ × OhN × OhC) ⊕ ((OhI × OhL × OhQ × OhQ × OhI × OhL × OhQ × OhN × OhC) ⊕ ((OhI × OhL × OhQ × OhQ × OhI × OhL × OhQ × OhN × OhC) ⊕ ((OhI × OhL × OhQ × OhQ × OhI × OhL × OhQ × OhN × OhC) ⊕ ((OhI × OhL × OhQ × OhQ × OhI × OhL × OhQ × OhN × OhC) ⊕ (OhI × OhL × OhQ × OhQ × OhI × OhL × OhQ × OhN × OhC))))))))))))))))))))))))))))))) × (Nat × Nat)} (hm : mL_law_b23 n FI FL FR GR AI AL AR BR AN C x4 = some r) (hk : ∀ v : Int32 × OhI × OhL × OhQ × OhQ × OhI × OhL × OhQ × OhN × OhC, r.1 = .inl v → oX G 106 iL_law 23 [(0, vR (some (3, 0))), (1, vR (some (0, 0))), (2, vR (some (1, 0))), (3, vR (some (2, 0))), (4, vI v.1)] [] (v.2.1, v.2.2.1, v.2.2.2.1, v.2.2.2.2.1, v.2.2.2.2.2.1, v.2.2.2.2.2.2.1, AR, v.2.2.2.2.2.2.2.1, v.2.2.2.2.2.2.2.2.1, v.2.2.2.2.2.2.2.2.2) k Φ Ψ) (hx1 : ∀ v : OhI × OhL × OhQ × OhQ × OhI × OhL × OhQ × OhN × OhC, r.1 = .inr (.inl v) → oX G 106 iL_law 1469 [] [] (v.1, v.2.1, v.2.2.1, v.2.2.2.1, v.2.2.2.2.1, v.2.2.2.2.2.1, AR, v.2.2.2.2.2.2.1, v.2.2.2.2.2.2.2.1, v.2.2.2.2.2.2.2.2) k Φ Ψ) (hx2 : ∀ v : OhI × OhL × OhQ × OhQ × OhI × OhL × OhQ × OhN × OhC, r.1 = .inr (.inr (.inl v)) → oX G 106 iL_law 239 [] [] (v.1, v.2.1, v.2.2.1, v.2.2.2.1, v.2.2.2.2.1, v.2.2.2.2.2.1, AR, v.2.2.2.2.2.2.1, v.2.2.2.2.2.2.2.1, v.2.2.2.2.2.2.2.2) k Φ Ψ) (hx3 : ∀ v : OhI × OhL × OhQ × OhQ × OhI × OhL × OhQ × OhN × OhC, r.1 = .inr (.inr (.inr (.inl v))) → oX G 106 iL_law 264 [] [] (v.1, v.2.1, v.2.2.1, v.2.2.2.1, v.2.2.2.2.1, v.2.2.2.2.2.1, AR, v.2.2.2.2.2.2.1, v.2.2.2.2.2.2.2.1, v.2.2.2.2.2.2.2.2) k Φ Ψ) (hx4 : ∀ v : OhI × OhL × OhQ × OhQ × OhI × OhL × OhQ × OhN × OhC, r.1 = .inr (.inr (.inr (.inr (.inl v)))) → oX G 106 iL_law 289 [] [] (v.1, v.2.1, v.2.2.1, v.2.2.2.1, v.2.2.2.2.1, v.2.2.2.2.2.1, AR, v.2.2.2.2.2.2.1, v.2.2.2.2.2.2.2.1, v.2.2.2.2.2.2.2.2) k Φ Ψ) (hx5 : ∀ v : OhI × OhL × OhQ × OhQ × OhI × OhL × OhQ × OhN × OhC, r.1 = .inr (.inr (.inr (.inr (.inr (.inl v))))) → oX G 106 iL_law 366 [] [] (v.1, v.2.1, v.2.2.1, v.2.2.2.1, v.2.2.2.2.1, v.2.2.2.2.2.1, AR, v.2.2.2.2.2.2.1, v.2.2.2.2.2.2.2.1, v.2.2.2.2.2.2.2.2) k Φ Ψ) (hx6 : ∀ v : OhI × OhL × OhQ × OhQ × OhI × OhL × OhQ × OhN × OhC, r.1 = .inr (.inr (.inr (.inr (.inr (.inr (.inl v)))))) → oX G 106 iL_law 415 [] [] (v.1, v.2.1, v.2.2.1, v.2.2.2.1, v.2.2.2.2.1, v.2.2.2.2.2.1, AR, v.2.2.2.2.2.2.1, v.2.2.2.2.2.2.2.1, v.2.2.2.2.2.2.2.2) k Φ Ψ) (hx7 : ∀ v : OhI × OhL × OhQ × OhQ × OhI × OhL × OhQ × OhN × OhC, r.1 = .inr (.inr (.inr (.inr (.inr (.inr (.inr (.inl v))))))) → oX G 106 iL_law 464 [] [] (v.1, v.2.1, v.2.2.1, v.2.2.2.1, v.2.2.2.2.1, v.2.2.2.2.2.1, AR, v.2.2.2.2.2.2.1, v.2.2.2.2.2.2.2.1, v.2.2.2.2.2.2.2.2) k Φ Ψ) (hx8 : ∀ v : OhI × OhL × OhQ × OhQ × OhI × OhL × OhQ × OhN × OhC, r.1 = .inr (.inr (.inr (.inr (.inr (.inr (.inr (.inr (.inl v)))))))) → oX G 106 iL_law 501 [] [] (v.1, v.2.1, v.2.2.1, v.2.2.2.1, v.2.2.2.2.1, v.2.2.2.2.2.1, AR, v.2.2.2.2.2.2.1, v.2.2.2.2.2.2.2.1, v.2.2.2.2.2.2.2.2) k Φ Ψ) (hx9 : ∀ v : OhI × OhL × OhQ × OhQ × OhI × OhL × OhQ × OhN × OhC, r.1 = .inr (.inr (.inr (.inr (.inr (.inr (.inr (.inr (.inr (.inl v))))))))) → oX G 106 iL_law 526 [] [] (v.1, v.2.1, v.2.2.1, v.2.2.2.1, v.2.2.2.2.1, v.2.2.2.2.2.1, AR, v.2.2.2.2.2.2.1, v.2.2.2.2.2.2.2.1, v.2.2.2.2.2.2.2.2) k Φ Ψ) (hx10 : ∀ v : OhI × OhL × OhQ × OhQ × OhI × OhL × OhQ × OhN × OhC, r.1 = .inr (.inr (.inr (.inr (.inr (.inr (.inr (.inr (.inr (.inr (.inl v)))))))))) → oX G 106 iL_law 539 [] [] (v.1, v.2.1, v.2.2.1, v.2.2.2.1, v.2.2.2.2.1, v.2.2.2.2.2.1, AR, v.2.2.2.2.2.2.1, v.2.2.2.2.2.2.2.1, v.2.2.2.2.2.2.2.2) k Φ Ψ) (hx11 : ∀ v : OhI × OhL × OhQ × OhQ × OhI × OhL × OhQ × OhN × OhC, r.1 = .inr (.inr (.inr (.inr (.inr (.inr (.inr (.inr (.inr (.inr (.inr (.inl v))))))))))) → oX G 106 iL_law 600 [] [] (v.1, v.2.1, v.2.2.1, v.2.2.2.1, v.2.2.2.2.1, v.2.2.2.2.2.1, AR, v.2.2.2.2.2.2.1, v.2.2.2.2.2.2.2.1, v.2.2.2.2.2.2.2.2) k Φ Ψ) (hx12 : ∀ v : OhI × OhL × OhQ × OhQ × OhI × OhL × OhQ × OhN × OhC, r.1 = .inr (.inr (.inr (.inr (.inr (.inr (.inr (.inr (.inr (.inr (.inr (.inr (.inl v)))))))))))) → oX G 106 iL_law 673 [] [] (v.1, v.2.1, v.2.2.1, v.2.2.2.1, v.2.2.2.2.1, v.2.2.2.2.2.1, AR, v.2.2.2.2.2.2.1, v.2.2.2.2.2.2.2.1, v.2.2.2.2.2.2.2.2) k Φ Ψ) (hx13 : ∀ v : OhI × OhL × OhQ × OhQ × OhI × OhL × OhQ × OhN × OhC, r.1 = .inr (.inr (.inr (.inr (.inr (.inr (.inr (.inr (.inr (.inr (.inr (.inr (.inr (.inl v))))))))))))) → oX G 106 iL_law 750 [] [] (v.1, v.2.1, v.2.2.1, v.2.2.2.1, v.2.2.2.2.1, v.2.2.2.2.2.1, AR, v.2.2.2.2.2.2.1, v.2.2.2.2.2.2.2.1, v.2.2.2.2.2.2.2.2) k Φ Ψ) (hx14 : ∀ v : OhI × OhL × OhQ × OhQ × OhI × OhL × OhQ × OhN × OhC, r.1 = .inr (.inr (.inr (.inr (.inr (.inr (.inr (.inr (.inr (.inr (.inr (.inr (.inr (.inr (.inl v)))))))))))))) → oX G 106 iL_law 799 [] [] (v.1, v.2.1, v.2.2.1, v.2.2.2.1, v.2.2.2.2.1, v.2.2.2.2.2.1, AR, v.2.2.2.2.2.2.1, v.2.2.2.2.2.2.2.1, v.2.2.2.2.2.2.2.2) k Φ Ψ) (hx15 : ∀ v : OhI × OhL × OhQ × OhQ × OhI × OhL × OhQ × OhN × OhC, r.1 = .inr (.inr (.inr (.inr (.inr (.inr (.inr (.inr (.inr (.inr (.inr (.inr (.inr (.inr (.inr (.inl v))))))))))))))) → oX G 106 iL_law 876 [] [] (v.1, v.2.1, v.2.2.1, v.2.2.2.1, v.2.2.2.2.1, v.2.2.2.2.2.1, AR, v.2.2.2.2.2.2.1, v.2.2.2.2.2.2.2.1, v.2.2.2.2.2.2.2.2) k Φ Ψ) (hx16 : ∀ v : OhI × OhL × OhQ × OhQ × OhI × OhL × OhQ × OhN × OhC, r.1 = .inr (.inr (.inr (.inr (.inr (.inr (.inr (.inr (.inr (.inr (.inr (.inr (.inr (.inr (.inr (.inr (.inl v)))))))))))))))) → oX G 106 iL_law 901 [] [] (v.1, v.2.1, v.2.2.1, v.2.2.2.1, v.2.2.2.2.1, v.2.2.2.2.2.1, AR, v.2.2.2.2.2.2.1, v.2.2.2.2.2.2.2.1, v.2.2.2.2.2.2.2.2) k Φ Ψ) (hx17 : ∀ v : OhI × OhL × OhQ × OhQ × OhI × OhL × OhQ × OhN × OhC, r.1 = .inr (.inr (.inr (.inr (.inr (.inr (.inr (.inr (.inr (.inr (.inr (.inr (.inr (.inr (.inr (.inr (.inr (.inl v))))))))))))))))) → oX G 106 iL_law 949 [] [] (v.1, v.2.1, v.2.2.1, v.2.2.2.1, v.2.2.2.2.1, v.2.2.2.2.2.1, AR, v.2.2.2.2.2.2.1, v.2.2.2.2.2.2.2.1, v.2.2.2.2.2.2.2.2) k Φ Ψ) (hx18 : ∀ v : OhI × OhL × OhQ × OhQ × OhI × OhL × OhQ × OhN × OhC, r.1 = .inr (.inr (.inr (.inr (.inr (.inr (.inr (.inr (.inr (.inr (.inr (.inr (.inr (.inr (.inr (.inr (.inr (.inr (.inl v)))))))))))))))))) → oX G 106 iL_law 966 [] [] (v.1, v.2.1, v.2.2.1, v.2.2.2.1, v.2.2.2.2.1, v.2.2.2.2.2.1, AR, v.2.2.2.2.2.2.1, v.2.2.2.2.2.2.2.1, v.2.2.2.2.2.2.2.2) k Φ Ψ) (hx19 : ∀ v : OhI × OhL × OhQ × OhQ × OhI × OhL × OhQ × OhN × OhC, r.1 = .inr (.inr (.inr (.inr (.inr (.inr (.inr (.inr (.inr (.inr (.inr (.inr (.inr (.inr (.inr (.inr (.inr (.inr (.inr (.inl v))))))))))))))))))) → oX G 106 iL_law 1030 [] [] (v.1, v.2.1, v.2.2.1, v.2.2.2.1, v.2.2.2.2.1, v.2.2.2.2.2.1, AR, v.2.2.2.2.2.2.1, v.2.2.2.2.2.2.2.1, v.2.2.2.2.2.2.2.2) k Φ Ψ) (hx20 : ∀ v : OhI × OhL × OhQ × OhQ × OhI × OhL × OhQ × OhN × OhC, r.1 = .inr (.inr (.inr (.inr (.inr (.inr (.inr (.inr (.inr (.inr (.inr (.inr (.inr (.inr (.inr (.inr (.inr (.inr (.inr (.inr (.inl v)))))))))))))))))))) → oX G 106 iL_law 1079 [] [] (v.1, v.2.1, v.2.2.1, v.2.2.2.1, v.2.2.2.2.1, v.2.2.2.2.2.1, AR, v.2.2.2.2.2.2.1, v.2.2.2.2.2.2.2.1, v.2.2.2.2.2.2.2.2) k Φ Ψ) (hx21 : ∀ v : OhI × OhL × OhQ × OhQ × OhI × OhL × OhQ × OhN × OhC, r.1 = .inr (.inr (.inr (.inr (.inr (.inr (.inr (.inr (.inr (.inr (.inr (.inr (.inr (.inr (.inr (.inr (.inr (.inr (.inr (.inr (.inr (.inl v))))))))))))))))))))) → oX G 106 iL_law 1128 [] [] (v.1, v.2.1, v.2.2.1, v.2.2.2.1, v.2.2.2.2.1, v.2.2.2.2.2.1, AR, v.2.2.2.2.2.2.1, v.2.2.2.2.2.2.2.1, v.2.2.2.2.2.2.2.2) k Φ Ψ) (hx22 : ∀ v : OhI × OhL × OhQ × OhQ × OhI × OhL × OhQ × OhN × OhC, r.1 = .inr (.inr (.inr (.inr (.inr (.inr (.inr (.inr (.inr (.inr (.inr (.inr (.inr (.inr (.inr (.inr (.inr (.inr (.inr (.inr (.inr (.inr (.inl v)))))))))))))))))))))) → oX G 106 iL_law 1177 [] [] (v.1, v.2.1, v.2.2.1, v.2.2.2.1, v.2.2.2.2.1, v.2.2.2.2.2.1, AR, v.2.2.2.2.2.2.1, v.2.2.2.2.2.2.2.1, v.2.2.2.2.2.2.2.2) k Φ Ψ) (hx23 : ∀ v : OhI × OhL × OhQ × OhQ × OhI × OhL × OhQ × OhN × OhC, r.1 = .inr (.inr (.inr (.inr (.inr (.inr (.inr (.inr (.inr (.inr (.inr (.inr (.inr (.inr (.inr (.inr (.inr (.inr (.inr (.inr (.inr (.inr (.inr (.inl v))))))))))))))))))))))) → oX G 106 iL_law 1214 [] [] (v.1, v.2.1, v.2.2.1, v.2.2.2.1, v.2.2.2.2.1, v.2.2.2.2.2.1, AR, v.2.2.2.2.2.2.1, v.2.2.2.2.2.2.2.1, v.2.2.2.2.2.2.2.2) k Φ Ψ) (hx24 : ∀ v : OhI × OhL × OhQ × OhQ × OhI × OhL × OhQ × OhN × OhC, r.1 = .inr (.inr (.inr (.inr (.inr (.inr (.inr (.inr (.inr (.inr (.inr (.inr (.inr (.inr (.inr (.inr (.inr (.inr (.inr (.inr (.inr (.inr (.inr (.inr (.inl v)))))))))))))))))))))))) → oX G 106 iL_law 1263 [] [] (v.1, v.2.1, v.2.2.1, v.2.2.2.1, v.2.2.2.2.1, v.2.2.2.2.2.1, AR, v.2.2.2.2.2.2.1, v.2.2.2.2.2.2.2.1, v.2.2.2.2.2.2.2.2) k Φ Ψ) (hx25 : ∀ v : OhI × OhL × OhQ × OhQ × OhI × OhL × OhQ × OhN × OhC, r.1 = .inr (.inr (.inr (.inr (.inr (.inr (.inr (.inr (.inr (.inr (.inr (.inr (.inr (.inr (.inr (.inr (.inr (.inr (.inr (.inr (.inr (.inr (.inr (.inr (.inr (.inl v))))))))))))))))))))))))) → oX G 106 iL_law 1312 [] [] (v.1, v.2.1, v.2.2.1, v.2.2.2.1, v.2.2.2.2.1, v.2.2.2.2.2.1, AR, v.2.2.2.2.2.2.1, v.2.2.2.2.2.2.2.1, v.2.2.2.2.2.2.2.2) k Φ Ψ) (hx26 : ∀ v : OhI × OhL × OhQ × OhQ × OhI × OhL × OhQ × OhN × OhC, r.1 = .inr (.inr (.inr (.inr (.inr (.inr (.inr (.inr (.inr (.inr (.inr (.inr (.inr (.inr (.inr (.inr (.inr (.inr (.inr (.inr (.inr (.inr (.inr (.inr (.inr (.inr (.inl v)))))))))))))))))))))))))) → oX G 106 iL_law 1349 [] [] (v.1, v.2.1, v.2.2.1, v.2.2.2.1, v.2.2.2.2.1, v.2.2.2.2.2.1, AR, v.2.2.2.2.2.2.1, v.2.2.2.2.2.2.2.1, v.2.2.2.2.2.2.2.2) k Φ Ψ) (hx27 : ∀ v : OhI × OhL × OhQ × OhQ × OhI × OhL × OhQ × OhN × OhC, r.1 = .inr (.inr (.inr (.inr (.inr (.inr (.inr (.inr (.inr (.inr (.inr (.inr (.inr (.inr (.inr (.inr (.inr (.inr (.inr (.inr (.inr (.inr (.inr (.inr (.inr (.inr (.inr (.inl v))))))))))))))))))))))))))) → oX G 106 iL_law 1398 [] [] (v.1, v.2.1, v.2.2.1, v.2.2.2.1, v.2.2.2.2.1, v.2.2.2.2.2.1, AR, v.2.2.2.2.2.2.1, v.2.2.2.2.2.2.2.1, v.2.2.2.2.2.2.2.2) k Φ Ψ) (hx28 : ∀ v : OhI × OhL × OhQ × OhQ × OhI × OhL × OhQ × OhN × OhC, r.1 = .inr (.inr (.inr (.inr (.inr (.inr (.inr (.inr (.inr (.inr (.inr (.inr (.inr (.inr (.inr (.inr (.inr (.inr (.inr (.inr (.inr (.inr (.inr (.inr (.inr (.inr (.inr (.inr (.inl v)))))))))))))))))))))))))))) → oX G 106 iL_law 1423 [] [] (v.1, v.2.1, v.2.2.1, v.2.2.2.1, v.2.2.2.2.1, v.2.2.2.2.2.1, AR, v.2.2.2.2.2.2.1, v.2.2.2.2.2.2.2.1, v.2.2.2.2.2.2.2.2) k Φ Ψ) (hx29 : ∀ v : OhI × OhL × OhQ × OhQ × OhI × OhL × OhQ × OhN × OhC, r.1 = .inr (.inr (.inr (.inr (.inr (.inr (.inr (.inr (.inr (.inr (.inr (.inr (.inr (.inr (.inr (.inr (.inr (.inr (.inr (.inr (.inr (.inr (.inr (.inr (.inr (.inr (.inr (.inr (.inr (.inl v))))))))))))))))))))))))))))) → oX G 106 iL_law 1436 [] [] (v.1, v.2.1, v.2.2.1, v.2.2.2.1, v.2.2.2.2.1, v.2.2.2.2.2.1, AR, v.2.2.2.2.2.2.1, v.2.2.2.2.2.2.2.1, v.2.2.2.2.2.2.2.2) k Φ Ψ) (hx30 : ∀ v : OhI × OhL × OhQ × OhQ × OhI × OhL × OhQ × OhN × OhC, r.1 = .inr (.inr (.inr (.inr (.inr (.inr (.inr (.inr (.inr (.inr (.inr (.inr (.inr (.inr (.inr (.inr (.inr (.inr (.inr (.inr (.inr (.inr (.inr (.inr (.inr (.inr (.inr (.inr (.inr (.inr v))))))))))))))))))))))))))))) → oX G 106 iL_law 1461 [] [] (v.1, v.2.1, v.2.2.1, v.2.2.2.1, v.2.2.2.2.1, v.2.2.2.2.2.1, AR, v.2.2.2.2.2.2.1, v.2.2.2.2.2.2.2.1, v.2.2.2.2.2.2.2.2) k Φ Ψ) : oX G 106 iL_law 23 [(0, vR (some (3, 0))), (1, vR (some (0, 0))), (2, vR (some (1, 0))), (3, vR (some (2, 0))), (4, vI x4)] [] (FI, FL, FR, GR, AI, AL, AR, BR, AN, C) (oPl r.2 k) Φ Ψ := by
  obtain ⟨r, q0⟩ := r
  unfold mL_law_b23 at hm
  refine oX_iload dL_law_23 rfl ?_
  refine oX_aload_n dL_law_25 rfl rfl ?_
  refine oX_alenP 0 (by decide) oDs3 dL_law_26 ?_
  refine oX_bipush (v := (6 : Int32)) dL_law_27 (by decide) ?_
  refine oX_isub dL_law_29 ?_
  refine oX_icmp_gt (tgt := 1469) dL_law_30 (by decide) (fun c8 => ?_) (fun c8 => ?_)
  · have hm := ifp c8 hm
    obtain ⟨hr, rfl⟩ := oEnd hm
    exact oX_sub [] rfl (oX_z (hx1 (FI, FL, FR, GR, AI, AL, BR, AN, C) hr))
  · have hm := ifn c8 hm
    refine oX_aload_n dL_law_33 rfl rfl ?_
    refine oX_iload dL_law_34 rfl ?_
    obtain ⟨g9, hm⟩ := gd_s hm
    refine oX_ialdP oDs3 g9 dL_law_36 ?_
    refine oX_bipush (v := (31 : Int32)) dL_law_37 (by decide) ?_
    refine oX_iand dL_law_39 ?_
    by_cases c10 : ((AI 3 0 x4.toNatClampNeg) &&& (31 : Int32)) = (0 : Int32)
    · have hm := ifp c10 hm
      refine oX_tin (tgt := 168) dL_law_40 c10 (by decide) (by decide) rfl (by decide) ?_
      refine oX_aload_n dL_law_168 rfl rfl ?_
      refine oX_aload_n dL_law_169 rfl rfl ?_
      refine oX_iload dL_law_170 rfl ?_
      refine oX_iconst (v := (1 : Int32)) dL_law_172 (by decide) ?_
      refine oX_iadd dL_law_173 ?_
      obtain ⟨g11, hm⟩ := gd_s hm
      refine oX_ialdP oDs3 g11 dL_law_174 ?_
      refine oX_aload_n dL_law_175 rfl rfl ?_
      refine oX_iload dL_law_176 rfl ?_
      refine oX_iconst (v := (2 : Int32)) dL_law_178 (by decide) ?_
      refine oX_iadd dL_law_179 ?_
      obtain ⟨g12, hm⟩ := gd_s hm
      refine oX_ialdP oDs3 g12 dL_law_180 ?_
      refine oX_aload_n dL_law_181 rfl rfl ?_
      refine oX_iload dL_law_182 rfl ?_
      refine oX_iconst (v := (3 : Int32)) dL_law_184 (by decide) ?_
      refine oX_iadd dL_law_185 ?_
      obtain ⟨g13, hm⟩ := gd_s hm
      refine oX_ialdP oDs3 g13 dL_law_186 ?_
      refine oX_aload_n dL_law_187 rfl rfl ?_
      refine oX_iload dL_law_188 rfl ?_
      refine oX_iconst (v := (4 : Int32)) dL_law_190 (by decide) ?_
      refine oX_iadd dL_law_191 ?_
      obtain ⟨g14, hm⟩ := gd_s hm
      refine oX_ialdP oDs3 g14 dL_law_192 ?_
      refine oX_aload_n dL_law_193 rfl rfl ?_
      refine oX_iload dL_law_194 rfl ?_
      refine oX_iconst (v := (5 : Int32)) dL_law_196 (by decide) ?_
      refine oX_iadd dL_law_197 ?_
      obtain ⟨g15, hm⟩ := gd_s hm
      refine oX_ialdP oDs3 g15 dL_law_198 ?_
      obtain ⟨s16, hm⟩ := gd_s hm
      obtain ⟨r17, g17, hm⟩ := bd_s hm
      refine oX_cV (as := [vI (AI 3 0 (x4 + (1 : Int32)).toNatClampNeg), vI (AI 3 0 (x4 + (2 : Int32)).toNatClampNeg), vI (AI 3 0 (x4 + (3 : Int32)).toNatClampNeg), vI (AI 3 0 (x4 + (4 : Int32)).toNatClampNeg), vI (AI 3 0 (x4 + (5 : Int32)).toNatClampNeg)]) dL_law_199 rfl oDs0 rfl (by decide) rfl ok_X1_feed rfl rfl q405 q406 q407 q129 q408 (by decide) (Nat.le_of_ble_eq_true rfl) (t_X1_feed s16 n (AI 3 0 (x4 + (1 : Int32)).toNatClampNeg) (AI 3 0 (x4 + (2 : Int32)).toNatClampNeg) (AI 3 0 (x4 + (3 : Int32)).toNatClampNeg) (AI 3 0 (x4 + (4 : Int32)).toNatClampNeg) (AI 3 0 (x4 + (5 : Int32)).toNatClampNeg) g17) ?_
      refine oX_aload_n dL_law_202 rfl rfl ?_
      refine oX_aload_n dL_law_203 rfl rfl ?_
      refine oX_iload dL_law_204 rfl ?_
      refine oX_iconst (v := (1 : Int32)) dL_law_206 (by decide) ?_
      refine oX_iadd dL_law_207 ?_
      obtain ⟨g18, hm⟩ := gd_s hm
      refine oX_ialdP oDs3 g18 dL_law_208 ?_
      refine oX_aload_n dL_law_209 rfl rfl ?_
      refine oX_iload dL_law_210 rfl ?_
      refine oX_iconst (v := (2 : Int32)) dL_law_212 (by decide) ?_
      refine oX_iadd dL_law_213 ?_
      obtain ⟨g19, hm⟩ := gd_s hm
      refine oX_ialdP oDs3 g19 dL_law_214 ?_
      refine oX_aload_n dL_law_215 rfl rfl ?_
      refine oX_iload dL_law_216 rfl ?_
      refine oX_iconst (v := (3 : Int32)) dL_law_218 (by decide) ?_
      refine oX_iadd dL_law_219 ?_
      obtain ⟨g20, hm⟩ := gd_s hm
      refine oX_ialdP oDs3 g20 dL_law_220 ?_
      refine oX_aload_n dL_law_221 rfl rfl ?_
      refine oX_iload dL_law_222 rfl ?_
      refine oX_iconst (v := (4 : Int32)) dL_law_224 (by decide) ?_
      refine oX_iadd dL_law_225 ?_
      obtain ⟨g21, hm⟩ := gd_s hm
      refine oX_ialdP oDs3 g21 dL_law_226 ?_
      refine oX_aload_n dL_law_227 rfl rfl ?_
      refine oX_iload dL_law_228 rfl ?_
      refine oX_iconst (v := (5 : Int32)) dL_law_230 (by decide) ?_
      refine oX_iadd dL_law_231 ?_
      obtain ⟨g22, hm⟩ := gd_s hm
      refine oX_ialdP oDs3 g22 dL_law_232 ?_
      obtain ⟨s23, hm⟩ := gd_s hm
      obtain ⟨r24, g24, hm⟩ := bd_s hm
      refine oX_cV (as := [vI (r17.2.2 3 0 (x4 + (1 : Int32)).toNatClampNeg), vI (r17.2.2 3 0 (x4 + (2 : Int32)).toNatClampNeg), vI (r17.2.2 3 0 (x4 + (3 : Int32)).toNatClampNeg), vI (r17.2.2 3 0 (x4 + (4 : Int32)).toNatClampNeg), vI (r17.2.2 3 0 (x4 + (5 : Int32)).toNatClampNeg)]) dL_law_233 rfl oDs1 rfl (by decide) rfl ok_X4_feed rfl rfl q2016 q2017 q2018 q136 q2019 (by decide) (Nat.le_of_ble_eq_true rfl) (t_X4_feed s23 n (r17.2.2 3 0 (x4 + (1 : Int32)).toNatClampNeg) (r17.2.2 3 0 (x4 + (2 : Int32)).toNatClampNeg) (r17.2.2 3 0 (x4 + (3 : Int32)).toNatClampNeg) (r17.2.2 3 0 (x4 + (4 : Int32)).toNatClampNeg) (r17.2.2 3 0 (x4 + (5 : Int32)).toNatClampNeg) g24) ?_
      refine oX_icmp_eq (tgt := 1463) dL_law_236 (by decide) (fun c25 => ?_) (fun c25 => ?_)
      · have hm := ifp c25 hm
        refine oX_iinc (v := x4 + (6 : Int32)) (ls' := [(4, vI (x4 + (6 : Int32))), (0, vR (some (3, 0))), (1, vR (some (0, 0))), (2, vR (some (1, 0))), (3, vR (some (2, 0)))]) dL_law_1463 rfl rfl (by decide) rfl ?_
        refine oX_goto (tgt := 23) dL_law_1466 (by decide) ?_
        obtain ⟨hr, rfl⟩ := oEnd hm
        exact oX_sub [1, 2, 3, 4, 0] rfl (oX_z (hk (x4 + (6 : Int32), r24.2.1, FL, FR, GR, r24.2.2, AL, BR, AN, C) hr))
      · have hm := ifn c25 hm
        obtain ⟨hr, rfl⟩ := oEnd hm
        exact oX_sub [] rfl (oX_z (hx2 (r24.2.1, FL, FR, GR, r24.2.2, AL, BR, AN, C) hr))
    have hm := ifn c10 hm
    by_cases c26 : ((AI 3 0 x4.toNatClampNeg) &&& (31 : Int32)) = (1 : Int32)
    · have hm := ifp c26 hm
      refine oX_tin (tgt := 241) dL_law_40 c26 (by decide) (by decide) rfl (by decide) ?_
      refine oX_aload_n dL_law_241 rfl rfl ?_
      refine oX_aload_n dL_law_242 rfl rfl ?_
      refine oX_iload dL_law_243 rfl ?_
      refine oX_iconst (v := (1 : Int32)) dL_law_245 (by decide) ?_
      refine oX_iadd dL_law_246 ?_
      obtain ⟨g27, hm⟩ := gd_s hm
      refine oX_ialdP oDs3 g27 dL_law_247 ?_
      obtain ⟨r28, g28, hm⟩ := bd_s hm
      refine oX_cV (as := [vI (AI 3 0 (x4 + (1 : Int32)).toNatClampNeg)]) dL_law_248 rfl oDs0 rfl (by decide) rfl ok_X1_end rfl rfl q413 q414 q415 q129 q416 (by decide) (Nat.le_of_ble_eq_true rfl) (t_X1_end (AI 3 0 (x4 + (1 : Int32)).toNatClampNeg) g28) ?_
      refine oX_aload_n dL_law_251 rfl rfl ?_
      refine oX_aload_n dL_law_252 rfl rfl ?_
      refine oX_iload dL_law_253 rfl ?_
      refine oX_iconst (v := (1 : Int32)) dL_law_255 (by decide) ?_
      refine oX_iadd dL_law_256 ?_
      obtain ⟨g29, hm⟩ := gd_s hm
      refine oX_ialdP oDs3 g29 dL_law_257 ?_
      obtain ⟨r30, g30, hm⟩ := bd_s hm
      refine oX_cV (as := [vI (AI 3 0 (x4 + (1 : Int32)).toNatClampNeg)]) dL_law_258 rfl oDs1 rfl (by decide) rfl ok_X4_end rfl rfl q2024 q2025 q2026 q136 q2027 (by decide) (Nat.le_of_ble_eq_true rfl) (t_X4_end (AI 3 0 (x4 + (1 : Int32)).toNatClampNeg) g30) ?_
      refine oX_icmp_eq (tgt := 1463) dL_law_261 (by decide) (fun c31 => ?_) (fun c31 => ?_)
      · have hm := ifp c31 hm
        refine oX_iinc (v := x4 + (6 : Int32)) (ls' := [(4, vI (x4 + (6 : Int32))), (0, vR (some (3, 0))), (1, vR (some (0, 0))), (2, vR (some (1, 0))), (3, vR (some (2, 0)))]) dL_law_1463 rfl rfl (by decide) rfl ?_
        refine oX_goto (tgt := 23) dL_law_1466 (by decide) ?_
        obtain ⟨hr, rfl⟩ := oEnd hm
        exact oX_sub [1, 2, 3, 4, 0] rfl (oX_z (hk (x4 + (6 : Int32), r30.2, FL, FR, GR, AI, AL, BR, AN, C) hr))
      · have hm := ifn c31 hm
        obtain ⟨hr, rfl⟩ := oEnd hm
        exact oX_sub [] rfl (oX_z (hx3 (r30.2, FL, FR, GR, AI, AL, BR, AN, C) hr))
    have hm := ifn c26 hm
    by_cases c32 : ((AI 3 0 x4.toNatClampNeg) &&& (31 : Int32)) = (2 : Int32)
    · have hm := ifp c32 hm
      refine oX_tin (tgt := 266) dL_law_40 c32 (by decide) (by decide) rfl (by decide) ?_
      refine oX_aload_n dL_law_266 rfl rfl ?_
      refine oX_aload_n dL_law_267 rfl rfl ?_
      refine oX_iload dL_law_268 rfl ?_
      refine oX_iconst (v := (1 : Int32)) dL_law_270 (by decide) ?_
      refine oX_iadd dL_law_271 ?_
      obtain ⟨g33, hm⟩ := gd_s hm
      refine oX_ialdP oDs3 g33 dL_law_272 ?_
      obtain ⟨r34, g34, hm⟩ := bd_s hm
      refine oX_cV (as := [vI (AI 3 0 (x4 + (1 : Int32)).toNatClampNeg)]) dL_law_273 rfl oDs0 rfl (by decide) rfl ok_X1_next rfl rfl q417 q418 q419 q129 q420 (by decide) (Nat.le_of_ble_eq_true rfl) (t_X1_next (AI 3 0 (x4 + (1 : Int32)).toNatClampNeg) g34) ?_
      refine oX_aload_n dL_law_276 rfl rfl ?_
      refine oX_aload_n dL_law_277 rfl rfl ?_
      refine oX_iload dL_law_278 rfl ?_
      refine oX_iconst (v := (1 : Int32)) dL_law_280 (by decide) ?_
      refine oX_iadd dL_law_281 ?_
      obtain ⟨g35, hm⟩ := gd_s hm
      refine oX_ialdP oDs3 g35 dL_law_282 ?_
      obtain ⟨r36, g36, hm⟩ := bd_s hm
      refine oX_cV (as := [vI (AI 3 0 (x4 + (1 : Int32)).toNatClampNeg)]) dL_law_283 rfl oDs1 rfl (by decide) rfl ok_X4_next rfl rfl q2028 q2029 q2030 q136 q2031 (by decide) (Nat.le_of_ble_eq_true rfl) (t_X4_next (AI 3 0 (x4 + (1 : Int32)).toNatClampNeg) g36) ?_
      refine oX_icmp_eq (tgt := 1463) dL_law_286 (by decide) (fun c37 => ?_) (fun c37 => ?_)
      · have hm := ifp c37 hm
        refine oX_iinc (v := x4 + (6 : Int32)) (ls' := [(4, vI (x4 + (6 : Int32))), (0, vR (some (3, 0))), (1, vR (some (0, 0))), (2, vR (some (1, 0))), (3, vR (some (2, 0)))]) dL_law_1463 rfl rfl (by decide) rfl ?_
        refine oX_goto (tgt := 23) dL_law_1466 (by decide) ?_
        obtain ⟨hr, rfl⟩ := oEnd hm
        exact oX_sub [1, 2, 3, 4, 0] rfl (oX_z (hk (x4 + (6 : Int32), r36.2, FL, FR, GR, AI, AL, BR, AN, C) hr))
      · have hm := ifn c37 hm
        obtain ⟨hr, rfl⟩ := oEnd hm
        exact oX_sub [] rfl (oX_z (hx4 (r36.2, FL, FR, GR, AI, AL, BR, AN, C) hr))
    have hm := ifn c32 hm
    by_cases c38 : ((AI 3 0 x4.toNatClampNeg) &&& (31 : Int32)) = (3 : Int32)
    · have hm := ifp c38 hm
      refine oX_tin (tgt := 291) dL_law_40 c38 (by decide) (by decide) rfl (by decide) ?_
      refine oX_aload_n dL_law_291 rfl rfl ?_
      refine oX_aload_n dL_law_292 rfl rfl ?_
      refine oX_iload dL_law_293 rfl ?_
      refine oX_iconst (v := (1 : Int32)) dL_law_295 (by decide) ?_
      refine oX_iadd dL_law_296 ?_
      obtain ⟨g39, hm⟩ := gd_s hm
      refine oX_ialdP oDs3 g39 dL_law_297 ?_
      refine oX_aload_n dL_law_298 rfl rfl ?_
      refine oX_iload dL_law_299 rfl ?_
      refine oX_iconst (v := (2 : Int32)) dL_law_301 (by decide) ?_
      refine oX_iadd dL_law_302 ?_
      obtain ⟨g40, hm⟩ := gd_s hm
      refine oX_ialdP oDs3 g40 dL_law_303 ?_
      refine oX_aload_n dL_law_304 rfl rfl ?_
      refine oX_iload dL_law_305 rfl ?_
      refine oX_iconst (v := (3 : Int32)) dL_law_307 (by decide) ?_
      refine oX_iadd dL_law_308 ?_
      obtain ⟨g41, hm⟩ := gd_s hm
      refine oX_ialdP oDs3 g41 dL_law_309 ?_
      refine oX_if_eq (tgt := 317) dL_law_310 (by decide) (fun c42 => ?_) (fun c42 => ?_)
      · have hm := ifp c42 hm
        refine oX_iconst (v := (0 : Int32)) dL_law_317 (by decide) ?_
        exact oX_sub [0, 1, 2, 3, 4] rfl (x_mL_law_j318 n x4 (AI 3 0 (x4 + (1 : Int32)).toNatClampNeg) (AI 3 0 (x4 + (2 : Int32)).toNatClampNeg) (0 : Int32) hm hk hx1 hx2 hx3 hx4 hx5 hx6 hx7 hx8 hx9 hx10 hx11 hx12 hx13 hx14 hx15 hx16 hx17 hx18 hx19 hx20 hx21 hx22 hx23 hx24 hx25 hx26 hx27 hx28 hx29 hx30)
      · have hm := ifn c42 hm
        refine oX_iconst (v := (1 : Int32)) dL_law_313 (by decide) ?_
        refine oX_goto (tgt := 318) dL_law_314 (by decide) ?_
        exact oX_sub [0, 1, 2, 3, 4] rfl (x_mL_law_j318 n x4 (AI 3 0 (x4 + (1 : Int32)).toNatClampNeg) (AI 3 0 (x4 + (2 : Int32)).toNatClampNeg) (1 : Int32) hm hk hx1 hx2 hx3 hx4 hx5 hx6 hx7 hx8 hx9 hx10 hx11 hx12 hx13 hx14 hx15 hx16 hx17 hx18 hx19 hx20 hx21 hx22 hx23 hx24 hx25 hx26 hx27 hx28 hx29 hx30)
    have hm := ifn c38 hm
    by_cases c53 : ((AI 3 0 x4.toNatClampNeg) &&& (31 : Int32)) = (4 : Int32)
    · have hm := ifp c53 hm
      refine oX_tin (tgt := 368) dL_law_40 c53 (by decide) (by decide) rfl (by decide) ?_
      refine oX_aload_n dL_law_368 rfl rfl ?_
      refine oX_aload_n dL_law_369 rfl rfl ?_
      refine oX_iload dL_law_370 rfl ?_
      refine oX_iconst (v := (1 : Int32)) dL_law_372 (by decide) ?_
      refine oX_iadd dL_law_373 ?_
      obtain ⟨g54, hm⟩ := gd_s hm
      refine oX_ialdP oDs3 g54 dL_law_374 ?_
      refine oX_aload_n dL_law_375 rfl rfl ?_
      refine oX_iload dL_law_376 rfl ?_
      refine oX_iconst (v := (2 : Int32)) dL_law_378 (by decide) ?_
      refine oX_iadd dL_law_379 ?_
      obtain ⟨g55, hm⟩ := gd_s hm
      refine oX_ialdP oDs3 g55 dL_law_380 ?_
      refine oX_aload_n dL_law_381 rfl rfl ?_
      refine oX_iload dL_law_382 rfl ?_
      refine oX_iconst (v := (3 : Int32)) dL_law_384 (by decide) ?_
      refine oX_iadd dL_law_385 ?_
      obtain ⟨g56, hm⟩ := gd_s hm
      refine oX_ialdP oDs3 g56 dL_law_386 ?_
      obtain ⟨r57, g57, hm⟩ := bd_s hm
      refine oX_cost hm (fun qq57 hm => ?_)
      refine oX_cVK (as := [vI (AI 3 0 (x4 + (1 : Int32)).toNatClampNeg), vI (AI 3 0 (x4 + (2 : Int32)).toNatClampNeg), vI (AI 3 0 (x4 + (3 : Int32)).toNatClampNeg)]) dL_law_387 rfl oDs0 rfl (by decide) rfl ok_X1_singer rfl rfl q561 q562 q563 q129 q564 (by decide) (Nat.le_of_ble_eq_true rfl) (t_X1_singer (AI 3 0 (x4 + (1 : Int32)).toNatClampNeg) (AI 3 0 (x4 + (2 : Int32)).toNatClampNeg) (AI 3 0 (x4 + (3 : Int32)).toNatClampNeg) g57) (Nat.le_refl _) (Nat.le_refl _) ?_
      refine oX_aload_n dL_law_390 rfl rfl ?_
      refine oX_aload_n dL_law_391 rfl rfl ?_
      refine oX_iload dL_law_392 rfl ?_
      refine oX_iconst (v := (1 : Int32)) dL_law_394 (by decide) ?_
      refine oX_iadd dL_law_395 ?_
      obtain ⟨g58, hm⟩ := gd_s hm
      refine oX_ialdP oDs3 g58 dL_law_396 ?_
      refine oX_aload_n dL_law_397 rfl rfl ?_
      refine oX_iload dL_law_398 rfl ?_
      refine oX_iconst (v := (2 : Int32)) dL_law_400 (by decide) ?_
      refine oX_iadd dL_law_401 ?_
      obtain ⟨g59, hm⟩ := gd_s hm
      refine oX_ialdP oDs3 g59 dL_law_402 ?_
      refine oX_aload_n dL_law_403 rfl rfl ?_
      refine oX_iload dL_law_404 rfl ?_
      refine oX_iconst (v := (3 : Int32)) dL_law_406 (by decide) ?_
      refine oX_iadd dL_law_407 ?_
      obtain ⟨g60, hm⟩ := gd_s hm
      refine oX_ialdP oDs3 g60 dL_law_408 ?_
      obtain ⟨s61, hm⟩ := gd_s hm
      obtain ⟨r62, g62, hm⟩ := bd_s hm
      refine oX_cV (as := [vI (AI 3 0 (x4 + (1 : Int32)).toNatClampNeg), vI (AI 3 0 (x4 + (2 : Int32)).toNatClampNeg), vI (AI 3 0 (x4 + (3 : Int32)).toNatClampNeg)]) dL_law_409 rfl oDs1 rfl (by decide) rfl ok_X4_singer rfl rfl q2043 q2044 q2045 q136 q2046 (by decide) (Nat.le_of_ble_eq_true rfl) (t_X4_singer s61 (AI 3 0 (x4 + (1 : Int32)).toNatClampNeg) (AI 3 0 (x4 + (2 : Int32)).toNatClampNeg) (AI 3 0 (x4 + (3 : Int32)).toNatClampNeg) g62) ?_
      refine oX_icmp_eq (tgt := 1463) dL_law_412 (by decide) (fun c63 => ?_) (fun c63 => ?_)
      · have hm := ifp c63 hm
        refine oX_iinc (v := x4 + (6 : Int32)) (ls' := [(4, vI (x4 + (6 : Int32))), (0, vR (some (3, 0))), (1, vR (some (0, 0))), (2, vR (some (1, 0))), (3, vR (some (2, 0)))]) dL_law_1463 rfl rfl (by decide) rfl ?_
        refine oX_goto (tgt := 23) dL_law_1466 (by decide) ?_
        obtain ⟨hr, rfl⟩ := oEnd hm
        exact oX_sub [1, 2, 3, 4, 0] rfl (oX_z (hk (x4 + (6 : Int32), r62.2.1, FL, r57.1.2.2.1, r57.1.2.2.2.1, r62.2.2, AL, r57.1.2.2.2.2.1, r57.1.2.2.2.2.2.1, r57.1.2.2.2.2.2.2) hr))
      · have hm := ifn c63 hm
        obtain ⟨hr, rfl⟩ := oEnd hm
        exact oX_sub [] rfl (oX_z (hx6 (r62.2.1, FL, r57.1.2.2.1, r57.1.2.2.2.1, r62.2.2, AL, r57.1.2.2.2.2.1, r57.1.2.2.2.2.2.1, r57.1.2.2.2.2.2.2) hr))
    have hm := ifn c53 hm
    by_cases c64 : ((AI 3 0 x4.toNatClampNeg) &&& (31 : Int32)) = (5 : Int32)
    · have hm := ifp c64 hm
      refine oX_tin (tgt := 417) dL_law_40 c64 (by decide) (by decide) rfl (by decide) ?_
      refine oX_aload_n dL_law_417 rfl rfl ?_
      refine oX_aload_n dL_law_418 rfl rfl ?_
      refine oX_iload dL_law_419 rfl ?_
      refine oX_iconst (v := (1 : Int32)) dL_law_421 (by decide) ?_
      refine oX_iadd dL_law_422 ?_
      obtain ⟨g65, hm⟩ := gd_s hm
      refine oX_ialdP oDs3 g65 dL_law_423 ?_
      refine oX_aload_n dL_law_424 rfl rfl ?_
      refine oX_iload dL_law_425 rfl ?_
      refine oX_iconst (v := (2 : Int32)) dL_law_427 (by decide) ?_
      refine oX_iadd dL_law_428 ?_
      obtain ⟨g66, hm⟩ := gd_s hm
      refine oX_ialdP oDs3 g66 dL_law_429 ?_
      refine oX_aload_n dL_law_430 rfl rfl ?_
      refine oX_iload dL_law_431 rfl ?_
      refine oX_iconst (v := (3 : Int32)) dL_law_433 (by decide) ?_
      refine oX_iadd dL_law_434 ?_
      obtain ⟨g67, hm⟩ := gd_s hm
      refine oX_ialdP oDs3 g67 dL_law_435 ?_
      obtain ⟨s68, hm⟩ := gd_s hm
      obtain ⟨r69, g69, hm⟩ := bd_s hm
      refine oX_cV (as := [vI (AI 3 0 (x4 + (1 : Int32)).toNatClampNeg), vI (AI 3 0 (x4 + (2 : Int32)).toNatClampNeg), vI (AI 3 0 (x4 + (3 : Int32)).toNatClampNeg)]) dL_law_436 rfl oDs0 rfl (by decide) rfl ok_X1_players rfl rfl q631 q632 q633 q129 q634 (by decide) (Nat.le_of_ble_eq_true rfl) (t_X1_players s68 (AI 3 0 (x4 + (1 : Int32)).toNatClampNeg) (AI 3 0 (x4 + (2 : Int32)).toNatClampNeg) (AI 3 0 (x4 + (3 : Int32)).toNatClampNeg) g69) ?_
      refine oX_aload_n dL_law_439 rfl rfl ?_
      refine oX_aload_n dL_law_440 rfl rfl ?_
      refine oX_iload dL_law_441 rfl ?_
      refine oX_iconst (v := (1 : Int32)) dL_law_443 (by decide) ?_
      refine oX_iadd dL_law_444 ?_
      obtain ⟨g70, hm⟩ := gd_s hm
      refine oX_ialdP oDs3 g70 dL_law_445 ?_
      refine oX_aload_n dL_law_446 rfl rfl ?_
      refine oX_iload dL_law_447 rfl ?_
      refine oX_iconst (v := (2 : Int32)) dL_law_449 (by decide) ?_
      refine oX_iadd dL_law_450 ?_
      obtain ⟨g71, hm⟩ := gd_s hm
      refine oX_ialdP oDs3 g71 dL_law_451 ?_
      refine oX_aload_n dL_law_452 rfl rfl ?_
      refine oX_iload dL_law_453 rfl ?_
      refine oX_iconst (v := (3 : Int32)) dL_law_455 (by decide) ?_
      refine oX_iadd dL_law_456 ?_
      obtain ⟨g72, hm⟩ := gd_s hm
      refine oX_ialdP oDs3 g72 dL_law_457 ?_
      obtain ⟨s73, hm⟩ := gd_s hm
      obtain ⟨r74, g74, hm⟩ := bd_s hm
      refine oX_cV (as := [vI (r69.2.2 3 0 (x4 + (1 : Int32)).toNatClampNeg), vI (r69.2.2 3 0 (x4 + (2 : Int32)).toNatClampNeg), vI (r69.2.2 3 0 (x4 + (3 : Int32)).toNatClampNeg)]) dL_law_458 rfl oDs1 rfl (by decide) rfl ok_X4_players rfl rfl q2051 q2052 q2053 q136 q2054 (by decide) (Nat.le_of_ble_eq_true rfl) (t_X4_players s73 (r69.2.2 3 0 (x4 + (1 : Int32)).toNatClampNeg) (r69.2.2 3 0 (x4 + (2 : Int32)).toNatClampNeg) (r69.2.2 3 0 (x4 + (3 : Int32)).toNatClampNeg) g74) ?_
      refine oX_icmp_eq (tgt := 1463) dL_law_461 (by decide) (fun c75 => ?_) (fun c75 => ?_)
      · have hm := ifp c75 hm
        refine oX_iinc (v := x4 + (6 : Int32)) (ls' := [(4, vI (x4 + (6 : Int32))), (0, vR (some (3, 0))), (1, vR (some (0, 0))), (2, vR (some (1, 0))), (3, vR (some (2, 0)))]) dL_law_1463 rfl rfl (by decide) rfl ?_
        refine oX_goto (tgt := 23) dL_law_1466 (by decide) ?_
        obtain ⟨hr, rfl⟩ := oEnd hm
        exact oX_sub [1, 2, 3, 4, 0] rfl (oX_z (hk (x4 + (6 : Int32), r74.2.1, FL, FR, GR, r74.2.2, AL, BR, AN, C) hr))
      · have hm := ifn c75 hm
        obtain ⟨hr, rfl⟩ := oEnd hm
        exact oX_sub [] rfl (oX_z (hx7 (r74.2.1, FL, FR, GR, r74.2.2, AL, BR, AN, C) hr))
    have hm := ifn c64 hm
    by_cases c76 : ((AI 3 0 x4.toNatClampNeg) &&& (31 : Int32)) = (6 : Int32)
    · have hm := ifp c76 hm
      refine oX_tin (tgt := 466) dL_law_40 c76 (by decide) (by decide) rfl (by decide) ?_
      refine oX_aload_n dL_law_466 rfl rfl ?_
      refine oX_aload_n dL_law_467 rfl rfl ?_
      refine oX_iload dL_law_468 rfl ?_
      refine oX_iconst (v := (1 : Int32)) dL_law_470 (by decide) ?_
      refine oX_iadd dL_law_471 ?_
      obtain ⟨g77, hm⟩ := gd_s hm
      refine oX_ialdP oDs3 g77 dL_law_472 ?_
      refine oX_aload_n dL_law_473 rfl rfl ?_
      refine oX_iload dL_law_474 rfl ?_
      refine oX_iconst (v := (2 : Int32)) dL_law_476 (by decide) ?_
      refine oX_iadd dL_law_477 ?_
      obtain ⟨g78, hm⟩ := gd_s hm
      refine oX_ialdP oDs3 g78 dL_law_478 ?_
      obtain ⟨r79, g79, hm⟩ := bd_s hm
      refine oX_cV (as := [vI (AI 3 0 (x4 + (1 : Int32)).toNatClampNeg), vI (AI 3 0 (x4 + (2 : Int32)).toNatClampNeg)]) dL_law_479 rfl oDs0 rfl (by decide) rfl ok_X1_chorus rfl rfl q635 q636 q637 q129 q638 (by decide) (Nat.le_of_ble_eq_true rfl) (t_X1_chorus (AI 3 0 (x4 + (1 : Int32)).toNatClampNeg) (AI 3 0 (x4 + (2 : Int32)).toNatClampNeg) g79) ?_
      refine oX_aload_n dL_law_482 rfl rfl ?_
      refine oX_aload_n dL_law_483 rfl rfl ?_
      refine oX_iload dL_law_484 rfl ?_
      refine oX_iconst (v := (1 : Int32)) dL_law_486 (by decide) ?_
      refine oX_iadd dL_law_487 ?_
      obtain ⟨g80, hm⟩ := gd_s hm
      refine oX_ialdP oDs3 g80 dL_law_488 ?_
      refine oX_aload_n dL_law_489 rfl rfl ?_
      refine oX_iload dL_law_490 rfl ?_
      refine oX_iconst (v := (2 : Int32)) dL_law_492 (by decide) ?_
      refine oX_iadd dL_law_493 ?_
      obtain ⟨g81, hm⟩ := gd_s hm
      refine oX_ialdP oDs3 g81 dL_law_494 ?_
      obtain ⟨r82, g82, hm⟩ := bd_s hm
      refine oX_cV (as := [vI (AI 3 0 (x4 + (1 : Int32)).toNatClampNeg), vI (AI 3 0 (x4 + (2 : Int32)).toNatClampNeg)]) dL_law_495 rfl oDs1 rfl (by decide) rfl ok_X4_chorus rfl rfl q2055 q2056 q2057 q136 q2058 (by decide) (Nat.le_of_ble_eq_true rfl) (t_X4_chorus (AI 3 0 (x4 + (1 : Int32)).toNatClampNeg) (AI 3 0 (x4 + (2 : Int32)).toNatClampNeg) g82) ?_
      refine oX_icmp_eq (tgt := 1463) dL_law_498 (by decide) (fun c83 => ?_) (fun c83 => ?_)
      · have hm := ifp c83 hm
        refine oX_iinc (v := x4 + (6 : Int32)) (ls' := [(4, vI (x4 + (6 : Int32))), (0, vR (some (3, 0))), (1, vR (some (0, 0))), (2, vR (some (1, 0))), (3, vR (some (2, 0)))]) dL_law_1463 rfl rfl (by decide) rfl ?_
        refine oX_goto (tgt := 23) dL_law_1466 (by decide) ?_
        obtain ⟨hr, rfl⟩ := oEnd hm
        exact oX_sub [1, 2, 3, 4, 0] rfl (oX_z (hk (x4 + (6 : Int32), r82.2, FL, FR, GR, AI, AL, BR, AN, C) hr))
      · have hm := ifn c83 hm
        obtain ⟨hr, rfl⟩ := oEnd hm
        exact oX_sub [] rfl (oX_z (hx8 (r82.2, FL, FR, GR, AI, AL, BR, AN, C) hr))
    have hm := ifn c76 hm
    by_cases c84 : ((AI 3 0 x4.toNatClampNeg) &&& (31 : Int32)) = (7 : Int32)
    · have hm := ifp c84 hm
      refine oX_tin (tgt := 503) dL_law_40 c84 (by decide) (by decide) rfl (by decide) ?_
      refine oX_aload_n dL_law_503 rfl rfl ?_
      refine oX_aload_n dL_law_504 rfl rfl ?_
      refine oX_iload dL_law_505 rfl ?_
      refine oX_iconst (v := (1 : Int32)) dL_law_507 (by decide) ?_
      refine oX_iadd dL_law_508 ?_
      obtain ⟨g85, hm⟩ := gd_s hm
      refine oX_ialdP oDs3 g85 dL_law_509 ?_
      obtain ⟨r86, g86, hm⟩ := bd_s hm
      refine oX_cost hm (fun qq86 hm => ?_)
      refine oX_cVKW (as := [vI (AI 3 0 (x4 + (1 : Int32)).toNatClampNeg)]) dL_law_510 rfl oDs0 rfl (by decide) rfl ok_X1_contract rfl rfl q639 q640 q641 q129 q642 (by decide) (Nat.le_of_ble_eq_true rfl) (t_X1_contract n (AI 3 0 (x4 + (1 : Int32)).toNatClampNeg) g86) (Nat.le_refl _) (Nat.le_refl _) ?_
      refine oX_aload_n dL_law_513 rfl rfl ?_
      refine oX_aload_n dL_law_514 rfl rfl ?_
      refine oX_iload dL_law_515 rfl ?_
      refine oX_iconst (v := (1 : Int32)) dL_law_517 (by decide) ?_
      refine oX_iadd dL_law_518 ?_
      obtain ⟨g87, hm⟩ := gd_s hm
      refine oX_ialdP oDs3 g87 dL_law_519 ?_
      obtain ⟨s88, hm⟩ := gd_s hm
      obtain ⟨r89, g89, hm⟩ := bd_s hm
      refine oX_cV (as := [vI (r86.1.2.2.2.2.1 3 0 (x4 + (1 : Int32)).toNatClampNeg)]) dL_law_520 rfl oDs1 rfl (by decide) rfl ok_X4_contract rfl rfl q2059 q2060 q2061 q136 q2062 (by decide) (Nat.le_of_ble_eq_true rfl) (t_X4_contract s88 n (r86.1.2.2.2.2.1 3 0 (x4 + (1 : Int32)).toNatClampNeg) g89) ?_
      refine oX_icmp_eq (tgt := 1463) dL_law_523 (by decide) (fun c90 => ?_) (fun c90 => ?_)
      · have hm := ifp c90 hm
        refine oX_iinc (v := x4 + (6 : Int32)) (ls' := [(4, vI (x4 + (6 : Int32))), (0, vR (some (3, 0))), (1, vR (some (0, 0))), (2, vR (some (1, 0))), (3, vR (some (2, 0)))]) dL_law_1463 rfl rfl (by decide) rfl ?_
        refine oX_goto (tgt := 23) dL_law_1466 (by decide) ?_
        obtain ⟨hr, rfl⟩ := oEnd hm
        exact oX_sub [1, 2, 3, 4, 0] rfl (oX_z (hk (x4 + (6 : Int32), r89.2.1, r89.2.2.1, r86.1.2.2.1, r86.1.2.2.2.1, r89.2.2.2, AL, r86.1.2.2.2.2.2.1, r86.1.2.2.2.2.2.2.1, r86.1.2.2.2.2.2.2.2) hr))
      · have hm := ifn c90 hm
        obtain ⟨hr, rfl⟩ := oEnd hm
        exact oX_sub [] rfl (oX_z (hx9 (r89.2.1, r89.2.2.1, r86.1.2.2.1, r86.1.2.2.2.1, r89.2.2.2, AL, r86.1.2.2.2.2.2.1, r86.1.2.2.2.2.2.2.1, r86.1.2.2.2.2.2.2.2) hr))
    have hm := ifn c84 hm
    by_cases c91 : ((AI 3 0 x4.toNatClampNeg) &&& (31 : Int32)) = (8 : Int32)
    · have hm := ifp c91 hm
      refine oX_tin (tgt := 528) dL_law_40 c91 (by decide) (by decide) rfl (by decide) ?_
      refine oX_aload_n dL_law_528 rfl rfl ?_
      obtain ⟨r92, g92, hm⟩ := bd_s hm
      refine oX_cV (as := []) dL_law_529 rfl oDs0 rfl (by decide) rfl ok_X1_fault rfl rfl q1263 q1264 q1265 q129 q1266 (by decide) (Nat.le_of_ble_eq_true rfl) (t_X1_fault g92) ?_
      refine oX_aload_n dL_law_532 rfl rfl ?_
      obtain ⟨r93, g93, hm⟩ := bd_s hm
      refine oX_cV (as := []) dL_law_533 rfl oDs1 rfl (by decide) rfl ok_X4_fault rfl rfl q2165 q2166 q2167 q136 q2168 (by decide) (Nat.le_of_ble_eq_true rfl) (t_X4_fault g93) ?_
      refine oX_icmp_eq (tgt := 1463) dL_law_536 (by decide) (fun c94 => ?_) (fun c94 => ?_)
      · have hm := ifp c94 hm
        refine oX_iinc (v := x4 + (6 : Int32)) (ls' := [(4, vI (x4 + (6 : Int32))), (0, vR (some (3, 0))), (1, vR (some (0, 0))), (2, vR (some (1, 0))), (3, vR (some (2, 0)))]) dL_law_1463 rfl rfl (by decide) rfl ?_
        refine oX_goto (tgt := 23) dL_law_1466 (by decide) ?_
        obtain ⟨hr, rfl⟩ := oEnd hm
        exact oX_sub [1, 2, 3, 4, 0] rfl (oX_z (hk (x4 + (6 : Int32), r93.2, FL, FR, GR, AI, AL, BR, AN, C) hr))
      · have hm := ifn c94 hm
        obtain ⟨hr, rfl⟩ := oEnd hm
        exact oX_sub [] rfl (oX_z (hx10 (r93.2, FL, FR, GR, AI, AL, BR, AN, C) hr))
    have hm := ifn c91 hm
    by_cases c95 : ((AI 3 0 x4.toNatClampNeg) &&& (31 : Int32)) = (9 : Int32)
    · have hm := ifp c95 hm
      refine oX_tin (tgt := 541) dL_law_40 c95 (by decide) (by decide) rfl (by decide) ?_
      refine oX_aload_n dL_law_541 rfl rfl ?_
      refine oX_aload_n dL_law_542 rfl rfl ?_
      refine oX_iload dL_law_543 rfl ?_
      refine oX_iconst (v := (1 : Int32)) dL_law_545 (by decide) ?_
      refine oX_iadd dL_law_546 ?_
      obtain ⟨g96, hm⟩ := gd_s hm
      refine oX_ialdP oDs3 g96 dL_law_547 ?_
      refine oX_aload_n dL_law_548 rfl rfl ?_
      refine oX_iload dL_law_549 rfl ?_
      refine oX_iconst (v := (2 : Int32)) dL_law_551 (by decide) ?_
      refine oX_iadd dL_law_552 ?_
      obtain ⟨g97, hm⟩ := gd_s hm
      refine oX_ialdP oDs3 g97 dL_law_553 ?_
      refine oX_aload_n dL_law_554 rfl rfl ?_
      refine oX_iload dL_law_555 rfl ?_
      refine oX_iconst (v := (3 : Int32)) dL_law_557 (by decide) ?_
      refine oX_iadd dL_law_558 ?_
      obtain ⟨g98, hm⟩ := gd_s hm
      refine oX_ialdP oDs3 g98 dL_law_559 ?_
      refine oX_aload_n dL_law_560 rfl rfl ?_
      refine oX_iload dL_law_561 rfl ?_
      refine oX_iconst (v := (4 : Int32)) dL_law_563 (by decide) ?_
      refine oX_iadd dL_law_564 ?_
      obtain ⟨g99, hm⟩ := gd_s hm
      refine oX_ialdP oDs3 g99 dL_law_565 ?_
      obtain ⟨r100, g100, hm⟩ := bd_s hm
      refine oX_cost hm (fun qq100 hm => ?_)
      refine oX_cVK (as := [vI (AI 3 0 (x4 + (1 : Int32)).toNatClampNeg), vI (AI 3 0 (x4 + (2 : Int32)).toNatClampNeg), vI (AI 3 0 (x4 + (3 : Int32)).toNatClampNeg), vI (AI 3 0 (x4 + (4 : Int32)).toNatClampNeg)]) dL_law_566 rfl oDs0 rfl (by decide) rfl ok_X1_learn rfl rfl q1267 q1268 q1269 q129 q1270 (by decide) (Nat.le_of_ble_eq_true rfl) (t_X1_learn (AI 3 0 (x4 + (1 : Int32)).toNatClampNeg) (AI 3 0 (x4 + (2 : Int32)).toNatClampNeg) (AI 3 0 (x4 + (3 : Int32)).toNatClampNeg) (AI 3 0 (x4 + (4 : Int32)).toNatClampNeg) g100) (Nat.le_refl _) (Nat.le_refl _) ?_
      refine oX_aload_n dL_law_569 rfl rfl ?_
      refine oX_aload_n dL_law_570 rfl rfl ?_
      refine oX_iload dL_law_571 rfl ?_
      refine oX_iconst (v := (1 : Int32)) dL_law_573 (by decide) ?_
      refine oX_iadd dL_law_574 ?_
      obtain ⟨g101, hm⟩ := gd_s hm
      refine oX_ialdP oDs3 g101 dL_law_575 ?_
      refine oX_aload_n dL_law_576 rfl rfl ?_
      refine oX_iload dL_law_577 rfl ?_
      refine oX_iconst (v := (2 : Int32)) dL_law_579 (by decide) ?_
      refine oX_iadd dL_law_580 ?_
      obtain ⟨g102, hm⟩ := gd_s hm
      refine oX_ialdP oDs3 g102 dL_law_581 ?_
      refine oX_aload_n dL_law_582 rfl rfl ?_
      refine oX_iload dL_law_583 rfl ?_
      refine oX_iconst (v := (3 : Int32)) dL_law_585 (by decide) ?_
      refine oX_iadd dL_law_586 ?_
      obtain ⟨g103, hm⟩ := gd_s hm
      refine oX_ialdP oDs3 g103 dL_law_587 ?_
      refine oX_aload_n dL_law_588 rfl rfl ?_
      refine oX_iload dL_law_589 rfl ?_
      refine oX_iconst (v := (4 : Int32)) dL_law_591 (by decide) ?_
      refine oX_iadd dL_law_592 ?_
      obtain ⟨g104, hm⟩ := gd_s hm
      refine oX_ialdP oDs3 g104 dL_law_593 ?_
      obtain ⟨s105, hm⟩ := gd_s hm
      obtain ⟨r106, g106, hm⟩ := bd_s hm
      refine oX_cV (as := [vI (AI 3 0 (x4 + (1 : Int32)).toNatClampNeg), vI (AI 3 0 (x4 + (2 : Int32)).toNatClampNeg), vI (AI 3 0 (x4 + (3 : Int32)).toNatClampNeg), vI (AI 3 0 (x4 + (4 : Int32)).toNatClampNeg)]) dL_law_594 rfl oDs1 rfl (by decide) rfl ok_X4_learn rfl rfl q2169 q2170 q2171 q136 q2172 (by decide) (Nat.le_of_ble_eq_true rfl) (t_X4_learn s105 (AI 3 0 (x4 + (1 : Int32)).toNatClampNeg) (AI 3 0 (x4 + (2 : Int32)).toNatClampNeg) (AI 3 0 (x4 + (3 : Int32)).toNatClampNeg) (AI 3 0 (x4 + (4 : Int32)).toNatClampNeg) g106) ?_
      refine oX_icmp_eq (tgt := 1463) dL_law_597 (by decide) (fun c107 => ?_) (fun c107 => ?_)
      · have hm := ifp c107 hm
        refine oX_iinc (v := x4 + (6 : Int32)) (ls' := [(4, vI (x4 + (6 : Int32))), (0, vR (some (3, 0))), (1, vR (some (0, 0))), (2, vR (some (1, 0))), (3, vR (some (2, 0)))]) dL_law_1463 rfl rfl (by decide) rfl ?_
        refine oX_goto (tgt := 23) dL_law_1466 (by decide) ?_
        obtain ⟨hr, rfl⟩ := oEnd hm
        exact oX_sub [1, 2, 3, 4, 0] rfl (oX_z (hk (x4 + (6 : Int32), r106.2.1, FL, FR, r100.1.2.2.1, r106.2.2, AL, r100.1.2.2.2.1, r100.1.2.2.2.2.1, r100.1.2.2.2.2.2) hr))
      · have hm := ifn c107 hm
        obtain ⟨hr, rfl⟩ := oEnd hm
        exact oX_sub [] rfl (oX_z (hx11 (r106.2.1, FL, FR, r100.1.2.2.1, r106.2.2, AL, r100.1.2.2.2.1, r100.1.2.2.2.2.1, r100.1.2.2.2.2.2) hr))
    have hm := ifn c95 hm
    by_cases c108 : ((AI 3 0 x4.toNatClampNeg) &&& (31 : Int32)) = (10 : Int32)
    · have hm := ifp c108 hm
      refine oX_tin (tgt := 602) dL_law_40 c108 (by decide) (by decide) rfl (by decide) ?_
      refine oX_aload_n dL_law_602 rfl rfl ?_
      refine oX_aload_n dL_law_603 rfl rfl ?_
      refine oX_iload dL_law_604 rfl ?_
      refine oX_iconst (v := (1 : Int32)) dL_law_606 (by decide) ?_
      refine oX_iadd dL_law_607 ?_
      obtain ⟨g109, hm⟩ := gd_s hm
      refine oX_ialdP oDs3 g109 dL_law_608 ?_
      refine oX_aload_n dL_law_609 rfl rfl ?_
      refine oX_iload dL_law_610 rfl ?_
      refine oX_iconst (v := (2 : Int32)) dL_law_612 (by decide) ?_
      refine oX_iadd dL_law_613 ?_
      obtain ⟨g110, hm⟩ := gd_s hm
      refine oX_ialdP oDs3 g110 dL_law_614 ?_
      refine oX_aload_n dL_law_615 rfl rfl ?_
      refine oX_iload dL_law_616 rfl ?_
      refine oX_iconst (v := (3 : Int32)) dL_law_618 (by decide) ?_
      refine oX_iadd dL_law_619 ?_
      obtain ⟨g111, hm⟩ := gd_s hm
      refine oX_ialdP oDs3 g111 dL_law_620 ?_
      refine oX_aload_n dL_law_621 rfl rfl ?_
      refine oX_iload dL_law_622 rfl ?_
      refine oX_iconst (v := (4 : Int32)) dL_law_624 (by decide) ?_
      refine oX_iadd dL_law_625 ?_
      obtain ⟨g112, hm⟩ := gd_s hm
      refine oX_ialdP oDs3 g112 dL_law_626 ?_
      refine oX_aload_n dL_law_627 rfl rfl ?_
      refine oX_iload dL_law_628 rfl ?_
      refine oX_iconst (v := (5 : Int32)) dL_law_630 (by decide) ?_
      refine oX_iadd dL_law_631 ?_
      obtain ⟨g113, hm⟩ := gd_s hm
      refine oX_ialdP oDs3 g113 dL_law_632 ?_
      obtain ⟨r114, g114, hm⟩ := bd_s hm
      refine oX_cost hm (fun qq114 hm => ?_)
      refine oX_cVK (as := [vI (AI 3 0 (x4 + (1 : Int32)).toNatClampNeg), vI (AI 3 0 (x4 + (2 : Int32)).toNatClampNeg), vI (AI 3 0 (x4 + (3 : Int32)).toNatClampNeg), vI (AI 3 0 (x4 + (4 : Int32)).toNatClampNeg), vI (AI 3 0 (x4 + (5 : Int32)).toNatClampNeg)]) dL_law_633 rfl oDs0 rfl (by decide) rfl ok_X1_call rfl rfl q1298 q1299 q1300 q129 q1301 (by decide) (Nat.le_of_ble_eq_true rfl) (t_X1_call (AI 3 0 (x4 + (1 : Int32)).toNatClampNeg) (AI 3 0 (x4 + (2 : Int32)).toNatClampNeg) (AI 3 0 (x4 + (3 : Int32)).toNatClampNeg) (AI 3 0 (x4 + (4 : Int32)).toNatClampNeg) (AI 3 0 (x4 + (5 : Int32)).toNatClampNeg) g114) (Nat.le_refl _) (Nat.le_refl _) ?_
      refine oX_aload_n dL_law_636 rfl rfl ?_
      refine oX_aload_n dL_law_637 rfl rfl ?_
      refine oX_iload dL_law_638 rfl ?_
      refine oX_iconst (v := (1 : Int32)) dL_law_640 (by decide) ?_
      refine oX_iadd dL_law_641 ?_
      obtain ⟨g115, hm⟩ := gd_s hm
      refine oX_ialdP oDs3 g115 dL_law_642 ?_
      refine oX_aload_n dL_law_643 rfl rfl ?_
      refine oX_iload dL_law_644 rfl ?_
      refine oX_iconst (v := (2 : Int32)) dL_law_646 (by decide) ?_
      refine oX_iadd dL_law_647 ?_
      obtain ⟨g116, hm⟩ := gd_s hm
      refine oX_ialdP oDs3 g116 dL_law_648 ?_
      refine oX_aload_n dL_law_649 rfl rfl ?_
      refine oX_iload dL_law_650 rfl ?_
      refine oX_iconst (v := (3 : Int32)) dL_law_652 (by decide) ?_
      refine oX_iadd dL_law_653 ?_
      obtain ⟨g117, hm⟩ := gd_s hm
      refine oX_ialdP oDs3 g117 dL_law_654 ?_
      refine oX_aload_n dL_law_655 rfl rfl ?_
      refine oX_iload dL_law_656 rfl ?_
      refine oX_iconst (v := (4 : Int32)) dL_law_658 (by decide) ?_
      refine oX_iadd dL_law_659 ?_
      obtain ⟨g118, hm⟩ := gd_s hm
      refine oX_ialdP oDs3 g118 dL_law_660 ?_
      refine oX_aload_n dL_law_661 rfl rfl ?_
      refine oX_iload dL_law_662 rfl ?_
      refine oX_iconst (v := (5 : Int32)) dL_law_664 (by decide) ?_
      refine oX_iadd dL_law_665 ?_
      obtain ⟨g119, hm⟩ := gd_s hm
      refine oX_ialdP oDs3 g119 dL_law_666 ?_
      obtain ⟨s120, hm⟩ := gd_s hm
      obtain ⟨r121, g121, hm⟩ := bd_s hm
      refine oX_cV (as := [vI (AI 3 0 (x4 + (1 : Int32)).toNatClampNeg), vI (AI 3 0 (x4 + (2 : Int32)).toNatClampNeg), vI (AI 3 0 (x4 + (3 : Int32)).toNatClampNeg), vI (AI 3 0 (x4 + (4 : Int32)).toNatClampNeg), vI (AI 3 0 (x4 + (5 : Int32)).toNatClampNeg)]) dL_law_667 rfl oDs1 rfl (by decide) rfl ok_X4_call rfl rfl q2177 q2178 q2179 q136 q2180 (by decide) (Nat.le_of_ble_eq_true rfl) (t_X4_call s120 (AI 3 0 (x4 + (1 : Int32)).toNatClampNeg) (AI 3 0 (x4 + (2 : Int32)).toNatClampNeg) (AI 3 0 (x4 + (3 : Int32)).toNatClampNeg) (AI 3 0 (x4 + (4 : Int32)).toNatClampNeg) (AI 3 0 (x4 + (5 : Int32)).toNatClampNeg) g121) ?_
      refine oX_icmp_eq (tgt := 1463) dL_law_670 (by decide) (fun c122 => ?_) (fun c122 => ?_)
      · have hm := ifp c122 hm
        refine oX_iinc (v := x4 + (6 : Int32)) (ls' := [(4, vI (x4 + (6 : Int32))), (0, vR (some (3, 0))), (1, vR (some (0, 0))), (2, vR (some (1, 0))), (3, vR (some (2, 0)))]) dL_law_1463 rfl rfl (by decide) rfl ?_
        refine oX_goto (tgt := 23) dL_law_1466 (by decide) ?_
        obtain ⟨hr, rfl⟩ := oEnd hm
        exact oX_sub [1, 2, 3, 4, 0] rfl (oX_z (hk (x4 + (6 : Int32), r121.2.1, FL, r114.1.2.2.1, r114.1.2.2.2.1, r121.2.2, AL, r114.1.2.2.2.2.1, r114.1.2.2.2.2.2.1, r114.1.2.2.2.2.2.2) hr))
      · have hm := ifn c122 hm
        obtain ⟨hr, rfl⟩ := oEnd hm
        exact oX_sub [] rfl (oX_z (hx12 (r121.2.1, FL, r114.1.2.2.1, r114.1.2.2.2.1, r121.2.2, AL, r114.1.2.2.2.2.1, r114.1.2.2.2.2.2.1, r114.1.2.2.2.2.2.2) hr))
    have hm := ifn c108 hm
    by_cases c123 : ((AI 3 0 x4.toNatClampNeg) &&& (31 : Int32)) = (11 : Int32)
    · have hm := ifp c123 hm
      refine oX_tin (tgt := 675) dL_law_40 c123 (by decide) (by decide) rfl (by decide) ?_
      refine oX_aload_n dL_law_675 rfl rfl ?_
      refine oX_aload_n dL_law_676 rfl rfl ?_
      refine oX_iload dL_law_677 rfl ?_
      refine oX_iconst (v := (1 : Int32)) dL_law_679 (by decide) ?_
      refine oX_iadd dL_law_680 ?_
      obtain ⟨g124, hm⟩ := gd_s hm
      refine oX_ialdP oDs3 g124 dL_law_681 ?_
      refine oX_aload_n dL_law_682 rfl rfl ?_
      refine oX_iload dL_law_683 rfl ?_
      refine oX_iconst (v := (2 : Int32)) dL_law_685 (by decide) ?_
      refine oX_iadd dL_law_686 ?_
      obtain ⟨g125, hm⟩ := gd_s hm
      refine oX_ialdP oDs3 g125 dL_law_687 ?_
      refine oX_aload_n dL_law_688 rfl rfl ?_
      refine oX_iload dL_law_689 rfl ?_
      refine oX_iconst (v := (3 : Int32)) dL_law_691 (by decide) ?_
      refine oX_iadd dL_law_692 ?_
      obtain ⟨g126, hm⟩ := gd_s hm
      refine oX_ialdP oDs3 g126 dL_law_693 ?_
      refine oX_aload_n dL_law_694 rfl rfl ?_
      refine oX_iload dL_law_695 rfl ?_
      refine oX_iconst (v := (4 : Int32)) dL_law_697 (by decide) ?_
      refine oX_iadd dL_law_698 ?_
      obtain ⟨g127, hm⟩ := gd_s hm
      refine oX_ialdP oDs3 g127 dL_law_699 ?_
      refine oX_if_eq (tgt := 707) dL_law_700 (by decide) (fun c128 => ?_) (fun c128 => ?_)
      · have hm := ifp c128 hm
        refine oX_iconst (v := (0 : Int32)) dL_law_707 (by decide) ?_
        exact oX_sub [0, 1, 2, 3, 4] rfl (x_mL_law_j708 n x4 (AI 3 0 (x4 + (1 : Int32)).toNatClampNeg) (AI 3 0 (x4 + (2 : Int32)).toNatClampNeg) (AI 3 0 (x4 + (3 : Int32)).toNatClampNeg) (0 : Int32) hm hk hx1 hx2 hx3 hx4 hx5 hx6 hx7 hx8 hx9 hx10 hx11 hx12 hx13 hx14 hx15 hx16 hx17 hx18 hx19 hx20 hx21 hx22 hx23 hx24 hx25 hx26 hx27 hx28 hx29 hx30)
      · have hm := ifn c128 hm
        refine oX_iconst (v := (1 : Int32)) dL_law_703 (by decide) ?_
        refine oX_goto (tgt := 708) dL_law_704 (by decide) ?_
        exact oX_sub [0, 1, 2, 3, 4] rfl (x_mL_law_j708 n x4 (AI 3 0 (x4 + (1 : Int32)).toNatClampNeg) (AI 3 0 (x4 + (2 : Int32)).toNatClampNeg) (AI 3 0 (x4 + (3 : Int32)).toNatClampNeg) (1 : Int32) hm hk hx1 hx2 hx3 hx4 hx5 hx6 hx7 hx8 hx9 hx10 hx11 hx12 hx13 hx14 hx15 hx16 hx17 hx18 hx19 hx20 hx21 hx22 hx23 hx24 hx25 hx26 hx27 hx28 hx29 hx30)
    have hm := ifn c123 hm
    by_cases c138 : ((AI 3 0 x4.toNatClampNeg) &&& (31 : Int32)) = (12 : Int32)
    · have hm := ifp c138 hm
      refine oX_tin (tgt := 752) dL_law_40 c138 (by decide) (by decide) rfl (by decide) ?_
      refine oX_aload_n dL_law_752 rfl rfl ?_
      refine oX_aload_n dL_law_753 rfl rfl ?_
      refine oX_iload dL_law_754 rfl ?_
      refine oX_iconst (v := (1 : Int32)) dL_law_756 (by decide) ?_
      refine oX_iadd dL_law_757 ?_
      obtain ⟨g139, hm⟩ := gd_s hm
      refine oX_ialdP oDs3 g139 dL_law_758 ?_
      refine oX_aload_n dL_law_759 rfl rfl ?_
      refine oX_iload dL_law_760 rfl ?_
      refine oX_iconst (v := (2 : Int32)) dL_law_762 (by decide) ?_
      refine oX_iadd dL_law_763 ?_
      obtain ⟨g140, hm⟩ := gd_s hm
      refine oX_ialdP oDs3 g140 dL_law_764 ?_
      refine oX_aload_n dL_law_765 rfl rfl ?_
      refine oX_iload dL_law_766 rfl ?_
      refine oX_iconst (v := (3 : Int32)) dL_law_768 (by decide) ?_
      refine oX_iadd dL_law_769 ?_
      obtain ⟨g141, hm⟩ := gd_s hm
      refine oX_ialdP oDs3 g141 dL_law_770 ?_
      obtain ⟨r142, g142, hm⟩ := bd_s hm
      refine oX_cost hm (fun qq142 hm => ?_)
      refine oX_cVK (as := [vI (AI 3 0 (x4 + (1 : Int32)).toNatClampNeg), vI (AI 3 0 (x4 + (2 : Int32)).toNatClampNeg), vI (AI 3 0 (x4 + (3 : Int32)).toNatClampNeg)]) dL_law_771 rfl oDs0 rfl (by decide) rfl ok_X1_ill rfl rfl q1384 q1385 q1386 q129 q1387 (by decide) (Nat.le_of_ble_eq_true rfl) (t_X1_ill (AI 3 0 (x4 + (1 : Int32)).toNatClampNeg) (AI 3 0 (x4 + (2 : Int32)).toNatClampNeg) (AI 3 0 (x4 + (3 : Int32)).toNatClampNeg) g142) (Nat.le_refl _) (Nat.le_refl _) ?_
      refine oX_aload_n dL_law_774 rfl rfl ?_
      refine oX_aload_n dL_law_775 rfl rfl ?_
      refine oX_iload dL_law_776 rfl ?_
      refine oX_iconst (v := (1 : Int32)) dL_law_778 (by decide) ?_
      refine oX_iadd dL_law_779 ?_
      obtain ⟨g143, hm⟩ := gd_s hm
      refine oX_ialdP oDs3 g143 dL_law_780 ?_
      refine oX_aload_n dL_law_781 rfl rfl ?_
      refine oX_iload dL_law_782 rfl ?_
      refine oX_iconst (v := (2 : Int32)) dL_law_784 (by decide) ?_
      refine oX_iadd dL_law_785 ?_
      obtain ⟨g144, hm⟩ := gd_s hm
      refine oX_ialdP oDs3 g144 dL_law_786 ?_
      refine oX_aload_n dL_law_787 rfl rfl ?_
      refine oX_iload dL_law_788 rfl ?_
      refine oX_iconst (v := (3 : Int32)) dL_law_790 (by decide) ?_
      refine oX_iadd dL_law_791 ?_
      obtain ⟨g145, hm⟩ := gd_s hm
      refine oX_ialdP oDs3 g145 dL_law_792 ?_
      obtain ⟨s146, hm⟩ := gd_s hm
      obtain ⟨r147, g147, hm⟩ := bd_s hm
      refine oX_cV (as := [vI (AI 3 0 (x4 + (1 : Int32)).toNatClampNeg), vI (AI 3 0 (x4 + (2 : Int32)).toNatClampNeg), vI (AI 3 0 (x4 + (3 : Int32)).toNatClampNeg)]) dL_law_793 rfl oDs1 rfl (by decide) rfl ok_X4_ill rfl rfl q2201 q2202 q2203 q136 q2204 (by decide) (Nat.le_of_ble_eq_true rfl) (t_X4_ill s146 (AI 3 0 (x4 + (1 : Int32)).toNatClampNeg) (AI 3 0 (x4 + (2 : Int32)).toNatClampNeg) (AI 3 0 (x4 + (3 : Int32)).toNatClampNeg) g147) ?_
      refine oX_icmp_eq (tgt := 1463) dL_law_796 (by decide) (fun c148 => ?_) (fun c148 => ?_)
      · have hm := ifp c148 hm
        refine oX_iinc (v := x4 + (6 : Int32)) (ls' := [(4, vI (x4 + (6 : Int32))), (0, vR (some (3, 0))), (1, vR (some (0, 0))), (2, vR (some (1, 0))), (3, vR (some (2, 0)))]) dL_law_1463 rfl rfl (by decide) rfl ?_
        refine oX_goto (tgt := 23) dL_law_1466 (by decide) ?_
        obtain ⟨hr, rfl⟩ := oEnd hm
        exact oX_sub [1, 2, 3, 4, 0] rfl (oX_z (hk (x4 + (6 : Int32), r147.2.1, FL, FR, r142.1.2.2.1, r147.2.2, AL, r142.1.2.2.2.1, r142.1.2.2.2.2.1, r142.1.2.2.2.2.2) hr))
      · have hm := ifn c148 hm
        obtain ⟨hr, rfl⟩ := oEnd hm
        exact oX_sub [] rfl (oX_z (hx14 (r147.2.1, FL, FR, r142.1.2.2.1, r147.2.2, AL, r142.1.2.2.2.1, r142.1.2.2.2.2.1, r142.1.2.2.2.2.2) hr))
    have hm := ifn c138 hm
    by_cases c149 : ((AI 3 0 x4.toNatClampNeg) &&& (31 : Int32)) = (13 : Int32)
    · have hm := ifp c149 hm
      refine oX_tin (tgt := 801) dL_law_40 c149 (by decide) (by decide) rfl (by decide) ?_
      refine oX_aload_n dL_law_801 rfl rfl ?_
      refine oX_aload_n dL_law_802 rfl rfl ?_
      refine oX_iload dL_law_803 rfl ?_
      refine oX_iconst (v := (1 : Int32)) dL_law_805 (by decide) ?_
      refine oX_iadd dL_law_806 ?_
      obtain ⟨g150, hm⟩ := gd_s hm
      refine oX_ialdP oDs3 g150 dL_law_807 ?_
      refine oX_aload_n dL_law_808 rfl rfl ?_
      refine oX_iload dL_law_809 rfl ?_
      refine oX_iconst (v := (2 : Int32)) dL_law_811 (by decide) ?_
      refine oX_iadd dL_law_812 ?_
      obtain ⟨g151, hm⟩ := gd_s hm
      refine oX_ialdP oDs3 g151 dL_law_813 ?_
      refine oX_aload_n dL_law_814 rfl rfl ?_
      refine oX_iload dL_law_815 rfl ?_
      refine oX_iconst (v := (3 : Int32)) dL_law_817 (by decide) ?_
      refine oX_iadd dL_law_818 ?_
      obtain ⟨g152, hm⟩ := gd_s hm
      refine oX_ialdP oDs3 g152 dL_law_819 ?_
      refine oX_if_eq (tgt := 827) dL_law_820 (by decide) (fun c153 => ?_) (fun c153 => ?_)
      · have hm := ifp c153 hm
        refine oX_iconst (v := (0 : Int32)) dL_law_827 (by decide) ?_
        exact oX_sub [0, 1, 2, 3, 4] rfl (x_mL_law_j828 n x4 (AI 3 0 (x4 + (1 : Int32)).toNatClampNeg) (AI 3 0 (x4 + (2 : Int32)).toNatClampNeg) (0 : Int32) hm hk hx1 hx2 hx3 hx4 hx5 hx6 hx7 hx8 hx9 hx10 hx11 hx12 hx13 hx14 hx15 hx16 hx17 hx18 hx19 hx20 hx21 hx22 hx23 hx24 hx25 hx26 hx27 hx28 hx29 hx30)
      · have hm := ifn c153 hm
        refine oX_iconst (v := (1 : Int32)) dL_law_823 (by decide) ?_
        refine oX_goto (tgt := 828) dL_law_824 (by decide) ?_
        exact oX_sub [0, 1, 2, 3, 4] rfl (x_mL_law_j828 n x4 (AI 3 0 (x4 + (1 : Int32)).toNatClampNeg) (AI 3 0 (x4 + (2 : Int32)).toNatClampNeg) (1 : Int32) hm hk hx1 hx2 hx3 hx4 hx5 hx6 hx7 hx8 hx9 hx10 hx11 hx12 hx13 hx14 hx15 hx16 hx17 hx18 hx19 hx20 hx21 hx22 hx23 hx24 hx25 hx26 hx27 hx28 hx29 hx30)
    have hm := ifn c149 hm
    by_cases c165 : ((AI 3 0 x4.toNatClampNeg) &&& (31 : Int32)) = (14 : Int32)
    · have hm := ifp c165 hm
      refine oX_tin (tgt := 878) dL_law_40 c165 (by decide) (by decide) rfl (by decide) ?_
      refine oX_aload_n dL_law_878 rfl rfl ?_
      refine oX_aload_n dL_law_879 rfl rfl ?_
      refine oX_iload dL_law_880 rfl ?_
      refine oX_iconst (v := (1 : Int32)) dL_law_882 (by decide) ?_
      refine oX_iadd dL_law_883 ?_
      obtain ⟨g166, hm⟩ := gd_s hm
      refine oX_ialdP oDs3 g166 dL_law_884 ?_
      obtain ⟨r167, g167, hm⟩ := bd_s hm
      refine oX_cost hm (fun qq167 hm => ?_)
      refine oX_cVK (as := [vI (AI 3 0 (x4 + (1 : Int32)).toNatClampNeg)]) dL_law_885 rfl oDs0 rfl (by decide) rfl ok_X1_wrong rfl rfl q1430 q1431 q1432 q129 q1433 (by decide) (Nat.le_of_ble_eq_true rfl) (t_X1_wrong n (AI 3 0 (x4 + (1 : Int32)).toNatClampNeg) g167) (Nat.le_refl _) (Nat.le_refl _) ?_
      refine oX_aload_n dL_law_888 rfl rfl ?_
      refine oX_aload_n dL_law_889 rfl rfl ?_
      refine oX_iload dL_law_890 rfl ?_
      refine oX_iconst (v := (1 : Int32)) dL_law_892 (by decide) ?_
      refine oX_iadd dL_law_893 ?_
      obtain ⟨g168, hm⟩ := gd_s hm
      refine oX_ialdP oDs3 g168 dL_law_894 ?_
      obtain ⟨s169, hm⟩ := gd_s hm
      obtain ⟨r170, g170, hm⟩ := bd_s hm
      refine oX_cV (as := [vI (r167.1.2.2.2.1 3 0 (x4 + (1 : Int32)).toNatClampNeg)]) dL_law_895 rfl oDs1 rfl (by decide) rfl ok_X4_wrong rfl rfl q2314 q2315 q2316 q136 q2317 (by decide) (Nat.le_of_ble_eq_true rfl) (t_X4_wrong s169 n (r167.1.2.2.2.1 3 0 (x4 + (1 : Int32)).toNatClampNeg) g170) ?_
      refine oX_icmp_eq (tgt := 1463) dL_law_898 (by decide) (fun c171 => ?_) (fun c171 => ?_)
      · have hm := ifp c171 hm
        refine oX_iinc (v := x4 + (6 : Int32)) (ls' := [(4, vI (x4 + (6 : Int32))), (0, vR (some (3, 0))), (1, vR (some (0, 0))), (2, vR (some (1, 0))), (3, vR (some (2, 0)))]) dL_law_1463 rfl rfl (by decide) rfl ?_
        refine oX_goto (tgt := 23) dL_law_1466 (by decide) ?_
        obtain ⟨hr, rfl⟩ := oEnd hm
        exact oX_sub [1, 2, 3, 4, 0] rfl (oX_z (hk (x4 + (6 : Int32), r170.2.1, FL, FR, r167.1.2.2.1, r170.2.2, AL, r167.1.2.2.2.2.1, r167.1.2.2.2.2.2.1, r167.1.2.2.2.2.2.2) hr))
      · have hm := ifn c171 hm
        obtain ⟨hr, rfl⟩ := oEnd hm
        exact oX_sub [] rfl (oX_z (hx16 (r170.2.1, FL, FR, r167.1.2.2.1, r170.2.2, AL, r167.1.2.2.2.2.1, r167.1.2.2.2.2.2.1, r167.1.2.2.2.2.2.2) hr))
    have hm := ifn c165 hm
    by_cases c172 : ((AI 3 0 x4.toNatClampNeg) &&& (31 : Int32)) = (15 : Int32)
    · have hm := ifp c172 hm
      refine oX_tin (tgt := 903) dL_law_40 c172 (by decide) (by decide) rfl (by decide) ?_
      refine oX_aload_n dL_law_903 rfl rfl ?_
      refine oX_aload_n dL_law_904 rfl rfl ?_
      refine oX_iload dL_law_905 rfl ?_
      refine oX_iconst (v := (1 : Int32)) dL_law_907 (by decide) ?_
      refine oX_iadd dL_law_908 ?_
      obtain ⟨g173, hm⟩ := gd_s hm
      refine oX_ialdP oDs3 g173 dL_law_909 ?_
      refine oX_aload_n dL_law_910 rfl rfl ?_
      refine oX_iload dL_law_911 rfl ?_
      refine oX_iconst (v := (2 : Int32)) dL_law_913 (by decide) ?_
      refine oX_iadd dL_law_914 ?_
      obtain ⟨g174, hm⟩ := gd_s hm
      refine oX_ialdP oDs3 g174 dL_law_915 ?_
      refine oX_aload_n dL_law_916 rfl rfl ?_
      obtain ⟨r175, g175, hm⟩ := bd_s hm
      refine oX_cost hm (fun qq175 hm => ?_)
      refine oX_cSKW (as := [vR (some (0, 0)), vI (AI 3 0 (x4 + (1 : Int32)).toNatClampNeg), vI (AI 3 0 (x4 + (2 : Int32)).toNatClampNeg), vR (some (2, 0))]) dL_law_917 rfl ok_X0_told rfl rfl q1674 q1675 q128 q1676 (by decide) (Nat.le_of_ble_eq_true rfl) (t_X0_told (AI 3 0 (x4 + (1 : Int32)).toNatClampNeg) (AI 3 0 (x4 + (2 : Int32)).toNatClampNeg) g175) (Nat.le_refl _) (Nat.le_refl _) ?_
      refine oX_istore (ls' := [(5, vI r175.1.1), (0, vR (some (3, 0))), (1, vR (some (0, 0))), (2, vR (some (1, 0))), (3, vR (some (2, 0))), (4, vI x4)]) dL_law_920 (by decide) rfl ?_
      refine oX_aload_n dL_law_922 rfl rfl ?_
      refine oX_aload_n dL_law_923 rfl rfl ?_
      refine oX_iload dL_law_924 rfl ?_
      refine oX_iconst (v := (1 : Int32)) dL_law_926 (by decide) ?_
      refine oX_iadd dL_law_927 ?_
      obtain ⟨g176, hm⟩ := gd_s hm
      refine oX_ialdP oDs3 g176 dL_law_928 ?_
      refine oX_aload_n dL_law_929 rfl rfl ?_
      refine oX_iload dL_law_930 rfl ?_
      refine oX_iconst (v := (2 : Int32)) dL_law_932 (by decide) ?_
      refine oX_iadd dL_law_933 ?_
      obtain ⟨g177, hm⟩ := gd_s hm
      refine oX_ialdP oDs3 g177 dL_law_934 ?_
      obtain ⟨s178, hm⟩ := gd_s hm
      obtain ⟨r179, g179, hm⟩ := bd_s hm
      refine oX_cV (as := [vI (AI 3 0 (x4 + (1 : Int32)).toNatClampNeg), vI (AI 3 0 (x4 + (2 : Int32)).toNatClampNeg)]) dL_law_935 rfl oDs1 rfl (by decide) rfl ok_X4_told rfl rfl q2386 q2387 q2388 q136 q2389 (by decide) (Nat.le_of_ble_eq_true rfl) (t_X4_told s178 (AI 3 0 (x4 + (1 : Int32)).toNatClampNeg) (AI 3 0 (x4 + (2 : Int32)).toNatClampNeg) g179) ?_
      refine oX_istore (ls' := [(6, vI r179.1), (5, vI r175.1.1), (0, vR (some (3, 0))), (1, vR (some (0, 0))), (2, vR (some (1, 0))), (3, vR (some (2, 0))), (4, vI x4)]) dL_law_938 (by decide) rfl ?_
      refine oX_aload_n dL_law_940 rfl rfl ?_
      obtain ⟨r180, g180, hm⟩ := bd_s hm
      refine oX_cV (as := []) dL_law_941 rfl oDs1 rfl (by decide) rfl ok_X4_thrown rfl rfl q2012 q2013 q2014 q136 q2015 (by decide) (Nat.le_of_ble_eq_true rfl) (t_X4_thrown g180) ?_
      refine oX_iload dL_law_944 rfl ?_
      refine oX_icmp_eq (tgt := 951) dL_law_946 (by decide) (fun c181 => ?_) (fun c181 => ?_)
      · have hm := ifp c181 hm
        refine oX_iload dL_law_951 rfl ?_
        refine oX_if_ne (tgt := 968) dL_law_953 (by decide) (fun c182 => ?_) (fun c182 => ?_)
        · have hm := ifp c182 hm
          refine oX_aload_n dL_law_956 rfl rfl ?_
          refine oX_iconst (v := (0 : Int32)) dL_law_957 (by decide) ?_
          obtain ⟨g183, hm⟩ := gd_s hm
          refine oX_lald oDs2 g183 dL_law_958 ?_
          refine oX_iload dL_law_959 rfl ?_
          refine oX_i2l dL_law_961 ?_
          refine oX_lcmp dL_law_962 ?_
          refine oX_if_eq (tgt := 968) dL_law_963 (by decide) (fun c184 => ?_) (fun c184 => ?_)
          · have hm := ifp c184 hm
            refine oX_goto (tgt := 1463) dL_law_968 (by decide) ?_
            refine oX_iinc (v := x4 + (6 : Int32)) (ls' := [(4, vI (x4 + (6 : Int32))), (6, vI r179.1), (5, vI r175.1.1), (0, vR (some (3, 0))), (1, vR (some (0, 0))), (2, vR (some (1, 0))), (3, vR (some (2, 0)))]) dL_law_1463 rfl rfl (by decide) rfl ?_
            refine oX_goto (tgt := 23) dL_law_1466 (by decide) ?_
            obtain ⟨hr, rfl⟩ := oEnd hm
            exact oX_sub [3, 4, 5, 6, 0] rfl (oX_z (hk (x4 + (6 : Int32), r179.2, FL, FR, r175.1.2.1, AI, r175.1.2.2.1, BR, AN, r175.1.2.2.2) hr))
          · have hm := ifn c184 hm
            obtain ⟨hr, rfl⟩ := oEnd hm
            exact oX_sub [] rfl (oX_z (hx18 (r179.2, FL, FR, r175.1.2.1, AI, r175.1.2.2.1, BR, AN, r175.1.2.2.2) hr))
        · have hm := ifn c182 hm
          refine oX_goto (tgt := 1463) dL_law_968 (by decide) ?_
          refine oX_iinc (v := x4 + (6 : Int32)) (ls' := [(4, vI (x4 + (6 : Int32))), (6, vI r179.1), (5, vI r175.1.1), (0, vR (some (3, 0))), (1, vR (some (0, 0))), (2, vR (some (1, 0))), (3, vR (some (2, 0)))]) dL_law_1463 rfl rfl (by decide) rfl ?_
          refine oX_goto (tgt := 23) dL_law_1466 (by decide) ?_
          obtain ⟨hr, rfl⟩ := oEnd hm
          exact oX_sub [3, 4, 5, 6, 0] rfl (oX_z (hk (x4 + (6 : Int32), r179.2, FL, FR, r175.1.2.1, AI, r175.1.2.2.1, BR, AN, r175.1.2.2.2) hr))
      · have hm := ifn c181 hm
        obtain ⟨hr, rfl⟩ := oEnd hm
        exact oX_sub [] rfl (oX_z (hx17 (r179.2, FL, FR, r175.1.2.1, AI, r175.1.2.2.1, BR, AN, r175.1.2.2.2) hr))
    have hm := ifn c172 hm
    by_cases c185 : ((AI 3 0 x4.toNatClampNeg) &&& (31 : Int32)) = (16 : Int32)
    · have hm := ifp c185 hm
      refine oX_tin (tgt := 971) dL_law_40 c185 (by decide) (by decide) rfl (by decide) ?_
      refine oX_aload_n dL_law_971 rfl rfl ?_
      refine oX_aload_n dL_law_972 rfl rfl ?_
      refine oX_iload dL_law_973 rfl ?_
      refine oX_iconst (v := (1 : Int32)) dL_law_975 (by decide) ?_
      refine oX_iadd dL_law_976 ?_
      obtain ⟨g186, hm⟩ := gd_s hm
      refine oX_ialdP oDs3 g186 dL_law_977 ?_
      refine oX_aload_n dL_law_978 rfl rfl ?_
      refine oX_iload dL_law_979 rfl ?_
      refine oX_iconst (v := (2 : Int32)) dL_law_981 (by decide) ?_
      refine oX_iadd dL_law_982 ?_
      obtain ⟨g187, hm⟩ := gd_s hm
      refine oX_ialdP oDs3 g187 dL_law_983 ?_
      refine oX_aload_n dL_law_984 rfl rfl ?_
      refine oX_iload dL_law_985 rfl ?_
      refine oX_iconst (v := (3 : Int32)) dL_law_987 (by decide) ?_
      refine oX_iadd dL_law_988 ?_
      obtain ⟨g188, hm⟩ := gd_s hm
      refine oX_ialdP oDs3 g188 dL_law_989 ?_
      refine oX_aload_n dL_law_990 rfl rfl ?_
      refine oX_iload dL_law_991 rfl ?_
      refine oX_iconst (v := (4 : Int32)) dL_law_993 (by decide) ?_
      refine oX_iadd dL_law_994 ?_
      obtain ⟨g189, hm⟩ := gd_s hm
      refine oX_ialdP oDs3 g189 dL_law_995 ?_
      obtain ⟨s190, hm⟩ := gd_s hm
      obtain ⟨r191, g191, hm⟩ := bd_s hm
      refine oX_cV (as := [vI (AI 3 0 (x4 + (1 : Int32)).toNatClampNeg), vI (AI 3 0 (x4 + (2 : Int32)).toNatClampNeg), vI (AI 3 0 (x4 + (3 : Int32)).toNatClampNeg), vI (AI 3 0 (x4 + (4 : Int32)).toNatClampNeg)]) dL_law_996 rfl oDs0 rfl (by decide) rfl ok_X1_learned rfl rfl q1558 q1559 q1560 q129 q1561 (by decide) (Nat.le_of_ble_eq_true rfl) (t_X1_learned s190 n (AI 3 0 (x4 + (1 : Int32)).toNatClampNeg) (AI 3 0 (x4 + (2 : Int32)).toNatClampNeg) (AI 3 0 (x4 + (3 : Int32)).toNatClampNeg) (AI 3 0 (x4 + (4 : Int32)).toNatClampNeg) g191) ?_
      refine oX_aload_n dL_law_999 rfl rfl ?_
      refine oX_aload_n dL_law_1000 rfl rfl ?_
      refine oX_iload dL_law_1001 rfl ?_
      refine oX_iconst (v := (1 : Int32)) dL_law_1003 (by decide) ?_
      refine oX_iadd dL_law_1004 ?_
      obtain ⟨g192, hm⟩ := gd_s hm
      refine oX_ialdP oDs3 g192 dL_law_1005 ?_
      refine oX_aload_n dL_law_1006 rfl rfl ?_
      refine oX_iload dL_law_1007 rfl ?_
      refine oX_iconst (v := (2 : Int32)) dL_law_1009 (by decide) ?_
      refine oX_iadd dL_law_1010 ?_
      obtain ⟨g193, hm⟩ := gd_s hm
      refine oX_ialdP oDs3 g193 dL_law_1011 ?_
      refine oX_aload_n dL_law_1012 rfl rfl ?_
      refine oX_iload dL_law_1013 rfl ?_
      refine oX_iconst (v := (3 : Int32)) dL_law_1015 (by decide) ?_
      refine oX_iadd dL_law_1016 ?_
      obtain ⟨g194, hm⟩ := gd_s hm
      refine oX_ialdP oDs3 g194 dL_law_1017 ?_
      refine oX_aload_n dL_law_1018 rfl rfl ?_
      refine oX_iload dL_law_1019 rfl ?_
      refine oX_iconst (v := (4 : Int32)) dL_law_1021 (by decide) ?_
      refine oX_iadd dL_law_1022 ?_
      obtain ⟨g195, hm⟩ := gd_s hm
      refine oX_ialdP oDs3 g195 dL_law_1023 ?_
      obtain ⟨s196, hm⟩ := gd_s hm
      obtain ⟨r197, g197, hm⟩ := bd_s hm
      refine oX_cV (as := [vI (r191.2.2.1 3 0 (x4 + (1 : Int32)).toNatClampNeg), vI (r191.2.2.1 3 0 (x4 + (2 : Int32)).toNatClampNeg), vI (r191.2.2.1 3 0 (x4 + (3 : Int32)).toNatClampNeg), vI (r191.2.2.1 3 0 (x4 + (4 : Int32)).toNatClampNeg)]) dL_law_1024 rfl oDs1 rfl (by decide) rfl ok_X4_learned rfl rfl q2221 q2222 q2223 q136 q2224 (by decide) (Nat.le_of_ble_eq_true rfl) (t_X4_learned s196 n (r191.2.2.1 3 0 (x4 + (1 : Int32)).toNatClampNeg) (r191.2.2.1 3 0 (x4 + (2 : Int32)).toNatClampNeg) (r191.2.2.1 3 0 (x4 + (3 : Int32)).toNatClampNeg) (r191.2.2.1 3 0 (x4 + (4 : Int32)).toNatClampNeg) g197) ?_
      refine oX_icmp_eq (tgt := 1463) dL_law_1027 (by decide) (fun c198 => ?_) (fun c198 => ?_)
      · have hm := ifp c198 hm
        refine oX_iinc (v := x4 + (6 : Int32)) (ls' := [(4, vI (x4 + (6 : Int32))), (0, vR (some (3, 0))), (1, vR (some (0, 0))), (2, vR (some (1, 0))), (3, vR (some (2, 0)))]) dL_law_1463 rfl rfl (by decide) rfl ?_
        refine oX_goto (tgt := 23) dL_law_1466 (by decide) ?_
        obtain ⟨hr, rfl⟩ := oEnd hm
        exact oX_sub [1, 2, 3, 4, 0] rfl (oX_z (hk (x4 + (6 : Int32), r197.2.1, FL, FR, GR, r197.2.2, AL, r191.2.2.2, AN, C) hr))
      · have hm := ifn c198 hm
        obtain ⟨hr, rfl⟩ := oEnd hm
        exact oX_sub [] rfl (oX_z (hx19 (r197.2.1, FL, FR, GR, r197.2.2, AL, r191.2.2.2, AN, C) hr))
    have hm := ifn c185 hm
    by_cases c199 : ((AI 3 0 x4.toNatClampNeg) &&& (31 : Int32)) = (17 : Int32)
    · have hm := ifp c199 hm
      refine oX_tin (tgt := 1032) dL_law_40 c199 (by decide) (by decide) rfl (by decide) ?_
      refine oX_aload_n dL_law_1032 rfl rfl ?_
      refine oX_aload_n dL_law_1033 rfl rfl ?_
      refine oX_iload dL_law_1034 rfl ?_
      refine oX_iconst (v := (1 : Int32)) dL_law_1036 (by decide) ?_
      refine oX_iadd dL_law_1037 ?_
      obtain ⟨g200, hm⟩ := gd_s hm
      refine oX_ialdP oDs3 g200 dL_law_1038 ?_
      refine oX_aload_n dL_law_1039 rfl rfl ?_
      refine oX_iload dL_law_1040 rfl ?_
      refine oX_iconst (v := (2 : Int32)) dL_law_1042 (by decide) ?_
      refine oX_iadd dL_law_1043 ?_
      obtain ⟨g201, hm⟩ := gd_s hm
      refine oX_ialdP oDs3 g201 dL_law_1044 ?_
      refine oX_aload_n dL_law_1045 rfl rfl ?_
      refine oX_iload dL_law_1046 rfl ?_
      refine oX_iconst (v := (3 : Int32)) dL_law_1048 (by decide) ?_
      refine oX_iadd dL_law_1049 ?_
      obtain ⟨g202, hm⟩ := gd_s hm
      refine oX_ialdP oDs3 g202 dL_law_1050 ?_
      obtain ⟨s203, hm⟩ := gd_s hm
      obtain ⟨r204, g204, hm⟩ := bd_s hm
      refine oX_cV (as := [vI (AI 3 0 (x4 + (1 : Int32)).toNatClampNeg), vI (AI 3 0 (x4 + (2 : Int32)).toNatClampNeg), vI (AI 3 0 (x4 + (3 : Int32)).toNatClampNeg)]) dL_law_1051 rfl oDs0 rfl (by decide) rfl ok_X1_tired rfl rfl q1562 q1563 q1564 q129 q1565 (by decide) (Nat.le_of_ble_eq_true rfl) (t_X1_tired s203 n (AI 3 0 (x4 + (1 : Int32)).toNatClampNeg) (AI 3 0 (x4 + (2 : Int32)).toNatClampNeg) (AI 3 0 (x4 + (3 : Int32)).toNatClampNeg) g204) ?_
      refine oX_aload_n dL_law_1054 rfl rfl ?_
      refine oX_aload_n dL_law_1055 rfl rfl ?_
      refine oX_iload dL_law_1056 rfl ?_
      refine oX_iconst (v := (1 : Int32)) dL_law_1058 (by decide) ?_
      refine oX_iadd dL_law_1059 ?_
      obtain ⟨g205, hm⟩ := gd_s hm
      refine oX_ialdP oDs3 g205 dL_law_1060 ?_
      refine oX_aload_n dL_law_1061 rfl rfl ?_
      refine oX_iload dL_law_1062 rfl ?_
      refine oX_iconst (v := (2 : Int32)) dL_law_1064 (by decide) ?_
      refine oX_iadd dL_law_1065 ?_
      obtain ⟨g206, hm⟩ := gd_s hm
      refine oX_ialdP oDs3 g206 dL_law_1066 ?_
      refine oX_aload_n dL_law_1067 rfl rfl ?_
      refine oX_iload dL_law_1068 rfl ?_
      refine oX_iconst (v := (3 : Int32)) dL_law_1070 (by decide) ?_
      refine oX_iadd dL_law_1071 ?_
      obtain ⟨g207, hm⟩ := gd_s hm
      refine oX_ialdP oDs3 g207 dL_law_1072 ?_
      obtain ⟨s208, hm⟩ := gd_s hm
      obtain ⟨r209, g209, hm⟩ := bd_s hm
      refine oX_cV (as := [vI (r204.2.2.1 3 0 (x4 + (1 : Int32)).toNatClampNeg), vI (r204.2.2.1 3 0 (x4 + (2 : Int32)).toNatClampNeg), vI (r204.2.2.1 3 0 (x4 + (3 : Int32)).toNatClampNeg)]) dL_law_1073 rfl oDs1 rfl (by decide) rfl ok_X4_tired rfl rfl q2233 q2234 q2235 q136 q2236 (by decide) (Nat.le_of_ble_eq_true rfl) (t_X4_tired s208 n (r204.2.2.1 3 0 (x4 + (1 : Int32)).toNatClampNeg) (r204.2.2.1 3 0 (x4 + (2 : Int32)).toNatClampNeg) (r204.2.2.1 3 0 (x4 + (3 : Int32)).toNatClampNeg) g209) ?_
      refine oX_icmp_eq (tgt := 1463) dL_law_1076 (by decide) (fun c210 => ?_) (fun c210 => ?_)
      · have hm := ifp c210 hm
        refine oX_iinc (v := x4 + (6 : Int32)) (ls' := [(4, vI (x4 + (6 : Int32))), (0, vR (some (3, 0))), (1, vR (some (0, 0))), (2, vR (some (1, 0))), (3, vR (some (2, 0)))]) dL_law_1463 rfl rfl (by decide) rfl ?_
        refine oX_goto (tgt := 23) dL_law_1466 (by decide) ?_
        obtain ⟨hr, rfl⟩ := oEnd hm
        exact oX_sub [1, 2, 3, 4, 0] rfl (oX_z (hk (x4 + (6 : Int32), r209.2.1, FL, FR, GR, r209.2.2, AL, r204.2.2.2, AN, C) hr))
      · have hm := ifn c210 hm
        obtain ⟨hr, rfl⟩ := oEnd hm
        exact oX_sub [] rfl (oX_z (hx20 (r209.2.1, FL, FR, GR, r209.2.2, AL, r204.2.2.2, AN, C) hr))
    have hm := ifn c199 hm
    by_cases c211 : ((AI 3 0 x4.toNatClampNeg) &&& (31 : Int32)) = (18 : Int32)
    · have hm := ifp c211 hm
      refine oX_tin (tgt := 1081) dL_law_40 c211 (by decide) (by decide) rfl (by decide) ?_
      refine oX_aload_n dL_law_1081 rfl rfl ?_
      refine oX_aload_n dL_law_1082 rfl rfl ?_
      refine oX_iload dL_law_1083 rfl ?_
      refine oX_iconst (v := (1 : Int32)) dL_law_1085 (by decide) ?_
      refine oX_iadd dL_law_1086 ?_
      obtain ⟨g212, hm⟩ := gd_s hm
      refine oX_ialdP oDs3 g212 dL_law_1087 ?_
      refine oX_aload_n dL_law_1088 rfl rfl ?_
      refine oX_iload dL_law_1089 rfl ?_
      refine oX_iconst (v := (2 : Int32)) dL_law_1091 (by decide) ?_
      refine oX_iadd dL_law_1092 ?_
      obtain ⟨g213, hm⟩ := gd_s hm
      refine oX_ialdP oDs3 g213 dL_law_1093 ?_
      refine oX_aload_n dL_law_1094 rfl rfl ?_
      refine oX_iload dL_law_1095 rfl ?_
      refine oX_iconst (v := (3 : Int32)) dL_law_1097 (by decide) ?_
      refine oX_iadd dL_law_1098 ?_
      obtain ⟨g214, hm⟩ := gd_s hm
      refine oX_ialdP oDs3 g214 dL_law_1099 ?_
      obtain ⟨s215, hm⟩ := gd_s hm
      obtain ⟨r216, g216, hm⟩ := bd_s hm
      refine oX_cV (as := [vI (AI 3 0 (x4 + (1 : Int32)).toNatClampNeg), vI (AI 3 0 (x4 + (2 : Int32)).toNatClampNeg), vI (AI 3 0 (x4 + (3 : Int32)).toNatClampNeg)]) dL_law_1100 rfl oDs0 rfl (by decide) rfl ok_X1_fee rfl rfl q1566 q1567 q1568 q129 q1569 (by decide) (Nat.le_of_ble_eq_true rfl) (t_X1_fee s215 n (AI 3 0 (x4 + (1 : Int32)).toNatClampNeg) (AI 3 0 (x4 + (2 : Int32)).toNatClampNeg) (AI 3 0 (x4 + (3 : Int32)).toNatClampNeg) g216) ?_
      refine oX_aload_n dL_law_1103 rfl rfl ?_
      refine oX_aload_n dL_law_1104 rfl rfl ?_
      refine oX_iload dL_law_1105 rfl ?_
      refine oX_iconst (v := (1 : Int32)) dL_law_1107 (by decide) ?_
      refine oX_iadd dL_law_1108 ?_
      obtain ⟨g217, hm⟩ := gd_s hm
      refine oX_ialdP oDs3 g217 dL_law_1109 ?_
      refine oX_aload_n dL_law_1110 rfl rfl ?_
      refine oX_iload dL_law_1111 rfl ?_
      refine oX_iconst (v := (2 : Int32)) dL_law_1113 (by decide) ?_
      refine oX_iadd dL_law_1114 ?_
      obtain ⟨g218, hm⟩ := gd_s hm
      refine oX_ialdP oDs3 g218 dL_law_1115 ?_
      refine oX_aload_n dL_law_1116 rfl rfl ?_
      refine oX_iload dL_law_1117 rfl ?_
      refine oX_iconst (v := (3 : Int32)) dL_law_1119 (by decide) ?_
      refine oX_iadd dL_law_1120 ?_
      obtain ⟨g219, hm⟩ := gd_s hm
      refine oX_ialdP oDs3 g219 dL_law_1121 ?_
      obtain ⟨s220, hm⟩ := gd_s hm
      obtain ⟨r221, g221, hm⟩ := bd_s hm
      refine oX_cV (as := [vI (r216.2.2.1 3 0 (x4 + (1 : Int32)).toNatClampNeg), vI (r216.2.2.1 3 0 (x4 + (2 : Int32)).toNatClampNeg), vI (r216.2.2.1 3 0 (x4 + (3 : Int32)).toNatClampNeg)]) dL_law_1122 rfl oDs1 rfl (by decide) rfl ok_X4_fee_2 rfl rfl q2245 q2246 q2247 q136 q2248 (by decide) (Nat.le_of_ble_eq_true rfl) (t_X4_fee_2 s220 n (r216.2.2.1 3 0 (x4 + (1 : Int32)).toNatClampNeg) (r216.2.2.1 3 0 (x4 + (2 : Int32)).toNatClampNeg) (r216.2.2.1 3 0 (x4 + (3 : Int32)).toNatClampNeg) g221) ?_
      refine oX_icmp_eq (tgt := 1463) dL_law_1125 (by decide) (fun c222 => ?_) (fun c222 => ?_)
      · have hm := ifp c222 hm
        refine oX_iinc (v := x4 + (6 : Int32)) (ls' := [(4, vI (x4 + (6 : Int32))), (0, vR (some (3, 0))), (1, vR (some (0, 0))), (2, vR (some (1, 0))), (3, vR (some (2, 0)))]) dL_law_1463 rfl rfl (by decide) rfl ?_
        refine oX_goto (tgt := 23) dL_law_1466 (by decide) ?_
        obtain ⟨hr, rfl⟩ := oEnd hm
        exact oX_sub [1, 2, 3, 4, 0] rfl (oX_z (hk (x4 + (6 : Int32), r221.2.1, FL, FR, GR, r221.2.2, AL, r216.2.2.2, AN, C) hr))
      · have hm := ifn c222 hm
        obtain ⟨hr, rfl⟩ := oEnd hm
        exact oX_sub [] rfl (oX_z (hx21 (r221.2.1, FL, FR, GR, r221.2.2, AL, r216.2.2.2, AN, C) hr))
    have hm := ifn c211 hm
    by_cases c223 : ((AI 3 0 x4.toNatClampNeg) &&& (31 : Int32)) = (19 : Int32)
    · have hm := ifp c223 hm
      refine oX_tin (tgt := 1130) dL_law_40 c223 (by decide) (by decide) rfl (by decide) ?_
      refine oX_aload_n dL_law_1130 rfl rfl ?_
      refine oX_aload_n dL_law_1131 rfl rfl ?_
      refine oX_iload dL_law_1132 rfl ?_
      refine oX_iconst (v := (1 : Int32)) dL_law_1134 (by decide) ?_
      refine oX_iadd dL_law_1135 ?_
      obtain ⟨g224, hm⟩ := gd_s hm
      refine oX_ialdP oDs3 g224 dL_law_1136 ?_
      refine oX_aload_n dL_law_1137 rfl rfl ?_
      refine oX_iload dL_law_1138 rfl ?_
      refine oX_iconst (v := (2 : Int32)) dL_law_1140 (by decide) ?_
      refine oX_iadd dL_law_1141 ?_
      obtain ⟨g225, hm⟩ := gd_s hm
      refine oX_ialdP oDs3 g225 dL_law_1142 ?_
      refine oX_aload_n dL_law_1143 rfl rfl ?_
      refine oX_iload dL_law_1144 rfl ?_
      refine oX_iconst (v := (3 : Int32)) dL_law_1146 (by decide) ?_
      refine oX_iadd dL_law_1147 ?_
      obtain ⟨g226, hm⟩ := gd_s hm
      refine oX_ialdP oDs3 g226 dL_law_1148 ?_
      obtain ⟨s227, hm⟩ := gd_s hm
      obtain ⟨r228, g228, hm⟩ := bd_s hm
      refine oX_cV (as := [vI (AI 3 0 (x4 + (1 : Int32)).toNatClampNeg), vI (AI 3 0 (x4 + (2 : Int32)).toNatClampNeg), vI (AI 3 0 (x4 + (3 : Int32)).toNatClampNeg)]) dL_law_1149 rfl oDs0 rfl (by decide) rfl ok_X1_pay rfl rfl q1588 q1589 q1590 q129 q1591 (by decide) (Nat.le_of_ble_eq_true rfl) (t_X1_pay s227 n (AI 3 0 (x4 + (1 : Int32)).toNatClampNeg) (AI 3 0 (x4 + (2 : Int32)).toNatClampNeg) (AI 3 0 (x4 + (3 : Int32)).toNatClampNeg) g228) ?_
      refine oX_aload_n dL_law_1152 rfl rfl ?_
      refine oX_aload_n dL_law_1153 rfl rfl ?_
      refine oX_iload dL_law_1154 rfl ?_
      refine oX_iconst (v := (1 : Int32)) dL_law_1156 (by decide) ?_
      refine oX_iadd dL_law_1157 ?_
      obtain ⟨g229, hm⟩ := gd_s hm
      refine oX_ialdP oDs3 g229 dL_law_1158 ?_
      refine oX_aload_n dL_law_1159 rfl rfl ?_
      refine oX_iload dL_law_1160 rfl ?_
      refine oX_iconst (v := (2 : Int32)) dL_law_1162 (by decide) ?_
      refine oX_iadd dL_law_1163 ?_
      obtain ⟨g230, hm⟩ := gd_s hm
      refine oX_ialdP oDs3 g230 dL_law_1164 ?_
      refine oX_aload_n dL_law_1165 rfl rfl ?_
      refine oX_iload dL_law_1166 rfl ?_
      refine oX_iconst (v := (3 : Int32)) dL_law_1168 (by decide) ?_
      refine oX_iadd dL_law_1169 ?_
      obtain ⟨g231, hm⟩ := gd_s hm
      refine oX_ialdP oDs3 g231 dL_law_1170 ?_
      obtain ⟨s232, hm⟩ := gd_s hm
      obtain ⟨r233, g233, hm⟩ := bd_s hm
      refine oX_cV (as := [vI (r228.2.2.1 3 0 (x4 + (1 : Int32)).toNatClampNeg), vI (r228.2.2.1 3 0 (x4 + (2 : Int32)).toNatClampNeg), vI (r228.2.2.1 3 0 (x4 + (3 : Int32)).toNatClampNeg)]) dL_law_1171 rfl oDs1 rfl (by decide) rfl ok_X4_pay rfl rfl q2285 q2286 q2287 q136 q2288 (by decide) (Nat.le_of_ble_eq_true rfl) (t_X4_pay s232 n (r228.2.2.1 3 0 (x4 + (1 : Int32)).toNatClampNeg) (r228.2.2.1 3 0 (x4 + (2 : Int32)).toNatClampNeg) (r228.2.2.1 3 0 (x4 + (3 : Int32)).toNatClampNeg) g233) ?_
      refine oX_icmp_eq (tgt := 1463) dL_law_1174 (by decide) (fun c234 => ?_) (fun c234 => ?_)
      · have hm := ifp c234 hm
        refine oX_iinc (v := x4 + (6 : Int32)) (ls' := [(4, vI (x4 + (6 : Int32))), (0, vR (some (3, 0))), (1, vR (some (0, 0))), (2, vR (some (1, 0))), (3, vR (some (2, 0)))]) dL_law_1463 rfl rfl (by decide) rfl ?_
        refine oX_goto (tgt := 23) dL_law_1466 (by decide) ?_
        obtain ⟨hr, rfl⟩ := oEnd hm
        exact oX_sub [1, 2, 3, 4, 0] rfl (oX_z (hk (x4 + (6 : Int32), r233.2.1, FL, FR, GR, r233.2.2, AL, r228.2.2.2, AN, C) hr))
      · have hm := ifn c234 hm
        obtain ⟨hr, rfl⟩ := oEnd hm
        exact oX_sub [] rfl (oX_z (hx22 (r233.2.1, FL, FR, GR, r233.2.2, AL, r228.2.2.2, AN, C) hr))
    have hm := ifn c223 hm
    by_cases c235 : ((AI 3 0 x4.toNatClampNeg) &&& (31 : Int32)) = (20 : Int32)
    · have hm := ifp c235 hm
      refine oX_tin (tgt := 1179) dL_law_40 c235 (by decide) (by decide) rfl (by decide) ?_
      refine oX_aload_n dL_law_1179 rfl rfl ?_
      refine oX_aload_n dL_law_1180 rfl rfl ?_
      refine oX_iload dL_law_1181 rfl ?_
      refine oX_iconst (v := (1 : Int32)) dL_law_1183 (by decide) ?_
      refine oX_iadd dL_law_1184 ?_
      obtain ⟨g236, hm⟩ := gd_s hm
      refine oX_ialdP oDs3 g236 dL_law_1185 ?_
      refine oX_aload_n dL_law_1186 rfl rfl ?_
      refine oX_iload dL_law_1187 rfl ?_
      refine oX_iconst (v := (2 : Int32)) dL_law_1189 (by decide) ?_
      refine oX_iadd dL_law_1190 ?_
      obtain ⟨g237, hm⟩ := gd_s hm
      refine oX_ialdP oDs3 g237 dL_law_1191 ?_
      obtain ⟨s238, hm⟩ := gd_s hm
      obtain ⟨r239, g239, hm⟩ := bd_s hm
      refine oX_cV (as := [vI (AI 3 0 (x4 + (1 : Int32)).toNatClampNeg), vI (AI 3 0 (x4 + (2 : Int32)).toNatClampNeg)]) dL_law_1192 rfl oDs0 rfl (by decide) rfl ok_X1_moves rfl rfl q1592 q1593 q1594 q129 q1595 (by decide) (Nat.le_of_ble_eq_true rfl) (t_X1_moves s238 n (AI 3 0 (x4 + (1 : Int32)).toNatClampNeg) (AI 3 0 (x4 + (2 : Int32)).toNatClampNeg) g239) ?_
      refine oX_aload_n dL_law_1195 rfl rfl ?_
      refine oX_aload_n dL_law_1196 rfl rfl ?_
      refine oX_iload dL_law_1197 rfl ?_
      refine oX_iconst (v := (1 : Int32)) dL_law_1199 (by decide) ?_
      refine oX_iadd dL_law_1200 ?_
      obtain ⟨g240, hm⟩ := gd_s hm
      refine oX_ialdP oDs3 g240 dL_law_1201 ?_
      refine oX_aload_n dL_law_1202 rfl rfl ?_
      refine oX_iload dL_law_1203 rfl ?_
      refine oX_iconst (v := (2 : Int32)) dL_law_1205 (by decide) ?_
      refine oX_iadd dL_law_1206 ?_
      obtain ⟨g241, hm⟩ := gd_s hm
      refine oX_ialdP oDs3 g241 dL_law_1207 ?_
      obtain ⟨s242, hm⟩ := gd_s hm
      obtain ⟨r243, g243, hm⟩ := bd_s hm
      refine oX_cV (as := [vI (r239.2 3 0 (x4 + (1 : Int32)).toNatClampNeg), vI (r239.2 3 0 (x4 + (2 : Int32)).toNatClampNeg)]) dL_law_1208 rfl oDs1 rfl (by decide) rfl ok_X4_moves rfl rfl q2289 q2290 q2291 q136 q2292 (by decide) (Nat.le_of_ble_eq_true rfl) (t_X4_moves s242 n (r239.2 3 0 (x4 + (1 : Int32)).toNatClampNeg) (r239.2 3 0 (x4 + (2 : Int32)).toNatClampNeg) g243) ?_
      refine oX_icmp_eq (tgt := 1463) dL_law_1211 (by decide) (fun c244 => ?_) (fun c244 => ?_)
      · have hm := ifp c244 hm
        refine oX_iinc (v := x4 + (6 : Int32)) (ls' := [(4, vI (x4 + (6 : Int32))), (0, vR (some (3, 0))), (1, vR (some (0, 0))), (2, vR (some (1, 0))), (3, vR (some (2, 0)))]) dL_law_1463 rfl rfl (by decide) rfl ?_
        refine oX_goto (tgt := 23) dL_law_1466 (by decide) ?_
        obtain ⟨hr, rfl⟩ := oEnd hm
        exact oX_sub [1, 2, 3, 4, 0] rfl (oX_z (hk (x4 + (6 : Int32), r243.2.1, FL, FR, GR, r243.2.2, AL, BR, AN, C) hr))
      · have hm := ifn c244 hm
        obtain ⟨hr, rfl⟩ := oEnd hm
        exact oX_sub [] rfl (oX_z (hx23 (r243.2.1, FL, FR, GR, r243.2.2, AL, BR, AN, C) hr))
    have hm := ifn c235 hm
    by_cases c245 : ((AI 3 0 x4.toNatClampNeg) &&& (31 : Int32)) = (21 : Int32)
    · have hm := ifp c245 hm
      refine oX_tin (tgt := 1216) dL_law_40 c245 (by decide) (by decide) rfl (by decide) ?_
      refine oX_aload_n dL_law_1216 rfl rfl ?_
      refine oX_aload_n dL_law_1217 rfl rfl ?_
      refine oX_iload dL_law_1218 rfl ?_
      refine oX_iconst (v := (1 : Int32)) dL_law_1220 (by decide) ?_
      refine oX_iadd dL_law_1221 ?_
      obtain ⟨g246, hm⟩ := gd_s hm
      refine oX_ialdP oDs3 g246 dL_law_1222 ?_
      refine oX_aload_n dL_law_1223 rfl rfl ?_
      refine oX_iload dL_law_1224 rfl ?_
      refine oX_iconst (v := (2 : Int32)) dL_law_1226 (by decide) ?_
      refine oX_iadd dL_law_1227 ?_
      obtain ⟨g247, hm⟩ := gd_s hm
      refine oX_ialdP oDs3 g247 dL_law_1228 ?_
      refine oX_aload_n dL_law_1229 rfl rfl ?_
      refine oX_iload dL_law_1230 rfl ?_
      refine oX_iconst (v := (3 : Int32)) dL_law_1232 (by decide) ?_
      refine oX_iadd dL_law_1233 ?_
      obtain ⟨g248, hm⟩ := gd_s hm
      refine oX_ialdP oDs3 g248 dL_law_1234 ?_
      obtain ⟨s249, hm⟩ := gd_s hm
      obtain ⟨r250, g250, hm⟩ := bd_s hm
      refine oX_cV (as := [vI (AI 3 0 (x4 + (1 : Int32)).toNatClampNeg), vI (AI 3 0 (x4 + (2 : Int32)).toNatClampNeg), vI (AI 3 0 (x4 + (3 : Int32)).toNatClampNeg)]) dL_law_1235 rfl oDs0 rfl (by decide) rfl ok_X1_may rfl rfl q1596 q1597 q1598 q129 q1599 (by decide) (Nat.le_of_ble_eq_true rfl) (t_X1_may s249 n (AI 3 0 (x4 + (1 : Int32)).toNatClampNeg) (AI 3 0 (x4 + (2 : Int32)).toNatClampNeg) (AI 3 0 (x4 + (3 : Int32)).toNatClampNeg) g250) ?_
      refine oX_aload_n dL_law_1238 rfl rfl ?_
      refine oX_aload_n dL_law_1239 rfl rfl ?_
      refine oX_iload dL_law_1240 rfl ?_
      refine oX_iconst (v := (1 : Int32)) dL_law_1242 (by decide) ?_
      refine oX_iadd dL_law_1243 ?_
      obtain ⟨g251, hm⟩ := gd_s hm
      refine oX_ialdP oDs3 g251 dL_law_1244 ?_
      refine oX_aload_n dL_law_1245 rfl rfl ?_
      refine oX_iload dL_law_1246 rfl ?_
      refine oX_iconst (v := (2 : Int32)) dL_law_1248 (by decide) ?_
      refine oX_iadd dL_law_1249 ?_
      obtain ⟨g252, hm⟩ := gd_s hm
      refine oX_ialdP oDs3 g252 dL_law_1250 ?_
      refine oX_aload_n dL_law_1251 rfl rfl ?_
      refine oX_iload dL_law_1252 rfl ?_
      refine oX_iconst (v := (3 : Int32)) dL_law_1254 (by decide) ?_
      refine oX_iadd dL_law_1255 ?_
      obtain ⟨g253, hm⟩ := gd_s hm
      refine oX_ialdP oDs3 g253 dL_law_1256 ?_
      obtain ⟨s254, hm⟩ := gd_s hm
      obtain ⟨r255, g255, hm⟩ := bd_s hm
      refine oX_cV (as := [vI (r250.2.2.1 3 0 (x4 + (1 : Int32)).toNatClampNeg), vI (r250.2.2.1 3 0 (x4 + (2 : Int32)).toNatClampNeg), vI (r250.2.2.1 3 0 (x4 + (3 : Int32)).toNatClampNeg)]) dL_law_1257 rfl oDs1 rfl (by decide) rfl ok_X4_may rfl rfl q2394 q2395 q2396 q136 q2397 (by decide) (Nat.le_of_ble_eq_true rfl) (t_X4_may s254 n (r250.2.2.1 3 0 (x4 + (1 : Int32)).toNatClampNeg) (r250.2.2.1 3 0 (x4 + (2 : Int32)).toNatClampNeg) (r250.2.2.1 3 0 (x4 + (3 : Int32)).toNatClampNeg) g255) ?_
      refine oX_icmp_eq (tgt := 1463) dL_law_1260 (by decide) (fun c256 => ?_) (fun c256 => ?_)
      · have hm := ifp c256 hm
        refine oX_iinc (v := x4 + (6 : Int32)) (ls' := [(4, vI (x4 + (6 : Int32))), (0, vR (some (3, 0))), (1, vR (some (0, 0))), (2, vR (some (1, 0))), (3, vR (some (2, 0)))]) dL_law_1463 rfl rfl (by decide) rfl ?_
        refine oX_goto (tgt := 23) dL_law_1466 (by decide) ?_
        obtain ⟨hr, rfl⟩ := oEnd hm
        exact oX_sub [1, 2, 3, 4, 0] rfl (oX_z (hk (x4 + (6 : Int32), r255.2.1, FL, FR, GR, r255.2.2, AL, r250.2.2.2, AN, C) hr))
      · have hm := ifn c256 hm
        obtain ⟨hr, rfl⟩ := oEnd hm
        exact oX_sub [] rfl (oX_z (hx24 (r255.2.1, FL, FR, GR, r255.2.2, AL, r250.2.2.2, AN, C) hr))
    have hm := ifn c245 hm
    by_cases c257 : ((AI 3 0 x4.toNatClampNeg) &&& (31 : Int32)) = (22 : Int32)
    · have hm := ifp c257 hm
      refine oX_tin (tgt := 1265) dL_law_40 c257 (by decide) (by decide) rfl (by decide) ?_
      refine oX_aload_n dL_law_1265 rfl rfl ?_
      refine oX_aload_n dL_law_1266 rfl rfl ?_
      refine oX_iload dL_law_1267 rfl ?_
      refine oX_iconst (v := (1 : Int32)) dL_law_1269 (by decide) ?_
      refine oX_iadd dL_law_1270 ?_
      obtain ⟨g258, hm⟩ := gd_s hm
      refine oX_ialdP oDs3 g258 dL_law_1271 ?_
      refine oX_aload_n dL_law_1272 rfl rfl ?_
      refine oX_iload dL_law_1273 rfl ?_
      refine oX_iconst (v := (2 : Int32)) dL_law_1275 (by decide) ?_
      refine oX_iadd dL_law_1276 ?_
      obtain ⟨g259, hm⟩ := gd_s hm
      refine oX_ialdP oDs3 g259 dL_law_1277 ?_
      refine oX_aload_n dL_law_1278 rfl rfl ?_
      refine oX_iload dL_law_1279 rfl ?_
      refine oX_iconst (v := (3 : Int32)) dL_law_1281 (by decide) ?_
      refine oX_iadd dL_law_1282 ?_
      obtain ⟨g260, hm⟩ := gd_s hm
      refine oX_ialdP oDs3 g260 dL_law_1283 ?_
      obtain ⟨s261, hm⟩ := gd_s hm
      obtain ⟨r262, g262, hm⟩ := bd_s hm
      refine oX_cV (as := [vI (AI 3 0 (x4 + (1 : Int32)).toNatClampNeg), vI (AI 3 0 (x4 + (2 : Int32)).toNatClampNeg), vI (AI 3 0 (x4 + (3 : Int32)).toNatClampNeg)]) dL_law_1284 rfl oDs0 rfl (by decide) rfl ok_X1_harm rfl rfl q1617 q1618 q1619 q129 q1620 (by decide) (Nat.le_of_ble_eq_true rfl) (t_X1_harm s261 n (AI 3 0 (x4 + (1 : Int32)).toNatClampNeg) (AI 3 0 (x4 + (2 : Int32)).toNatClampNeg) (AI 3 0 (x4 + (3 : Int32)).toNatClampNeg) g262) ?_
      refine oX_aload_n dL_law_1287 rfl rfl ?_
      refine oX_aload_n dL_law_1288 rfl rfl ?_
      refine oX_iload dL_law_1289 rfl ?_
      refine oX_iconst (v := (1 : Int32)) dL_law_1291 (by decide) ?_
      refine oX_iadd dL_law_1292 ?_
      obtain ⟨g263, hm⟩ := gd_s hm
      refine oX_ialdP oDs3 g263 dL_law_1293 ?_
      refine oX_aload_n dL_law_1294 rfl rfl ?_
      refine oX_iload dL_law_1295 rfl ?_
      refine oX_iconst (v := (2 : Int32)) dL_law_1297 (by decide) ?_
      refine oX_iadd dL_law_1298 ?_
      obtain ⟨g264, hm⟩ := gd_s hm
      refine oX_ialdP oDs3 g264 dL_law_1299 ?_
      refine oX_aload_n dL_law_1300 rfl rfl ?_
      refine oX_iload dL_law_1301 rfl ?_
      refine oX_iconst (v := (3 : Int32)) dL_law_1303 (by decide) ?_
      refine oX_iadd dL_law_1304 ?_
      obtain ⟨g265, hm⟩ := gd_s hm
      refine oX_ialdP oDs3 g265 dL_law_1305 ?_
      obtain ⟨s266, hm⟩ := gd_s hm
      obtain ⟨r267, g267, hm⟩ := bd_s hm
      refine oX_cV (as := [vI (r262.2.2.1 3 0 (x4 + (1 : Int32)).toNatClampNeg), vI (r262.2.2.1 3 0 (x4 + (2 : Int32)).toNatClampNeg), vI (r262.2.2.1 3 0 (x4 + (3 : Int32)).toNatClampNeg)]) dL_law_1306 rfl oDs1 rfl (by decide) rfl ok_X4_harm rfl rfl q2417 q2418 q2419 q136 q2420 (by decide) (Nat.le_of_ble_eq_true rfl) (t_X4_harm s266 n (r262.2.2.1 3 0 (x4 + (1 : Int32)).toNatClampNeg) (r262.2.2.1 3 0 (x4 + (2 : Int32)).toNatClampNeg) (r262.2.2.1 3 0 (x4 + (3 : Int32)).toNatClampNeg) g267) ?_
      refine oX_icmp_eq (tgt := 1463) dL_law_1309 (by decide) (fun c268 => ?_) (fun c268 => ?_)
      · have hm := ifp c268 hm
        refine oX_iinc (v := x4 + (6 : Int32)) (ls' := [(4, vI (x4 + (6 : Int32))), (0, vR (some (3, 0))), (1, vR (some (0, 0))), (2, vR (some (1, 0))), (3, vR (some (2, 0)))]) dL_law_1463 rfl rfl (by decide) rfl ?_
        refine oX_goto (tgt := 23) dL_law_1466 (by decide) ?_
        obtain ⟨hr, rfl⟩ := oEnd hm
        exact oX_sub [1, 2, 3, 4, 0] rfl (oX_z (hk (x4 + (6 : Int32), r267.2.1, FL, FR, GR, r267.2.2, AL, r262.2.2.2, AN, C) hr))
      · have hm := ifn c268 hm
        obtain ⟨hr, rfl⟩ := oEnd hm
        exact oX_sub [] rfl (oX_z (hx25 (r267.2.1, FL, FR, GR, r267.2.2, AL, r262.2.2.2, AN, C) hr))
    have hm := ifn c257 hm
    by_cases c269 : ((AI 3 0 x4.toNatClampNeg) &&& (31 : Int32)) = (23 : Int32)
    · have hm := ifp c269 hm
      refine oX_tin (tgt := 1314) dL_law_40 c269 (by decide) (by decide) rfl (by decide) ?_
      refine oX_aload_n dL_law_1314 rfl rfl ?_
      refine oX_aload_n dL_law_1315 rfl rfl ?_
      refine oX_iload dL_law_1316 rfl ?_
      refine oX_iconst (v := (1 : Int32)) dL_law_1318 (by decide) ?_
      refine oX_iadd dL_law_1319 ?_
      obtain ⟨g270, hm⟩ := gd_s hm
      refine oX_ialdP oDs3 g270 dL_law_1320 ?_
      refine oX_aload_n dL_law_1321 rfl rfl ?_
      refine oX_iload dL_law_1322 rfl ?_
      refine oX_iconst (v := (2 : Int32)) dL_law_1324 (by decide) ?_
      refine oX_iadd dL_law_1325 ?_
      obtain ⟨g271, hm⟩ := gd_s hm
      refine oX_ialdP oDs3 g271 dL_law_1326 ?_
      obtain ⟨s272, hm⟩ := gd_s hm
      obtain ⟨r273, g273, hm⟩ := bd_s hm
      refine oX_cV (as := [vI (AI 3 0 (x4 + (1 : Int32)).toNatClampNeg), vI (AI 3 0 (x4 + (2 : Int32)).toNatClampNeg)]) dL_law_1327 rfl oDs0 rfl (by decide) rfl ok_X1_instead rfl rfl q1626 q1627 q1628 q129 q1629 (by decide) (Nat.le_of_ble_eq_true rfl) (t_X1_instead s272 n (AI 3 0 (x4 + (1 : Int32)).toNatClampNeg) (AI 3 0 (x4 + (2 : Int32)).toNatClampNeg) g273) ?_
      refine oX_aload_n dL_law_1330 rfl rfl ?_
      refine oX_aload_n dL_law_1331 rfl rfl ?_
      refine oX_iload dL_law_1332 rfl ?_
      refine oX_iconst (v := (1 : Int32)) dL_law_1334 (by decide) ?_
      refine oX_iadd dL_law_1335 ?_
      obtain ⟨g274, hm⟩ := gd_s hm
      refine oX_ialdP oDs3 g274 dL_law_1336 ?_
      refine oX_aload_n dL_law_1337 rfl rfl ?_
      refine oX_iload dL_law_1338 rfl ?_
      refine oX_iconst (v := (2 : Int32)) dL_law_1340 (by decide) ?_
      refine oX_iadd dL_law_1341 ?_
      obtain ⟨g275, hm⟩ := gd_s hm
      refine oX_ialdP oDs3 g275 dL_law_1342 ?_
      obtain ⟨s276, hm⟩ := gd_s hm
      obtain ⟨r277, g277, hm⟩ := bd_s hm
      refine oX_cV (as := [vI (r273.2.2.1 3 0 (x4 + (1 : Int32)).toNatClampNeg), vI (r273.2.2.1 3 0 (x4 + (2 : Int32)).toNatClampNeg)]) dL_law_1343 rfl oDs1 rfl (by decide) rfl ok_X4_instead rfl rfl q2425 q2426 q2427 q136 q2428 (by decide) (Nat.le_of_ble_eq_true rfl) (t_X4_instead s276 n (r273.2.2.1 3 0 (x4 + (1 : Int32)).toNatClampNeg) (r273.2.2.1 3 0 (x4 + (2 : Int32)).toNatClampNeg) g277) ?_
      refine oX_icmp_eq (tgt := 1463) dL_law_1346 (by decide) (fun c278 => ?_) (fun c278 => ?_)
      · have hm := ifp c278 hm
        refine oX_iinc (v := x4 + (6 : Int32)) (ls' := [(4, vI (x4 + (6 : Int32))), (0, vR (some (3, 0))), (1, vR (some (0, 0))), (2, vR (some (1, 0))), (3, vR (some (2, 0)))]) dL_law_1463 rfl rfl (by decide) rfl ?_
        refine oX_goto (tgt := 23) dL_law_1466 (by decide) ?_
        obtain ⟨hr, rfl⟩ := oEnd hm
        exact oX_sub [1, 2, 3, 4, 0] rfl (oX_z (hk (x4 + (6 : Int32), r277.2.1, FL, FR, GR, r277.2.2, AL, r273.2.2.2, AN, C) hr))
      · have hm := ifn c278 hm
        obtain ⟨hr, rfl⟩ := oEnd hm
        exact oX_sub [] rfl (oX_z (hx26 (r277.2.1, FL, FR, GR, r277.2.2, AL, r273.2.2.2, AN, C) hr))
    have hm := ifn c269 hm
    by_cases c279 : ((AI 3 0 x4.toNatClampNeg) &&& (31 : Int32)) = (24 : Int32)
    · have hm := ifp c279 hm
      refine oX_tin (tgt := 1351) dL_law_40 c279 (by decide) (by decide) rfl (by decide) ?_
      refine oX_aload_n dL_law_1351 rfl rfl ?_
      refine oX_aload_n dL_law_1352 rfl rfl ?_
      refine oX_iload dL_law_1353 rfl ?_
      refine oX_iconst (v := (1 : Int32)) dL_law_1355 (by decide) ?_
      refine oX_iadd dL_law_1356 ?_
      obtain ⟨g280, hm⟩ := gd_s hm
      refine oX_ialdP oDs3 g280 dL_law_1357 ?_
      refine oX_aload_n dL_law_1358 rfl rfl ?_
      refine oX_iload dL_law_1359 rfl ?_
      refine oX_iconst (v := (2 : Int32)) dL_law_1361 (by decide) ?_
      refine oX_iadd dL_law_1362 ?_
      obtain ⟨g281, hm⟩ := gd_s hm
      refine oX_ialdP oDs3 g281 dL_law_1363 ?_
      refine oX_aload_n dL_law_1364 rfl rfl ?_
      refine oX_iload dL_law_1365 rfl ?_
      refine oX_iconst (v := (3 : Int32)) dL_law_1367 (by decide) ?_
      refine oX_iadd dL_law_1368 ?_
      obtain ⟨g282, hm⟩ := gd_s hm
      refine oX_ialdP oDs3 g282 dL_law_1369 ?_
      obtain ⟨r283, g283, hm⟩ := bd_s hm
      refine oX_cost hm (fun qq283 hm => ?_)
      refine oX_cVK (as := [vI (AI 3 0 (x4 + (1 : Int32)).toNatClampNeg), vI (AI 3 0 (x4 + (2 : Int32)).toNatClampNeg), vI (AI 3 0 (x4 + (3 : Int32)).toNatClampNeg)]) dL_law_1370 rfl oDs0 rfl (by decide) rfl ok_X1_lay rfl rfl q1630 q1631 q1632 q129 q1633 (by decide) (Nat.le_of_ble_eq_true rfl) (t_X1_lay n (AI 3 0 (x4 + (1 : Int32)).toNatClampNeg) (AI 3 0 (x4 + (2 : Int32)).toNatClampNeg) (AI 3 0 (x4 + (3 : Int32)).toNatClampNeg) g283) (Nat.le_refl _) (Nat.le_refl _) ?_
      refine oX_aload_n dL_law_1373 rfl rfl ?_
      refine oX_aload_n dL_law_1374 rfl rfl ?_
      refine oX_iload dL_law_1375 rfl ?_
      refine oX_iconst (v := (1 : Int32)) dL_law_1377 (by decide) ?_
      refine oX_iadd dL_law_1378 ?_
      obtain ⟨g284, hm⟩ := gd_s hm
      refine oX_ialdP oDs3 g284 dL_law_1379 ?_
      refine oX_aload_n dL_law_1380 rfl rfl ?_
      refine oX_iload dL_law_1381 rfl ?_
      refine oX_iconst (v := (2 : Int32)) dL_law_1383 (by decide) ?_
      refine oX_iadd dL_law_1384 ?_
      obtain ⟨g285, hm⟩ := gd_s hm
      refine oX_ialdP oDs3 g285 dL_law_1385 ?_
      refine oX_aload_n dL_law_1386 rfl rfl ?_
      refine oX_iload dL_law_1387 rfl ?_
      refine oX_iconst (v := (3 : Int32)) dL_law_1389 (by decide) ?_
      refine oX_iadd dL_law_1390 ?_
      obtain ⟨g286, hm⟩ := gd_s hm
      refine oX_ialdP oDs3 g286 dL_law_1391 ?_
      obtain ⟨s287, hm⟩ := gd_s hm
      obtain ⟨r288, g288, hm⟩ := bd_s hm
      refine oX_cV (as := [vI (r283.1.2.2.2.1 3 0 (x4 + (1 : Int32)).toNatClampNeg), vI (r283.1.2.2.2.1 3 0 (x4 + (2 : Int32)).toNatClampNeg), vI (r283.1.2.2.2.1 3 0 (x4 + (3 : Int32)).toNatClampNeg)]) dL_law_1392 rfl oDs1 rfl (by decide) rfl ok_X4_lay rfl rfl q2429 q2430 q2431 q136 q2432 (by decide) (Nat.le_of_ble_eq_true rfl) (t_X4_lay s287 n (r283.1.2.2.2.1 3 0 (x4 + (1 : Int32)).toNatClampNeg) (r283.1.2.2.2.1 3 0 (x4 + (2 : Int32)).toNatClampNeg) (r283.1.2.2.2.1 3 0 (x4 + (3 : Int32)).toNatClampNeg) g288) ?_
      refine oX_icmp_eq (tgt := 1463) dL_law_1395 (by decide) (fun c289 => ?_) (fun c289 => ?_)
      · have hm := ifp c289 hm
        refine oX_iinc (v := x4 + (6 : Int32)) (ls' := [(4, vI (x4 + (6 : Int32))), (0, vR (some (3, 0))), (1, vR (some (0, 0))), (2, vR (some (1, 0))), (3, vR (some (2, 0)))]) dL_law_1463 rfl rfl (by decide) rfl ?_
        refine oX_goto (tgt := 23) dL_law_1466 (by decide) ?_
        obtain ⟨hr, rfl⟩ := oEnd hm
        exact oX_sub [1, 2, 3, 4, 0] rfl (oX_z (hk (x4 + (6 : Int32), r288.2.1, FL, r283.1.2.2.1, GR, r288.2.2, AL, r283.1.2.2.2.2.1, AN, r283.1.2.2.2.2.2) hr))
      · have hm := ifn c289 hm
        obtain ⟨hr, rfl⟩ := oEnd hm
        exact oX_sub [] rfl (oX_z (hx27 (r288.2.1, FL, r283.1.2.2.1, GR, r288.2.2, AL, r283.1.2.2.2.2.1, AN, r283.1.2.2.2.2.2) hr))
    have hm := ifn c279 hm
    by_cases c290 : ((AI 3 0 x4.toNatClampNeg) &&& (31 : Int32)) = (25 : Int32)
    · have hm := ifp c290 hm
      refine oX_tin (tgt := 1400) dL_law_40 c290 (by decide) (by decide) rfl (by decide) ?_
      refine oX_aload_n dL_law_1400 rfl rfl ?_
      refine oX_aload_n dL_law_1401 rfl rfl ?_
      refine oX_iload dL_law_1402 rfl ?_
      refine oX_iconst (v := (1 : Int32)) dL_law_1404 (by decide) ?_
      refine oX_iadd dL_law_1405 ?_
      obtain ⟨g291, hm⟩ := gd_s hm
      refine oX_ialdP oDs3 g291 dL_law_1406 ?_
      obtain ⟨s292, hm⟩ := gd_s hm
      obtain ⟨r293, g293, hm⟩ := bd_s hm
      refine oX_cV (as := [vI (AI 3 0 (x4 + (1 : Int32)).toNatClampNeg)]) dL_law_1407 rfl oDs0 rfl (by decide) rfl ok_X1_laid rfl rfl q1658 q1659 q1660 q129 q1661 (by decide) (Nat.le_of_ble_eq_true rfl) (t_X1_laid s292 (AI 3 0 (x4 + (1 : Int32)).toNatClampNeg) g293) ?_
      refine oX_aload_n dL_law_1410 rfl rfl ?_
      refine oX_aload_n dL_law_1411 rfl rfl ?_
      refine oX_iload dL_law_1412 rfl ?_
      refine oX_iconst (v := (1 : Int32)) dL_law_1414 (by decide) ?_
      refine oX_iadd dL_law_1415 ?_
      obtain ⟨g294, hm⟩ := gd_s hm
      refine oX_ialdP oDs3 g294 dL_law_1416 ?_
      obtain ⟨s295, hm⟩ := gd_s hm
      obtain ⟨r296, g296, hm⟩ := bd_s hm
      refine oX_cV (as := [vI (AI 3 0 (x4 + (1 : Int32)).toNatClampNeg)]) dL_law_1417 rfl oDs1 rfl (by decide) rfl ok_X4_laid rfl rfl q2441 q2442 q2443 q136 q2444 (by decide) (Nat.le_of_ble_eq_true rfl) (t_X4_laid s295 (AI 3 0 (x4 + (1 : Int32)).toNatClampNeg) g296) ?_
      refine oX_icmp_eq (tgt := 1463) dL_law_1420 (by decide) (fun c297 => ?_) (fun c297 => ?_)
      · have hm := ifp c297 hm
        refine oX_iinc (v := x4 + (6 : Int32)) (ls' := [(4, vI (x4 + (6 : Int32))), (0, vR (some (3, 0))), (1, vR (some (0, 0))), (2, vR (some (1, 0))), (3, vR (some (2, 0)))]) dL_law_1463 rfl rfl (by decide) rfl ?_
        refine oX_goto (tgt := 23) dL_law_1466 (by decide) ?_
        obtain ⟨hr, rfl⟩ := oEnd hm
        exact oX_sub [1, 2, 3, 4, 0] rfl (oX_z (hk (x4 + (6 : Int32), r296.2, FL, FR, GR, AI, AL, BR, AN, C) hr))
      · have hm := ifn c297 hm
        obtain ⟨hr, rfl⟩ := oEnd hm
        exact oX_sub [] rfl (oX_z (hx28 (r296.2, FL, FR, GR, AI, AL, BR, AN, C) hr))
    have hm := ifn c290 hm
    by_cases c298 : ((AI 3 0 x4.toNatClampNeg) &&& (31 : Int32)) = (26 : Int32)
    · have hm := ifp c298 hm
      refine oX_tin (tgt := 1425) dL_law_40 c298 (by decide) (by decide) rfl (by decide) ?_
      refine oX_aload_n dL_law_1425 rfl rfl ?_
      obtain ⟨r299, g299, hm⟩ := bd_s hm
      refine oX_cost hm (fun qq299 hm => ?_)
      refine oX_cVK (as := []) dL_law_1426 rfl oDs0 rfl (by decide) rfl ok_X1_keep rfl rfl q1662 q1663 q1664 q129 q1665 (by decide) (Nat.le_of_ble_eq_true rfl) (t_X1_keep n g299) (Nat.le_refl _) (Nat.le_refl _) ?_
      refine oX_aload_n dL_law_1429 rfl rfl ?_
      obtain ⟨s300, hm⟩ := gd_s hm
      obtain ⟨r301, g301, hm⟩ := bd_s hm
      refine oX_cV (as := []) dL_law_1430 rfl oDs1 rfl (by decide) rfl ok_X4_keep rfl rfl q2445 q2446 q2447 q136 q2448 (by decide) (Nat.le_of_ble_eq_true rfl) (t_X4_keep s300 n g301) ?_
      refine oX_icmp_eq (tgt := 1463) dL_law_1433 (by decide) (fun c302 => ?_) (fun c302 => ?_)
      · have hm := ifp c302 hm
        refine oX_iinc (v := x4 + (6 : Int32)) (ls' := [(4, vI (x4 + (6 : Int32))), (0, vR (some (3, 0))), (1, vR (some (0, 0))), (2, vR (some (1, 0))), (3, vR (some (2, 0)))]) dL_law_1463 rfl rfl (by decide) rfl ?_
        refine oX_goto (tgt := 23) dL_law_1466 (by decide) ?_
        obtain ⟨hr, rfl⟩ := oEnd hm
        exact oX_sub [1, 2, 3, 4, 0] rfl (oX_z (hk (x4 + (6 : Int32), r301.2.1, FL, FR, r299.1.2.2.1, r301.2.2, AL, r299.1.2.2.2.2.1, r299.1.2.2.2.2.2.1, r299.1.2.2.2.2.2.2) hr))
      · have hm := ifn c302 hm
        obtain ⟨hr, rfl⟩ := oEnd hm
        exact oX_sub [] rfl (oX_z (hx29 (r301.2.1, FL, FR, r299.1.2.2.1, r301.2.2, AL, r299.1.2.2.2.2.1, r299.1.2.2.2.2.2.1, r299.1.2.2.2.2.2.2) hr))
    have hm := ifn c298 hm
    by_cases c303 : ((AI 3 0 x4.toNatClampNeg) &&& (31 : Int32)) = (27 : Int32)
    · have hm := ifp c303 hm
      refine oX_tin (tgt := 1438) dL_law_40 c303 (by decide) (by decide) rfl (by decide) ?_
      refine oX_aload_n dL_law_1438 rfl rfl ?_
      refine oX_aload_n dL_law_1439 rfl rfl ?_
      refine oX_iload dL_law_1440 rfl ?_
      refine oX_iconst (v := (1 : Int32)) dL_law_1442 (by decide) ?_
      refine oX_iadd dL_law_1443 ?_
      obtain ⟨g304, hm⟩ := gd_s hm
      refine oX_ialdP oDs3 g304 dL_law_1444 ?_
      obtain ⟨s305, hm⟩ := gd_s hm
      obtain ⟨r306, g306, hm⟩ := bd_s hm
      refine oX_cV (as := [vI (AI 3 0 (x4 + (1 : Int32)).toNatClampNeg)]) dL_law_1445 rfl oDs0 rfl (by decide) rfl ok_X1_count rfl rfl q1670 q1671 q1672 q129 q1673 (by decide) (Nat.le_of_ble_eq_true rfl) (t_X1_count s305 (AI 3 0 (x4 + (1 : Int32)).toNatClampNeg) g306) ?_
      refine oX_aload_n dL_law_1448 rfl rfl ?_
      refine oX_aload_n dL_law_1449 rfl rfl ?_
      refine oX_iload dL_law_1450 rfl ?_
      refine oX_iconst (v := (1 : Int32)) dL_law_1452 (by decide) ?_
      refine oX_iadd dL_law_1453 ?_
      obtain ⟨g307, hm⟩ := gd_s hm
      refine oX_ialdP oDs3 g307 dL_law_1454 ?_
      obtain ⟨r308, g308, hm⟩ := bd_s hm
      refine oX_cV (as := [vI (AI 3 0 (x4 + (1 : Int32)).toNatClampNeg)]) dL_law_1455 rfl oDs1 rfl (by decide) rfl ok_X4_count rfl rfl q2449 q2450 q2451 q136 q2452 (by decide) (Nat.le_of_ble_eq_true rfl) (t_X4_count (AI 3 0 (x4 + (1 : Int32)).toNatClampNeg) g308) ?_
      refine oX_icmp_eq (tgt := 1463) dL_law_1458 (by decide) (fun c309 => ?_) (fun c309 => ?_)
      · have hm := ifp c309 hm
        refine oX_iinc (v := x4 + (6 : Int32)) (ls' := [(4, vI (x4 + (6 : Int32))), (0, vR (some (3, 0))), (1, vR (some (0, 0))), (2, vR (some (1, 0))), (3, vR (some (2, 0)))]) dL_law_1463 rfl rfl (by decide) rfl ?_
        refine oX_goto (tgt := 23) dL_law_1466 (by decide) ?_
        obtain ⟨hr, rfl⟩ := oEnd hm
        exact oX_sub [1, 2, 3, 4, 0] rfl (oX_z (hk (x4 + (6 : Int32), r308.2, FL, FR, GR, AI, AL, BR, AN, C) hr))
      · have hm := ifn c309 hm
        obtain ⟨hr, rfl⟩ := oEnd hm
        exact oX_sub [] rfl (oX_z (hx30 (r308.2, FL, FR, GR, AI, AL, BR, AN, C) hr))
    have hm := ifn c303 hm
    refine oX_tout (tgt := 1463) 28 (l := [(0 : Int32), (1 : Int32), (2 : Int32), (3 : Int32), (4 : Int32), (5 : Int32), (6 : Int32), (7 : Int32), (8 : Int32), (9 : Int32), (10 : Int32), (11 : Int32), (12 : Int32), (13 : Int32), (14 : Int32), (15 : Int32), (16 : Int32), (17 : Int32), (18 : Int32), (19 : Int32), (20 : Int32), (21 : Int32), (22 : Int32), (23 : Int32), (24 : Int32), (25 : Int32), (26 : Int32), (27 : Int32)]) dL_law_40 (by decide) (fun c hc => by simp only [List.mem_cons, List.not_mem_nil, or_false] at hc; rcases hc with rfl | rfl | rfl | rfl | rfl | rfl | rfl | rfl | rfl | rfl | rfl | rfl | rfl | rfl | rfl | rfl | rfl | rfl | rfl | rfl | rfl | rfl | rfl | rfl | rfl | rfl | rfl | rfl <;> assumption) (by decide) (by decide) ?_
    refine oX_iinc (v := x4 + (6 : Int32)) (ls' := [(4, vI (x4 + (6 : Int32))), (0, vR (some (3, 0))), (1, vR (some (0, 0))), (2, vR (some (1, 0))), (3, vR (some (2, 0)))]) dL_law_1463 rfl rfl (by decide) rfl ?_
    refine oX_goto (tgt := 23) dL_law_1466 (by decide) ?_
    obtain ⟨hr, rfl⟩ := oEnd hm
    exact oX_sub [1, 2, 3, 4, 0] rfl (oX_z (hk (x4 + (6 : Int32), FI, FL, FR, GR, AI, AL, BR, AN, C) hr))
theorem l_mL_law_b23 {G : OhG} {AR : OhQ} {k : Nat × Nat} {Φ : OhP} {Ψ : OhX} (n : Nat) : ∀ (f : Nat) (x4 : Int32) (FI : OhI) (FL : OhL) (FR : OhQ) (GR : OhQ) (AI : OhI) (AL : OhL) (BR : OhQ) (AN : OhN) (C : OhC) (b : (((OhI × OhL × OhQ × OhQ × OhI × OhL × OhQ × OhN × OhC) ⊕ ((OhI × OhL × OhQ × OhQ × OhI × OhL × OhQ × OhN × OhC) ⊕ ((OhI × OhL × OhQ × OhQ × OhI × OhL × OhQ × OhN × OhC) ⊕ ((OhI × OhL × OhQ × OhQ × OhI × OhL × OhQ × OhN × OhC) ⊕ ((OhI × OhL × OhQ × OhQ × OhI × OhL × OhQ × OhN × OhC) ⊕ ((OhI × OhL × OhQ × OhQ × OhI × OhL × OhQ × OhN × OhC) ⊕ ((OhI × OhL × OhQ × OhQ × OhI × OhL × OhQ × OhN × OhC) ⊕ ((OhI × OhL × OhQ × OhQ × OhI × OhL × OhQ × OhN × OhC) ⊕ ((OhI × OhL × OhQ × OhQ × OhI × OhL × OhQ × OhN × OhC) ⊕ ((OhI × OhL × OhQ × OhQ × OhI × OhL × OhQ × OhN × OhC) ⊕ ((OhI × OhL × OhQ × OhQ × OhI × OhL × OhQ × OhN × OhC) ⊕ ((OhI × OhL × OhQ × OhQ × OhI × OhL × OhQ × OhN × OhC) ⊕ ((OhI × OhL × OhQ × OhQ × OhI × OhL × OhQ × OhN × OhC) ⊕ ((OhI × OhL × OhQ × OhQ × OhI × OhL × OhQ × OhN × OhC) ⊕ ((OhI × OhL × OhQ × OhQ × OhI × OhL × OhQ × OhN × OhC) ⊕ ((OhI × OhL × OhQ × OhQ × OhI × OhL × OhQ × OhN × OhC) ⊕ ((OhI × OhL × OhQ × OhQ × OhI × OhL × OhQ × OhN × OhC) ⊕ ((OhI × OhL × OhQ × OhQ × OhI × OhL × OhQ × OhN × OhC) ⊕ ((OhI × OhL × OhQ × OhQ × OhI × OhL × OhQ × OhN × OhC) ⊕ ((OhI × OhL × OhQ × OhQ × OhI × OhL × OhQ × OhN × OhC) ⊕ ((OhI × OhL × OhQ × OhQ × OhI × OhL × OhQ × OhN × OhC) ⊕ ((OhI × OhL × OhQ × OhQ × OhI × OhL × OhQ × OhN × OhC) ⊕ ((OhI × OhL × OhQ × OhQ × OhI × OhL × OhQ × OhN × OhC) ⊕ ((OhI × OhL × OhQ × OhQ × OhI × OhL × OhQ × OhN × OhC) ⊕ ((OhI × OhL × OhQ × OhQ × OhI × OhL × OhQ × OhN × OhC) ⊕ ((OhI × OhL × OhQ × OhQ × OhI × OhL × OhQ × OhN × OhC) ⊕ ((OhI × OhL × OhQ × OhQ × OhI × OhL × OhQ × OhN × OhC) ⊕ ((OhI × OhL × OhQ × OhQ × OhI × OhL × OhQ × OhN × OhC) ⊕ ((OhI × OhL × OhQ × OhQ × OhI × OhL × OhQ × OhN × OhC) ⊕ (OhI × OhL × OhQ × OhQ × OhI × OhL × OhQ × OhN × OhC))))))))))))))))))))))))))))))) × (Nat × Nat)), lpK (fun v => mL_law_b23 n v.2.1 v.2.2.1 v.2.2.2.1 v.2.2.2.2.1 v.2.2.2.2.2.1 v.2.2.2.2.2.2.1 AR v.2.2.2.2.2.2.2.1 v.2.2.2.2.2.2.2.2.1 v.2.2.2.2.2.2.2.2.2 v.1) f (x4, FI, FL, FR, GR, AI, AL, BR, AN, C) = some b → (∀ v : OhI × OhL × OhQ × OhQ × OhI × OhL × OhQ × OhN × OhC, b.1 = (.inl v) → oX G 106 iL_law 1469 [] [] (v.1, v.2.1, v.2.2.1, v.2.2.2.1, v.2.2.2.2.1, v.2.2.2.2.2.1, AR, v.2.2.2.2.2.2.1, v.2.2.2.2.2.2.2.1, v.2.2.2.2.2.2.2.2) k Φ Ψ) → (∀ v : OhI × OhL × OhQ × OhQ × OhI × OhL × OhQ × OhN × OhC, b.1 = (.inr (.inl v)) → oX G 106 iL_law 239 [] [] (v.1, v.2.1, v.2.2.1, v.2.2.2.1, v.2.2.2.2.1, v.2.2.2.2.2.1, AR, v.2.2.2.2.2.2.1, v.2.2.2.2.2.2.2.1, v.2.2.2.2.2.2.2.2) k Φ Ψ) → (∀ v : OhI × OhL × OhQ × OhQ × OhI × OhL × OhQ × OhN × OhC, b.1 = (.inr (.inr (.inl v))) → oX G 106 iL_law 264 [] [] (v.1, v.2.1, v.2.2.1, v.2.2.2.1, v.2.2.2.2.1, v.2.2.2.2.2.1, AR, v.2.2.2.2.2.2.1, v.2.2.2.2.2.2.2.1, v.2.2.2.2.2.2.2.2) k Φ Ψ) → (∀ v : OhI × OhL × OhQ × OhQ × OhI × OhL × OhQ × OhN × OhC, b.1 = (.inr (.inr (.inr (.inl v)))) → oX G 106 iL_law 289 [] [] (v.1, v.2.1, v.2.2.1, v.2.2.2.1, v.2.2.2.2.1, v.2.2.2.2.2.1, AR, v.2.2.2.2.2.2.1, v.2.2.2.2.2.2.2.1, v.2.2.2.2.2.2.2.2) k Φ Ψ) → (∀ v : OhI × OhL × OhQ × OhQ × OhI × OhL × OhQ × OhN × OhC, b.1 = (.inr (.inr (.inr (.inr (.inl v))))) → oX G 106 iL_law 366 [] [] (v.1, v.2.1, v.2.2.1, v.2.2.2.1, v.2.2.2.2.1, v.2.2.2.2.2.1, AR, v.2.2.2.2.2.2.1, v.2.2.2.2.2.2.2.1, v.2.2.2.2.2.2.2.2) k Φ Ψ) → (∀ v : OhI × OhL × OhQ × OhQ × OhI × OhL × OhQ × OhN × OhC, b.1 = (.inr (.inr (.inr (.inr (.inr (.inl v)))))) → oX G 106 iL_law 415 [] [] (v.1, v.2.1, v.2.2.1, v.2.2.2.1, v.2.2.2.2.1, v.2.2.2.2.2.1, AR, v.2.2.2.2.2.2.1, v.2.2.2.2.2.2.2.1, v.2.2.2.2.2.2.2.2) k Φ Ψ) → (∀ v : OhI × OhL × OhQ × OhQ × OhI × OhL × OhQ × OhN × OhC, b.1 = (.inr (.inr (.inr (.inr (.inr (.inr (.inl v))))))) → oX G 106 iL_law 464 [] [] (v.1, v.2.1, v.2.2.1, v.2.2.2.1, v.2.2.2.2.1, v.2.2.2.2.2.1, AR, v.2.2.2.2.2.2.1, v.2.2.2.2.2.2.2.1, v.2.2.2.2.2.2.2.2) k Φ Ψ) → (∀ v : OhI × OhL × OhQ × OhQ × OhI × OhL × OhQ × OhN × OhC, b.1 = (.inr (.inr (.inr (.inr (.inr (.inr (.inr (.inl v)))))))) → oX G 106 iL_law 501 [] [] (v.1, v.2.1, v.2.2.1, v.2.2.2.1, v.2.2.2.2.1, v.2.2.2.2.2.1, AR, v.2.2.2.2.2.2.1, v.2.2.2.2.2.2.2.1, v.2.2.2.2.2.2.2.2) k Φ Ψ) → (∀ v : OhI × OhL × OhQ × OhQ × OhI × OhL × OhQ × OhN × OhC, b.1 = (.inr (.inr (.inr (.inr (.inr (.inr (.inr (.inr (.inl v))))))))) → oX G 106 iL_law 526 [] [] (v.1, v.2.1, v.2.2.1, v.2.2.2.1, v.2.2.2.2.1, v.2.2.2.2.2.1, AR, v.2.2.2.2.2.2.1, v.2.2.2.2.2.2.2.1, v.2.2.2.2.2.2.2.2) k Φ Ψ) → (∀ v : OhI × OhL × OhQ × OhQ × OhI × OhL × OhQ × OhN × OhC, b.1 = (.inr (.inr (.inr (.inr (.inr (.inr (.inr (.inr (.inr (.inl v)))))))))) → oX G 106 iL_law 539 [] [] (v.1, v.2.1, v.2.2.1, v.2.2.2.1, v.2.2.2.2.1, v.2.2.2.2.2.1, AR, v.2.2.2.2.2.2.1, v.2.2.2.2.2.2.2.1, v.2.2.2.2.2.2.2.2) k Φ Ψ) → (∀ v : OhI × OhL × OhQ × OhQ × OhI × OhL × OhQ × OhN × OhC, b.1 = (.inr (.inr (.inr (.inr (.inr (.inr (.inr (.inr (.inr (.inr (.inl v))))))))))) → oX G 106 iL_law 600 [] [] (v.1, v.2.1, v.2.2.1, v.2.2.2.1, v.2.2.2.2.1, v.2.2.2.2.2.1, AR, v.2.2.2.2.2.2.1, v.2.2.2.2.2.2.2.1, v.2.2.2.2.2.2.2.2) k Φ Ψ) → (∀ v : OhI × OhL × OhQ × OhQ × OhI × OhL × OhQ × OhN × OhC, b.1 = (.inr (.inr (.inr (.inr (.inr (.inr (.inr (.inr (.inr (.inr (.inr (.inl v)))))))))))) → oX G 106 iL_law 673 [] [] (v.1, v.2.1, v.2.2.1, v.2.2.2.1, v.2.2.2.2.1, v.2.2.2.2.2.1, AR, v.2.2.2.2.2.2.1, v.2.2.2.2.2.2.2.1, v.2.2.2.2.2.2.2.2) k Φ Ψ) → (∀ v : OhI × OhL × OhQ × OhQ × OhI × OhL × OhQ × OhN × OhC, b.1 = (.inr (.inr (.inr (.inr (.inr (.inr (.inr (.inr (.inr (.inr (.inr (.inr (.inl v))))))))))))) → oX G 106 iL_law 750 [] [] (v.1, v.2.1, v.2.2.1, v.2.2.2.1, v.2.2.2.2.1, v.2.2.2.2.2.1, AR, v.2.2.2.2.2.2.1, v.2.2.2.2.2.2.2.1, v.2.2.2.2.2.2.2.2) k Φ Ψ) → (∀ v : OhI × OhL × OhQ × OhQ × OhI × OhL × OhQ × OhN × OhC, b.1 = (.inr (.inr (.inr (.inr (.inr (.inr (.inr (.inr (.inr (.inr (.inr (.inr (.inr (.inl v)))))))))))))) → oX G 106 iL_law 799 [] [] (v.1, v.2.1, v.2.2.1, v.2.2.2.1, v.2.2.2.2.1, v.2.2.2.2.2.1, AR, v.2.2.2.2.2.2.1, v.2.2.2.2.2.2.2.1, v.2.2.2.2.2.2.2.2) k Φ Ψ) → (∀ v : OhI × OhL × OhQ × OhQ × OhI × OhL × OhQ × OhN × OhC, b.1 = (.inr (.inr (.inr (.inr (.inr (.inr (.inr (.inr (.inr (.inr (.inr (.inr (.inr (.inr (.inl v))))))))))))))) → oX G 106 iL_law 876 [] [] (v.1, v.2.1, v.2.2.1, v.2.2.2.1, v.2.2.2.2.1, v.2.2.2.2.2.1, AR, v.2.2.2.2.2.2.1, v.2.2.2.2.2.2.2.1, v.2.2.2.2.2.2.2.2) k Φ Ψ) → (∀ v : OhI × OhL × OhQ × OhQ × OhI × OhL × OhQ × OhN × OhC, b.1 = (.inr (.inr (.inr (.inr (.inr (.inr (.inr (.inr (.inr (.inr (.inr (.inr (.inr (.inr (.inr (.inl v)))))))))))))))) → oX G 106 iL_law 901 [] [] (v.1, v.2.1, v.2.2.1, v.2.2.2.1, v.2.2.2.2.1, v.2.2.2.2.2.1, AR, v.2.2.2.2.2.2.1, v.2.2.2.2.2.2.2.1, v.2.2.2.2.2.2.2.2) k Φ Ψ) → (∀ v : OhI × OhL × OhQ × OhQ × OhI × OhL × OhQ × OhN × OhC, b.1 = (.inr (.inr (.inr (.inr (.inr (.inr (.inr (.inr (.inr (.inr (.inr (.inr (.inr (.inr (.inr (.inr (.inl v))))))))))))))))) → oX G 106 iL_law 949 [] [] (v.1, v.2.1, v.2.2.1, v.2.2.2.1, v.2.2.2.2.1, v.2.2.2.2.2.1, AR, v.2.2.2.2.2.2.1, v.2.2.2.2.2.2.2.1, v.2.2.2.2.2.2.2.2) k Φ Ψ) → (∀ v : OhI × OhL × OhQ × OhQ × OhI × OhL × OhQ × OhN × OhC, b.1 = (.inr (.inr (.inr (.inr (.inr (.inr (.inr (.inr (.inr (.inr (.inr (.inr (.inr (.inr (.inr (.inr (.inr (.inl v)))))))))))))))))) → oX G 106 iL_law 966 [] [] (v.1, v.2.1, v.2.2.1, v.2.2.2.1, v.2.2.2.2.1, v.2.2.2.2.2.1, AR, v.2.2.2.2.2.2.1, v.2.2.2.2.2.2.2.1, v.2.2.2.2.2.2.2.2) k Φ Ψ) → (∀ v : OhI × OhL × OhQ × OhQ × OhI × OhL × OhQ × OhN × OhC, b.1 = (.inr (.inr (.inr (.inr (.inr (.inr (.inr (.inr (.inr (.inr (.inr (.inr (.inr (.inr (.inr (.inr (.inr (.inr (.inl v))))))))))))))))))) → oX G 106 iL_law 1030 [] [] (v.1, v.2.1, v.2.2.1, v.2.2.2.1, v.2.2.2.2.1, v.2.2.2.2.2.1, AR, v.2.2.2.2.2.2.1, v.2.2.2.2.2.2.2.1, v.2.2.2.2.2.2.2.2) k Φ Ψ) → (∀ v : OhI × OhL × OhQ × OhQ × OhI × OhL × OhQ × OhN × OhC, b.1 = (.inr (.inr (.inr (.inr (.inr (.inr (.inr (.inr (.inr (.inr (.inr (.inr (.inr (.inr (.inr (.inr (.inr (.inr (.inr (.inl v)))))))))))))))))))) → oX G 106 iL_law 1079 [] [] (v.1, v.2.1, v.2.2.1, v.2.2.2.1, v.2.2.2.2.1, v.2.2.2.2.2.1, AR, v.2.2.2.2.2.2.1, v.2.2.2.2.2.2.2.1, v.2.2.2.2.2.2.2.2) k Φ Ψ) → (∀ v : OhI × OhL × OhQ × OhQ × OhI × OhL × OhQ × OhN × OhC, b.1 = (.inr (.inr (.inr (.inr (.inr (.inr (.inr (.inr (.inr (.inr (.inr (.inr (.inr (.inr (.inr (.inr (.inr (.inr (.inr (.inr (.inl v))))))))))))))))))))) → oX G 106 iL_law 1128 [] [] (v.1, v.2.1, v.2.2.1, v.2.2.2.1, v.2.2.2.2.1, v.2.2.2.2.2.1, AR, v.2.2.2.2.2.2.1, v.2.2.2.2.2.2.2.1, v.2.2.2.2.2.2.2.2) k Φ Ψ) → (∀ v : OhI × OhL × OhQ × OhQ × OhI × OhL × OhQ × OhN × OhC, b.1 = (.inr (.inr (.inr (.inr (.inr (.inr (.inr (.inr (.inr (.inr (.inr (.inr (.inr (.inr (.inr (.inr (.inr (.inr (.inr (.inr (.inr (.inl v)))))))))))))))))))))) → oX G 106 iL_law 1177 [] [] (v.1, v.2.1, v.2.2.1, v.2.2.2.1, v.2.2.2.2.1, v.2.2.2.2.2.1, AR, v.2.2.2.2.2.2.1, v.2.2.2.2.2.2.2.1, v.2.2.2.2.2.2.2.2) k Φ Ψ) → (∀ v : OhI × OhL × OhQ × OhQ × OhI × OhL × OhQ × OhN × OhC, b.1 = (.inr (.inr (.inr (.inr (.inr (.inr (.inr (.inr (.inr (.inr (.inr (.inr (.inr (.inr (.inr (.inr (.inr (.inr (.inr (.inr (.inr (.inr (.inl v))))))))))))))))))))))) → oX G 106 iL_law 1214 [] [] (v.1, v.2.1, v.2.2.1, v.2.2.2.1, v.2.2.2.2.1, v.2.2.2.2.2.1, AR, v.2.2.2.2.2.2.1, v.2.2.2.2.2.2.2.1, v.2.2.2.2.2.2.2.2) k Φ Ψ) → (∀ v : OhI × OhL × OhQ × OhQ × OhI × OhL × OhQ × OhN × OhC, b.1 = (.inr (.inr (.inr (.inr (.inr (.inr (.inr (.inr (.inr (.inr (.inr (.inr (.inr (.inr (.inr (.inr (.inr (.inr (.inr (.inr (.inr (.inr (.inr (.inl v)))))))))))))))))))))))) → oX G 106 iL_law 1263 [] [] (v.1, v.2.1, v.2.2.1, v.2.2.2.1, v.2.2.2.2.1, v.2.2.2.2.2.1, AR, v.2.2.2.2.2.2.1, v.2.2.2.2.2.2.2.1, v.2.2.2.2.2.2.2.2) k Φ Ψ) → (∀ v : OhI × OhL × OhQ × OhQ × OhI × OhL × OhQ × OhN × OhC, b.1 = (.inr (.inr (.inr (.inr (.inr (.inr (.inr (.inr (.inr (.inr (.inr (.inr (.inr (.inr (.inr (.inr (.inr (.inr (.inr (.inr (.inr (.inr (.inr (.inr (.inl v))))))))))))))))))))))))) → oX G 106 iL_law 1312 [] [] (v.1, v.2.1, v.2.2.1, v.2.2.2.1, v.2.2.2.2.1, v.2.2.2.2.2.1, AR, v.2.2.2.2.2.2.1, v.2.2.2.2.2.2.2.1, v.2.2.2.2.2.2.2.2) k Φ Ψ) → (∀ v : OhI × OhL × OhQ × OhQ × OhI × OhL × OhQ × OhN × OhC, b.1 = (.inr (.inr (.inr (.inr (.inr (.inr (.inr (.inr (.inr (.inr (.inr (.inr (.inr (.inr (.inr (.inr (.inr (.inr (.inr (.inr (.inr (.inr (.inr (.inr (.inr (.inl v)))))))))))))))))))))))))) → oX G 106 iL_law 1349 [] [] (v.1, v.2.1, v.2.2.1, v.2.2.2.1, v.2.2.2.2.1, v.2.2.2.2.2.1, AR, v.2.2.2.2.2.2.1, v.2.2.2.2.2.2.2.1, v.2.2.2.2.2.2.2.2) k Φ Ψ) → (∀ v : OhI × OhL × OhQ × OhQ × OhI × OhL × OhQ × OhN × OhC, b.1 = (.inr (.inr (.inr (.inr (.inr (.inr (.inr (.inr (.inr (.inr (.inr (.inr (.inr (.inr (.inr (.inr (.inr (.inr (.inr (.inr (.inr (.inr (.inr (.inr (.inr (.inr (.inl v))))))))))))))))))))))))))) → oX G 106 iL_law 1398 [] [] (v.1, v.2.1, v.2.2.1, v.2.2.2.1, v.2.2.2.2.1, v.2.2.2.2.2.1, AR, v.2.2.2.2.2.2.1, v.2.2.2.2.2.2.2.1, v.2.2.2.2.2.2.2.2) k Φ Ψ) → (∀ v : OhI × OhL × OhQ × OhQ × OhI × OhL × OhQ × OhN × OhC, b.1 = (.inr (.inr (.inr (.inr (.inr (.inr (.inr (.inr (.inr (.inr (.inr (.inr (.inr (.inr (.inr (.inr (.inr (.inr (.inr (.inr (.inr (.inr (.inr (.inr (.inr (.inr (.inr (.inl v)))))))))))))))))))))))))))) → oX G 106 iL_law 1423 [] [] (v.1, v.2.1, v.2.2.1, v.2.2.2.1, v.2.2.2.2.1, v.2.2.2.2.2.1, AR, v.2.2.2.2.2.2.1, v.2.2.2.2.2.2.2.1, v.2.2.2.2.2.2.2.2) k Φ Ψ) → (∀ v : OhI × OhL × OhQ × OhQ × OhI × OhL × OhQ × OhN × OhC, b.1 = (.inr (.inr (.inr (.inr (.inr (.inr (.inr (.inr (.inr (.inr (.inr (.inr (.inr (.inr (.inr (.inr (.inr (.inr (.inr (.inr (.inr (.inr (.inr (.inr (.inr (.inr (.inr (.inr (.inl v))))))))))))))))))))))))))))) → oX G 106 iL_law 1436 [] [] (v.1, v.2.1, v.2.2.1, v.2.2.2.1, v.2.2.2.2.1, v.2.2.2.2.2.1, AR, v.2.2.2.2.2.2.1, v.2.2.2.2.2.2.2.1, v.2.2.2.2.2.2.2.2) k Φ Ψ) → (∀ v : OhI × OhL × OhQ × OhQ × OhI × OhL × OhQ × OhN × OhC, b.1 = (.inr (.inr (.inr (.inr (.inr (.inr (.inr (.inr (.inr (.inr (.inr (.inr (.inr (.inr (.inr (.inr (.inr (.inr (.inr (.inr (.inr (.inr (.inr (.inr (.inr (.inr (.inr (.inr (.inr v))))))))))))))))))))))))))))) → oX G 106 iL_law 1461 [] [] (v.1, v.2.1, v.2.2.1, v.2.2.2.1, v.2.2.2.2.1, v.2.2.2.2.2.1, AR, v.2.2.2.2.2.2.1, v.2.2.2.2.2.2.2.1, v.2.2.2.2.2.2.2.2) k Φ Ψ) → oX G 106 iL_law 23 [(0, vR (some (3, 0))), (1, vR (some (0, 0))), (2, vR (some (1, 0))), (3, vR (some (2, 0))), (4, vI x4)] [] (FI, FL, FR, GR, AI, AL, AR, BR, AN, C) (oPl b.2 k) Φ Ψ := by
  intro f
  induction f with
  | zero =>
    intro x4 FI FL FR GR AI AL BR AN C b hm
    cases hm
  | succ f ih =>
    intro x4 FI FL FR GR AI AL BR AN C b hm hx1 hx2 hx3 hx4 hx5 hx6 hx7 hx8 hx9 hx10 hx11 hx12 hx13 hx14 hx15 hx16 hx17 hx18 hx19 hx20 hx21 hx22 hx23 hx24 hx25 hx26 hx27 hx28 hx29 hx30
    obtain ⟨⟨r, q⟩, hr, hm⟩ := lk_s hm
    rcases r with v | v
    · obtain ⟨c, hm, hb⟩ := hm
      rw [hb, oPl_assoc]
      refine x_mL_law_b23 n x4 hr (fun v9 e => ?_) (fun v9 e => by cases e) (fun v9 e => by cases e) (fun v9 e => by cases e) (fun v9 e => by cases e) (fun v9 e => by cases e) (fun v9 e => by cases e) (fun v9 e => by cases e) (fun v9 e => by cases e) (fun v9 e => by cases e) (fun v9 e => by cases e) (fun v9 e => by cases e) (fun v9 e => by cases e) (fun v9 e => by cases e) (fun v9 e => by cases e) (fun v9 e => by cases e) (fun v9 e => by cases e) (fun v9 e => by cases e) (fun v9 e => by cases e) (fun v9 e => by cases e) (fun v9 e => by cases e) (fun v9 e => by cases e) (fun v9 e => by cases e) (fun v9 e => by cases e) (fun v9 e => by cases e) (fun v9 e => by cases e) (fun v9 e => by cases e) (fun v9 e => by cases e) (fun v9 e => by cases e) (fun v9 e => by cases e) (fun v9 e => by cases e)
      cases e; exact ih v.1 v.2.1 v.2.2.1 v.2.2.2.1 v.2.2.2.2.1 v.2.2.2.2.2.1 v.2.2.2.2.2.2.1 v.2.2.2.2.2.2.2.1 v.2.2.2.2.2.2.2.2.1 v.2.2.2.2.2.2.2.2.2 (b.1, c) hm hx1 hx2 hx3 hx4 hx5 hx6 hx7 hx8 hx9 hx10 hx11 hx12 hx13 hx14 hx15 hx16 hx17 hx18 hx19 hx20 hx21 hx22 hx23 hx24 hx25 hx26 hx27 hx28 hx29 hx30
    · cases (show b = (v, q) from hm)
      refine x_mL_law_b23 n x4 hr (fun v9 e => by cases e) (fun v9 e => ?_) (fun v9 e => ?_) (fun v9 e => ?_) (fun v9 e => ?_) (fun v9 e => ?_) (fun v9 e => ?_) (fun v9 e => ?_) (fun v9 e => ?_) (fun v9 e => ?_) (fun v9 e => ?_) (fun v9 e => ?_) (fun v9 e => ?_) (fun v9 e => ?_) (fun v9 e => ?_) (fun v9 e => ?_) (fun v9 e => ?_) (fun v9 e => ?_) (fun v9 e => ?_) (fun v9 e => ?_) (fun v9 e => ?_) (fun v9 e => ?_) (fun v9 e => ?_) (fun v9 e => ?_) (fun v9 e => ?_) (fun v9 e => ?_) (fun v9 e => ?_) (fun v9 e => ?_) (fun v9 e => ?_) (fun v9 e => ?_) (fun v9 e => ?_)
      · cases e; exact hx1 v9 rfl
      · cases e; exact hx2 v9 rfl
      · cases e; exact hx3 v9 rfl
      · cases e; exact hx4 v9 rfl
      · cases e; exact hx5 v9 rfl
      · cases e; exact hx6 v9 rfl
      · cases e; exact hx7 v9 rfl
      · cases e; exact hx8 v9 rfl
      · cases e; exact hx9 v9 rfl
      · cases e; exact hx10 v9 rfl
      · cases e; exact hx11 v9 rfl
      · cases e; exact hx12 v9 rfl
      · cases e; exact hx13 v9 rfl
      · cases e; exact hx14 v9 rfl
      · cases e; exact hx15 v9 rfl
      · cases e; exact hx16 v9 rfl
      · cases e; exact hx17 v9 rfl
      · cases e; exact hx18 v9 rfl
      · cases e; exact hx19 v9 rfl
      · cases e; exact hx20 v9 rfl
      · cases e; exact hx21 v9 rfl
      · cases e; exact hx22 v9 rfl
      · cases e; exact hx23 v9 rfl
      · cases e; exact hx24 v9 rfl
      · cases e; exact hx25 v9 rfl
      · cases e; exact hx26 v9 rfl
      · cases e; exact hx27 v9 rfl
      · cases e; exact hx28 v9 rfl
      · cases e; exact hx29 v9 rfl
      · cases e; exact hx30 v9 rfl
noncomputable def mL_law (n : Nat) (FI : OhI) (FL : OhL) (FR : OhQ) (GR : OhQ) (AI : OhI) (AL : OhL) (AR : OhQ) (BR : OhQ) (AN : OhN) (C : OhC) : Option ((Int32 × OhI × OhL × OhQ × OhQ × OhI × OhL × OhQ × OhQ × OhN × OhC) × (Nat × Nat)) :=
  oLet (sA FI 0 (C 0) (fun _ => 0)) fun FI1 =>
  oLet (sA FR 0 (C 0) (fun _ => none)) fun FR1 =>
  oLet (sA GR 0 (C 0) (fun _ => none)) fun GR1 =>
  oLet (uA C 0 (C 0 + 1)) fun C1 =>
  oCost (1, 37) <|
  gd ((0, C 0) = (0, 0)) <|
  (mX1_init n FI1 FR1 GR1 AI AR BR AN C1).bind fun r3 =>
  oCost r3.2 <|
  oLet (sA r3.1.1 1 (r3.1.2.2.2.2.2.2.2 1) (fun _ => 0)) fun FI4 =>
  oLet (sA FL 1 (r3.1.2.2.2.2.2.2.2 1) (fun _ => 0)) fun FL4 =>
  oLet (sA r3.1.2.1 1 (r3.1.2.2.2.2.2.2.2 1) (fun _ => none)) fun FR4 =>
  oLet (uA r3.1.2.2.2.2.2.2.2 1 (r3.1.2.2.2.2.2.2.2 1 + 1)) fun C4 =>
  oCost (1, 101) <|
  gd ((1, r3.1.2.2.2.2.2.2.2 1) = (1, 0)) <|
  (mX4_init FI4 FR4 r3.1.2.2.2.1 r3.1.2.2.2.2.2.2.1 C4).bind fun r6 =>
  oCost r6.2 <|
  oLet (sA AL 2 (r6.1.2.2.2.2 2) (fun _ => 0)) fun AL7 =>
  oLet (sA r6.1.2.2.2.1 2 (r6.1.2.2.2.2 2) (1 : Int32).toNatClampNeg) fun AN7 =>
  oLet (uA r6.1.2.2.2.2 2 (r6.1.2.2.2.2 2 + 1)) fun C7 =>
  oCost (1, (1 : Int32).toNatClampNeg) <|
  gd ((2, r6.1.2.2.2.2 2) = (2, 0)) <|
  (lpK (fun v => mL_law_b23 n v.2.1 v.2.2.1 v.2.2.2.1 v.2.2.2.2.1 v.2.2.2.2.2.1 v.2.2.2.2.2.2.1 r3.1.2.2.2.2.1 v.2.2.2.2.2.2.2.1 v.2.2.2.2.2.2.2.2.1 v.2.2.2.2.2.2.2.2.2 v.1) n ((0 : Int32), r6.1.1, FL4, r6.1.2.1, r3.1.2.2.1, r6.1.2.2.1, AL7, r3.1.2.2.2.2.2.1, AN7, C7)).bind fun b310 => oCost b310.2 <| (Sum.elim (fun v310 => some (((1 : Int32), v310.1, v310.2.1, v310.2.2.1, v310.2.2.2.1, v310.2.2.2.2.1, v310.2.2.2.2.2.1, r3.1.2.2.2.2.1, v310.2.2.2.2.2.2.1, v310.2.2.2.2.2.2.2.1, v310.2.2.2.2.2.2.2.2), (0, 0))) (Sum.elim (fun v310 => some (((0 : Int32), v310.1, v310.2.1, v310.2.2.1, v310.2.2.2.1, v310.2.2.2.2.1, v310.2.2.2.2.2.1, r3.1.2.2.2.2.1, v310.2.2.2.2.2.2.1, v310.2.2.2.2.2.2.2.1, v310.2.2.2.2.2.2.2.2), (0, 0))) (Sum.elim (fun v310 => some (((0 : Int32), v310.1, v310.2.1, v310.2.2.1, v310.2.2.2.1, v310.2.2.2.2.1, v310.2.2.2.2.2.1, r3.1.2.2.2.2.1, v310.2.2.2.2.2.2.1, v310.2.2.2.2.2.2.2.1, v310.2.2.2.2.2.2.2.2), (0, 0))) (Sum.elim (fun v310 => some (((0 : Int32), v310.1, v310.2.1, v310.2.2.1, v310.2.2.2.1, v310.2.2.2.2.1, v310.2.2.2.2.2.1, r3.1.2.2.2.2.1, v310.2.2.2.2.2.2.1, v310.2.2.2.2.2.2.2.1, v310.2.2.2.2.2.2.2.2), (0, 0))) (Sum.elim (fun v310 => some (((0 : Int32), v310.1, v310.2.1, v310.2.2.1, v310.2.2.2.1, v310.2.2.2.2.1, v310.2.2.2.2.2.1, r3.1.2.2.2.2.1, v310.2.2.2.2.2.2.1, v310.2.2.2.2.2.2.2.1, v310.2.2.2.2.2.2.2.2), (0, 0))) (Sum.elim (fun v310 => some (((0 : Int32), v310.1, v310.2.1, v310.2.2.1, v310.2.2.2.1, v310.2.2.2.2.1, v310.2.2.2.2.2.1, r3.1.2.2.2.2.1, v310.2.2.2.2.2.2.1, v310.2.2.2.2.2.2.2.1, v310.2.2.2.2.2.2.2.2), (0, 0))) (Sum.elim (fun v310 => some (((0 : Int32), v310.1, v310.2.1, v310.2.2.1, v310.2.2.2.1, v310.2.2.2.2.1, v310.2.2.2.2.2.1, r3.1.2.2.2.2.1, v310.2.2.2.2.2.2.1, v310.2.2.2.2.2.2.2.1, v310.2.2.2.2.2.2.2.2), (0, 0))) (Sum.elim (fun v310 => some (((0 : Int32), v310.1, v310.2.1, v310.2.2.1, v310.2.2.2.1, v310.2.2.2.2.1, v310.2.2.2.2.2.1, r3.1.2.2.2.2.1, v310.2.2.2.2.2.2.1, v310.2.2.2.2.2.2.2.1, v310.2.2.2.2.2.2.2.2), (0, 0))) (Sum.elim (fun v310 => some (((0 : Int32), v310.1, v310.2.1, v310.2.2.1, v310.2.2.2.1, v310.2.2.2.2.1, v310.2.2.2.2.2.1, r3.1.2.2.2.2.1, v310.2.2.2.2.2.2.1, v310.2.2.2.2.2.2.2.1, v310.2.2.2.2.2.2.2.2), (0, 0))) (Sum.elim (fun v310 => some (((0 : Int32), v310.1, v310.2.1, v310.2.2.1, v310.2.2.2.1, v310.2.2.2.2.1, v310.2.2.2.2.2.1, r3.1.2.2.2.2.1, v310.2.2.2.2.2.2.1, v310.2.2.2.2.2.2.2.1, v310.2.2.2.2.2.2.2.2), (0, 0))) (Sum.elim (fun v310 => some (((0 : Int32), v310.1, v310.2.1, v310.2.2.1, v310.2.2.2.1, v310.2.2.2.2.1, v310.2.2.2.2.2.1, r3.1.2.2.2.2.1, v310.2.2.2.2.2.2.1, v310.2.2.2.2.2.2.2.1, v310.2.2.2.2.2.2.2.2), (0, 0))) (Sum.elim (fun v310 => some (((0 : Int32), v310.1, v310.2.1, v310.2.2.1, v310.2.2.2.1, v310.2.2.2.2.1, v310.2.2.2.2.2.1, r3.1.2.2.2.2.1, v310.2.2.2.2.2.2.1, v310.2.2.2.2.2.2.2.1, v310.2.2.2.2.2.2.2.2), (0, 0))) (Sum.elim (fun v310 => some (((0 : Int32), v310.1, v310.2.1, v310.2.2.1, v310.2.2.2.1, v310.2.2.2.2.1, v310.2.2.2.2.2.1, r3.1.2.2.2.2.1, v310.2.2.2.2.2.2.1, v310.2.2.2.2.2.2.2.1, v310.2.2.2.2.2.2.2.2), (0, 0))) (Sum.elim (fun v310 => some (((0 : Int32), v310.1, v310.2.1, v310.2.2.1, v310.2.2.2.1, v310.2.2.2.2.1, v310.2.2.2.2.2.1, r3.1.2.2.2.2.1, v310.2.2.2.2.2.2.1, v310.2.2.2.2.2.2.2.1, v310.2.2.2.2.2.2.2.2), (0, 0))) (Sum.elim (fun v310 => some (((0 : Int32), v310.1, v310.2.1, v310.2.2.1, v310.2.2.2.1, v310.2.2.2.2.1, v310.2.2.2.2.2.1, r3.1.2.2.2.2.1, v310.2.2.2.2.2.2.1, v310.2.2.2.2.2.2.2.1, v310.2.2.2.2.2.2.2.2), (0, 0))) (Sum.elim (fun v310 => some (((0 : Int32), v310.1, v310.2.1, v310.2.2.1, v310.2.2.2.1, v310.2.2.2.2.1, v310.2.2.2.2.2.1, r3.1.2.2.2.2.1, v310.2.2.2.2.2.2.1, v310.2.2.2.2.2.2.2.1, v310.2.2.2.2.2.2.2.2), (0, 0))) (Sum.elim (fun v310 => some (((0 : Int32), v310.1, v310.2.1, v310.2.2.1, v310.2.2.2.1, v310.2.2.2.2.1, v310.2.2.2.2.2.1, r3.1.2.2.2.2.1, v310.2.2.2.2.2.2.1, v310.2.2.2.2.2.2.2.1, v310.2.2.2.2.2.2.2.2), (0, 0))) (Sum.elim (fun v310 => some (((0 : Int32), v310.1, v310.2.1, v310.2.2.1, v310.2.2.2.1, v310.2.2.2.2.1, v310.2.2.2.2.2.1, r3.1.2.2.2.2.1, v310.2.2.2.2.2.2.1, v310.2.2.2.2.2.2.2.1, v310.2.2.2.2.2.2.2.2), (0, 0))) (Sum.elim (fun v310 => some (((0 : Int32), v310.1, v310.2.1, v310.2.2.1, v310.2.2.2.1, v310.2.2.2.2.1, v310.2.2.2.2.2.1, r3.1.2.2.2.2.1, v310.2.2.2.2.2.2.1, v310.2.2.2.2.2.2.2.1, v310.2.2.2.2.2.2.2.2), (0, 0))) (Sum.elim (fun v310 => some (((0 : Int32), v310.1, v310.2.1, v310.2.2.1, v310.2.2.2.1, v310.2.2.2.2.1, v310.2.2.2.2.2.1, r3.1.2.2.2.2.1, v310.2.2.2.2.2.2.1, v310.2.2.2.2.2.2.2.1, v310.2.2.2.2.2.2.2.2), (0, 0))) (Sum.elim (fun v310 => some (((0 : Int32), v310.1, v310.2.1, v310.2.2.1, v310.2.2.2.1, v310.2.2.2.2.1, v310.2.2.2.2.2.1, r3.1.2.2.2.2.1, v310.2.2.2.2.2.2.1, v310.2.2.2.2.2.2.2.1, v310.2.2.2.2.2.2.2.2), (0, 0))) (Sum.elim (fun v310 => some (((0 : Int32), v310.1, v310.2.1, v310.2.2.1, v310.2.2.2.1, v310.2.2.2.2.1, v310.2.2.2.2.2.1, r3.1.2.2.2.2.1, v310.2.2.2.2.2.2.1, v310.2.2.2.2.2.2.2.1, v310.2.2.2.2.2.2.2.2), (0, 0))) (Sum.elim (fun v310 => some (((0 : Int32), v310.1, v310.2.1, v310.2.2.1, v310.2.2.2.1, v310.2.2.2.2.1, v310.2.2.2.2.2.1, r3.1.2.2.2.2.1, v310.2.2.2.2.2.2.1, v310.2.2.2.2.2.2.2.1, v310.2.2.2.2.2.2.2.2), (0, 0))) (Sum.elim (fun v310 => some (((0 : Int32), v310.1, v310.2.1, v310.2.2.1, v310.2.2.2.1, v310.2.2.2.2.1, v310.2.2.2.2.2.1, r3.1.2.2.2.2.1, v310.2.2.2.2.2.2.1, v310.2.2.2.2.2.2.2.1, v310.2.2.2.2.2.2.2.2), (0, 0))) (Sum.elim (fun v310 => some (((0 : Int32), v310.1, v310.2.1, v310.2.2.1, v310.2.2.2.1, v310.2.2.2.2.1, v310.2.2.2.2.2.1, r3.1.2.2.2.2.1, v310.2.2.2.2.2.2.1, v310.2.2.2.2.2.2.2.1, v310.2.2.2.2.2.2.2.2), (0, 0))) (Sum.elim (fun v310 => some (((0 : Int32), v310.1, v310.2.1, v310.2.2.1, v310.2.2.2.1, v310.2.2.2.2.1, v310.2.2.2.2.2.1, r3.1.2.2.2.2.1, v310.2.2.2.2.2.2.1, v310.2.2.2.2.2.2.2.1, v310.2.2.2.2.2.2.2.2), (0, 0))) (Sum.elim (fun v310 => some (((0 : Int32), v310.1, v310.2.1, v310.2.2.1, v310.2.2.2.1, v310.2.2.2.2.1, v310.2.2.2.2.2.1, r3.1.2.2.2.2.1, v310.2.2.2.2.2.2.1, v310.2.2.2.2.2.2.2.1, v310.2.2.2.2.2.2.2.2), (0, 0))) (Sum.elim (fun v310 => some (((0 : Int32), v310.1, v310.2.1, v310.2.2.1, v310.2.2.2.1, v310.2.2.2.2.1, v310.2.2.2.2.2.1, r3.1.2.2.2.2.1, v310.2.2.2.2.2.2.1, v310.2.2.2.2.2.2.2.1, v310.2.2.2.2.2.2.2.2), (0, 0))) (Sum.elim (fun v310 => some (((0 : Int32), v310.1, v310.2.1, v310.2.2.1, v310.2.2.2.1, v310.2.2.2.2.1, v310.2.2.2.2.2.1, r3.1.2.2.2.2.1, v310.2.2.2.2.2.2.1, v310.2.2.2.2.2.2.2.1, v310.2.2.2.2.2.2.2.2), (0, 0))) (fun v310 => some (((0 : Int32), v310.1, v310.2.1, v310.2.2.1, v310.2.2.2.1, v310.2.2.2.2.1, v310.2.2.2.2.2.1, r3.1.2.2.2.2.1, v310.2.2.2.2.2.2.1, v310.2.2.2.2.2.2.2.1, v310.2.2.2.2.2.2.2.2), (0, 0)))))))))))))))))))))))))))))))) b310.1
theorem x_mL_law {G : OhG} {FI AI : OhI} {FL AL : OhL} {FR GR AR BR : OhQ} {AN : OhN} {C : OhC} {k : Nat × Nat} {Φ : OhP} {Ψ : OhX} (n : Nat) {r : (Int32 × OhI × OhL × OhQ × OhQ × OhI × OhL × OhQ × OhQ × OhN × OhC) × (Nat × Nat)} (hm : mL_law n FI FL FR GR AI AL AR BR AN C = some r) (hK : Φ (some (vI r.1.1)) (r.1.2.1, r.1.2.2.1, r.1.2.2.2.1, r.1.2.2.2.2.1, r.1.2.2.2.2.2.1, r.1.2.2.2.2.2.2.1, r.1.2.2.2.2.2.2.2.1, r.1.2.2.2.2.2.2.2.2.1, r.1.2.2.2.2.2.2.2.2.2.1, r.1.2.2.2.2.2.2.2.2.2.2)) : oX G 106 iL_law 0 [(0, vR (some (3, 0)))] [] (FI, FL, FR, GR, AI, AL, AR, BR, AN, C) (oPl r.2 k) Φ Ψ := by
  obtain ⟨r, q0⟩ := r
  unfold mL_law at hm
  obtain ⟨FI1, hFI1, hm⟩ := oLs hm
  obtain ⟨FR1, hFR1, hm⟩ := oLs hm
  obtain ⟨GR1, hGR1, hm⟩ := oLs hm
  obtain ⟨C1, hC1, hm⟩ := oLs hm
  refine oX_cost hm (fun qq1 hm => ?_)
  refine oX_newIFG (s9 := 0) (k := oPl qq1 k) nL_8 rfl (by decide) dL_law_0 hFI1 hFR1 hGR1 hC1 ?_
  refine oX_dup dL_law_3 trivial ?_
  obtain ⟨g2, hm⟩ := gd_s hm
  rw [g2]
  obtain ⟨r3, g3, hm⟩ := bd_s hm
  refine oX_cost hm (fun qq3 hm => ?_)
  refine oX_cIK (as := []) dL_law_4 rfl ok_X1_init rfl rfl rfl q172 q173 q129 q174 (by decide) (Nat.le_of_ble_eq_true rfl) (t_X1_init n g3) (Nat.le_refl _) (Nat.le_refl _) ?_
  refine oX_astore_n (ls' := [(1, vR (some (0, 0))), (0, vR (some (3, 0)))]) dL_law_7 rfl (by decide) rfl ?_
  obtain ⟨FI4, hFI4, hm⟩ := oLs hm
  obtain ⟨FL4, hFL4, hm⟩ := oLs hm
  obtain ⟨FR4, hFR4, hm⟩ := oLs hm
  obtain ⟨C4, hC4, hm⟩ := oLs hm
  refine oX_cost hm (fun qq4 hm => ?_)
  refine oX_newILF (s9 := 1) (k := oPl qq4 k) nL_16 rfl (by decide) dL_law_8 hFI4 hFL4 hFR4 hC4 ?_
  refine oX_dup dL_law_11 trivial ?_
  obtain ⟨g5, hm⟩ := gd_s hm
  rw [g5]
  obtain ⟨r6, g6, hm⟩ := bd_s hm
  refine oX_cost hm (fun qq6 hm => ?_)
  refine oX_cIK (as := []) dL_law_12 rfl ok_X4_init rfl rfl rfl q1704 q1705 q136 q1706 (by decide) (Nat.le_of_ble_eq_true rfl) (t_X4_init g6) (Nat.le_refl _) (Nat.le_refl _) ?_
  refine oX_astore_n (ls' := [(2, vR (some (1, 0))), (1, vR (some (0, 0))), (0, vR (some (3, 0)))]) dL_law_15 rfl (by decide) rfl ?_
  refine oX_iconst (v := (1 : Int32)) dL_law_16 (by decide) ?_
  obtain ⟨AL7, hAL7, hm⟩ := oLs hm
  obtain ⟨AN7, hAN7, hm⟩ := oLs hm
  obtain ⟨C7, hC7, hm⟩ := oLs hm
  refine oX_cost hm (fun qq7 hm => ?_)
  refine oX_newa3 (k := oPl qq7 k) 2 rfl q2453 dL_law_17 (by decide) (by decide) hAL7 hAN7 hC7 ?_
  obtain ⟨g9, hm⟩ := gd_s hm
  rw [g9]
  refine oX_astore_n (ls' := [(3, vR (some (2, 0))), (2, vR (some (1, 0))), (1, vR (some (0, 0))), (0, vR (some (3, 0)))]) dL_law_19 rfl (by decide) rfl ?_
  refine oX_iconst (v := (0 : Int32)) dL_law_20 (by decide) ?_
  refine oX_istore (ls' := [(4, vI (0 : Int32)), (3, vR (some (2, 0))), (2, vR (some (1, 0))), (1, vR (some (0, 0))), (0, vR (some (3, 0)))]) dL_law_21 (by decide) rfl ?_
  obtain ⟨b310, g310, hm⟩ := bd_s hm
  refine oX_cost hm (fun qq310 hm => ?_)
  refine oX_sub [4, 3, 2, 1, 0] rfl (l_mL_law_b23 n n (0 : Int32) r6.1.1 FL4 r6.1.2.1 r3.1.2.2.1 r6.1.2.2.1 AL7 r3.1.2.2.2.2.2.1 AN7 C7 _ g310 (fun v310 e310 => ?_) (fun v310 e310 => ?_) (fun v310 e310 => ?_) (fun v310 e310 => ?_) (fun v310 e310 => ?_) (fun v310 e310 => ?_) (fun v310 e310 => ?_) (fun v310 e310 => ?_) (fun v310 e310 => ?_) (fun v310 e310 => ?_) (fun v310 e310 => ?_) (fun v310 e310 => ?_) (fun v310 e310 => ?_) (fun v310 e310 => ?_) (fun v310 e310 => ?_) (fun v310 e310 => ?_) (fun v310 e310 => ?_) (fun v310 e310 => ?_) (fun v310 e310 => ?_) (fun v310 e310 => ?_) (fun v310 e310 => ?_) (fun v310 e310 => ?_) (fun v310 e310 => ?_) (fun v310 e310 => ?_) (fun v310 e310 => ?_) (fun v310 e310 => ?_) (fun v310 e310 => ?_) (fun v310 e310 => ?_) (fun v310 e310 => ?_) (fun v310 e310 => ?_))
  · skip
    rw [e310] at hm
    have hm := el1 hm
    refine oX_iconst (v := (1 : Int32)) dL_law_1469 (by decide) ?_
    obtain ⟨rfl, rfl⟩ := oEnd hm
    exact oX_iret dL_law_1470 rfl (by decide) hK
  · skip
    rw [e310] at hm
    have hm := el2 hm
    have hm := el1 hm
    refine oX_iconst (v := (0 : Int32)) dL_law_239 (by decide) ?_
    obtain ⟨rfl, rfl⟩ := oEnd hm
    exact oX_iret dL_law_240 rfl (by decide) hK
  · skip
    rw [e310] at hm
    have hm := el2 hm
    have hm := el2 hm
    have hm := el1 hm
    refine oX_iconst (v := (0 : Int32)) dL_law_264 (by decide) ?_
    obtain ⟨rfl, rfl⟩ := oEnd hm
    exact oX_iret dL_law_265 rfl (by decide) hK
  · skip
    rw [e310] at hm
    have hm := el2 hm
    have hm := el2 hm
    have hm := el2 hm
    have hm := el1 hm
    refine oX_iconst (v := (0 : Int32)) dL_law_289 (by decide) ?_
    obtain ⟨rfl, rfl⟩ := oEnd hm
    exact oX_iret dL_law_290 rfl (by decide) hK
  · skip
    rw [e310] at hm
    have hm := el2 hm
    have hm := el2 hm
    have hm := el2 hm
    have hm := el2 hm
    have hm := el1 hm
    refine oX_iconst (v := (0 : Int32)) dL_law_366 (by decide) ?_
    obtain ⟨rfl, rfl⟩ := oEnd hm
    exact oX_iret dL_law_367 rfl (by decide) hK
  · skip
    rw [e310] at hm
    have hm := el2 hm
    have hm := el2 hm
    have hm := el2 hm
    have hm := el2 hm
    have hm := el2 hm
    have hm := el1 hm
    refine oX_iconst (v := (0 : Int32)) dL_law_415 (by decide) ?_
    obtain ⟨rfl, rfl⟩ := oEnd hm
    exact oX_iret dL_law_416 rfl (by decide) hK
  · skip
    rw [e310] at hm
    have hm := el2 hm
    have hm := el2 hm
    have hm := el2 hm
    have hm := el2 hm
    have hm := el2 hm
    have hm := el2 hm
    have hm := el1 hm
    refine oX_iconst (v := (0 : Int32)) dL_law_464 (by decide) ?_
    obtain ⟨rfl, rfl⟩ := oEnd hm
    exact oX_iret dL_law_465 rfl (by decide) hK
  · skip
    rw [e310] at hm
    have hm := el2 hm
    have hm := el2 hm
    have hm := el2 hm
    have hm := el2 hm
    have hm := el2 hm
    have hm := el2 hm
    have hm := el2 hm
    have hm := el1 hm
    refine oX_iconst (v := (0 : Int32)) dL_law_501 (by decide) ?_
    obtain ⟨rfl, rfl⟩ := oEnd hm
    exact oX_iret dL_law_502 rfl (by decide) hK
  · skip
    rw [e310] at hm
    have hm := el2 hm
    have hm := el2 hm
    have hm := el2 hm
    have hm := el2 hm
    have hm := el2 hm
    have hm := el2 hm
    have hm := el2 hm
    have hm := el2 hm
    have hm := el1 hm
    refine oX_iconst (v := (0 : Int32)) dL_law_526 (by decide) ?_
    obtain ⟨rfl, rfl⟩ := oEnd hm
    exact oX_iret dL_law_527 rfl (by decide) hK
  · skip
    rw [e310] at hm
    have hm := el2 hm
    have hm := el2 hm
    have hm := el2 hm
    have hm := el2 hm
    have hm := el2 hm
    have hm := el2 hm
    have hm := el2 hm
    have hm := el2 hm
    have hm := el2 hm
    have hm := el1 hm
    refine oX_iconst (v := (0 : Int32)) dL_law_539 (by decide) ?_
    obtain ⟨rfl, rfl⟩ := oEnd hm
    exact oX_iret dL_law_540 rfl (by decide) hK
  · skip
    rw [e310] at hm
    have hm := el2 hm
    have hm := el2 hm
    have hm := el2 hm
    have hm := el2 hm
    have hm := el2 hm
    have hm := el2 hm
    have hm := el2 hm
    have hm := el2 hm
    have hm := el2 hm
    have hm := el2 hm
    have hm := el1 hm
    refine oX_iconst (v := (0 : Int32)) dL_law_600 (by decide) ?_
    obtain ⟨rfl, rfl⟩ := oEnd hm
    exact oX_iret dL_law_601 rfl (by decide) hK
  · skip
    rw [e310] at hm
    have hm := el2 hm
    have hm := el2 hm
    have hm := el2 hm
    have hm := el2 hm
    have hm := el2 hm
    have hm := el2 hm
    have hm := el2 hm
    have hm := el2 hm
    have hm := el2 hm
    have hm := el2 hm
    have hm := el2 hm
    have hm := el1 hm
    refine oX_iconst (v := (0 : Int32)) dL_law_673 (by decide) ?_
    obtain ⟨rfl, rfl⟩ := oEnd hm
    exact oX_iret dL_law_674 rfl (by decide) hK
  · skip
    rw [e310] at hm
    have hm := el2 hm
    have hm := el2 hm
    have hm := el2 hm
    have hm := el2 hm
    have hm := el2 hm
    have hm := el2 hm
    have hm := el2 hm
    have hm := el2 hm
    have hm := el2 hm
    have hm := el2 hm
    have hm := el2 hm
    have hm := el2 hm
    have hm := el1 hm
    refine oX_iconst (v := (0 : Int32)) dL_law_750 (by decide) ?_
    obtain ⟨rfl, rfl⟩ := oEnd hm
    exact oX_iret dL_law_751 rfl (by decide) hK
  · skip
    rw [e310] at hm
    have hm := el2 hm
    have hm := el2 hm
    have hm := el2 hm
    have hm := el2 hm
    have hm := el2 hm
    have hm := el2 hm
    have hm := el2 hm
    have hm := el2 hm
    have hm := el2 hm
    have hm := el2 hm
    have hm := el2 hm
    have hm := el2 hm
    have hm := el2 hm
    have hm := el1 hm
    refine oX_iconst (v := (0 : Int32)) dL_law_799 (by decide) ?_
    obtain ⟨rfl, rfl⟩ := oEnd hm
    exact oX_iret dL_law_800 rfl (by decide) hK
  · skip
    rw [e310] at hm
    have hm := el2 hm
    have hm := el2 hm
    have hm := el2 hm
    have hm := el2 hm
    have hm := el2 hm
    have hm := el2 hm
    have hm := el2 hm
    have hm := el2 hm
    have hm := el2 hm
    have hm := el2 hm
    have hm := el2 hm
    have hm := el2 hm
    have hm := el2 hm
    have hm := el2 hm
    have hm := el1 hm
    refine oX_iconst (v := (0 : Int32)) dL_law_876 (by decide) ?_
    obtain ⟨rfl, rfl⟩ := oEnd hm
    exact oX_iret dL_law_877 rfl (by decide) hK
  · skip
    rw [e310] at hm
    have hm := el2 hm
    have hm := el2 hm
    have hm := el2 hm
    have hm := el2 hm
    have hm := el2 hm
    have hm := el2 hm
    have hm := el2 hm
    have hm := el2 hm
    have hm := el2 hm
    have hm := el2 hm
    have hm := el2 hm
    have hm := el2 hm
    have hm := el2 hm
    have hm := el2 hm
    have hm := el2 hm
    have hm := el1 hm
    refine oX_iconst (v := (0 : Int32)) dL_law_901 (by decide) ?_
    obtain ⟨rfl, rfl⟩ := oEnd hm
    exact oX_iret dL_law_902 rfl (by decide) hK
  · skip
    rw [e310] at hm
    have hm := el2 hm
    have hm := el2 hm
    have hm := el2 hm
    have hm := el2 hm
    have hm := el2 hm
    have hm := el2 hm
    have hm := el2 hm
    have hm := el2 hm
    have hm := el2 hm
    have hm := el2 hm
    have hm := el2 hm
    have hm := el2 hm
    have hm := el2 hm
    have hm := el2 hm
    have hm := el2 hm
    have hm := el2 hm
    have hm := el1 hm
    refine oX_iconst (v := (0 : Int32)) dL_law_949 (by decide) ?_
    obtain ⟨rfl, rfl⟩ := oEnd hm
    exact oX_iret dL_law_950 rfl (by decide) hK
  · skip
    rw [e310] at hm
    have hm := el2 hm
    have hm := el2 hm
    have hm := el2 hm
    have hm := el2 hm
    have hm := el2 hm
    have hm := el2 hm
    have hm := el2 hm
    have hm := el2 hm
    have hm := el2 hm
    have hm := el2 hm
    have hm := el2 hm
    have hm := el2 hm
    have hm := el2 hm
    have hm := el2 hm
    have hm := el2 hm
    have hm := el2 hm
    have hm := el2 hm
    have hm := el1 hm
    refine oX_iconst (v := (0 : Int32)) dL_law_966 (by decide) ?_
    obtain ⟨rfl, rfl⟩ := oEnd hm
    exact oX_iret dL_law_967 rfl (by decide) hK
  · skip
    rw [e310] at hm
    have hm := el2 hm
    have hm := el2 hm
    have hm := el2 hm
    have hm := el2 hm
    have hm := el2 hm
    have hm := el2 hm
    have hm := el2 hm
    have hm := el2 hm
    have hm := el2 hm
    have hm := el2 hm
    have hm := el2 hm
    have hm := el2 hm
    have hm := el2 hm
    have hm := el2 hm
    have hm := el2 hm
    have hm := el2 hm
    have hm := el2 hm
    have hm := el2 hm
    have hm := el1 hm
    refine oX_iconst (v := (0 : Int32)) dL_law_1030 (by decide) ?_
    obtain ⟨rfl, rfl⟩ := oEnd hm
    exact oX_iret dL_law_1031 rfl (by decide) hK
  · skip
    rw [e310] at hm
    have hm := el2 hm
    have hm := el2 hm
    have hm := el2 hm
    have hm := el2 hm
    have hm := el2 hm
    have hm := el2 hm
    have hm := el2 hm
    have hm := el2 hm
    have hm := el2 hm
    have hm := el2 hm
    have hm := el2 hm
    have hm := el2 hm
    have hm := el2 hm
    have hm := el2 hm
    have hm := el2 hm
    have hm := el2 hm
    have hm := el2 hm
    have hm := el2 hm
    have hm := el2 hm
    have hm := el1 hm
    refine oX_iconst (v := (0 : Int32)) dL_law_1079 (by decide) ?_
    obtain ⟨rfl, rfl⟩ := oEnd hm
    exact oX_iret dL_law_1080 rfl (by decide) hK
  · skip
    rw [e310] at hm
    have hm := el2 hm
    have hm := el2 hm
    have hm := el2 hm
    have hm := el2 hm
    have hm := el2 hm
    have hm := el2 hm
    have hm := el2 hm
    have hm := el2 hm
    have hm := el2 hm
    have hm := el2 hm
    have hm := el2 hm
    have hm := el2 hm
    have hm := el2 hm
    have hm := el2 hm
    have hm := el2 hm
    have hm := el2 hm
    have hm := el2 hm
    have hm := el2 hm
    have hm := el2 hm
    have hm := el2 hm
    have hm := el1 hm
    refine oX_iconst (v := (0 : Int32)) dL_law_1128 (by decide) ?_
    obtain ⟨rfl, rfl⟩ := oEnd hm
    exact oX_iret dL_law_1129 rfl (by decide) hK
  · skip
    rw [e310] at hm
    have hm := el2 hm
    have hm := el2 hm
    have hm := el2 hm
    have hm := el2 hm
    have hm := el2 hm
    have hm := el2 hm
    have hm := el2 hm
    have hm := el2 hm
    have hm := el2 hm
    have hm := el2 hm
    have hm := el2 hm
    have hm := el2 hm
    have hm := el2 hm
    have hm := el2 hm
    have hm := el2 hm
    have hm := el2 hm
    have hm := el2 hm
    have hm := el2 hm
    have hm := el2 hm
    have hm := el2 hm
    have hm := el2 hm
    have hm := el1 hm
    refine oX_iconst (v := (0 : Int32)) dL_law_1177 (by decide) ?_
    obtain ⟨rfl, rfl⟩ := oEnd hm
    exact oX_iret dL_law_1178 rfl (by decide) hK
  · skip
    rw [e310] at hm
    have hm := el2 hm
    have hm := el2 hm
    have hm := el2 hm
    have hm := el2 hm
    have hm := el2 hm
    have hm := el2 hm
    have hm := el2 hm
    have hm := el2 hm
    have hm := el2 hm
    have hm := el2 hm
    have hm := el2 hm
    have hm := el2 hm
    have hm := el2 hm
    have hm := el2 hm
    have hm := el2 hm
    have hm := el2 hm
    have hm := el2 hm
    have hm := el2 hm
    have hm := el2 hm
    have hm := el2 hm
    have hm := el2 hm
    have hm := el2 hm
    have hm := el1 hm
    refine oX_iconst (v := (0 : Int32)) dL_law_1214 (by decide) ?_
    obtain ⟨rfl, rfl⟩ := oEnd hm
    exact oX_iret dL_law_1215 rfl (by decide) hK
  · skip
    rw [e310] at hm
    have hm := el2 hm
    have hm := el2 hm
    have hm := el2 hm
    have hm := el2 hm
    have hm := el2 hm
    have hm := el2 hm
    have hm := el2 hm
    have hm := el2 hm
    have hm := el2 hm
    have hm := el2 hm
    have hm := el2 hm
    have hm := el2 hm
    have hm := el2 hm
    have hm := el2 hm
    have hm := el2 hm
    have hm := el2 hm
    have hm := el2 hm
    have hm := el2 hm
    have hm := el2 hm
    have hm := el2 hm
    have hm := el2 hm
    have hm := el2 hm
    have hm := el2 hm
    have hm := el1 hm
    refine oX_iconst (v := (0 : Int32)) dL_law_1263 (by decide) ?_
    obtain ⟨rfl, rfl⟩ := oEnd hm
    exact oX_iret dL_law_1264 rfl (by decide) hK
  · skip
    rw [e310] at hm
    have hm := el2 hm
    have hm := el2 hm
    have hm := el2 hm
    have hm := el2 hm
    have hm := el2 hm
    have hm := el2 hm
    have hm := el2 hm
    have hm := el2 hm
    have hm := el2 hm
    have hm := el2 hm
    have hm := el2 hm
    have hm := el2 hm
    have hm := el2 hm
    have hm := el2 hm
    have hm := el2 hm
    have hm := el2 hm
    have hm := el2 hm
    have hm := el2 hm
    have hm := el2 hm
    have hm := el2 hm
    have hm := el2 hm
    have hm := el2 hm
    have hm := el2 hm
    have hm := el2 hm
    have hm := el1 hm
    refine oX_iconst (v := (0 : Int32)) dL_law_1312 (by decide) ?_
    obtain ⟨rfl, rfl⟩ := oEnd hm
    exact oX_iret dL_law_1313 rfl (by decide) hK
  · skip
    rw [e310] at hm
    have hm := el2 hm
    have hm := el2 hm
    have hm := el2 hm
    have hm := el2 hm
    have hm := el2 hm
    have hm := el2 hm
    have hm := el2 hm
    have hm := el2 hm
    have hm := el2 hm
    have hm := el2 hm
    have hm := el2 hm
    have hm := el2 hm
    have hm := el2 hm
    have hm := el2 hm
    have hm := el2 hm
    have hm := el2 hm
    have hm := el2 hm
    have hm := el2 hm
    have hm := el2 hm
    have hm := el2 hm
    have hm := el2 hm
    have hm := el2 hm
    have hm := el2 hm
    have hm := el2 hm
    have hm := el2 hm
    have hm := el1 hm
    refine oX_iconst (v := (0 : Int32)) dL_law_1349 (by decide) ?_
    obtain ⟨rfl, rfl⟩ := oEnd hm
    exact oX_iret dL_law_1350 rfl (by decide) hK
  · skip
    rw [e310] at hm
    have hm := el2 hm
    have hm := el2 hm
    have hm := el2 hm
    have hm := el2 hm
    have hm := el2 hm
    have hm := el2 hm
    have hm := el2 hm
    have hm := el2 hm
    have hm := el2 hm
    have hm := el2 hm
    have hm := el2 hm
    have hm := el2 hm
    have hm := el2 hm
    have hm := el2 hm
    have hm := el2 hm
    have hm := el2 hm
    have hm := el2 hm
    have hm := el2 hm
    have hm := el2 hm
    have hm := el2 hm
    have hm := el2 hm
    have hm := el2 hm
    have hm := el2 hm
    have hm := el2 hm
    have hm := el2 hm
    have hm := el2 hm
    have hm := el1 hm
    refine oX_iconst (v := (0 : Int32)) dL_law_1398 (by decide) ?_
    obtain ⟨rfl, rfl⟩ := oEnd hm
    exact oX_iret dL_law_1399 rfl (by decide) hK
  · skip
    rw [e310] at hm
    have hm := el2 hm
    have hm := el2 hm
    have hm := el2 hm
    have hm := el2 hm
    have hm := el2 hm
    have hm := el2 hm
    have hm := el2 hm
    have hm := el2 hm
    have hm := el2 hm
    have hm := el2 hm
    have hm := el2 hm
    have hm := el2 hm
    have hm := el2 hm
    have hm := el2 hm
    have hm := el2 hm
    have hm := el2 hm
    have hm := el2 hm
    have hm := el2 hm
    have hm := el2 hm
    have hm := el2 hm
    have hm := el2 hm
    have hm := el2 hm
    have hm := el2 hm
    have hm := el2 hm
    have hm := el2 hm
    have hm := el2 hm
    have hm := el2 hm
    have hm := el1 hm
    refine oX_iconst (v := (0 : Int32)) dL_law_1423 (by decide) ?_
    obtain ⟨rfl, rfl⟩ := oEnd hm
    exact oX_iret dL_law_1424 rfl (by decide) hK
  · skip
    rw [e310] at hm
    have hm := el2 hm
    have hm := el2 hm
    have hm := el2 hm
    have hm := el2 hm
    have hm := el2 hm
    have hm := el2 hm
    have hm := el2 hm
    have hm := el2 hm
    have hm := el2 hm
    have hm := el2 hm
    have hm := el2 hm
    have hm := el2 hm
    have hm := el2 hm
    have hm := el2 hm
    have hm := el2 hm
    have hm := el2 hm
    have hm := el2 hm
    have hm := el2 hm
    have hm := el2 hm
    have hm := el2 hm
    have hm := el2 hm
    have hm := el2 hm
    have hm := el2 hm
    have hm := el2 hm
    have hm := el2 hm
    have hm := el2 hm
    have hm := el2 hm
    have hm := el2 hm
    have hm := el1 hm
    refine oX_iconst (v := (0 : Int32)) dL_law_1436 (by decide) ?_
    obtain ⟨rfl, rfl⟩ := oEnd hm
    exact oX_iret dL_law_1437 rfl (by decide) hK
  · skip
    rw [e310] at hm
    have hm := el2 hm
    have hm := el2 hm
    have hm := el2 hm
    have hm := el2 hm
    have hm := el2 hm
    have hm := el2 hm
    have hm := el2 hm
    have hm := el2 hm
    have hm := el2 hm
    have hm := el2 hm
    have hm := el2 hm
    have hm := el2 hm
    have hm := el2 hm
    have hm := el2 hm
    have hm := el2 hm
    have hm := el2 hm
    have hm := el2 hm
    have hm := el2 hm
    have hm := el2 hm
    have hm := el2 hm
    have hm := el2 hm
    have hm := el2 hm
    have hm := el2 hm
    have hm := el2 hm
    have hm := el2 hm
    have hm := el2 hm
    have hm := el2 hm
    have hm := el2 hm
    have hm := el2 hm
    refine oX_iconst (v := (0 : Int32)) dL_law_1461 (by decide) ?_
    obtain ⟨rfl, rfl⟩ := oEnd hm
    exact oX_iret dL_law_1462 rfl (by decide) hK
theorem t_L_law {G : OhG} {FI AI : OhI} {FL AL : OhL} {FR GR AR BR : OhQ} {AN : OhN} {C : OhC} (n : Nat) {o : (Int32 × OhI × OhL × OhQ × OhQ × OhI × OhL × OhQ × OhQ × OhN × OhC) × (Nat × Nat)} (hm : mL_law n FI FL FR GR AI AL AR BR AN C = some o) : oT G 106 iL_law [vR (some (3, 0))] (FI, FL, FR, GR, AI, AL, AR, BR, AN, C) o.2 (fun v h => v = (some (vI o.1.1)) ∧ h = (o.1.2.1, o.1.2.2.1, o.1.2.2.2.1, o.1.2.2.2.2.1, o.1.2.2.2.2.2.1, o.1.2.2.2.2.2.2.1, o.1.2.2.2.2.2.2.2.1, o.1.2.2.2.2.2.2.2.2.1, o.1.2.2.2.2.2.2.2.2.2.1, o.1.2.2.2.2.2.2.2.2.2.2)) ohNo :=
  oT_of (by decide) rfl (Nat.le_of_ble_eq_true rfl) (x_mL_law (k := (0, 0)) n hm ⟨rfl, rfl⟩)
