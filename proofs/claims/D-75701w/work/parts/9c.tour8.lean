/-! tour: more fuel changes nothing -/
set_option maxRecDepth 100000
theorem tR_fuel1 {t : Nat → Nat} {n : Nat} : ∀ (F a c : Nat) (P : Nat → Nat) (k : List (Nat × Nat × Nat)), n + 1 ≤ a + F → 1 ≤ F → tR t n (F + 1) a c P k = tR t n F a c P k := by
  intro F
  induction F with
  | zero =>
    intro a c P k h h1
    omega
  | succ F ih =>
    intro a c P k h h1
    rw [tR, tR]
    by_cases ha : n ≤ a
    · rw [if_pos ha, if_pos ha]
    · rw [if_neg ha, if_neg ha]
      cases hs : tS t n a c P k with
      | inl z => rfl
      | inr z =>
        obtain ⟨a', c', P', k'⟩ := z
        have up := tS_up hs
        exact ih a' c' P' k' (by omega) (by omega)
theorem tR_fuel {t : Nat → Nat} {n F a c : Nat} {P : Nat → Nat} {k : List (Nat × Nat × Nat)} (h : n + 1 ≤ a + F) (h1 : 1 ≤ F) : ∀ f, tR t n (F + f) a c P k = tR t n F a c P k := by
  intro f
  induction f with
  | zero => rfl
  | succ f ih =>
    rw [← Nat.add_assoc, tR_fuel1 (F + f) a c P k (by omega) (by omega)]
    exact ih
/-- one step of tR -/
theorem tR_s {t : Nat → Nat} {n a c : Nat} {P : Nat → Nat} {k : List (Nat × Nat × Nat)} (h : a < n ∨ k.length ≠ 0) (F : Nat) : tR t n (F + 1) a c P k = match tS t n a c P k with
    | .inl z => .inl z
    | .inr (a', c', P', k') => tR t n F a' c' P' k' := by
  rw [tR]
  by_cases ha : n ≤ a
  · have h0 : hc t n a = 0 := by
      unfold hc
      rw [if_neg (by omega)]
    have hv : vA t n a = a := by
      unfold vA
      rw [if_neg (by omega)]
    have hs : tS t n a c P k = .inl (1, a) := by
      unfold tS
      rw [if_neg (by omega), hv, h0]
      rfl
    rw [if_pos ha, if_neg (by omega), hs]
  · rw [if_neg ha]
    cases tS t n a c P k with
    | inl z => rfl
    | inr z => rfl
