/-! tour: the whole reader, plain, and the reference's loop -/
set_option maxRecDepth 100000
/-- reads to the end: the fault, or count and steps -/
def tR (t : Nat → Nat) (n : Nat) : Nat → Nat → Nat → (Nat → Nat) → List (Nat × Nat × Nat) → (Nat × Nat) ⊕ (Nat × (Nat → Nat))
  | 0, _, _, _, _ => .inl (0, 0)
  | f + 1, a, c, P, k => if n ≤ a then (if k.length = 0 then .inr (c, P) else .inl (1, a)) else match tS t n a c P k with
    | .inl z => .inl z
    | .inr (a', c', P', k') => tR t n f a' c' P' k'
theorem tS_up {t : Nat → Nat} {n a c : Nat} {P : Nat → Nat} {k : List (Nat × Nat × Nat)} {a' c' : Nat} {P' : Nat → Nat} {k' : List (Nat × Nat × Nat)} (h : tS t n a c P k = .inr (a', c', P', k')) : a + 1 ≤ a' ∧ a' ≤ a + 2 := by
  have vb := vA_b (t := t) (n := n) (a := a)
  unfold tS at h
  by_cases h1 : hc t n a = 41
  · rw [if_pos h1] at h
    cases k with
    | nil => cases h
    | cons z k =>
      obtain ⟨b, m, p⟩ := z
      dsimp only at h
      by_cases h2 : c = b
      · rw [if_pos h2] at h
        cases h
      · rw [if_neg h2] at h
        by_cases h3 : b + (c - b) * m ≤ 48
        · rw [if_pos h3] at h
          cases h
          omega
        · rw [if_neg h3] at h
          cases h
  · rw [if_neg h1] at h
    cases hl : lS (hc t n (vA t n a)) with
    | some d =>
      rw [hl] at h
      dsimp only at h
      by_cases h2 : c + tms t n a 57 ≤ 48
      · rw [if_pos h2] at h
        cases h
        omega
      · rw [if_neg h2] at h
        cases h
    | none =>
      rw [hl] at h
      dsimp only at h
      by_cases h2 : hc t n (vA t n a) = 40
      · rw [if_pos h2] at h
        by_cases h3 : k.length = 2
        · rw [if_pos h3] at h
          cases h
        · rw [if_neg h3] at h
          cases h
          omega
      · rw [if_neg h2] at h
        cases h
