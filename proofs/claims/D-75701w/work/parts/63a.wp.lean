/-! the judgement R: a mirror answers, and the answer meets Q; rules for straight code and loops -/
set_option maxRecDepth 100000
/-- the rules once more, not by rfl: simp by rfl-rules makes the kernel unfold fx -/
theorem nm_q {α β : Type} (v : α) (f : α → β) : nm v f = f v := Eq.trans (nm_s v f) rfl
theorem cl1_q {α ρ : Type} (a : α) (f : α → Option ρ) : cl1 (some a) f = f a := Eq.trans (cl1_s a f) rfl
theorem cl2_q {α β ρ : Type} (a : α) (b : β) (f : α → β → Option ρ) : cl2 (some (a, b)) f = f a b := Eq.trans (cl2_s a b f) rfl
theorem i10_q {ρ : Type} (A B : ρ) : (if (1 : Int32) = 0 then A else B) = B := Eq.trans (i10 A B) rfl
theorem i00_q {ρ : Type} (A B : ρ) : (if (0 : Int32) = 0 then A else B) = A := Eq.trans (i00 A B) rfl
def R {ρ : Type} (M : Option ρ) (Q : ρ → Prop) : Prop := ∃ r, M = some r ∧ Q r
theorem R_some {ρ : Type} {a : ρ} {Q : ρ → Prop} (h : Q a) : R (some a) Q := ⟨a, rfl, h⟩
theorem R_some_i {ρ : Type} {a : ρ} {Q : ρ → Prop} : R (some a) Q ↔ Q a := ⟨fun ⟨_, e, h⟩ => by cases e; exact h, R_some⟩
theorem R_e {ρ : Type} {M : Option ρ} {a : ρ} {Q : ρ → Prop} (e : M = some a) (h : Q a) : R M Q := ⟨a, e, h⟩
theorem R_m {ρ : Type} {M : Option ρ} {Q Q' : ρ → Prop} (h : R M Q) (k : ∀ r, Q r → Q' r) : R M Q' := ⟨h.choose, h.choose_spec.1, k _ h.choose_spec.2⟩
theorem R_c1 {α ρ : Type} {M : Option α} {f : α → Option ρ} {P : α → Prop} {Q : ρ → Prop} (h : R M P) (k : ∀ a, P a → R (f a) Q) : R (cl1 M f) Q := by
  obtain ⟨a, e, h⟩ := h
  rw [e, cl1_s]
  exact k a h
theorem R_c2 {α β ρ : Type} {M : Option (α × β)} {f : α → β → Option ρ} {P : α × β → Prop} {Q : ρ → Prop} (h : R M P) (k : ∀ a b, P (a, b) → R (f a b) Q) : R (cl2 M f) Q := by
  obtain ⟨⟨a, b⟩, e, h⟩ := h
  rw [e, cl2_s]
  exact k a b h
theorem R_if {ρ : Type} {c : Prop} [Decidable c] {A B : Option ρ} {Q : ρ → Prop} (h1 : c → R A Q) (h2 : ¬ c → R B Q) : R (if c then A else B) Q := by
  by_cases h : c
  · rw [if_pos h]
    exact h1 h
  · rw [if_neg h]
    exact h2 h
theorem R_let {α ρ : Type} {E : α → Option ρ} {F : (α → Option ρ) → Option ρ} {Q : ρ → Prop} (P : α → Prop) (hE : ∀ s, P s → R (E s) Q) (hF : ∀ k : α → Option ρ, (∀ s, P s → R (k s) Q) → R (F k) Q) : R (nm E F) Q := hF E hE
/-- a loop by an invariant: rounds j up to n, each round goes on at a later one -/
theorem fx_Rg {σ τ ρ : Type} {F : τ → τ} {b : τ} (ap : τ → σ → Option ρ) (n : Nat) (Inv : Nat → σ → Prop) {Q : ρ → Prop} (hn : n < FU) (hs : ∀ j s k, j ≤ n → Inv j s → (∀ j' s', j < j' → j' ≤ n → Inv j' s' → R (ap k s') Q) → R (ap (F k) s) Q) {s0 : σ} (h0 : Inv 0 s0) : R (ap (fx FU b F) s0) Q := by
  have key : ∀ m j s, j ≤ n → n - j < m → Inv j s → R (ap (fx m b F) s) Q := by
    intro m
    induction m with
    | zero => intro j s _ h; omega
    | succ m ih =>
      intro j s hj hm hI
      rw [fx_s]
      exact hs j s _ hj hI (fun j' s' h1 h2 h3 => ih j' s' h2 (by omega) h3)
  exact key FU 0 s0 (by omega) (by omega) h0
theorem fx_R1 {A1 ρ : Type} {F : (A1 → Option ρ) → A1 → Option ρ} {b : A1 → Option ρ} {a1 : A1} {Q : ρ → Prop} (n : Nat) (Inv : Nat → A1 → Prop) (hn : n < FU) (h0 : Inv 0 a1) (hs : ∀ j x1 (k : A1 → Option ρ), j ≤ n → Inv j x1 → (∀ j' y1, j < j' → j' ≤ n → Inv j' y1 → R (k y1) Q) → R (F k x1) Q) : R (fx FU b F a1) Q :=
  fx_Rg (σ := A1) (fun (k : A1 → Option ρ) s => k s) n (fun j s => Inv j s) hn (fun j s k h1 h2 h3 => hs j s k h1 h2 (fun j' y1 g1 g2 g3 => h3 j' y1 g1 g2 g3)) (s0 := a1) h0
theorem fx_R2 {A1 A2 ρ : Type} {F : (A1 → A2 → Option ρ) → A1 → A2 → Option ρ} {b : A1 → A2 → Option ρ} {a1 : A1} {a2 : A2} {Q : ρ → Prop} (n : Nat) (Inv : Nat → A1 → A2 → Prop) (hn : n < FU) (h0 : Inv 0 a1 a2) (hs : ∀ j x1 x2 (k : A1 → A2 → Option ρ), j ≤ n → Inv j x1 x2 → (∀ j' y1 y2, j < j' → j' ≤ n → Inv j' y1 y2 → R (k y1 y2) Q) → R (F k x1 x2) Q) : R (fx FU b F a1 a2) Q :=
  fx_Rg (σ := A1 × A2) (fun (k : A1 → A2 → Option ρ) s => k s.1 s.2) n (fun j s => Inv j s.1 s.2) hn (fun j s k h1 h2 h3 => hs j s.1 s.2 k h1 h2 (fun j' y1 y2 g1 g2 g3 => h3 j' (y1, y2) g1 g2 g3)) (s0 := (a1, a2)) h0
theorem fx_R3 {A1 A2 A3 ρ : Type} {F : (A1 → A2 → A3 → Option ρ) → A1 → A2 → A3 → Option ρ} {b : A1 → A2 → A3 → Option ρ} {a1 : A1} {a2 : A2} {a3 : A3} {Q : ρ → Prop} (n : Nat) (Inv : Nat → A1 → A2 → A3 → Prop) (hn : n < FU) (h0 : Inv 0 a1 a2 a3) (hs : ∀ j x1 x2 x3 (k : A1 → A2 → A3 → Option ρ), j ≤ n → Inv j x1 x2 x3 → (∀ j' y1 y2 y3, j < j' → j' ≤ n → Inv j' y1 y2 y3 → R (k y1 y2 y3) Q) → R (F k x1 x2 x3) Q) : R (fx FU b F a1 a2 a3) Q :=
  fx_Rg (σ := A1 × A2 × A3) (fun (k : A1 → A2 → A3 → Option ρ) s => k s.1 s.2.1 s.2.2) n (fun j s => Inv j s.1 s.2.1 s.2.2) hn (fun j s k h1 h2 h3 => hs j s.1 s.2.1 s.2.2 k h1 h2 (fun j' y1 y2 y3 g1 g2 g3 => h3 j' (y1, y2, y3) g1 g2 g3)) (s0 := (a1, a2, a3)) h0
theorem fx_R4 {A1 A2 A3 A4 ρ : Type} {F : (A1 → A2 → A3 → A4 → Option ρ) → A1 → A2 → A3 → A4 → Option ρ} {b : A1 → A2 → A3 → A4 → Option ρ} {a1 : A1} {a2 : A2} {a3 : A3} {a4 : A4} {Q : ρ → Prop} (n : Nat) (Inv : Nat → A1 → A2 → A3 → A4 → Prop) (hn : n < FU) (h0 : Inv 0 a1 a2 a3 a4) (hs : ∀ j x1 x2 x3 x4 (k : A1 → A2 → A3 → A4 → Option ρ), j ≤ n → Inv j x1 x2 x3 x4 → (∀ j' y1 y2 y3 y4, j < j' → j' ≤ n → Inv j' y1 y2 y3 y4 → R (k y1 y2 y3 y4) Q) → R (F k x1 x2 x3 x4) Q) : R (fx FU b F a1 a2 a3 a4) Q :=
  fx_Rg (σ := A1 × A2 × A3 × A4) (fun (k : A1 → A2 → A3 → A4 → Option ρ) s => k s.1 s.2.1 s.2.2.1 s.2.2.2) n (fun j s => Inv j s.1 s.2.1 s.2.2.1 s.2.2.2) hn (fun j s k h1 h2 h3 => hs j s.1 s.2.1 s.2.2.1 s.2.2.2 k h1 h2 (fun j' y1 y2 y3 y4 g1 g2 g3 => h3 j' (y1, y2, y3, y4) g1 g2 g3)) (s0 := (a1, a2, a3, a4)) h0
theorem fx_R5 {A1 A2 A3 A4 A5 ρ : Type} {F : (A1 → A2 → A3 → A4 → A5 → Option ρ) → A1 → A2 → A3 → A4 → A5 → Option ρ} {b : A1 → A2 → A3 → A4 → A5 → Option ρ} {a1 : A1} {a2 : A2} {a3 : A3} {a4 : A4} {a5 : A5} {Q : ρ → Prop} (n : Nat) (Inv : Nat → A1 → A2 → A3 → A4 → A5 → Prop) (hn : n < FU) (h0 : Inv 0 a1 a2 a3 a4 a5) (hs : ∀ j x1 x2 x3 x4 x5 (k : A1 → A2 → A3 → A4 → A5 → Option ρ), j ≤ n → Inv j x1 x2 x3 x4 x5 → (∀ j' y1 y2 y3 y4 y5, j < j' → j' ≤ n → Inv j' y1 y2 y3 y4 y5 → R (k y1 y2 y3 y4 y5) Q) → R (F k x1 x2 x3 x4 x5) Q) : R (fx FU b F a1 a2 a3 a4 a5) Q :=
  fx_Rg (σ := A1 × A2 × A3 × A4 × A5) (fun (k : A1 → A2 → A3 → A4 → A5 → Option ρ) s => k s.1 s.2.1 s.2.2.1 s.2.2.2.1 s.2.2.2.2) n (fun j s => Inv j s.1 s.2.1 s.2.2.1 s.2.2.2.1 s.2.2.2.2) hn (fun j s k h1 h2 h3 => hs j s.1 s.2.1 s.2.2.1 s.2.2.2.1 s.2.2.2.2 k h1 h2 (fun j' y1 y2 y3 y4 y5 g1 g2 g3 => h3 j' (y1, y2, y3, y4, y5) g1 g2 g3)) (s0 := (a1, a2, a3, a4, a5)) h0
theorem fx_R6 {A1 A2 A3 A4 A5 A6 ρ : Type} {F : (A1 → A2 → A3 → A4 → A5 → A6 → Option ρ) → A1 → A2 → A3 → A4 → A5 → A6 → Option ρ} {b : A1 → A2 → A3 → A4 → A5 → A6 → Option ρ} {a1 : A1} {a2 : A2} {a3 : A3} {a4 : A4} {a5 : A5} {a6 : A6} {Q : ρ → Prop} (n : Nat) (Inv : Nat → A1 → A2 → A3 → A4 → A5 → A6 → Prop) (hn : n < FU) (h0 : Inv 0 a1 a2 a3 a4 a5 a6) (hs : ∀ j x1 x2 x3 x4 x5 x6 (k : A1 → A2 → A3 → A4 → A5 → A6 → Option ρ), j ≤ n → Inv j x1 x2 x3 x4 x5 x6 → (∀ j' y1 y2 y3 y4 y5 y6, j < j' → j' ≤ n → Inv j' y1 y2 y3 y4 y5 y6 → R (k y1 y2 y3 y4 y5 y6) Q) → R (F k x1 x2 x3 x4 x5 x6) Q) : R (fx FU b F a1 a2 a3 a4 a5 a6) Q :=
  fx_Rg (σ := A1 × A2 × A3 × A4 × A5 × A6) (fun (k : A1 → A2 → A3 → A4 → A5 → A6 → Option ρ) s => k s.1 s.2.1 s.2.2.1 s.2.2.2.1 s.2.2.2.2.1 s.2.2.2.2.2) n (fun j s => Inv j s.1 s.2.1 s.2.2.1 s.2.2.2.1 s.2.2.2.2.1 s.2.2.2.2.2) hn (fun j s k h1 h2 h3 => hs j s.1 s.2.1 s.2.2.1 s.2.2.2.1 s.2.2.2.2.1 s.2.2.2.2.2 k h1 h2 (fun j' y1 y2 y3 y4 y5 y6 g1 g2 g3 => h3 j' (y1, y2, y3, y4, y5, y6) g1 g2 g3)) (s0 := (a1, a2, a3, a4, a5, a6)) h0
/-! numbers: all through iI -/
theorem ilit0 : (0 : Int32) = iI 0 := rfl
theorem ilit1 : (1 : Int32) = iI 1 := rfl
theorem ilit2 : (2 : Int32) = iI 2 := rfl
theorem ilit3 : (3 : Int32) = iI 3 := rfl
theorem ilit4 : (4 : Int32) = iI 4 := rfl
theorem ilit5 : (5 : Int32) = iI 5 := rfl
theorem ilit6 : (6 : Int32) = iI 6 := rfl
theorem ilit7 : (7 : Int32) = iI 7 := rfl
theorem ilit8 : (8 : Int32) = iI 8 := rfl
theorem ilit9 : (9 : Int32) = iI 9 := rfl
theorem ilit10 : (10 : Int32) = iI 10 := rfl
theorem ilit13 : (13 : Int32) = iI 13 := rfl
theorem ilit15 : (15 : Int32) = iI 15 := rfl
theorem ilit16 : (16 : Int32) = iI 16 := rfl
theorem ilit20 : (20 : Int32) = iI 20 := rfl
theorem ilit24 : (24 : Int32) = iI 24 := rfl
theorem ilit25 : (25 : Int32) = iI 25 := rfl
theorem ilit26 : (26 : Int32) = iI 26 := rfl
theorem ilit30 : (30 : Int32) = iI 30 := rfl
theorem ilit31 : (31 : Int32) = iI 31 := rfl
theorem ilit47 : (47 : Int32) = iI 47 := rfl
theorem ilit48 : (48 : Int32) = iI 48 := rfl
theorem ilit50 : (50 : Int32) = iI 50 := rfl
theorem ilit51 : (51 : Int32) = iI 51 := rfl
theorem ilit63 : (63 : Int32) = iI 63 := rfl
theorem ilit96 : (96 : Int32) = iI 96 := rfl
theorem ilit97 : (97 : Int32) = iI 97 := rfl
theorem ilit98 : (98 : Int32) = iI 98 := rfl
theorem ilit100 : (100 : Int32) = iI 100 := rfl
theorem ilit200 : (200 : Int32) = iI 200 := rfl
theorem ilit255 : (255 : Int32) = iI 255 := rfl
theorem ilit260 : (260 : Int32) = iI 260 := rfl
theorem ilit9999 : (9999 : Int32) = iI 9999 := rfl
theorem ilit1000000 : (1000000 : Int32) = iI 1000000 := rfl
theorem ilit268435456 : (268435456 : Int32) = iI 268435456 := rfl
theorem ilit65536 : (65536 : Int32) = iI 65536 := rfl
theorem ilit65535 : (65535 : Int32) = iI 65535 := rfl
theorem ilit25173 : (25173 : Int32) = iI 25173 := rfl
theorem ilit13849 : (13849 : Int32) = iI 13849 := rfl
theorem iI_clamp {z : Int} (h : 0 ≤ z ∧ z < 2147483648) : (iI z).toNatClampNeg = z.toNat := by
  obtain ⟨n, e⟩ : ∃ n : Nat, z = n := ⟨z.toNat, by omega⟩
  subst e
  rw [← iI_n, nI_clamp (by omega)]
  omega
theorem iI_ck {ρ : Type} {z : Int} {n : Nat} {M : Option ρ} (h : 0 ≤ z ∧ z < (n : Int) ∧ n < 2147483648) : ck (iI z) n M = M := by
  obtain ⟨k, e⟩ : ∃ k : Nat, z = k := ⟨z.toNat, by omega⟩
  subst e
  rw [← iI_n]
  exact ck_s (by omega) (by omega)
theorem iI_jmax {a b : Int} (h : (-2147483648 ≤ a ∧ a < 2147483648) ∧ (-2147483648 ≤ b ∧ b < 2147483648)) : jmax (iI a) (iI b) = iI (max a b) := by
  unfold jmax
  by_cases c : a < b
  · rw [if_pos ((iI_lt h.1 h.2).mpr c), Int.max_eq_right (by omega)]
  · rw [if_neg (fun e => c ((iI_lt h.1 h.2).mp e)), Int.max_eq_left (by omega)]
theorem iI_jmin {a b : Int} (h : (-2147483648 ≤ a ∧ a < 2147483648) ∧ (-2147483648 ≤ b ∧ b < 2147483648)) : jmin (iI a) (iI b) = iI (min a b) := by
  unfold jmin
  by_cases c : b < a
  · rw [if_pos ((iI_lt h.2 h.1).mpr c), Int.min_eq_right (by omega)]
  · rw [if_neg (fun e => c ((iI_lt h.2 h.1).mp e)), Int.min_eq_left (by omega)]
theorem iI_div {a b : Int} (h : (0 ≤ a ∧ a < 2147483648) ∧ (0 < b ∧ b < 2147483648)) : iI a / iI b = iI (a / b) := by
  obtain ⟨n, e⟩ : ∃ n : Nat, a = n := ⟨a.toNat, by omega⟩
  obtain ⟨d, e2⟩ : ∃ n : Nat, b = n := ⟨b.toNat, by omega⟩
  subst e e2
  rw [← iI_n, ← iI_n, pk_div (by omega) (by omega) (by omega), iI_n]
  rfl
theorem iI_rem {a b : Int} (h : (0 ≤ a ∧ a < 2147483648) ∧ (0 < b ∧ b < 2147483648)) : jrem (iI a) (iI b) = iI (a % b) := by
  obtain ⟨n, e⟩ : ∃ n : Nat, a = n := ⟨a.toNat, by omega⟩
  obtain ⟨d, e2⟩ : ∃ n : Nat, b = n := ⟨b.toNat, by omega⟩
  subst e e2
  rw [← iI_n, ← iI_n, jrem_s (by omega) (by omega) (by omega), iI_n]
  rfl
/-- the two sides of a call that answers and leaves what the invariant sees -/
theorem st_hh {LW : LWt} {tt : TTy} {hx hm : Hp} {A B : Option (Int32 × Hp)} (P : Int32 → Prop) (P2 : Int32 → Prop) (H : II LW tt hx hm) (h1 : R A (fun r => P r.1 ∧ SX hx r.2)) (h2 : R B (fun r => P2 r.1 ∧ SM hm r.2)) (he : ∀ a b, P a → P2 b → a = b) : ∃ r hx' hm', A = some (r, hx') ∧ B = some (r, hm') ∧ II LW tt hx' hm' := by
  obtain ⟨⟨a, x⟩, e1, p1, s1⟩ := h1
  obtain ⟨⟨b, y⟩, e2, p2, s2⟩ := h2
  have e := he a b p1 p2
  subst e
  exact ⟨a, x, y, e1, e2, II_same s1 s2 H⟩
theorem st_h0 {LW : LWt} {tt : TTy} {hx hm : Hp} {A : Option (Int32 × Hp)} {B : Option Int32} (P : Int32 → Prop) (P2 : Int32 → Prop) (H : II LW tt hx hm) (h1 : R A (fun r => P r.1 ∧ SX hx r.2)) (h2 : R B P2) (he : ∀ a b, P a → P2 b → a = b) : ∃ r hx', A = some (r, hx') ∧ B = some r ∧ II LW tt hx' hm := by
  obtain ⟨⟨a, x⟩, e1, p1, s1⟩ := h1
  obtain ⟨b, e2, p2⟩ := h2
  have e := he a b p1 p2
  subst e
  exact ⟨a, x, e1, e2, II_same s1 (SM_r hm) H⟩
theorem st_0h {LW : LWt} {tt : TTy} {hx hm : Hp} {A : Option Int32} {B : Option (Int32 × Hp)} (P : Int32 → Prop) (P2 : Int32 → Prop) (H : II LW tt hx hm) (h1 : R A P) (h2 : R B (fun r => P2 r.1 ∧ SM hm r.2)) (he : ∀ a b, P a → P2 b → a = b) : ∃ r hm', A = some r ∧ B = some (r, hm') ∧ II LW tt hx hm' := by
  obtain ⟨a, e1, p1⟩ := h1
  obtain ⟨⟨b, y⟩, e2, p2, s2⟩ := h2
  have e := he a b p1 p2
  subst e
  exact ⟨a, y, e1, e2, II_same (SX_r hx) s2 H⟩
theorem st_00 {LW : LWt} {tt : TTy} {hx hm : Hp} {A : Option Int32} {B : Option Int32} (P : Int32 → Prop) (P2 : Int32 → Prop) (H : II LW tt hx hm) (h1 : R A P) (h2 : R B P2) (he : ∀ a b, P a → P2 b → a = b) : ∃ r, A = some r ∧ B = some r ∧ II LW tt hx hm := by
  obtain ⟨a, e1, p1⟩ := h1
  obtain ⟨b, e2, p2⟩ := h2
  have e := he a b p1 p2
  subst e
  exact ⟨a, e1, e2, H⟩
