/-! PURE: no machine from here on. Rules for mirrors, small tables by computation -/
set_option maxRecDepth 100000
theorem cl1_s {α ρ : Type} (a : α) (f : α → Option ρ) : cl1 (some a) f = f a := rfl
theorem cl2_s {α β ρ : Type} (a : α) (b : β) (f : α → β → Option ρ) : cl2 (some (a, b)) f = f a b := rfl
theorem nm_s {α β : Type} (v : α) (f : α → β) : nm v f = f v := rfl
theorem ck_s {ρ : Type} {j n : Nat} {M : Option ρ} (h : j < n) (hn : n < 2 ^ 31) : ck (nI j) n M = M := by
  unfold ck
  rw [if_neg]
  intro h9
  rcases h9 with h9 | h9
  · exact nI_pos (Nat.lt_trans h hn) h9
  · rw [nI_clamp (Nat.lt_trans h hn)] at h9
    omega
theorem bz_1 {ρ : Type} {M : Option ρ} : bz 1 M = M := rfl
theorem bz_0 {ρ : Type} {M : Option ρ} : bz 0 M = M := rfl
theorem fx_s {τ : Type} (n : Nat) (b : τ) (F : τ → τ) : fx (n + 1) b F = F (fx n b F) := rfl
theorem fx_it {τ ρ : Type} {F : τ → τ} {b : τ} (ap : Nat → τ → Option ρ) : ∀ (n m : Nat), (∀ j, j < n → ∀ k, ap j (F k) = ap (j + 1) k) → ap 0 (fx (m + n) b F) = ap n (fx m b F)
  | 0, m, _ => rfl
  | n + 1, m, h => by
    have h1 := fx_it (b := b) ap n (m + 1) (fun j hj k => h j (by omega) k)
    rw [show m + (n + 1) = m + 1 + n by omega, h1, fx_s]
    exact h n (by omega) _
/-- a loop of n rounds: the state of round j is ap j; behind the last it answers res -/
theorem fx_for {τ ρ : Type} {F : τ → τ} {b : τ} (ap : Nat → τ → Option ρ) (n : Nat) {res : Option ρ} (hn : n < FU) (hs : ∀ j, j < n → ∀ k, ap j (F k) = ap (j + 1) k) (he : ∀ k, ap n (F k) = res) : ap 0 (fx FU b F) = res := by
  have h1 := fx_it (b := b) ap n (FU - n) hs
  rw [show FU - n + n = FU by omega] at h1
  rw [h1]
  obtain ⟨m, hm⟩ : ∃ m, FU - n = m + 1 := ⟨FU - n - 1, by omega⟩
  rw [hm, fx_s]
  exact he _
theorem fx_for1 {A1 ρ : Type} {F : (A1 → Option ρ) → A1 → Option ρ} {b : A1 → Option ρ} (s1 : Nat → A1) (n : Nat) {res : Option ρ} (hn : n < FU) (hs : ∀ j, j < n → ∀ k, F k (s1 j) = k (s1 (j + 1))) (he : ∀ k, F k (s1 n) = res) : fx FU b F (s1 0) = res := fx_for (fun j (k : A1 → Option ρ) => k (s1 j)) n hn hs he
theorem fx_for2 {A1 A2 ρ : Type} {F : (A1 → A2 → Option ρ) → A1 → A2 → Option ρ} {b : A1 → A2 → Option ρ} (s1 : Nat → A1) (s2 : Nat → A2) (n : Nat) {res : Option ρ} (hn : n < FU) (hs : ∀ j, j < n → ∀ k, F k (s1 j) (s2 j) = k (s1 (j + 1)) (s2 (j + 1))) (he : ∀ k, F k (s1 n) (s2 n) = res) : fx FU b F (s1 0) (s2 0) = res := fx_for (fun j (k : A1 → A2 → Option ρ) => k (s1 j) (s2 j)) n hn hs he
theorem fx_for3 {A1 A2 A3 ρ : Type} {F : (A1 → A2 → A3 → Option ρ) → A1 → A2 → A3 → Option ρ} {b : A1 → A2 → A3 → Option ρ} (s1 : Nat → A1) (s2 : Nat → A2) (s3 : Nat → A3) (n : Nat) {res : Option ρ} (hn : n < FU) (hs : ∀ j, j < n → ∀ k, F k (s1 j) (s2 j) (s3 j) = k (s1 (j + 1)) (s2 (j + 1)) (s3 (j + 1))) (he : ∀ k, F k (s1 n) (s2 n) (s3 n) = res) : fx FU b F (s1 0) (s2 0) (s3 0) = res := fx_for (fun j (k : A1 → A2 → A3 → Option ρ) => k (s1 j) (s2 j) (s3 j)) n hn hs he
theorem fx_for4 {A1 A2 A3 A4 ρ : Type} {F : (A1 → A2 → A3 → A4 → Option ρ) → A1 → A2 → A3 → A4 → Option ρ} {b : A1 → A2 → A3 → A4 → Option ρ} (s1 : Nat → A1) (s2 : Nat → A2) (s3 : Nat → A3) (s4 : Nat → A4) (n : Nat) {res : Option ρ} (hn : n < FU) (hs : ∀ j, j < n → ∀ k, F k (s1 j) (s2 j) (s3 j) (s4 j) = k (s1 (j + 1)) (s2 (j + 1)) (s3 (j + 1)) (s4 (j + 1))) (he : ∀ k, F k (s1 n) (s2 n) (s3 n) (s4 n) = res) : fx FU b F (s1 0) (s2 0) (s3 0) (s4 0) = res := fx_for (fun j (k : A1 → A2 → A3 → A4 → Option ρ) => k (s1 j) (s2 j) (s3 j) (s4 j)) n hn hs he
theorem fx_for5 {A1 A2 A3 A4 A5 ρ : Type} {F : (A1 → A2 → A3 → A4 → A5 → Option ρ) → A1 → A2 → A3 → A4 → A5 → Option ρ} {b : A1 → A2 → A3 → A4 → A5 → Option ρ} (s1 : Nat → A1) (s2 : Nat → A2) (s3 : Nat → A3) (s4 : Nat → A4) (s5 : Nat → A5) (n : Nat) {res : Option ρ} (hn : n < FU) (hs : ∀ j, j < n → ∀ k, F k (s1 j) (s2 j) (s3 j) (s4 j) (s5 j) = k (s1 (j + 1)) (s2 (j + 1)) (s3 (j + 1)) (s4 (j + 1)) (s5 (j + 1))) (he : ∀ k, F k (s1 n) (s2 n) (s3 n) (s4 n) (s5 n) = res) : fx FU b F (s1 0) (s2 0) (s3 0) (s4 0) (s5 0) = res := fx_for (fun j (k : A1 → A2 → A3 → A4 → A5 → Option ρ) => k (s1 j) (s2 j) (s3 j) (s4 j) (s5 j)) n hn hs he
theorem fx_for6 {A1 A2 A3 A4 A5 A6 ρ : Type} {F : (A1 → A2 → A3 → A4 → A5 → A6 → Option ρ) → A1 → A2 → A3 → A4 → A5 → A6 → Option ρ} {b : A1 → A2 → A3 → A4 → A5 → A6 → Option ρ} (s1 : Nat → A1) (s2 : Nat → A2) (s3 : Nat → A3) (s4 : Nat → A4) (s5 : Nat → A5) (s6 : Nat → A6) (n : Nat) {res : Option ρ} (hn : n < FU) (hs : ∀ j, j < n → ∀ k, F k (s1 j) (s2 j) (s3 j) (s4 j) (s5 j) (s6 j) = k (s1 (j + 1)) (s2 (j + 1)) (s3 (j + 1)) (s4 (j + 1)) (s5 (j + 1)) (s6 (j + 1))) (he : ∀ k, F k (s1 n) (s2 n) (s3 n) (s4 n) (s5 n) (s6 n) = res) : fx FU b F (s1 0) (s2 0) (s3 0) (s4 0) (s5 0) (s6 0) = res := fx_for (fun j (k : A1 → A2 → A3 → A4 → A5 → A6 → Option ρ) => k (s1 j) (s2 j) (s3 j) (s4 j) (s5 j) (s6 j)) n hn hs he
/-- a loop that goes on from the state of round j as from that of round n: the part up to n -/
theorem fx_FU {τ : Type} (b : τ) (F : τ → τ) : ∃ m, fx FU b F = F (fx m b F) := ⟨99999, rfl⟩
/-- a written number c = nI N against nI j -/
theorem l_ge {N j : Nat} {c : Int32} (hc : nI N = c) (h : j < N) (hN : N < 2 ^ 31) : ¬ c ≤ nI j := hc ▸ nI_ge h hN
theorem l_le {N j : Nat} {c : Int32} (hc : nI N = c) (h : N ≤ j) (hj : j < 2 ^ 31) : c ≤ nI j := hc ▸ nI_le h hj
theorem l_lt {N j : Nat} {c : Int32} (hc : nI N = c) (h : j < N) (hN : N < 2 ^ 31) : nI j < c := hc ▸ nI_lt h hN
theorem l_nlt {N j : Nat} {c : Int32} (hc : nI N = c) (h : N ≤ j) (hj : j < 2 ^ 31) : ¬ nI j < c := hc ▸ nI_nlt h hj
theorem l_gt {N j : Nat} {c : Int32} (hc : nI N = c) (h : N < j) (hj : j < 2 ^ 31) : c < nI j := hc ▸ nI_lt h hj
theorem l_ngt {N j : Nat} {c : Int32} (hc : nI N = c) (h : j ≤ N) (hN : N < 2 ^ 31) : ¬ c < nI j := hc ▸ nI_nlt h hN
theorem l_eq {N j : Nat} {c : Int32} (hc : nI N = c) (hN : N < 2 ^ 31) (hj : j < 2 ^ 31) : nI j = c ↔ j = N := hc ▸ nI_eq hj hN
theorem nl2 {j : Nat} (h : j < 2) : ¬ (2 : Int32) ≤ nI j := l_ge (N := 2) (c := 2) rfl h (by decide)
theorem nl4 {j : Nat} (h : j < 4) : ¬ (4 : Int32) ≤ nI j := l_ge (N := 4) (c := 4) rfl h (by decide)
theorem nl7 {j : Nat} (h : j < 7) : ¬ (7 : Int32) ≤ nI j := l_ge (N := 7) (c := 7) rfl h (by decide)
theorem nl8 {j : Nat} (h : j < 8) : ¬ (8 : Int32) ≤ nI j := l_ge (N := 8) (c := 8) rfl h (by decide)
theorem nl16 {j : Nat} (h : j < 16) : ¬ (16 : Int32) ≤ nI j := l_ge (N := 16) (c := 16) rfl h (by decide)
theorem nl26 {j : Nat} (h : j < 26) : ¬ (26 : Int32) ≤ nI j := l_ge (N := 26) (c := 26) rfl h (by decide)
theorem nl48 {j : Nat} (h : j < 48) : ¬ (48 : Int32) ≤ nI j := l_ge (N := 48) (c := 48) rfl h (by decide)
theorem nl63 {j : Nat} (h : j < 63) : ¬ (63 : Int32) ≤ nI j := l_ge (N := 63) (c := 63) rfl h (by decide)
theorem nl96 {j : Nat} (h : j < 96) : ¬ (96 : Int32) ≤ nI j := l_ge (N := 96) (c := 96) rfl h (by decide)
/-- the JVM's remainder of numbers -/
theorem jrem_s {a d : Nat} (ha : a < 2 ^ 31) (h0 : 0 < d) (hd : d < 2 ^ 31) : jrem (nI a) (nI d) = nI (a % d) := pk_rem ha h0 hd
theorem ne_m1 {n : Nat} (h : n < 2 ^ 31) : ¬ nI n = (-1 : Int32) := by
  intro e
  have h1 := congrArg Int32.toInt e
  rw [nI_toInt h] at h1
  have h2 : (-1 : Int32).toInt = -1 := by decide
  rw [h2] at h1
  omega
/-- the lower place that faces the upper place p in the glide g -/
def fcg (p g : Nat) : Option Nat := if g % 9 ≤ p % 8 + 4 ∧ p % 8 + 4 - g % 9 < 8 ∧ g / 9 ≤ p / 8 + 3 ∧ p / 8 + 3 - g / 9 < 6 then some (8 * (p / 8 + 3 - g / 9) + (p % 8 + 4 - g % 9)) else none
def on1 (o : Option Nat) : Int32 := match o with
  | some q => nI q
  | none => -1
/-- a glide's two numbers -/
def sA (g : Nat) : Int32 := nI (g % 9) - 4
def sB (g : Nat) : Int32 := nI (g / 9) - 3
theorem fcg_lt {p g q : Nat} (h : fcg p g = some q) : q < 48 := by
  unfold fcg at h
  split at h
  · rename_i h1
    cases h
    omega
  · cases h
