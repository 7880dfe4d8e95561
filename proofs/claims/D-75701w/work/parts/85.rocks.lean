/-! rocks: directions about the middle by their rank -/
set_option maxRecDepth 100000
def angL : List Nat := [5, 6, 7, 9, 10, 12, 13, 14, 3, 4, 6, 8, 11, 13, 15, 16, 0, 1, 2, 6, 13, 17, 18, 19, 39, 38, 37, 33, 26, 22, 21, 20, 36, 35, 33, 31, 28, 26, 24, 23, 34, 33, 32, 30, 29, 27, 26, 25]
def ang (p : Nat) : Nat := angL.getD p 0
def dD (p q : Nat) : Nat := (ang q + 40 - ang p) % 40
theorem ang_t : ∀ p q : Fin 48, ang p.val < 40 ∧ (0 < am p.val q.val ↔ 0 < dD p.val q.val ∧ dD p.val q.val < 20) ∧ (am p.val q.val < 0 ↔ 20 < dD p.val q.val) ∧ (am p.val q.val = 0 ∧ 0 < dm p.val q.val ↔ dD p.val q.val = 0) ∧ (am p.val q.val = 0 ∧ dm p.val q.val < 0 ↔ dD p.val q.val = 20) := by decide +kernel
theorem ang_p {p q : Nat} (hp : p < 48) (hq : q < 48) : ang p < 40 ∧ (0 < am p q ↔ 0 < dD p q ∧ dD p q < 20) ∧ (am p q < 0 ↔ 20 < dD p q) ∧ (am p q = 0 ∧ 0 < dm p q ↔ dD p q = 0) ∧ (am p q = 0 ∧ dm p q < 0 ↔ dD p q = 20) := ang_t ⟨p, hp⟩ ⟨q, hq⟩
/-- a place from which on all lie less than half a turn round -/
def oneS (P : Nat → Bool) (p : Nat) : Prop := ∀ q, q < 48 → P q = true → dD p q < 20
def opp (P : Nat → Bool) : Prop := ∃ p q, p < 48 ∧ q < 48 ∧ P p = true ∧ P q = true ∧ dD p q = 20
def thr (P : Nat → Bool) : Prop := ∃ p q r, p < 48 ∧ q < 48 ∧ r < 48 ∧ P p = true ∧ P q = true ∧ P r = true ∧ triP p q r
theorem dD_lt (p q : Nat) : dD p q < 40 := Nat.mod_lt _ (by decide)
theorem dD_c {p q r : Nat} (hp : ang p < 40) (hq : ang q < 40) (hr : ang r < 40) : dD q r = (dD p r + 40 - dD p q) % 40 := by
  unfold dD
  generalize ang p = a at hp
  generalize ang q = b at hq
  generalize ang r = c at hr
  omega
/-- the turn by ranks -/
theorem dD_a {x y : Nat} (hx : x < 20) (hy : y < 20) : ((y + 40 - x) % 40 ≤ 20 → x ≤ y) ∧ (¬ (0 < (y + 40 - x) % 40 ∧ (y + 40 - x) % 40 < 20) → y ≤ x) ∧ (y + 40 - x) % 40 ≠ 20 ∧ (x = y → (y + 40 - x) % 40 = 0) := by omega
theorem am_le {p q : Nat} (hp : p < 48) (hq : q < 48) : (0 ≤ am p q → dD p q ≤ 20) ∧ (am p q ≤ 0 → ¬ (0 < dD p q ∧ dD p q < 20)) ∧ (dD p q = 0 → am p q = 0) := by
  have g := ang_p hp hq
  refine ⟨fun h => ?_, fun h h9 => ?_, fun h => (g.2.2.2.1.mpr h).1⟩
  · by_cases c : 20 < dD p q
    · have := g.2.2.1.mpr c
      omega
    · omega
  · have := g.2.1.mpr h9
    omega
theorem rk_1 {P : Nat → Bool} {p : Nat} (hp : p < 48) (h : oneS P p) : ¬ opp P ∧ ¬ thr P := by
  have ap := (ang_p hp hp).1
  constructor
  · rintro ⟨q, r, hq, hr, Pq, Pr, e⟩
    rw [dD_c ap (ang_p hq hq).1 (ang_p hr hr).1] at e
    exact (dD_a (h q hq Pq) (h r hr Pr)).2.2.1 e
  · rintro ⟨q, r, s, hq, hr, hs, Pq, Pr, Ps, ht, hc⟩
    have aq := (ang_p hq hq).1
    have ar := (ang_p hr hr).1
    have as := (ang_p hs hs).1
    have h1 := h q hq Pq
    have h2 := h r hr Pr
    have h3 := h s hs Ps
    have g1 := am_le hq hr
    have g2 := am_le hr hs
    have g3 := am_le hs hq
    have hn := tn_am q r s
    rw [dD_c ap aq ar] at g1
    rw [dD_c ap ar as] at g2
    rw [dD_c ap as aq] at g3
    have d1 := dD_a h1 h2
    have d2 := dD_a h2 h3
    have d3 := dD_a h3 h1
    have key : dD p q = dD p r ∧ dD p r = dD p s := by
      rcases hc with ⟨c1, c2, c3⟩ | ⟨c1, c2, c3⟩
      · have k1 := d1.1 (g1.1 c1)
        have k2 := d2.1 (g2.1 c2)
        have k3 := d3.1 (g3.1 c3)
        omega
      · have k1 := d1.2.1 (g1.2.1 c1)
        have k2 := d2.2.1 (g2.2.1 c2)
        have k3 := d3.2.1 (g3.2.1 c3)
        omega
    have z1 := g1.2.2 (d1.2.2.2 key.1)
    have z2 := g2.2.2 (d2.2.2.2 key.2)
    have z3 := g3.2.2 (d3.2.2.2 (key.2.symm.trans key.1.symm))
    omega
theorem rk_min {F : Nat → Nat} {S : Nat → Prop} : ∀ n p, S p → F p ≤ n → ∃ m, S m ∧ ∀ q, S q → F m ≤ F q
  | 0, p, hp, h => ⟨p, hp, fun q _ => by omega⟩
  | n + 1, p, hp, h => by
    by_cases c : ∃ q, S q ∧ F q < F p
    · obtain ⟨q, h1, h2⟩ := c
      exact rk_min n q h1 (by omega)
    · refine ⟨p, hp, fun q hq => ?_⟩
      by_cases d : F q < F p
      · exact absurd ⟨q, hq, d⟩ c
      · omega
theorem rk_2 {P : Nat → Bool} {s : Nat} (hs : s < 48) (Ps : P s = true) (h1 : ¬ opp P) (h2 : ¬ thr P) : ∃ p, p < 48 ∧ P p = true ∧ oneS P p := by
  have as := (ang_p hs hs).1
  by_cases c : oneS P s
  · exact ⟨s, hs, Ps, c⟩
  · obtain ⟨q0, hq0, Pq0, d0⟩ : ∃ q, q < 48 ∧ P q = true ∧ 20 < dD s q := by
      refine Classical.byContradiction (fun hno => c (fun q hq Pq => ?_))
      by_cases e : dD s q = 20
      · exact absurd ⟨s, q, hs, hq, Ps, Pq, e⟩ h1
      · by_cases e2 : 20 < dD s q
        · exact absurd ⟨q, hq, Pq, e2⟩ hno
        · omega
    obtain ⟨p, ⟨hp, Pp, dp⟩, hmin⟩ := rk_min (F := fun q => dD s q) (S := fun q => q < 48 ∧ P q = true ∧ 20 < dD s q) _ q0 ⟨hq0, Pq0, d0⟩ (Nat.le_refl _)
    refine ⟨p, hp, Pp, fun q hq Pq => ?_⟩
    have ap := (ang_p hp hp).1
    have aq := (ang_p hq hq).1
    refine Classical.byContradiction (fun hge => ?_)
    have n1 : dD p q ≠ 20 := fun e => h1 ⟨p, q, hp, hq, Pp, Pq, e⟩
    have n2 : dD s q ≠ 20 := fun e => h1 ⟨s, q, hs, hq, Ps, Pq, e⟩
    have n3 : 20 < dD s q → dD s p ≤ dD s q := fun e => hmin q ⟨hq, Pq, e⟩
    refine h2 ⟨s, q, p, hs, hq, hp, Ps, Pq, Pp, ?_⟩
    have e1 := dD_c as ap aq
    have e2 := dD_c as aq ap
    have e3 : dD p s = (40 - dD s p) % 40 := by
      have := dD_c as ap as
      rw [this]
      unfold dD
      generalize ang s = a at as
      generalize ang p = b at ap
      omega
    have l1 := dD_lt s q
    have l2 := dD_lt s p
    have hbb : 0 < dD s q ∧ dD s q < 20 ∧ 0 < dD q p ∧ dD q p < 20 ∧ 0 < dD p s ∧ dD p s < 20 := by
      rw [e1] at hge n1
      rw [e2, e3]
      clear e1 e2 e3 hmin h1 h2 c
      generalize dD s q = x at *
      generalize dD s p = y at *
      omega
    have g1 := (ang_p hs hq).2.1.mpr ⟨hbb.1, hbb.2.1⟩
    have g2 := (ang_p hq hp).2.1.mpr ⟨hbb.2.2.1, hbb.2.2.2.1⟩
    have g3 := (ang_p hp hs).2.1.mpr ⟨hbb.2.2.2.2.1, hbb.2.2.2.2.2⟩
    have hn := tn_am s q p
    exact ⟨by omega, Or.inl ⟨by omega, by omega, by omega⟩⟩
