/-! figure: ranks of directions, edges, coverage -/
set_option maxRecDepth 100000
def rkL : List Nat := [0, 0, 0, 0, 0, 0, 0, 0, 0, 0, 0, 0, 0, 0, 0, 53, 52, 51, 50, 48, 45, 37, 27, 17, 9, 6, 4, 3, 2, 1, 49, 48, 47, 45, 42, 37, 32, 27, 22, 17, 12, 9, 7, 6, 5, 46, 45, 43, 40, 37, 34, 30, 27, 24, 20, 17, 14, 11, 9, 8, 44, 42, 39, 37, 35, 32, 29, 27, 25, 22, 19, 17, 15, 12, 10, 41, 38, 37, 36, 33, 31, 28, 27, 26, 23, 21, 18, 17, 16, 13]
def rkJ (j : Nat) : Nat := rkL.getD j 0
def jx (j : Nat) : Int := ((j % 15 : Nat) : Int) - 7
def jy (j : Nat) : Int := ((j / 15 : Nat) : Int)
theorem rk_t : ∀ i j : Fin 90, 8 ≤ i.val → 8 ≤ j.val → (0 < jx i.val * jy j.val - jy i.val * jx j.val ↔ rkJ i.val < rkJ j.val) ∧ (jx i.val * jy j.val - jy i.val * jx j.val = 0 ↔ rkJ i.val = rkJ j.val) ∧ (rkJ i.val = rkJ j.val → 0 < jx i.val * jx j.val + jy i.val * jy j.val ∧ (jx i.val * jx i.val + jy i.val * jy i.val < jx j.val * jx j.val + jy j.val * jy j.val ↔ 8 * jy i.val + jx i.val < 8 * jy j.val + jx j.val)) := by decide +kernel
/-- the step from p to q, p ahead of q -/
def vj (p q : Nat) : Nat := (q / 8 - p / 8) * 15 + (q % 8 + 7 - p % 8)
def rk (p q : Nat) : Nat := rkJ (vj p q)
theorem vj_s {p q : Nat} (h : p < q) (hq : q < 48) : jx (vj p q) = cx q - cx p ∧ jy (vj p q) = cy q - cy p ∧ 8 ≤ vj p q ∧ vj p q < 90 := by
  have e : ((vj p q % 15 : Nat) : Int) = (q % 8 : Nat) + 7 - (p % 8 : Nat) ∧ ((vj p q / 15 : Nat) : Int) = (q / 8 : Nat) - (p / 8 : Nat) ∧ 8 ≤ vj p q ∧ vj p q < 90 := by
    unfold vj
    omega
  unfold jx jy cx cy
  omega
theorem rk_v {p q r s : Nat} (h1 : p < q) (hq : q < 48) (h2 : r < s) (hs : s < 48) : (0 < (cx q - cx p) * (cy s - cy r) - (cy q - cy p) * (cx s - cx r) ↔ rk p q < rk r s) ∧ ((cx q - cx p) * (cy s - cy r) - (cy q - cy p) * (cx s - cx r) = 0 ↔ rk p q = rk r s) ∧ (rk p q = rk r s → 0 < (cx q - cx p) * (cx s - cx r) + (cy q - cy p) * (cy s - cy r) ∧ ((cx q - cx p) * (cx q - cx p) + (cy q - cy p) * (cy q - cy p) < (cx s - cx r) * (cx s - cx r) + (cy s - cy r) * (cy s - cy r) ↔ 8 * (cy q - cy p) + (cx q - cx p) < 8 * (cy s - cy r) + (cx s - cx r))) := by
  obtain ⟨a1, a2, a3, a4⟩ := vj_s h1 hq
  obtain ⟨b1, b2, b3, b4⟩ := vj_s h2 hs
  have := rk_t ⟨vj p q, a4⟩ ⟨vj r s, b4⟩ a3 b3
  dsimp only at this
  rw [a1, a2, b1, b2] at this
  exact this
theorem tn_cy (p q r : Nat) : tn p q r = tn q r p := by
  unfold tn
  grind
theorem tn_sw (p q r : Nat) : tn p r q = - tn p q r := by
  unfold tn
  grind
/-- three places in their order: the turn by ranks -/
theorem rk_3 {a b c : Nat} (h1 : a < b) (h2 : b < c) (hc : c < 48) : (0 < tn a b c ↔ rk a b < rk a c) ∧ (tn a b c = 0 ↔ rk a b = rk a c) ∧ (0 < tn a b c ↔ rk a b < rk b c) ∧ (tn a b c = 0 ↔ rk a b = rk b c) ∧ (0 < tn a b c ↔ rk a c < rk b c) ∧ (tn a b c = 0 ↔ rk a c = rk b c) := by
  have x1 := rk_v h1 (show b < 48 by omega) (show a < c by omega) hc
  have x2 := rk_v h1 (show b < 48 by omega) h2 hc
  have x3 := rk_v (show a < c by omega) hc h2 hc
  have e1 : (cx b - cx a) * (cy c - cy a) - (cy b - cy a) * (cx c - cx a) = tn a b c := rfl
  have e2 : (cx b - cx a) * (cy c - cy b) - (cy b - cy a) * (cx c - cx b) = tn a b c := by
    unfold tn
    grind
  have e3 : (cx c - cx a) * (cy c - cy b) - (cy c - cy a) * (cx c - cx b) = tn a b c := by
    unfold tn
    grind
  rw [e1] at x1
  rw [e2] at x2
  rw [e3] at x3
  exact ⟨x1.1, x1.2.1, x2.1, x2.2.1, x3.1, x3.2.1⟩
/-- by ranks alone -/
theorem rk_k {a b c : Nat} (h1 : a < b) (h2 : b < c) (hc : c < 48) : (rk a b < rk a c ↔ rk a b < rk b c) ∧ (rk a b < rk a c ↔ rk a c < rk b c) ∧ (rk a b = rk a c ↔ rk a b = rk b c) ∧ (rk a b = rk a c ↔ rk a c = rk b c) := by
  have g := rk_3 h1 h2 hc
  exact ⟨g.1.symm.trans g.2.2.1, g.1.symm.trans g.2.2.2.2.1, g.2.1.symm.trans g.2.2.2.1, g.2.1.symm.trans g.2.2.2.2.2⟩
def dt (p q r : Nat) : Int := (cx p - cx r) * (cx q - cx r) + (cy p - cy r) * (cy q - cy r)
def crs (p q : Nat) : Int := cx p * cy q - cy p * cx q
/-- an edge: all to one side, none beyond -/
def Eg (P : Nat → Bool) (p q : Nat) : Prop := p ≠ q ∧ ∀ r, r < 48 → P r = true → 0 ≤ tn p q r ∧ (tn p q r = 0 → dt p q r ≤ 0)
def EU (P : Nat → Bool) (p q : Nat) : Prop := p < q ∧ ∀ r, r < 48 → P r = true → (r < p → rk r p < rk p q) ∧ (p < r → rk p q ≤ rk p r ∧ (rk p q = rk p r → r ≤ q))
def ED (P : Nat → Bool) (p q : Nat) : Prop := q < p ∧ ∀ r, r < 48 → P r = true → (p < r → rk p r < rk q p) ∧ (r < p → rk q p ≤ rk r p ∧ (rk q p = rk r p → q ≤ r))
theorem tn_2 (p q : Nat) : tn p q p = 0 ∧ tn p q q = 0 ∧ dt p q p = 0 ∧ dt p q q = 0 := by
  unfold tn dt
  refine ⟨?_, ?_, ?_, ?_⟩ <;> grind
theorem Eg_u {P : Nat → Bool} {p q : Nat} (h : p < q) (hq : q < 48) : Eg P p q ↔ EU P p q := by
  have t2 := tn_2 p q
  unfold Eg EU
  have one : ∀ r, r < 48 → ((0 ≤ tn p q r ∧ (tn p q r = 0 → dt p q r ≤ 0)) ↔ ((r < p → rk r p < rk p q) ∧ (p < r → rk p q ≤ rk p r ∧ (rk p q = rk p r → r ≤ q)))) := by
    intro r hr
    by_cases c1 : r < p
    · have g := rk_3 c1 h hq
      have g2 := rk_v c1 (show p < 48 by omega) (show r < q by omega) hq
      have e1 : tn p q r = tn r p q := (tn_cy r p q).symm
      have e2 : dt p q r = (cx p - cx r) * (cx q - cx r) + (cy p - cy r) * (cy q - cy r) := rfl
      rw [e1, e2]
      omega
    · by_cases c2 : r = p
      · subst c2
        omega
      · by_cases c3 : r < q
        · have g := rk_3 (show p < r by omega) c3 hq
          have g2 := rk_v (show p < r by omega) hr c3 hq
          have e1 : tn p q r = - tn p r q := tn_sw p r q
          have e2 : dt p q r = - ((cx r - cx p) * (cx q - cx r) + (cy r - cy p) * (cy q - cy r)) := by
            unfold dt
            grind
          rw [e1, e2]
          omega
        · by_cases c4 : r = q
          · subst c4
            omega
          · have g := rk_3 h (show q < r by omega) hr
            have g2 := rk_v (show p < r by omega) hr (show q < r by omega) hr
            have e2 : dt p q r = (cx r - cx p) * (cx r - cx q) + (cy r - cy p) * (cy r - cy q) := by
              unfold dt
              grind
            rw [e2]
            omega
  exact ⟨fun H => ⟨h, fun r hr Pr => (one r hr).mp (H.2 r hr Pr)⟩, fun H => ⟨by omega, fun r hr Pr => (one r hr).mpr (H.2 r hr Pr)⟩⟩
theorem Eg_d {P : Nat → Bool} {p q : Nat} (h : q < p) (hp : p < 48) : Eg P p q ↔ ED P p q := by
  have t2 := tn_2 p q
  unfold Eg ED
  have one : ∀ r, r < 48 → ((0 ≤ tn p q r ∧ (tn p q r = 0 → dt p q r ≤ 0)) ↔ ((p < r → rk p r < rk q p) ∧ (r < p → rk q p ≤ rk r p ∧ (rk q p = rk r p → q ≤ r)))) := by
    intro r hr
    by_cases c1 : p < r
    · have g := rk_3 h c1 hr
      have g2 := rk_v c1 hr (show q < r by omega) hr
      have e1 : tn p q r = - tn q p r := by rw [tn_cy p q r, tn_sw]
      have e2 : dt p q r = (cx r - cx p) * (cx r - cx q) + (cy r - cy p) * (cy r - cy q) := by
        unfold dt
        grind
      rw [e1, e2]
      omega
    · by_cases c2 : r = p
      · subst c2
        omega
      · by_cases c3 : q < r
        · have g := rk_3 c3 (show r < p by omega) hp
          have g2 := rk_v c3 hr (show r < p by omega) hp
          have e1 : tn p q r = tn q r p := tn_cy p q r
          have e2 : dt p q r = - ((cx r - cx q) * (cx p - cx r) + (cy r - cy q) * (cy p - cy r)) := by
            unfold dt
            grind
          rw [e1, e2]
          omega
        · by_cases c4 : r = q
          · subst c4
            omega
          · have g := rk_3 (show r < q by omega) h hp
            have g2 := rk_v (show r < q by omega) (show q < 48 by omega) (show r < p by omega) hp
            have e1 : tn p q r = - tn r q p := by rw [tn_cy p q r, tn_cy q r p, tn_sw]
            have e2 : dt p q r = (cx q - cx r) * (cx p - cx r) + (cy q - cy r) * (cy p - cy r) := by
              unfold dt
              grind
            rw [e1, e2]
            omega
  exact ⟨fun H => ⟨h, fun r hr Pr => (one r hr).mp (H.2 r hr Pr)⟩, fun H => ⟨by omega, fun r hr Pr => (one r hr).mpr (H.2 r hr Pr)⟩⟩
/-- no other edge upward begins between the ends of one -/
theorem EU_cov {P : Nat → Bool} {v w p q : Nat} (h1 : EU P v w) (h2 : EU P p q) (Pv : P v = true) (Pw : P w = true) (Pp : P p = true) (Pq : P q = true) (hw : w < 48) (hq : q < 48) (hv : v ≤ p) (hp : p < w) : p = v ∧ q = w := by
  have l1 := h1.1
  have l2 := h2.1
  by_cases e : p = v
  · subst e
    have a := (h1.2 q hq Pq).2 l2
    have b := (h2.2 w hw Pw).2 l1
    exact ⟨rfl, by omega⟩
  · have a := (h1.2 p (by omega) Pp).2 (by omega)
    have b := (h2.2 v (by omega) Pv).1 (by omega)
    have c := (h2.2 w hw Pw).2 hp
    have k := rk_k (show v < p by omega) hp hw
    omega
theorem ED_cov {P : Nat → Bool} {v w p q : Nat} (h1 : ED P v w) (h2 : ED P p q) (Pv : P v = true) (Pw : P w = true) (Pp : P p = true) (Pq : P q = true) (hv8 : v < 48) (hp8 : p < 48) (hv : p ≤ v) (hp : w < p) : p = v ∧ q = w := by
  have l1 := h1.1
  have l2 := h2.1
  by_cases e : p = v
  · subst e
    have a := (h1.2 q (by omega) Pq).2 l2
    have b := (h2.2 w (by omega) Pw).2 l1
    exact ⟨rfl, by omega⟩
  · have a := (h1.2 p hp8 Pp).2 (by omega)
    have b := (h2.2 v hv8 Pv).1 (by omega)
    have c := (h2.2 w (by omega) Pw).2 hp
    have k := rk_k hp (show p < v by omega) hv8
    omega
theorem EU_ED {P : Nat → Bool} {p q q' : Nat} (h1 : EU P p q) (h2 : ED P p q') (Pq : P q = true) (Pq' : P q' = true) (hq : q < 48) (hp : p < 48) : False := by
  have a := (h1.2 q' (by have := h2.1; omega) Pq').1 h2.1
  have b := (h2.2 q hq Pq).1 h1.1
  omega
/-- all below by smaller directions than all above: the way up, the way down -/
def CU (P : Nat → Bool) (v : Nat) : Prop := ∀ r s, r < v → v < s → s < 48 → P r = true → P s = true → rk r v < rk v s
def CD (P : Nat → Bool) (v : Nat) : Prop := ∀ r s, r < v → v < s → s < 48 → P r = true → P s = true → rk v s < rk r v
theorem CU_s {P : Nat → Bool} {u v : Nat} (h : EU P u v) (hv : v < 48) (Pu : P u = true) (Pv : P v = true) : CU P v := by
  intro r s hr hs hs8 Pr Ps
  have l := h.1
  have a := h.2 r (by omega) Pr
  have b := (h.2 s hs8 Ps).2 (by omega)
  have k1 := rk_k l hs hs8
  by_cases c : r < u
  · have k2 := rk_k c l hv
    have := a.1 c
    omega
  · by_cases c2 : r = u
    · subst c2
      omega
    · have k2 := rk_k (show u < r by omega) hr hv
      have := (a.2 (by omega)).1
      omega
theorem CD_s {P : Nat → Bool} {u v : Nat} (h : ED P u v) (hu : u < 48) (Pu : P u = true) (Pv : P v = true) : CD P v := by
  intro r s hr hs hs8 Pr Ps
  have l := h.1
  have a := h.2 s hs8 Ps
  have b := (h.2 r (by omega) Pr).2 (by omega)
  have k1 := rk_k hr l hu
  by_cases c : u < s
  · have k2 := rk_k l c hs8
    have := a.1 c
    omega
  · by_cases c2 : s = u
    · subst c2
      omega
    · have k2 := rk_k hs (show s < u by omega) hu
      have := (a.2 (by omega)).1
      omega
/-- how the class compares, by a key -/
def ku (v r : Nat) : Nat := if v < r then rk v r else rk r v + 1000
def kd (v r : Nat) : Nat := if r < v then rk r v else rk v r + 1000
def fo (p q : Nat) : Int := (cx p - cx q) * (cx p - cx q) + (cy p - cy q) * (cy p - cy q)
def ds (v r : Nat) : Nat := if v < r then r - v else v - r
def KO (P : Nat → Bool) (v : Nat) (k : Nat → Nat) : Prop := ∀ b p, b < 48 → p < 48 → P b = true → P p = true → b ≠ v → p ≠ v → (tn v b p < 0 ↔ k p < k b) ∧ (tn v b p = 0 ↔ k p = k b) ∧ (k p = k b → (fo v b < fo v p ↔ ds v b < ds v p))
theorem rk_lt (p q : Nat) : rk p q < 60 := by
  have t : ∀ j, rkJ j < 60 := fun j => by
    by_cases h : j < 90
    · have d : ∀ j : Fin 90, rkJ j.val < 60 := by decide +kernel
      exact d ⟨j, h⟩
    · unfold rkJ
      rw [List.getD_eq_getElem?_getD, List.getElem?_eq_none (by show 90 ≤ j; omega)]
      decide
  exact t _
theorem fo_u {v b p : Nat} (hb : v < b) (hp : v < p) (hb8 : b < 48) (hp8 : p < 48) (e : rk v p = rk v b) : fo v b < fo v p ↔ b - v < p - v := by
  have g := (rk_v hb hb8 hp hp8).2.2 e.symm
  have e1 : fo v b = (cx b - cx v) * (cx b - cx v) + (cy b - cy v) * (cy b - cy v) := by
    unfold fo
    grind
  have e2 : fo v p = (cx p - cx v) * (cx p - cx v) + (cy p - cy v) * (cy p - cy v) := by
    unfold fo
    grind
  rw [e1, e2]
  refine g.2.trans ?_
  unfold cx cy
  omega
theorem fo_d {v b p : Nat} (hb : b < v) (hp : p < v) (hv : v < 48) (e : rk p v = rk b v) : fo v b < fo v p ↔ v - b < v - p := by
  have g := (rk_v hb hv hp hv).2.2 e.symm
  refine g.2.trans ?_
  unfold cx cy
  omega
theorem tn_4 {v b p : Nat} (hb8 : b < 48) (hp8 : p < 48) (hv : v < 48) (hb : b ≠ v) (hp : p ≠ v) : (v < b → v < p → (tn v b p < 0 ↔ rk v p < rk v b) ∧ (tn v b p = 0 ↔ rk v p = rk v b)) ∧ (b < v → p < v → (tn v b p < 0 ↔ rk p v < rk b v) ∧ (tn v b p = 0 ↔ rk p v = rk b v)) ∧ (b < v → v < p → (tn v b p < 0 ↔ rk b v < rk v p) ∧ (tn v b p = 0 ↔ rk b v = rk v p)) ∧ (v < b → p < v → (tn v b p < 0 ↔ rk v b < rk p v) ∧ (tn v b p = 0 ↔ rk v b = rk p v)) := by
  refine ⟨fun h1 h2 => ?_, fun h1 h2 => ?_, fun h1 h2 => ?_, fun h1 h2 => ?_⟩
  · have g := rk_v h1 hb8 h2 hp8
    have e : (cx b - cx v) * (cy p - cy v) - (cy b - cy v) * (cx p - cx v) = tn v b p := rfl
    rw [e] at g
    omega
  · have g := rk_v h1 hv h2 hv
    have e : (cx v - cx b) * (cy v - cy p) - (cy v - cy b) * (cx v - cx p) = tn v b p := by
      unfold tn
      grind
    rw [e] at g
    omega
  · have g := rk_v h1 hv h2 hp8
    have e : (cx v - cx b) * (cy p - cy v) - (cy v - cy b) * (cx p - cx v) = - tn v b p := by
      unfold tn
      grind
    rw [e] at g
    omega
  · have g := rk_v h1 hb8 h2 hv
    have e : (cx b - cx v) * (cy v - cy p) - (cy b - cy v) * (cx v - cx p) = - tn v b p := by
      unfold tn
      grind
    rw [e] at g
    omega
theorem KO_u {P : Nat → Bool} {v : Nat} (hv : v < 48) (h : CU P v) : KO P v (ku v) := by
  intro b p hb hp Pb Pp nb np
  have g := tn_4 hb hp hv nb np
  have l1 := rk_lt v b
  have l2 := rk_lt v p
  have l3 := rk_lt b v
  have l4 := rk_lt p v
  unfold ku ds
  by_cases c1 : v < b
  · by_cases c2 : v < p
    · rw [if_pos c1, if_pos c2, if_pos c1, if_pos c2]
      exact ⟨(g.1 c1 c2).1, (g.1 c1 c2).2, fun e => fo_u c1 c2 hb hp e⟩
    · have := g.2.2.2 c1 (by omega)
      have m := h p b (by omega) c1 hb Pp Pb
      rw [if_pos c1, if_neg c2, if_pos c1, if_neg c2]
      omega
  · by_cases c2 : v < p
    · have := g.2.2.1 (by omega) c2
      have m := h b p (by omega) c2 hp Pb Pp
      rw [if_neg c1, if_pos c2, if_neg c1, if_pos c2]
      omega
    · have := g.2.1 (by omega) (by omega)
      rw [if_neg c1, if_neg c2, if_neg c1, if_neg c2]
      refine ⟨by omega, by omega, fun e => fo_d (by omega) (by omega) hv (by omega)⟩
theorem KO_d {P : Nat → Bool} {v : Nat} (hv : v < 48) (h : CD P v) : KO P v (kd v) := by
  intro b p hb hp Pb Pp nb np
  have g := tn_4 hb hp hv nb np
  have l1 := rk_lt v b
  have l2 := rk_lt v p
  have l3 := rk_lt b v
  have l4 := rk_lt p v
  unfold kd ds
  by_cases c1 : v < b
  · by_cases c2 : v < p
    · have := g.1 c1 c2
      rw [if_pos c1, if_pos c2, if_neg (show ¬ b < v by omega), if_neg (show ¬ p < v by omega)]
      exact ⟨by omega, by omega, fun e => fo_u c1 c2 hb hp (by omega)⟩
    · have := g.2.2.2 c1 (by omega)
      have m := h p b (by omega) c1 hb Pp Pb
      rw [if_pos c1, if_neg c2, if_neg (show ¬ b < v by omega), if_pos (show p < v by omega)]
      omega
  · by_cases c2 : v < p
    · have := g.2.2.1 (by omega) c2
      have m := h b p (by omega) c2 hp Pb Pp
      rw [if_neg c1, if_pos c2, if_pos (show b < v by omega), if_neg (show ¬ p < v by omega)]
      omega
    · have := g.2.1 (by omega) (by omega)
      rw [if_neg c1, if_neg c2, if_pos (show b < v by omega), if_pos (show p < v by omega)]
      refine ⟨by omega, by omega, fun e => fo_d (by omega) (by omega) hv (by omega)⟩
/-- what the class takes next -/
def NX (P : Nat → Bool) (v : Nat) (k : Nat → Nat) (q : Nat) : Prop := q < 48 ∧ P q = true ∧ q ≠ v ∧ ∀ r, r < 48 → P r = true → r ≠ v → k q ≤ k r ∧ (k r = k q → ds v r ≤ ds v q)
theorem NX_u {P : Nat → Bool} {v q : Nat} (h : CU P v) (hq : NX P v (ku v) q) {s : Nat} (hs : v < s) (hs8 : s < 48) (Ps : P s = true) : EU P v q := by
  obtain ⟨q1, q2, q3, q4⟩ := hq
  have l1 := rk_lt v s
  have a := (q4 s hs8 Ps (by omega)).1
  have hvq : v < q := by
    unfold ku at a
    by_cases c : v < q
    · exact c
    · rw [if_neg c, if_pos hs] at a
      omega
  refine ⟨hvq, fun r hr Pr => ⟨fun c => h r q c hvq q1 Pr q2, fun c => ?_⟩⟩
  have b := q4 r hr Pr (by omega)
  unfold ku ds at b
  rw [if_pos hvq, if_pos c, if_pos c, if_pos hvq] at b
  exact ⟨b.1, fun e => by have := b.2 e.symm; omega⟩
theorem NX_l {P : Nat → Bool} {v q : Nat} (hq : NX P v (ku v) q) (hv : v < 48) (hn : ∀ s, v < s → s < 48 → P s = false) : ED P v q := by
  obtain ⟨q1, q2, q3, q4⟩ := hq
  have hvq : q < v := by
    by_cases c : v < q
    · rw [hn q c q1] at q2
      cases q2
    · omega
  refine ⟨hvq, fun r hr Pr => ⟨fun c => ?_, fun c => ?_⟩⟩
  · rw [hn r c hr] at Pr
    cases Pr
  have b := q4 r hr Pr (by omega)
  unfold ku ds at b
  rw [if_neg (by omega), if_neg (by omega), if_neg (by omega), if_neg (by omega)] at b
  exact ⟨by omega, fun e => by have := b.2 (by omega); omega⟩
theorem NX_d {P : Nat → Bool} {v q : Nat} (h : CD P v) (hq : NX P v (kd v) q) (hv : v < 48) {s : Nat} (hs : s < v) (Ps : P s = true) : ED P v q := by
  obtain ⟨q1, q2, q3, q4⟩ := hq
  have l1 := rk_lt s v
  have a := (q4 s (by omega) Ps (by omega)).1
  have hvq : q < v := by
    unfold kd at a
    by_cases c : q < v
    · exact c
    · rw [if_neg c, if_pos hs] at a
      omega
  refine ⟨hvq, fun r hr Pr => ⟨fun c => h q r hvq c hr q2 Pr, fun c => ?_⟩⟩
  have b := q4 r hr Pr (by omega)
  unfold kd ds at b
  rw [if_pos hvq, if_pos c, if_neg (by omega), if_neg (by omega)] at b
  exact ⟨b.1, fun e => by have := b.2 e.symm; omega⟩
