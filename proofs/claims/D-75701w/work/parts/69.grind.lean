/-! wears, takes1; grind -/
set_option maxRecDepth 100000
def dU (U : Nat → Nat) (c p d : Nat) : Nat → Nat := fun q => if c = 1 ∧ q = p then U q - d else U q
def dL (L : Nat → Nat) (c p d : Nat) : Nat → Nat := fun q => if c = 0 ∧ q = p then L q - d else L q
theorem dU_0 (U : Nat → Nat) (p d : Nat) : dU U 0 p d = U := by
  funext q
  unfold dU
  rw [if_neg (fun e => by cases e.1)]
theorem dL_1 (L : Nat → Nat) (p d : Nat) : dL L 1 p d = L := by
  funext q
  unfold dL
  rw [if_neg (fun e => by cases e.1)]
theorem dU_1 (U : Nat → Nat) (p d q : Nat) : dU U 1 p d q = if q = p then U q - d else U q := by
  unfold dU
  by_cases e : q = p
  · rw [if_pos ⟨rfl, e⟩, if_pos e]
  · rw [if_neg (fun h => e h.2), if_neg e]
theorem dL_0 (L : Nat → Nat) (p d q : Nat) : dL L 0 p d q = if q = p then L q - d else L q := by
  unfold dL
  by_cases e : q = p
  · rw [if_pos ⟨rfl, e⟩, if_pos e]
  · rw [if_neg (fun h => e h.2), if_neg e]
theorem dU_le (U : Nat → Nat) (c p d q : Nat) : dU U c p d q ≤ U q := by
  unfold dU
  split <;> omega
theorem dL_le (L : Nat → Nat) (c p d q : Nat) : dL L c p d q ≤ L q := by
  unfold dL
  split <;> omega
theorem X_wears0 {b : Nat} {g : Hp} {c p : Nat} {v : Int32} (hp : p < 48) (ho : ¬ g 1 p = 0) : mX3_wears b g (nI c) (nI p) v = some g := by
  unfold mX3_wears
  rw [ck_s hp (by decide), nI_clamp (by omega), if_neg ho]
theorem X_wears {b : Nat} {g : Hp} {U L : Nat → Nat} (H : HX b g U L) {c p v : Nat} (hc : c < 2) (hp : p < 48) (hv : v ≤ 25) (ho : g 1 p = 0) : ∃ g', mX3_wears b g (nI c) (nI p) (nI v) = some g' ∧ HX b g' (dU U c p (min v (hts U L c p))) (dL L c p (min v (hts U L c p))) ∧ g' (b + 4) c = g (b + 4) c + nI (min v (hts U L c p)) ∧ g' (b + 4) (1 - c) = g (b + 4) (1 - c) ∧ g' b 4 = g b 4 + nI (min v (hts U L c p)) ∧ (∀ i, i ≠ 4 → g' b i = g b i) ∧ Ex [b, b + 2, b + 3, b + 4] g g' := by
  have hU := HU_of H
  have hh : g (b + 2 + c) p = nI (hts U L c p) := by
    rw [X_heightAt H hc hp]
    unfold hts
    split <;> rfl
  have hb := hts_b hU c p hp
  have hd : hts U L c p - min v (hts U L c p) = hts U L c p - min v (hts U L c p) := rfl
  unfold mX3_wears
  rw [ck_s hp (by decide), nI_clamp (by omega), if_pos ho]
  simp only [nm_q, ck_s hp (show 48 < 2 ^ 31 by decide), ck_s hc (show 2 < 2 ^ 31 by decide), nI_clamp (show c < 2 ^ 31 by omega)]
  rw [hh, jmin_s (by omega) (by omega), nI_subn (by omega)]
  generalize hdd : min v (hts U L c p) = d
  have hdle : d ≤ hts U L c p := by omega
  refine ⟨_, rfl, ?_, ?_, ?_, ?_, ?_, ?_⟩
  · intro q hq
    have h1 := H q hq
    rcases nI2 hc with e | e
    · subst e
      rw [dU_0, dL_0]
      refine ⟨h1.1, ?_, ?_, ?_⟩
      · split <;> omega
      · rw [u2_n (by omega), u2_n (by omega), u2_n (by omega)]
        exact h1.2.2.1
      · rw [u2_n (by omega), u2_n (by omega)]
        show u2 g (b + 2) p _ (b + 2) q = _
        rw [u2_e]
        by_cases e : q = p
        · subst e
          rw [upd_e, if_pos rfl]
          rfl
        · rw [upd_n e, if_neg e]
          exact h1.2.2.2
    · subst e
      rw [dL_1, dU_1]
      refine ⟨?_, h1.2.1, ?_, ?_⟩
      · split <;> omega
      · rw [u2_n (by omega), u2_n (by omega)]
        show u2 g (b + 3) p _ (b + 3) q = _
        rw [u2_e]
        by_cases e : q = p
        · subst e
          rw [upd_e, if_pos rfl]
          rfl
        · rw [upd_n e, if_neg e]
          exact h1.2.2.1
      · rw [u2_n (by omega), u2_n (by omega)]
        show u2 g (b + 3) p _ (b + 2) q = _
        rw [u2_n (by omega)]
        exact h1.2.2.2
  · rw [u2_n (by omega), u2_e, upd_e, u2_n (by omega)]
  · rw [u2_n (by omega), u2_e, upd_n (by omega), u2_n (by omega)]
  · rw [u2_e, upd_e, u2_n (by omega), u2_n (by omega)]
  · intro i hi
    rw [u2_e, upd_n hi, u2_n (by omega), u2_n (by omega)]
  · intro k hk
    have h0 : k ≠ b := fun e => hk (by rw [e]; simp)
    have h2 : k ≠ b + 2 := fun e => hk (by rw [e]; simp)
    have h3 : k ≠ b + 3 := fun e => hk (by rw [e]; simp)
    have h4 : k ≠ b + 4 := fun e => hk (by rw [e]; simp)
    rw [u2_n h0, u2_n h4, u2_n (by omega)]
theorem M_takes1 {g : Hp} {U L : Nat → Nat} (H : HM g U L) {c p d : Nat} (hc : c < 2) (hp : p < 48) (hd : d ≤ hts U L c p) : ∃ g', mX5_takes1 g (nI c) (nI p) (nI d) = some g' ∧ HM g' (dU U c p d) (dL L c p d) ∧ g' 201 c = g 201 c + nI d ∧ g' 201 (1 - c) = g 201 (1 - c) ∧ Ex [200, 201] g g' := by
  have hU := HV_of H
  have hb := hts_b hU c p hp
  have hh : g 200 (48 * c + p) = nI (hts U L c p) := by
    rw [M_heightAt H hc hp]
    unfold hts
    split <;> rfl
  unfold mX5_takes1
  simp only [nm_q]
  rw [mul48, ck_s (by omega) (by decide), ck_s (by omega) (by decide), nI_clamp (by omega), ck_s hc (by decide), ck_s hc (by decide), nI_clamp (by omega), hh, nI_subn hd]
  refine ⟨_, rfl, ?_, ?_, ?_, ?_⟩
  · intro q hq
    have h1 := H q hq
    rcases nI2 hc with e | e
    · subst e
      rw [dU_0, dL_0]
      refine ⟨h1.1, ?_, ?_, ?_⟩
      · split <;> omega
      · rw [u2_n (by omega), u2_e, upd_n (by omega)]
        exact h1.2.2.1
      · rw [u2_n (by omega), u2_e]
        by_cases e : q = p
        · subst e
          rw [show 48 * 0 + q = q by omega, upd_e, if_pos rfl]
          rfl
        · rw [upd_n (by omega), if_neg e]
          exact h1.2.2.2
    · subst e
      rw [dL_1, dU_1]
      refine ⟨?_, h1.2.1, ?_, ?_⟩
      · split <;> omega
      · rw [u2_n (by omega), u2_e]
        by_cases e : q = p
        · subst e
          rw [show 48 * 1 + q = 48 + q by omega, upd_e, if_pos rfl]
          rfl
        · rw [upd_n (by omega), if_neg e]
          exact h1.2.2.1
      · rw [u2_n (by omega), u2_e, upd_n (by omega)]
        exact h1.2.2.2
  · rw [u2_e, upd_e, u2_n (by omega)]
  · rw [u2_e, upd_n (by omega), u2_n (by omega)]
  · intro k hk
    rw [u2_n (fun e => hk (by rw [e]; simp)), u2_n (fun e => hk (by rw [e]; simp))]
/-- the first of the first n, else n -/
def fi (P : Nat → Bool) : Nat → Nat
  | 0 => 0
  | n + 1 => if fi P n < n then fi P n else if P n then n else n + 1
theorem fi_sp (P : Nat → Bool) : ∀ n, fi P n ≤ n ∧ (∀ i, i < fi P n → P i = false) ∧ (fi P n < n → P (fi P n) = true)
  | 0 => ⟨Nat.le_refl _, fun i hi => absurd hi (Nat.not_lt_zero i), fun h => absurd h (Nat.lt_irrefl 0)⟩
  | n + 1 => by
    have ih := fi_sp P n
    rw [fi]
    by_cases h : fi P n < n
    · rw [if_pos h]
      exact ⟨by omega, ih.2.1, fun _ => ih.2.2 h⟩
    · have e : fi P n = n := by omega
      rw [e] at ih
      rw [if_neg h]
      by_cases h2 : P n = true
      · rw [if_pos h2]
        exact ⟨by omega, ih.2.1, fun _ => h2⟩
      · rw [if_neg h2]
        refine ⟨Nat.le_refl _, fun i hi => ?_, fun h => by omega⟩
        by_cases e2 : i = n
        · rw [e2]
          simpa using h2
        · exact ih.2.1 i (by omega)
theorem fi_at {P : Nat → Bool} {n p : Nat} (hp : p < n) (h1 : ∀ i, i < p → P i = false) (h2 : P p = true) : fi P n = p := by
  have h := fi_sp P n
  have a : ¬ fi P n < p := fun c => by
    have := h.2.2 (by omega)
    rw [h1 _ c] at this
    cases this
  have b : ¬ p < fi P n := fun c => by
    rw [h.2.1 p c] at h2
    cases h2
  omega
def gP (o : Nat) (U L : Nat → Nat) (p : Nat) : Bool := decide (o < U p + L p)
def gC (U L : Nat → Nat) (p : Nat) : Nat := if U p < L p then 0 else 1
/-- the strokes one by one: heights, how much of the lower cast, how much of the upper one -/
def gst (o : Nat) (U L : Nat → Nat) : Nat → (Nat → Nat) × (Nat → Nat) × Nat × Nat
  | 0 => (U, L, 0, 0)
  | k + 1 => (dU (gst o U L k).1 (gC (gst o U L k).1 (gst o U L k).2.1 (fi (gP o (gst o U L k).1 (gst o U L k).2.1) 48)) (fi (gP o (gst o U L k).1 (gst o U L k).2.1) 48) 1,
      dL (gst o U L k).2.1 (gC (gst o U L k).1 (gst o U L k).2.1 (fi (gP o (gst o U L k).1 (gst o U L k).2.1) 48)) (fi (gP o (gst o U L k).1 (gst o U L k).2.1) 48) 1,
      (gst o U L k).2.2.1 + (1 - gC (gst o U L k).1 (gst o U L k).2.1 (fi (gP o (gst o U L k).1 (gst o U L k).2.1) 48)),
      (gst o U L k).2.2.2 + gC (gst o U L k).1 (gst o U L k).2.1 (fi (gP o (gst o U L k).1 (gst o U L k).2.1) 48))
theorem gC_lt (U L : Nat → Nat) (p : Nat) : gC U L p < 2 := by
  unfold gC
  split <;> omega
theorem gst_s {o : Nat} {U L : Nat → Nat} {k : Nat} {A B : Nat → Nat} {a b p : Nat} (e : gst o U L k = (A, B, a, b)) (hp : p < 48) (h1 : ∀ i, i < p → A i + B i ≤ o) (h2 : o < A p + B p) : gst o U L (k + 1) = (dU A (gC A B p) p 1, dL B (gC A B p) p 1, a + (1 - gC A B p), b + gC A B p) := by
  rw [gst, e]
  show (dU A (gC A B (fi (gP o A B) 48)) (fi (gP o A B) 48) 1, dL B (gC A B (fi (gP o A B) 48)) (fi (gP o A B) 48) 1, a + (1 - gC A B (fi (gP o A B) 48)), b + gC A B (fi (gP o A B) 48)) = _
  rw [fi_at (P := gP o A B) hp (fun i hi => decide_eq_false (by have := h1 i hi; omega)) (decide_eq_true h2)]
theorem gd_sum {A B : Nat → Nat} {p o : Nat} (h2 : o < A p + B p) (q : Nat) : dU A (gC A B p) p 1 q + dL B (gC A B p) p 1 q = if q = p then A q + B q - 1 else A q + B q := by
  unfold gC
  by_cases h : A p < B p
  · rw [if_pos h, dU_0, dL_0]
    by_cases e : q = p
    · subst e
      rw [if_pos rfl, if_pos rfl]
      omega
    · rw [if_neg e, if_neg e]
  · rw [if_neg h, dL_1, dU_1]
    by_cases e : q = p
    · subst e
      rw [if_pos rfl, if_pos rfl]
      omega
    · rw [if_neg e, if_neg e]
theorem ovS_d {A B A' B' : Nat → Nat} {o p : Nat} (hp : o < A p + B p) (h : ∀ q, A' q + B' q = if q = p then A q + B q - 1 else A q + B q) : ∀ n, ovS A' B' o n = if p < n then ovS A B o n - 1 else ovS A B o n
  | 0 => rfl
  | n + 1 => by
    have ih := ovS_d hp h n
    rw [ovS_s, ovS_s, ih, h n]
    by_cases e : n = p
    · subst e
      rw [if_pos rfl, if_neg (Nat.lt_irrefl _), if_pos (Nat.lt_succ_self _)]
      omega
    · rw [if_neg e]
      by_cases g : p < n
      · have : A p + B p - o ≤ ovS A B o n := by
          have k : ∀ m, p < m → A p + B p - o ≤ ovS A B o m := by
            intro m
            induction m with
            | zero => intro h; omega
            | succ m ihm =>
              intro hm
              rw [ovS_s]
              by_cases e : p = m
              · subst e; omega
              · have := ihm (by omega); omega
          exact k n g
        rw [if_pos g, if_pos (by omega)]
        omega
      · rw [if_neg g, if_neg (by omega)]
theorem ovS_0 {A B : Nat → Nat} {o : Nat} : ∀ n, (∀ i, i < n → A i + B i ≤ o) → ovS A B o n = 0
  | 0, _ => rfl
  | n + 1, h => by
    have := h n (by omega)
    rw [ovS_s, ovS_0 n (fun i hi => h i (by omega))]
    omega
theorem ovS_p {A B : Nat → Nat} {o : Nat} : ∀ n, 0 < ovS A B o n → ∃ i, i < n ∧ o < A i + B i
  | 0, h => by cases h
  | n + 1, h => by
    by_cases g : o < A n + B n
    · exact ⟨n, by omega, g⟩
    · rw [ovS_s] at h
      obtain ⟨i, h1, h2⟩ := ovS_p n (show 0 < ovS A B o n by omega)
      exact ⟨i, by omega, h2⟩
/-- what grind leaves on either side -/
def gXs (h g : Hp) (o : Nat) (U L : Nat → Nat) (k : Nat) : Prop := HX 40 g (gst o U L k).1 (gst o U L k).2.1 ∧ g 44 0 = h 44 0 + nI (gst o U L k).2.2.1 ∧ g 44 1 = h 44 1 + nI (gst o U L k).2.2.2 ∧ (∀ i, i ≠ 4 → g 40 i = h 40 i) ∧ Ex [40, 42, 43, 44] h g ∧ ovS (gst o U L k).1 (gst o U L k).2.1 o 48 + k = ovS U L o 48 ∧ (∀ i, i < 48 → (gst o U L k).1 i + (gst o U L k).2.1 i ≤ U i + L i)
def gMs (h g : Hp) (o : Nat) (U L : Nat → Nat) (k : Nat) : Prop := HM g (gst o U L k).1 (gst o U L k).2.1 ∧ g 201 0 = h 201 0 + nI (gst o U L k).2.2.1 ∧ g 201 1 = h 201 1 + nI (gst o U L k).2.2.2 ∧ Ex [200, 201] h g ∧ ovS (gst o U L k).1 (gst o U L k).2.1 o 48 + k = ovS U L o 48
theorem add_0n (x : Int32) : x = x + nI 0 := by rw [nI_0, Int32.add_zero]
theorem gXs_s {h g : Hp} {o : Nat} {U L : Nat → Nat} {k p : Nat} (S : gXs h g o U L k) (hp : p < 48) (h1 : ∀ i, i < p → (gst o U L k).1 i + (gst o U L k).2.1 i ≤ o) (h2 : o < (gst o U L k).1 p + (gst o U L k).2.1 p) (ho : g 1 p = 0) : ∃ g', mX3_wears 40 g (nI (gC (gst o U L k).1 (gst o U L k).2.1 p)) (nI p) 1 = some g' ∧ gXs h g' o U L (k + 1) := by
  obtain ⟨S1, S2, S3, S4, S5, S6, S7⟩ := S
  generalize hst : gst o U L k = st at *
  obtain ⟨A, B, a, b⟩ := st
  have es := gst_s hst hp h1 h2
  have hd : 1 ≤ hts A B (gC A B p) p := by
    unfold hts gC
    by_cases h9 : A p < B p
    · rw [if_pos h9, if_pos rfl]
      omega
    · rw [if_neg h9, if_neg (by decide)]
      have h2' : o < A p + B p := h2
      omega
  have hm : min 1 (hts A B (gC A B p) p) = 1 := by omega
  obtain ⟨g', w1, w2, w3, w4, w5, w6, w7⟩ := X_wears S1 (c := gC A B p) (p := p) (v := 1) (gC_lt _ _ _) hp (by omega) ho
  have w2' : HX 40 g' (dU A (gC A B p) p (min 1 (hts A B (gC A B p) p))) (dL B (gC A B p) p (min 1 (hts A B (gC A B p) p))) := w2
  rw [hm] at w2'
  have w3' : g' 44 (gC A B p) = g 44 (gC A B p) + nI (min 1 (hts A B (gC A B p) p)) := w3
  rw [hm] at w3'
  have w4' : g' 44 (1 - gC A B p) = g 44 (1 - gC A B p) := w4
  refine ⟨g', w1, ?_⟩
  unfold gXs
  rw [es]
  have hsum := gd_sum (A := A) (B := B) (p := p) (o := o) h2
  have hov := ovS_d (o := o) h2 hsum 48
  rw [if_pos hp] at hov
  have hpos : 0 < ovS A B o 48 := by
    by_cases z : ovS A B o 48 = 0
    · exfalso
      have k : ∀ m, p < m → 0 < ovS A B o m := by
        intro m
        induction m with
        | zero => intro h; omega
        | succ m ihm =>
          intro hm
          rw [ovS_s]
          by_cases e : p = m
          · subst e
            have h2' : o < A p + B p := h2
            omega
          · have := ihm (by omega); omega
      have := k 48 hp
      omega
    · omega
  refine ⟨w2', ?_, ?_, fun i hi => (w6 i hi).trans (S4 i hi), fun q hq => (w7 q hq).trans (S5 q hq), ?_, fun i hi => ?_⟩
  · show g' 44 0 = h 44 0 + nI (a + (1 - gC A B p))
    have hc := gC_lt A B p
    rcases nI2 hc with e | e
    · rw [e] at w3' ⊢
      rw [w3', show g 44 0 = h 44 0 + nI a from S2, Int32.add_assoc, nI_add]
    · rw [e] at w4' ⊢
      rw [show g' 44 0 = g 44 0 from w4']
      exact S2
  · show g' 44 1 = h 44 1 + nI (b + gC A B p)
    have hc := gC_lt A B p
    rcases nI2 hc with e | e
    · rw [e] at w4' ⊢
      rw [show g' 44 1 = g 44 1 from w4']
      exact S3
    · rw [e] at w3' ⊢
      rw [w3', show g 44 1 = h 44 1 + nI b from S3, Int32.add_assoc, nI_add]
  · show ovS (dU A (gC A B p) p 1) (dL B (gC A B p) p 1) o 48 + (k + 1) = _
    have S6' : ovS A B o 48 + k = ovS U L o 48 := S6
    rw [hov]
    omega
  · have S7' : A i + B i ≤ U i + L i := S7 i hi
    have := dU_le A (gC A B p) p 1 i
    have := dL_le B (gC A B p) p 1 i
    show dU A _ p 1 i + dL B _ p 1 i ≤ _
    omega
theorem gMs_s {h g : Hp} {o : Nat} {U L : Nat → Nat} {k p : Nat} (S : gMs h g o U L k) (hp : p < 48) (h1 : ∀ i, i < p → (gst o U L k).1 i + (gst o U L k).2.1 i ≤ o) (h2 : o < (gst o U L k).1 p + (gst o U L k).2.1 p) : ∃ g', mX5_takes1 g (nI (gC (gst o U L k).1 (gst o U L k).2.1 p)) (nI p) 1 = some g' ∧ gMs h g' o U L (k + 1) := by
  obtain ⟨S1, S2, S3, S5, S6⟩ := S
  generalize hst : gst o U L k = st at *
  obtain ⟨A, B, a, b⟩ := st
  have es := gst_s hst hp h1 h2
  have hd : 1 ≤ hts A B (gC A B p) p := by
    unfold hts gC
    by_cases h9 : A p < B p
    · rw [if_pos h9, if_pos rfl]
      omega
    · rw [if_neg h9, if_neg (by decide)]
      have h2' : o < A p + B p := h2
      omega
  obtain ⟨g', w1, w2, w3, w4, w7⟩ := M_takes1 S1 (c := gC A B p) (p := p) (d := 1) (gC_lt _ _ _) hp hd
  refine ⟨g', w1, ?_⟩
  unfold gMs
  rw [es]
  have hsum := gd_sum (A := A) (B := B) (p := p) (o := o) h2
  have hov := ovS_d (o := o) h2 hsum 48
  rw [if_pos hp] at hov
  have hpos : 0 < ovS A B o 48 := by
    by_cases z : ovS A B o 48 = 0
    · exfalso
      have k : ∀ m, p < m → 0 < ovS A B o m := by
        intro m
        induction m with
        | zero => intro h; omega
        | succ m ihm =>
          intro hm
          rw [ovS_s]
          by_cases e : p = m
          · subst e
            have h2' : o < A p + B p := h2
            omega
          · have := ihm (by omega); omega
      have := k 48 hp
      omega
    · omega
  refine ⟨w2, ?_, ?_, fun q hq => (w7 q hq).trans (S5 q hq), ?_⟩
  · show g' 201 0 = h 201 0 + nI (a + (1 - gC A B p))
    have hc := gC_lt A B p
    rcases nI2 hc with e | e
    · rw [e] at w3 ⊢
      rw [w3, show g 201 0 = h 201 0 + nI a from S2, Int32.add_assoc, nI_add]
    · rw [e] at w4 ⊢
      rw [show g' 201 0 = g 201 0 from w4]
      exact S2
  · show g' 201 1 = h 201 1 + nI (b + gC A B p)
    have hc := gC_lt A B p
    rcases nI2 hc with e | e
    · rw [e] at w4 ⊢
      rw [show g' 201 1 = g 201 1 from w4]
      exact S3
    · rw [e] at w3 ⊢
      rw [w3, show g 201 1 = h 201 1 + nI b from S3, Int32.add_assoc, nI_add]
  · show ovS (dU A (gC A B p) p 1) (dL B (gC A B p) p 1) o 48 + (k + 1) = _
    have S6' : ovS A B o 48 + k = ovS U L o 48 := S6
    rw [hov]
    omega
theorem ovS_le {U L : Nat → Nat} (hU : ∀ p, p < 48 → U p ≤ 25 ∧ L p ≤ 25) (o : Nat) : ∀ n, n ≤ 48 → ovS U L o n ≤ 50 * n
  | 0, _ => Nat.le_refl _
  | n + 1, hn => by
    have := ovS_le hU o n (by omega)
    have := hU n (by omega)
    rw [ovS_s]
    omega
theorem X_grind {h : Hp} {U L : Nat → Nat} (H : HX 40 h U L) {o : Nat} (ho : o ≤ 50) (hoff : ∀ i, i < 48 → ovP (h 1) U L o i = false) : R (mX0_grind h (nI o)) (fun r => r.1 = nI (ovS U L o 48) ∧ gXs h r.2 o U L (ovS U L o 48)) := by
  have hU := HU_of H
  have hSle := ovS_le hU o 48 (by omega)
  have hst : mX0_strokesTo h (nI o) = some (nI (ovS U L o 48)) := X_strokes H (by omega) (Or.inr ⟨hoff, rfl⟩)
  have hof : ∀ i, i < 48 → o < U i + L i → h 1 i = 0 := fun i hi hc => by
    have := hoff i hi
    unfold ovP at this
    rw [decide_eq_true hc] at this
    simpa using this
  have hne : ¬ nI (ovS U L o 48) = (-2 : Int32) := by
    intro e
    have h1 := congrArg Int32.toInt e
    rw [nI_toInt (by omega), show (-2 : Int32).toInt = -2 by decide] at h1
    omega
  unfold mX0_grind
  rw [X_isSum, nR_s (by omega) (by omega), cl1_s, bI_t, i10, hst, cl1_s, if_neg hne]
  simp only [nm_q]
  refine fx_R2 48 (fun j x g => x = nI j ∧ ∃ k, gXs h g o U L k ∧ ∀ i, i < j → (gst o U L k).1 i + (gst o U L k).2.1 i ≤ o) (by decide) ⟨rfl, 0, ⟨H, add_0n _, add_0n _, fun _ _ => rfl, Ex_r _ _, rfl, fun i _ => Nat.le_refl _⟩, fun i hi => by omega⟩ ?_
  rintro j x g kk hj ⟨rfl, k, hS, hD⟩ hk
  by_cases hj8 : j = 48
  · subst hj8
    rw [if_pos (show (48 : Int32) ≤ nI 48 by decide)]
    have e : k = ovS U L o 48 := by
      have := hS.2.2.2.2.2.1
      rw [ovS_0 48 hD] at this
      omega
    rw [← e]
    exact R_some ⟨rfl, hS⟩
  · have hj' : j < 48 := by omega
    rw [if_neg (nl48 hj')]
    refine fx_R1 2400 (fun m g => gXs h g o U L (k + m) ∧ ∀ i, i < j → (gst o U L (k + m)).1 i + (gst o U L (k + m)).2.1 i ≤ o) (by decide) ⟨hS, hD⟩ ?_
    rintro m g k2 hm ⟨hS, hD⟩ hk2
    have hv := HU_of hS.1 j hj'
    rw [X_sumR hS.1 hj', cl1_s]
    by_cases hc : (gst o U L (k + m)).1 j + (gst o U L (k + m)).2.1 j ≤ o
    · rw [if_pos (nI_le hc (by omega)), nI_1]
      refine hk (j + 1) _ _ (by omega) (by omega) ⟨rfl, k + m, hS, fun i hi => ?_⟩
      by_cases e : i = j
      · rw [e]; exact hc
      · exact hD i (by omega)
    · have h2 : o < (gst o U L (k + m)).1 j + (gst o U L (k + m)).2.1 j := by omega
      have hz : g 1 j = 0 := by
        rw [hS.2.2.2.2.1 1 (by decide)]
        exact hof j hj' (Nat.lt_of_lt_of_le h2 (hS.2.2.2.2.2.2 j hj'))
      obtain ⟨g', w1, w2⟩ := gXs_s hS hj' hD h2 hz
      have e6 := hS.2.2.2.2.2.1
      have hpos : 0 < ovS (gst o U L (k + m)).1 (gst o U L (k + m)).2.1 o 48 := by
        have e7 := w2.2.2.2.2.2.1
        by_cases z : ovS (gst o U L (k + m)).1 (gst o U L (k + m)).2.1 o 48 = 0
        · omega
        · omega
      have go : R (cl1 (mX3_wears 40 g (nI (gC (gst o U L (k + m)).1 (gst o U L (k + m)).2.1 j)) (nI j) 1) (fun h12 => k2 h12)) (fun r => r.1 = nI (ovS U L o 48) ∧ gXs h r.2 o U L (ovS U L o 48)) := by
        rw [w1, cl1_s]
        refine hk2 (m + 1) g' (by omega) (by omega) ⟨w2, fun i hi => ?_⟩
        have es := gst_s (o := o) (U := U) (L := L) (k := k + m) (A := (gst o U L (k + m)).1) (B := (gst o U L (k + m)).2.1) (a := (gst o U L (k + m)).2.2.1) (b := (gst o U L (k + m)).2.2.2) rfl hj' hD h2
        show (gst o U L (k + m + 1)).1 i + (gst o U L (k + m + 1)).2.1 i ≤ o
        rw [es]
        show dU _ _ j 1 i + dL _ _ j 1 i ≤ o
        rw [gd_sum h2 i, if_neg (by omega)]
        exact hD i hi
      rw [if_neg (nI_leN (by omega) (by omega) hc), ck_s hj' (by decide), ck_s hj' (by decide), nI_clamp (by omega), show g 43 j = nI ((gst o U L (k + m)).1 j) from (hS.1 j hj').2.2.1, show g 42 j = nI ((gst o U L (k + m)).2.1 j) from (hS.1 j hj').2.2.2]
      unfold gC at go
      by_cases c : (gst o U L (k + m)).1 j < (gst o U L (k + m)).2.1 j
      · rw [if_pos (nI_lt c (by omega))]
        rw [if_pos c] at go
        exact go
      · rw [if_neg (nI_nlt (by omega) (by omega))]
        rw [if_neg c] at go
        exact go
theorem M_grind {h : Hp} {U L : Nat → Nat} (H : HM h U L) {o : Nat} (ho : o ≤ 50) (hoff : ∀ i, i < 48 → ovP (h 202) U L o i = false) : R (mX5_grind h (nI o)) (fun r => r.1 = nI (ovS U L o 48) ∧ gMs h r.2 o U L (ovS U L o 48)) := by
  have hU := HV_of H
  have hSle := ovS_le hU o 48 (by omega)
  have hst : mX5_strokesTo h (nI o) = some (nI (ovS U L o 48)) := M_strokes H (by omega) (Or.inr ⟨hoff, rfl⟩)
  unfold mX5_grind
  rw [M_isSum, nR_s (by omega) (by omega), cl1_s, bI_t, i10, hst, cl1_s]
  simp only [nm_q]
  refine fx_R2 (ovS U L o 48) (fun j x g => x = nI j ∧ gMs h g o U L j) (by show ovS U L o 48 < 100000; omega) ⟨rfl, H, add_0n _, add_0n _, Ex_r _ _, rfl⟩ ?_
  rintro j x g kk hj ⟨rfl, hS⟩ hk
  by_cases hjS : j = ovS U L o 48
  · rw [if_pos (nI_le (by omega) (by omega)), ← hjS]
    exact R_some ⟨rfl, hS⟩
  · rw [if_neg (nI_ge (by omega) (by omega))]
    have hpos : 0 < ovS (gst o U L j).1 (gst o U L j).2.1 o 48 := by
      have := hS.2.2.2.2
      omega
    obtain ⟨i0, hi0, hi1⟩ := ovS_p 48 hpos
    obtain ⟨p, hp, hp1, hp2⟩ := first_ex (P := gP o (gst o U L j).1 (gst o U L j).2.1) ⟨i0, hi0, decide_eq_true hi1⟩
    have h2 : o < (gst o U L j).1 p + (gst o U L j).2.1 p := of_decide_eq_true hp1
    have h1 : ∀ i, i < p → (gst o U L j).1 i + (gst o U L j).2.1 i ≤ o := fun i hi => by
      have := of_decide_eq_false (hp2 i hi)
      omega
    refine fx_R1 p (fun i x => x = nI i) (by show p < 100000; omega) rfl ?_
    rintro i x k2 hi rfl hk2
    have hv := HV_of hS.1 i (by omega)
    rw [M_restAt hS.1 (show i < 48 by omega), cl1_s]
    by_cases e : i = p
    · subst e
      obtain ⟨g', w1, w2⟩ := gMs_s hS hp h1 h2
      have go : R (cl1 (mX5_takes1 g (nI (gC (gst o U L j).1 (gst o U L j).2.1 i)) (nI i) 1) (fun h16 => kk (nI j + 1) h16)) (fun r => r.1 = nI (ovS U L o 48) ∧ gMs h r.2 o U L (ovS U L o 48)) := by
        rw [w1, cl1_s, nI_1]
        exact hk (j + 1) _ _ (by omega) (by omega) ⟨rfl, w2⟩
      rw [if_pos (nI_lt h2 (by omega)), M_up hS.1 hp, cl1_s, M_lo hS.1 hp, cl1_s]
      unfold gC at go
      by_cases c : (gst o U L j).1 i < (gst o U L j).2.1 i
      · rw [if_pos (nI_lt c (by omega))]
        rw [if_pos c] at go
        exact go
      · rw [if_neg (nI_nlt (by omega) (by omega))]
        rw [if_neg c] at go
        exact go
    · rw [if_neg (nI_nlt (h1 i (by omega)) (by omega)), nI_1]
      exact hk2 (i + 1) _ (by omega) (by omega) rfl
theorem st_grind (LW : LWt) : St_grind (II LW) := by
  intro tt hx hm a0 H
  obtain ⟨⟨U, L, H1, H2⟩, Hw0, Hw1, Hx, Hn⟩ := H.1
  have HU : HX 40 hx U L := H1
  have HL : HM hm U L := fun p hp => ⟨(H1 p hp).1, (H1 p hp).2.1, (H2 p hp).2, (H2 p hp).1⟩
  cases h1 : nR a0 51 with
  | false =>
    unfold mX0_grind mX5_grind
    rw [X_isSum, M_isSum, h1]
    exact ⟨-1, hx, hm, rfl, rfl, H⟩
  | true =>
    obtain ⟨o, ho, _, e⟩ := nR_of h1
    subst e
    rcases first_of (ovP (hx 1) U L o) 48 with ⟨m, m1, m2, m3⟩ | hno
    · have hs : stk (hx 1) U L o (-2) := Or.inl ⟨m, m1, m2, m3, rfl⟩
      have hs2 : stk (hm 202) U L o (-2) := stk_c (fun i hi => (H.2.1 i hi).1) hs
      unfold mX0_grind mX5_grind
      rw [X_isSum, M_isSum, h1, cl1_s, cl1_s, bI_t, i10, i10, X_strokes HU (by omega) hs, M_strokes HL (by omega) hs2, cl1_s, cl1_s, if_pos rfl]
      refine ⟨-2, hx, hm, rfl, ?_, H⟩
      refine fx_g2 (fun _ => (0 : Int32)) (fun _ => hm) 0 rfl rfl (by decide) (fun j hj => by omega) (fun k => ?_)
      rw [if_pos (by decide)]
    · have hno2 : ∀ i, i < 48 → ovP (hm 202) U L o i = false := fun i hi => by
        have := hno i hi
        unfold ovP at this ⊢
        rw [← (H.2.1 i hi).1]
        exact this
      obtain ⟨⟨r, x⟩, p1, q1, S1, S2, S3, S4, S5, _⟩ := X_grind HU (by omega) hno
      obtain ⟨⟨r', y⟩, p2, q2, T1, T2, T3, T5, _⟩ := M_grind HL (by omega) hno2
      have e1 : r = nI (ovS U L o 48) := q1
      have e2 : r' = nI (ovS U L o 48) := q2
      subst e1 e2
      refine ⟨_, x, y, p1, p2, ?_⟩
      dsimp only at S1 S2 S3 S4 S5 T1 T2 T3 T5
      obtain ⟨_, J2, J3, J4, J5, J6⟩ := H
      refine ⟨⟨⟨_, _, S1, fun p hp => ⟨(T1 p hp).2.2.2, (T1 p hp).2.2.1⟩⟩, ?_, ?_, ?_, ?_⟩, ?_, ?_, ?_, ?_, ?_⟩
      · show x 44 0 = y 201 0
        rw [S2, T2, show hx 44 0 = hm 201 0 from Hw0]
      · show x 44 1 = y 201 1
        rw [S3, T3, show hx 44 1 = hm 201 1 from Hw1]
      · rw [show x 40 3 = hx 40 3 from S4 3 (by decide), show y 300 = hm 300 from T5 300 (by decide)]
        exact Hx
      · rw [show x 40 2 = hx 40 2 from S4 2 (by decide), show y 300 = hm 300 from T5 300 (by decide)]
        exact Hn
      · unfold IOff
        rw [S5 1 (by decide), T5 202 (by decide)]
        exact J2
      · unfold ITape
        rw [S5 100 (by decide), S5 8 (by decide), T5 205 (by decide), T5 300 (by decide)]
        exact J3
      · unfold IPath
        rw [S5 100 (by decide), S5 3 (by decide), T5 234 (by decide), T5 300 (by decide)]
        exact J4
      · unfold IKept
        rw [S5 100 (by decide), T5 255 (by decide), T5 300 (by decide)]
        rcases J5 with J5 | ⟨a, b, J5⟩
        · exact Or.inl J5
        · exact Or.inr ⟨a, b, BR_c (S5 60 (by decide)) (S5 62 (by decide)) (S5 63 (by decide)) (S5 64 (by decide)) J5⟩
      · rw [S5 70 (by decide), S5 71 (by decide), T5 222 (by decide), T5 223 (by decide), T5 224 (by decide), T5 225 (by decide), T5 226 (by decide), T5 300 (by decide)]
        exact J6
