/-! what is ground: toLower, toBear, anywhere -/
set_option maxRecDepth 100000
def ovP (off : Nat → Int32) (U L : Nat → Nat) (lv p : Nat) : Bool := decide (lv < U p + L p) && decide (off p ≠ 0)
def ovS (U L : Nat → Nat) (lv : Nat) : Nat → Nat
  | 0 => 0
  | n + 1 => ovS U L lv n + (U n + L n - lv)
theorem ovS_s (U L : Nat → Nat) (lv n : Nat) : ovS U L lv (n + 1) = ovS U L lv n + (U n + L n - lv) := rfl
theorem M_max0s {a b : Nat} (ha : a < 2 ^ 30) (hb : b < 2 ^ 30) : mX5_max 0 (nI a - nI b) = some (nI (a - b)) := by
  rw [nI_sub, M_max0 (by omega), iI_n]
  congr 2
  omega
theorem jmax0s {a b : Nat} (ha : a < 2 ^ 30) (hb : b < 2 ^ 30) : jmax 0 (nI a - nI b) = nI (a - b) := by
  unfold jmax
  rw [nI_sub, iI_n]
  by_cases h : b < a
  · have hz : (0 : Int32) < iI ((a : Int) - b) := (iI_lt (a := 0) (by omega) (by omega)).mpr (by omega)
    rw [if_pos hz]
    congr 1
    omega
  · have hz : ¬ (0 : Int32) < iI ((a : Int) - b) := fun e => by
      have := (iI_lt (a := 0) (by omega) (by omega)).mp e
      omega
    rw [if_neg hz, show a - b = 0 by omega]
    rfl
theorem pos_sub {a b : Nat} (ha : a < 2 ^ 30) (hb : b < 2 ^ 30) : (0 : Int32) < nI a - nI b ↔ b < a := by
  rw [nI_sub]
  have h := iI_lt (a := 0) (b := (a : Int) - b) (by omega) (by omega)
  constructor
  · intro e
    have := h.mp e
    omega
  · intro e
    exact h.mpr (by omega)
theorem npos_sub {a b : Nat} (ha : a < 2 ^ 30) (hb : b < 2 ^ 30) : nI a - nI b ≤ (0 : Int32) ↔ a ≤ b := by
  rw [nI_sub]
  have h := iI_le (a := (a : Int) - b) (b := 0) (by omega) (by omega)
  constructor
  · intro e
    have := h.mp e
    omega
  · intro e
    exact h.mpr (by omega)
def stk (off : Nat → Int32) (U L : Nat → Nat) (lv : Nat) : Int32 → Prop := fun r => (∃ m, m < 48 ∧ ovP off U L lv m = true ∧ (∀ i, i < m → ovP off U L lv i = false) ∧ r = -2) ∨ ((∀ i, i < 48 → ovP off U L lv i = false) ∧ r = nI (ovS U L lv 48))
theorem stk_ex (off : Nat → Int32) (U L : Nat → Nat) (lv : Nat) : ∃ r, stk off U L lv r := by
  rcases first_of (ovP off U L lv) 48 with ⟨m, h1, h2, h3⟩ | h
  · exact ⟨-2, Or.inl ⟨m, h1, h2, h3, rfl⟩⟩
  · exact ⟨_, Or.inr ⟨h, rfl⟩⟩
theorem X_strokes {h : Hp} {U L : Nat → Nat} (H : HX 40 h U L) {lv : Nat} (hl : lv < 2 ^ 30) {r : Int32} (hr : stk (h 1) U L lv r) : mX0_strokesTo h (nI lv) = some r := by
  have hU := HU_of H
  unfold mX0_strokesTo
  have st : ∀ j, j < 48 → ∀ k : Int32 → Int32 → Option Int32, ovP (h 1) U L lv j = false → (cl1 (mX3_sumAt 40 h (nI j) 31) fun r4 => nm (r4 - nI lv) fun v5 => nm (fun x2_6 => k x2_6 (nI j + 1)) fun k49 => if 0 < v5 then ck (nI j) 48 (if h 1 (nI j).toNatClampNeg = 0 then nm (nI (ovS U L lv j) + v5) fun v7 => k49 v7 else some (-2)) else k49 (nI (ovS U L lv j))) = k (nI (ovS U L lv (j + 1))) (nI (j + 1)) := fun j hj k hp => by
    have a := hU j hj
    rw [X_sumR H hj, cl1_s]
    simp only [nm_s]
    rw [nI_1, ovS_s]
    unfold ovP at hp
    by_cases q : lv < U j + L j
    · have q2 : h 1 j = 0 := by
        rw [decide_eq_true q] at hp
        simpa using hp
      rw [if_pos ((pos_sub (by omega) hl).mpr q), ck_s hj (by decide), nI_clamp (by omega), if_pos q2, nI_subn (by omega), nI_add]
    · rw [if_neg (fun e => q ((pos_sub (by omega) hl).mp e)), show U j + L j - lv = 0 by omega]
      rfl
  rcases hr with ⟨m, h1, h2, h3, e⟩ | ⟨h1, e⟩
  · refine fx_g2 (fun j => nI (ovS U L lv j)) (fun j => nI j) m rfl rfl (by show m < 100000; omega) (fun j hj k => ?_) (fun k => ?_)
    · rw [if_neg (nl48 (by omega))]
      exact st j (by omega) k (h3 j hj)
    · have a := hU m h1
      unfold ovP at h2
      rw [Bool.and_eq_true] at h2
      have q := of_decide_eq_true h2.1
      have q2 := of_decide_eq_true h2.2
      rw [if_neg (nl48 h1), X_sumR H h1, cl1_s]
      simp only [nm_s]
      rw [if_pos ((pos_sub (by omega) hl).mpr q), ck_s h1 (by decide), nI_clamp (by omega), if_neg q2, e]
  · refine fx_g2 (fun j => nI (ovS U L lv j)) (fun j => nI j) 48 rfl rfl (by decide) (fun j hj k => ?_) (fun k => ?_)
    · rw [if_neg (nl48 (by omega))]
      exact st j (by omega) k (h1 j hj)
    · rw [if_pos (show (48 : Int32) ≤ nI 48 by decide), e]
theorem M_strokes {h : Hp} {U L : Nat → Nat} (H : HM h U L) {lv : Nat} (hl : lv < 2 ^ 30) {r : Int32} (hr : stk (h 202) U L lv r) : mX5_strokesTo h (nI lv) = some r := by
  have hU := HV_of H
  unfold mX5_strokesTo
  have st : ∀ j, j < 48 → ∀ k : Int32 → Int32 → Option Int32, ovP (h 202) U L lv j = false → (cl1 (mX5_restAt h (nI j)) fun r4 => nm (r4 - nI lv) fun v5 => nm (cl1 (mX5_max 0 v5) fun r6 => nm (nI (ovS U L lv j) + r6) fun v8 => k v8 (nI j + 1)) fun k36 => if v5 ≤ 0 then k36 else ck (nI j) 48 (if h 202 (nI j).toNatClampNeg = 0 then k36 else some (-2))) = k (nI (ovS U L lv (j + 1))) (nI (j + 1)) := fun j hj k hp => by
    have a := hU j hj
    rw [M_restAt H hj, cl1_s]
    simp only [nm_s]
    rw [M_max0s (by omega) hl, cl1_s, nI_1, ovS_s, nI_add]
    unfold ovP at hp
    by_cases q : lv < U j + L j
    · have q2 : h 202 j = 0 := by
        rw [decide_eq_true q] at hp
        simpa using hp
      rw [if_neg (fun e => by have := (npos_sub (by omega) hl).mp e; omega), ck_s hj (by decide), nI_clamp (by omega), if_pos q2]
    · rw [if_pos ((npos_sub (by omega) hl).mpr (by omega))]
  rcases hr with ⟨m, h1, h2, h3, e⟩ | ⟨h1, e⟩
  · refine fx_g2 (fun j => nI (ovS U L lv j)) (fun j => nI j) m rfl rfl (by show m < 100000; omega) (fun j hj k => ?_) (fun k => ?_)
    · rw [if_neg (nl48 (by omega))]
      exact st j (by omega) k (h3 j hj)
    · have a := hU m h1
      unfold ovP at h2
      rw [Bool.and_eq_true] at h2
      have q := of_decide_eq_true h2.1
      have q2 := of_decide_eq_true h2.2
      rw [if_neg (nl48 h1), M_restAt H h1, cl1_s]
      simp only [nm_s]
      rw [if_neg (fun e => by have := (npos_sub (by omega) hl).mp e; omega), ck_s h1 (by decide), nI_clamp (by omega), if_neg q2, e]
  · refine fx_g2 (fun j => nI (ovS U L lv j)) (fun j => nI j) 48 rfl rfl (by decide) (fun j hj k => ?_) (fun k => ?_)
    · rw [if_neg (nl48 (by omega))]
      exact st j (by omega) k (h1 j hj)
    · rw [if_pos (show (48 : Int32) ≤ nI 48 by decide), e]
theorem stk_c {o o' : Nat → Int32} {U L : Nat → Nat} {lv : Nat} {r : Int32} (e : ∀ i, i < 48 → o i = o' i) (h : stk o U L lv r) : stk o' U L lv r := by
  have ep : ∀ i, i < 48 → ovP o U L lv i = ovP o' U L lv i := fun i hi => by
    unfold ovP
    rw [e i hi]
  rcases h with ⟨m, h1, h2, h3, h4⟩ | ⟨h1, h2⟩
  · exact Or.inl ⟨m, h1, by rw [← ep m h1]; exact h2, fun i hi => by rw [← ep i (by omega)]; exact h3 i hi, h4⟩
  · exact Or.inr ⟨fun i hi => by rw [← ep i hi]; exact h1 i hi, h2⟩
theorem st_toLower (LW : LWt) : St_toLower (II LW) := by
  intro tt hx hm a0 H
  obtain ⟨U, L, HU, HL⟩ := BM_HX H.1
  unfold mX0_toLower mX5_toLower
  rw [X_isSum, M_isSum, cl1_s, cl1_s]
  cases h1 : nR a0 51 with
  | false => exact ⟨-1, rfl, rfl, H⟩
  | true =>
    obtain ⟨v, hv, _, e0⟩ := nR_of h1
    subst e0
    obtain ⟨r, hr⟩ := stk_ex (hx 1) U L v
    simp only [nm_s]
    rw [bI_t, i10, i10, X_strokes HU (by omega) hr, M_strokes HL (by omega) (stk_c (fun i hi => (H.2.1 i hi).1) hr), cl1_s]
    exact ⟨r, rfl, rfl, H⟩
/-- what a cast has over a height -/
def ovr (f : Nat → Nat) (k : Nat) : Nat → Nat
  | 0 => 0
  | n + 1 => ovr f k n + (f n - k)
theorem ovr_s (f : Nat → Nat) (k n : Nat) : ovr f k (n + 1) = ovr f k n + (f n - k) := rfl
theorem X_over {h : Hp} {U L : Nat → Nat} (H : HX 40 h U L) {c k : Nat} (hc : c < 2) (hk : k < 2 ^ 30) : mX0_overOf h (nI c) (nI k) = some (nI (ovr (if c = 0 then L else U) k 48)) := by
  have hU := HU_of H
  unfold mX0_overOf
  rw [ck_s hc (by decide)]
  refine fx_g2 (fun j => nI (ovr (if c = 0 then L else U) k j)) (fun j => nI j) 48 rfl rfl (by decide) (fun j hj kk => ?_) (fun kk => ?_)
  · simp only [nm_s]
    have e : h (42 + c) j = nI ((if c = 0 then L else U) j) := by
      have := X_heightAt H hc hj
      rw [show 40 + 2 + c = 42 + c from rfl] at this
      rw [this]
      split <;> rfl
    have b : (if c = 0 then L else U) j ≤ 25 := by
      have := hU j hj
      split <;> omega
    rw [if_neg (nl48 hj), ck_s hj (by decide), nI_clamp (by omega), nI_clamp (by omega), e, jmax0s (by omega) hk, nI_add, nI_1, ovr_s]
  · rw [if_pos (show (48 : Int32) ≤ nI 48 by decide)]
theorem M_above {h : Hp} {U L : Nat → Nat} (H : HM h U L) {c k : Nat} (hc : c < 2) (hk : k < 2 ^ 30) : mX5_above h (nI c) (nI k) = some (nI (ovr (if c = 0 then L else U) k 48)) := by
  have hU := HV_of H
  unfold mX5_above
  refine fx_g2 (fun j => nI (ovr (if c = 0 then L else U) k j)) (fun j => nI j) 48 rfl rfl (by decide) (fun j hj kk => ?_) (fun kk => ?_)
  · simp only [nm_s]
    have e : h 200 (48 * c + j) = nI ((if c = 0 then L else U) j) := by
      rw [M_heightAt H hc hj]
      split <;> rfl
    have b : (if c = 0 then L else U) j ≤ 25 := by
      have := hU j hj
      split <;> omega
    rw [if_neg (nl48 hj), mul48, ck_s (by omega) (by decide), nI_clamp (by omega), e, M_max0s (by omega) hk, cl1_s, nI_add, nI_1, ovr_s]
  · rw [if_pos (show (48 : Int32) ≤ nI 48 by decide)]
def mnv (F : Nat) (v : Nat → Nat) : Nat → Nat
  | 0 => F
  | n + 1 => min (mnv F v n) (v n)
theorem mnv_s (F : Nat) (v : Nat → Nat) (n : Nat) : mnv F v (n + 1) = min (mnv F v n) (v n) := rfl
theorem mnv_le (F : Nat) (v : Nat → Nat) : ∀ n, mnv F v n ≤ F
  | 0 => Nat.le_refl _
  | n + 1 => by
    have := mnv_le F v n
    rw [mnv_s]
    omega
theorem mnv_e {F F' : Nat} {v : Nat → Nat} (h1 : v 0 ≤ F) (h2 : v 0 ≤ F') : ∀ n, mnv F v (n + 1) = mnv F' v (n + 1)
  | 0 => by
    rw [mnv_s, mnv_s, mnv, mnv]
    omega
  | n + 1 => by
    rw [mnv_s, mnv_e h1 h2 n, ← mnv_s]
theorem mnv_k {F : Nat} {v : Nat → Nat} {k : Nat} : ∀ i, (∀ j, j < i → v k ≤ v (k + 1 + j)) → mnv F v (k + 1 + i) = mnv F v (k + 1)
  | 0, _ => rfl
  | i + 1, h => by
    rw [show k + 1 + (i + 1) = (k + 1 + i) + 1 by omega, mnv_s, mnv_k i (fun j hj => h j (by omega)), mnv_s]
    have := h i (by omega)
    omega
theorem ovr_0 {f : Nat → Nat} {k : Nat} (hk : 25 ≤ k) : ∀ n, n ≤ 48 → (∀ p, p < 48 → f p ≤ 25) → ovr f k n = 0
  | 0, _, _ => rfl
  | n + 1, hn, h => by
    have := h n (by omega)
    rw [ovr_s, ovr_0 hk n (by omega) h]
    omega
theorem ovr_m (f : Nat → Nat) {k k' : Nat} (h : k ≤ k') : ∀ n, ovr f k' n ≤ ovr f k n
  | 0 => Nat.le_refl _
  | n + 1 => by
    have := ovr_m f h n
    rw [ovr_s, ovr_s]
    omega
theorem ovr_le {f : Nat → Nat} (k : Nat) : ∀ n, n ≤ 48 → (∀ p, p < 48 → f p ≤ 25) → ovr f k n ≤ 25 * n
  | 0, _, _ => Nat.le_refl _
  | n + 1, hn, h => by
    have := h n (by omega)
    have := ovr_le k n (by omega) h
    rw [ovr_s]
    omega
theorem st_anywhere (LW : LWt) : St_anywhere (II LW) := by
  intro tt hx hm a0 H
  obtain ⟨U, L, HU, HL⟩ := BM_HX H.1
  have hU := HU_of HU
  unfold mX0_anywhere mX5_anywhere
  rw [X_isSum, M_isSum, cl1_s, cl1_s]
  cases h1 : nR a0 51 with
  | false => exact ⟨-1, rfl, rfl, H⟩
  | true =>
    obtain ⟨s, hs, _, e0⟩ := nR_of h1
    subst e0
    rw [bI_t, i10, i10]
    have hv : ∀ k, ovr U k 48 + ovr L (s - k) 48 ≤ 2400 := fun k => by
      have a := ovr_le (f := U) k 48 (by omega) (fun p hp => (hU p hp).1)
      have b := ovr_le (f := L) (s - k) 48 (by omega) (fun p hp => (hU p hp).2)
      omega
    have key : mnv 268435456 (fun k => ovr U k 48 + ovr L (s - k) 48) (min s 25 + 1) = mnv 1000000 (fun k => ovr U k 48 + ovr L (s - k) 48) (s + 1) := by
      rw [mnv_e (F := 268435456) (F' := 1000000) (Nat.le_trans (hv 0) (by omega)) (Nat.le_trans (hv 0) (by omega))]
      by_cases q : s ≤ 25
      · rw [Nat.min_eq_left q]
      · rw [Nat.min_eq_right (by omega)]
        have := mnv_k (F := 1000000) (v := fun k => ovr U k 48 + ovr L (s - k) 48) (k := 25) (s - 25) (fun j _ => by
          have a := ovr_0 (f := U) (k := 25) (by omega) 48 (by omega) (fun p hp => (hU p hp).1)
          have b := ovr_m L (show s - (25 + 1 + j) ≤ s - 25 by omega) 48
          show ovr U 25 48 + ovr L (s - 25) 48 ≤ ovr U (25 + 1 + j) 48 + ovr L (s - (25 + 1 + j)) 48
          omega)
        rw [← this]
        congr 1
        omega
    refine ⟨nI (mnv 1000000 (fun k => ovr U k 48 + ovr L (s - k) 48) (s + 1)), ?_, ?_, H⟩
    · rw [← key, show (25 : Int32) = nI 25 from rfl, jmin_s (by omega) (by omega)]
      refine fx_g2 (fun j => nI (mnv 268435456 (fun k => ovr U k 48 + ovr L (s - k) 48) j)) (fun j => nI j) (min s 25 + 1) rfl rfl (by show min s 25 + 1 < 100000; omega) (fun j hj k => ?_) (fun k => ?_)
      · have hb := mnv_le 268435456 (fun k => ovr U k 48 + ovr L (s - k) 48) j
        have hc := hv j
        rw [if_neg (nI_nlt (by omega) (by omega)), nI_subn (by omega)]
        rw [show mX0_overOf hx 1 (nI j) = some (nI (ovr U j 48)) from X_over HU (c := 1) (by omega) (by omega)]
        rw [show mX0_overOf hx 0 (nI (s - j)) = some (nI (ovr L (s - j) 48)) from X_over HU (c := 0) (by omega) (by omega)]
        simp only [cl1_s, nm_s]
        rw [nI_add, jmin_s (by omega) (by omega), nI_1, mnv_s]
      · rw [if_pos (nI_lt (by omega) (by omega))]
    · refine fx_g2 (fun j => nI (mnv 1000000 (fun k => ovr U k 48 + ovr L (s - k) 48) j)) (fun j => nI j) (s + 1) rfl rfl (by show s + 1 < 100000; omega) (fun j hj k => ?_) (fun k => ?_)
      · have hb := mnv_le 1000000 (fun k => ovr U k 48 + ovr L (s - k) 48) j
        have hc := hv j
        rw [if_neg (nI_nlt (by omega) (by omega)), nI_subn (by omega)]
        rw [show mX5_above hm 1 (nI j) = some (nI (ovr U j 48)) from M_above HL (c := 1) (by omega) (by omega)]
        rw [show mX5_above hm 0 (nI (s - j)) = some (nI (ovr L (s - j) 48)) from M_above HL (c := 0) (by omega) (by omega)]
        simp only [cl1_s]
        rw [nI_add, M_min (by omega) (by omega), cl1_s, nI_1, mnv_s]
      · rw [if_pos (nI_lt (by omega) (by omega))]
