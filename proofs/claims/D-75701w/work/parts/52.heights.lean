/-! heights, sums, openings -/
set_option maxRecDepth 100000
theorem facing_s {p g : Nat} (hp : p < 48) (hg : g < 63) : mX0_facing (nI p) (nI g) = some (on1 (fcg p g)) := facing_f ⟨p, hp⟩ ⟨g, hg⟩
theorem against_s {p g : Nat} (hp : p < 48) (hg : g < 63) : mX5_against (nI p) (sA g) (sB g) = some (on1 (fcg p g)) := against_f ⟨p, hp⟩ ⟨g, hg⟩
def HX (b : Nat) (h : Hp) (U L : Nat → Nat) : Prop := ∀ p, p < 48 → U p ≤ 25 ∧ L p ≤ 25 ∧ h (b + 3) p = nI (U p) ∧ h (b + 2) p = nI (L p)
def HM (h : Hp) (U L : Nat → Nat) : Prop := ∀ p, p < 48 → U p ≤ 25 ∧ L p ≤ 25 ∧ h 200 (48 + p) = nI (U p) ∧ h 200 p = nI (L p)
/-- the greatest sum of the places below n in a glide -/
def mxo (U L : Nat → Nat) (g : Nat) : Nat → Nat
  | 0 => 0
  | n + 1 => match fcg n g with
    | none => mxo U L g n
    | some q => max (mxo U L g n) (U n + L q)
theorem mxo_le {U L : Nat → Nat} {g : Nat} (hU : ∀ p, p < 48 → U p ≤ 25 ∧ L p ≤ 25) : ∀ n, n ≤ 48 → mxo U L g n ≤ 50
  | 0, _ => by unfold mxo; omega
  | n + 1, hn => by
    unfold mxo
    have ih := mxo_le (g := g) hU n (by omega)
    cases hf : fcg n g with
    | none => exact ih
    | some q =>
      have h1 := hU n (by omega)
      have h2 := hU q (fcg_lt hf)
      show max _ _ ≤ 50
      omega
theorem X_sumAt {b : Nat} {h : Hp} {U L : Nat → Nat} (H : HX b h U L) {p g q : Nat} (hp : p < 48) (hg : g < 63) (hf : fcg p g = some q) : mX3_sumAt b h (nI p) (nI g) = some (nI (U p + L q)) := by
  have hq := fcg_lt hf
  unfold mX3_sumAt
  rw [ck_s hp (by decide), facing_s hp hg, hf, cl1_s]
  show ck (nI q) 48 _ = _
  rw [ck_s hq (by decide), nI_clamp (by omega)]
  show some (h (b + 3) p + h (b + 2) (nI q).toNatClampNeg) = _
  rw [nI_clamp (by omega), (H p hp).2.2.1, (H q hq).2.2.2, nI_add]
theorem jmax_s {a b : Nat} (ha : a < 2 ^ 31) (hb : b < 2 ^ 31) : jmax (nI a) (nI b) = nI (max a b) := by
  unfold jmax
  by_cases h : a < b
  · rw [if_pos ((nI_ltI ha hb).mpr h), Nat.max_eq_right (by omega)]
  · rw [if_neg (fun e => h ((nI_ltI ha hb).mp e)), Nat.max_eq_left (by omega)]
theorem jmin_s {a b : Nat} (ha : a < 2 ^ 31) (hb : b < 2 ^ 31) : jmin (nI a) (nI b) = nI (min a b) := by
  unfold jmin
  by_cases h : b < a
  · rw [if_pos ((nI_ltI hb ha).mpr h), Nat.min_eq_right (by omega)]
  · rw [if_neg (fun e => h ((nI_ltI hb ha).mp e)), Nat.min_eq_left (by omega)]
theorem X_opening {b : Nat} {h : Hp} {U L : Nat → Nat} (H : HX b h U L) {g : Nat} (hg : g < 63) : mX3_opening b h (nI g) = some (nI (mxo U L g 48)) := by
  have hU : ∀ p, p < 48 → U p ≤ 25 ∧ L p ≤ 25 := fun p hp => ⟨(H p hp).1, (H p hp).2.1⟩
  unfold mX3_opening
  refine fx_for2 (fun j => nI (mxo U L g j)) (fun j => nI j) 48 (by decide) (fun j hj k => ?_) (fun k => ?_)
  · have hb := mxo_le (g := g) hU j (by omega)
    simp only [nm_s]
    rw [if_neg (nl48 hj), facing_s hj hg, cl1_s]
    cases hf : fcg j g with
    | none =>
      rw [show on1 none = -1 from rfl, if_pos rfl, nI_1]
      show _ = k (nI (mxo U L g (j + 1))) _
      rw [show mxo U L g (j + 1) = mxo U L g j by rw [mxo]; rw [hf]]
    | some q =>
      have hq := fcg_lt hf
      have h1 := hU j hj
      have h2 := hU q hq
      rw [show on1 (some q) = nI q from rfl, if_neg (ne_m1 (by omega)), X_sumAt H hj hg hf, cl1_s, jmax_s (by omega) (by omega), nI_1]
      show _ = k (nI (mxo U L g (j + 1))) _
      rw [show mxo U L g (j + 1) = max (mxo U L g j) (U j + L q) by rw [mxo]; rw [hf]]
  · simp only [nm_s]
    rw [if_pos (show (48 : Int32) ≤ nI 48 by decide)]
theorem M_up {h : Hp} {U L : Nat → Nat} (H : HM h U L) {p : Nat} (hp : p < 48) : mX5_upperAt h (nI p) = some (nI (U p)) := by
  unfold mX5_upperAt
  simp only [nm_s]
  rw [show (48 : Int32) + nI p = nI (48 + p) from nI_add 48 p, ck_s (by omega) (by decide), nI_clamp (by omega), (H p hp).2.2.1]
theorem M_lo {h : Hp} {U L : Nat → Nat} (H : HM h U L) {p : Nat} (hp : p < 48) : mX5_lowerAt h (nI p) = some (nI (L p)) := by
  unfold mX5_lowerAt
  rw [ck_s (by omega) (by decide), nI_clamp (by omega), (H p hp).2.2.2]
theorem M_sumAt {h : Hp} {U L : Nat → Nat} (H : HM h U L) {p g : Nat} (hp : p < 48) (hg : g < 63) : mX5_sumAt h (nI p) (sA g) (sB g) = some (match fcg p g with | none => -1 | some q => nI (U p + L q)) := by
  unfold mX5_sumAt
  simp only [nm_s]
  rw [against_s hp hg, cl1_s]
  cases hf : fcg p g with
  | none => rw [show on1 none = -1 from rfl, if_pos rfl]
  | some q =>
    have hq := fcg_lt hf
    rw [show on1 (some q) = nI q from rfl, if_neg (ne_m1 (by omega)), M_up H hp, cl1_s, M_lo H hq, cl1_s, nI_add]
theorem M_max {a b : Nat} (ha : a < 2 ^ 31) (hb : b < 2 ^ 31) : mX5_max (nI a) (nI b) = some (nI (max a b)) := by
  unfold mX5_max
  simp only [nm_s]
  by_cases h : a ≤ b
  · rw [if_pos ((nI_leI ha hb).mpr h), Nat.max_eq_right h]
  · rw [if_neg (fun e => h ((nI_leI ha hb).mp e)), Nat.max_eq_left (by omega)]
theorem M_min {a b : Nat} (ha : a < 2 ^ 31) (hb : b < 2 ^ 31) : mX5_min (nI a) (nI b) = some (nI (min a b)) := by
  unfold mX5_min
  simp only [nm_s]
  by_cases h : b ≤ a
  · rw [if_pos ((nI_leI hb ha).mpr h), Nat.min_eq_right h]
  · rw [if_neg (fun e => h ((nI_leI hb ha).mp e)), Nat.min_eq_left (by omega)]
theorem M_max1 {a : Nat} (ha : a < 2 ^ 31) : mX5_max (nI a) (-1) = some (nI a) := by
  unfold mX5_max
  simp only [nm_s]
  rw [if_neg]
  intro h
  have h1 := Int32.le_iff_toInt_le.mp h
  rw [nI_toInt ha, show (-1 : Int32).toInt = -1 by decide] at h1
  omega
theorem M_opening {h : Hp} {U L : Nat → Nat} (H : HM h U L) {g : Nat} (hg : g < 63) : mX5_opening h (sA g) (sB g) = some (nI (mxo U L g 48)) := by
  have hU : ∀ p, p < 48 → U p ≤ 25 ∧ L p ≤ 25 := fun p hp => ⟨(H p hp).1, (H p hp).2.1⟩
  unfold mX5_opening
  refine fx_for2 (fun j => nI (mxo U L g j)) (fun j => nI j) 48 (by decide) (fun j hj k => ?_) (fun k => ?_)
  · have hb := mxo_le (g := g) hU j (by omega)
    rw [if_neg (nl48 hj), M_sumAt H hj hg, cl1_s]
    cases hf : fcg j g with
    | none =>
      show cl1 (mX5_max _ (-1)) _ = _
      rw [M_max1 (by omega), cl1_s, nI_1]
      show _ = k (nI (mxo U L g (j + 1))) _
      rw [show mxo U L g (j + 1) = mxo U L g j by rw [mxo]; rw [hf]]
    | some q =>
      have h1 := hU j hj
      have h2 := hU q (fcg_lt hf)
      show cl1 (mX5_max _ (nI _)) _ = _
      rw [M_max (by omega) (by omega), cl1_s, nI_1]
      show _ = k (nI (mxo U L g (j + 1))) _
      rw [show mxo U L g (j + 1) = max (mxo U L g j) (U j + L q) by rw [mxo]; rw [hf]]
  · rw [if_pos (show (48 : Int32) ≤ nI 48 by decide)]
