/-! glide -/
set_option maxRecDepth 100000
def fcs (g p : Nat) : Bool := (fcg p g).isSome
theorem fc_some : ∀ g : Fin 63, ∃ p : Fin 48, fcs g.val p.val = true := by decide +kernel
theorem facing_n : ∀ g : Fin 63, mX5_facing (sA g.val) (sB g.val) = some (nI (cnt (fcs g.val) 48)) := by decide +kernel
theorem mxo_at (U L : Nat → Nat) (g : Nat) : ∀ n, mxo U L g n = 0 ∨ ∃ p q, p < n ∧ fcg p g = some q ∧ mxo U L g n = U p + L q
  | 0 => Or.inl rfl
  | n + 1 => by
    rcases mxo_at U L g n with h | ⟨p, q, h1, h2, h3⟩
    · rw [mxo]
      cases hf : fcg n g with
      | none => exact Or.inl h
      | some q =>
        refine Or.inr ⟨n, q, by omega, hf, ?_⟩
        show max _ _ = _
        omega
    · rw [mxo]
      cases hf : fcg n g with
      | none => exact Or.inr ⟨p, q, by omega, h2, h3⟩
      | some r =>
        by_cases hc : mxo U L g n ≤ U n + L r
        · exact Or.inr ⟨n, r, by omega, hf, by show max _ _ = _; omega⟩
        · exact Or.inr ⟨p, q, by omega, h2, by show max _ _ = _; omega⟩
theorem mk_ex (U L : Nat → Nat) {g : Nat} (hg : g < 63) (pp : Nat) : ∃ p, p < 48 ∧ mk U L g pp p = true := by
  rcases mxo_at U L g 48 with h | ⟨p, q, h1, h2, h3⟩
  · obtain ⟨p, hp⟩ := fc_some ⟨g, hg⟩
    refine ⟨p.val, p.isLt, ?_⟩
    unfold mk
    unfold fcs at hp
    cases hf : fcg p.val g with
    | none => rw [hf] at hp; cases hp
    | some q => exact decide_eq_true (by omega)
  · refine ⟨p, h1, ?_⟩
    unfold mk
    rw [h2]
    exact decide_eq_true (by omega)
theorem first_ex {P : Nat → Bool} {n : Nat} (h : ∃ p, p < n ∧ P p = true) : ∃ m, m < n ∧ P m = true ∧ ∀ i, i < m → P i = false := by
  rcases first_of P n with H | H
  · exact H
  · obtain ⟨p, hp, h2⟩ := h
    rw [H p hp] at h2
    cases h2
theorem X_first {h : Hp} {P : Nat → Bool} (hP : ∀ p, p < 48 → h 2 p = bI (P p)) {m : Nat} (hm : m < 48) (h1 : P m = true) (h2 : ∀ i, i < m → P i = false) : mX0_firstMarked h = some (nI m) := by
  unfold mX0_firstMarked
  refine fx_g1 (fun j => nI j) m rfl (by show m < 100000; omega) (fun j hj k => ?_) (fun k => ?_)
  · rw [ck_s (show j < 48 by omega) (by decide), nI_clamp (by omega), hP j (by omega), h2 j hj, bI_f, i00, nI_1]
  · rw [ck_s hm (by decide), nI_clamp (by omega), hP m hm, h1, bI_t, i10]
theorem M_first {h : Hp} {P : Nat → Bool} (hP : ∀ p, p < 48 → h 242 p = bI (P p)) {m : Nat} (hm : m < 48) (h1 : P m = true) (h2 : ∀ i, i < m → P i = false) : mX5_firstMarked h = some (nI m) := by
  unfold mX5_firstMarked
  simp only [nm_s]
  refine fx_g1 (fun j => nI j) m rfl (by show m < 100000; omega) (fun j hj k => ?_) (fun k => ?_)
  · rw [ck_s (show j < 48 by omega) (by decide), nI_clamp (by omega), hP j (by omega), h2 j hj, bI_f, i00, nI_1]
  · rw [ck_s hm (by decide), nI_clamp (by omega), hP m hm, h1, bI_t, i10]
theorem X_faced (h : Hp) {g : Nat} (hg : g < 63) : mX0_faced h (nI g) = some (nI (cnt (fcs g) 48)) := by
  unfold mX0_faced
  refine fx_g2 (fun j => nI (cnt (fcs g) j)) (fun j => nI j) 48 rfl rfl (by decide) (fun j hj k => ?_) (fun k => ?_)
  · simp only [nm_s]
    rw [if_neg (nl48 hj), facing_s hj hg, cl1_s, nI_1]
    cases hf : fcg j g with
    | none => rw [show on1 none = -1 from rfl, if_pos rfl, Int32.add_zero, show cnt (fcs g) (j + 1) = cnt (fcs g) j from by rw [cnt, fcs, hf]; rfl]
    | some q =>
      have hq := fcg_lt hf
      rw [show on1 (some q) = nI q from rfl, if_neg (ne_m1 (by omega)), nI_1, show cnt (fcs g) (j + 1) = cnt (fcs g) j + 1 from by rw [cnt, fcs, hf]; rfl]
  · rw [if_pos (show (48 : Int32) ≤ nI 48 by decide)]
/-- the least sum of the places below n, F without one -/
def mnf (F : Nat) (U L : Nat → Nat) (g : Nat) : Nat → Nat
  | 0 => F
  | n + 1 => match fcg n g with
    | none => mnf F U L g n
    | some q => min (mnf F U L g n) (U n + L q)
theorem mnf_le (F : Nat) (U L : Nat → Nat) (g : Nat) : ∀ n, mnf F U L g n ≤ F
  | 0 => Nat.le_refl _
  | n + 1 => by
    have ih := mnf_le F U L g n
    unfold mnf
    cases fcg n g with
    | none => exact ih
    | some q => show min _ _ ≤ F; omega
theorem mnf_e {F F' : Nat} {U L : Nat → Nat} {g : Nat} (hU : ∀ p, p < 48 → U p ≤ 25 ∧ L p ≤ 25) (h1 : 50 ≤ F) (h2 : 50 ≤ F') : ∀ n, n ≤ 48 → (∃ p, p < n ∧ fcs g p = true) → mnf F U L g n = mnf F' U L g n ∧ mnf F U L g n ≤ 50
  | 0, _, ⟨p, hp, _⟩ => absurd hp (Nat.not_lt_zero _)
  | n + 1, hn, ⟨p, hp, hq⟩ => by
    unfold mnf
    cases hf : fcg n g with
    | none =>
      refine mnf_e hU h1 h2 n (by omega) ⟨p, ?_, hq⟩
      by_cases e : p = n
      · rw [e, fcs, hf] at hq; cases hq
      · omega
    | some q =>
      have a := hU n (by omega)
      have b := hU q (fcg_lt hf)
      show min _ _ = min _ _ ∧ min _ _ ≤ 50
      by_cases hx : ∃ p, p < n ∧ fcs g p = true
      · have ih := mnf_e hU h1 h2 n (by omega) hx
        omega
      · have e : ∀ F m, m ≤ n → mnf F U L g m = F := by
          intro F m
          induction m with
          | zero => intro _; rfl
          | succ m ih =>
            intro hm
            rw [mnf]
            cases hf : fcg m g with
            | none => exact ih (by omega)
            | some r => exact absurd ⟨m, by omega, by rw [fcs, hf]; rfl⟩ hx
        rw [e F n (by omega), e F' n (by omega)]
        omega
theorem X_widest {h : Hp} {U L : Nat → Nat} (H : HX 40 h U L) {g : Nat} (hg : g < 63) : mX0_widest h (nI g) = some (nI (mxo U L g 48) - nI (mnf 268435456 U L g 48)) := by
  have hU := HU_of H
  unfold mX0_widest
  refine fx_g2 (fun j => nI (mnf 268435456 U L g j)) (fun j => nI j) 48 rfl rfl (by decide) (fun j hj k => ?_) (fun k => ?_)
  · simp only [nm_s]
    have hb := mnf_le 268435456 U L g j
    rw [if_neg (nl48 hj), facing_s hj hg, cl1_s, nI_1]
    cases hf : fcg j g with
    | none => rw [show on1 none = -1 from rfl, if_pos rfl, show mnf 268435456 U L g (j + 1) = mnf 268435456 U L g j from by rw [mnf]; rw [hf]]
    | some q =>
      have hq := fcg_lt hf
      have h1 := hU j hj
      have h2 := hU q hq
      rw [show on1 (some q) = nI q from rfl, if_neg (ne_m1 (by omega)), X_sumAt H hj hg hf, cl1_s, jmin_s (by omega) (by omega), show mnf 268435456 U L g (j + 1) = min (mnf 268435456 U L g j) (U j + L q) from by rw [mnf]; rw [hf]]
  · rw [if_pos (show (48 : Int32) ≤ nI 48 by decide), X_opening H hg, cl1_s]
theorem M_gap {h : Hp} {U L : Nat → Nat} (H : HM h U L) {g : Nat} (hg : g < 63) : mX5_greatestGap h (sA g) (sB g) = some (nI (mxo U L g 48) - nI (mnf 1000000 U L g 48)) := by
  have hU := HV_of H
  unfold mX5_greatestGap
  refine fx_g2 (fun j => nI (mnf 1000000 U L g j)) (fun j => nI j) 48 rfl rfl (by decide) (fun j hj k => ?_) (fun k => ?_)
  · simp only [nm_s]
    have hb := mnf_le 1000000 U L g j
    rw [if_neg (nl48 hj), against_s hj hg, cl1_s, nI_1]
    cases hf : fcg j g with
    | none => rw [show on1 none = -1 from rfl, if_pos rfl, show mnf 1000000 U L g (j + 1) = mnf 1000000 U L g j from by rw [mnf]; rw [hf]]
    | some q =>
      have hq := fcg_lt hf
      have h1 := hU j hj
      have h2 := hU q hq
      rw [show on1 (some q) = nI q from rfl, if_neg (ne_m1 (by omega)), M_sumAt H hj hg, cl1_s, hf]
      show cl1 (mX5_min _ (nI (U j + L q))) _ = _
      rw [M_min (by omega) (by omega), cl1_s, show mnf 1000000 U L g (j + 1) = min (mnf 1000000 U L g j) (U j + L q) from by rw [mnf]; rw [hf]]
  · rw [if_pos (show (48 : Int32) ≤ nI 48 by decide), M_opening H hg, cl1_s]
theorem SX_2 (h : Hp) (f : Nat → Int32) (n : Nat) : SX h (sN h 2 f n) := SX_e (Ex_sN h 2 f n) (by decide)
theorem SM_242 (h : Hp) (f : Nat → Int32) (n : Nat) : SM h (sN h 242 f n) := SM_e (Ex_sN h 242 f n) (by decide)
theorem st_glide (LW : LWt) : St_glide (II LW) := by
  intro tt hx hm a0 a1 a2 a3 H
  obtain ⟨U, L, HU, HL⟩ := BM_HX H.1
  unfold mX0_glide mX5_glide
  rw [X_isGlide, M_isGlide, X_isSum, M_isSum]
  simp only [nm_s, cl1_s]
  cases h1 : gR a0 a1 with
  | false => exact ⟨_, hx, hm, rfl, rfl, H⟩
  | true =>
    cases h2 : nR a2 51 with
    | false => exact ⟨_, hx, hm, rfl, rfl, H⟩
    | true =>
      obtain ⟨g, hg, e0, e1, e3, e4⟩ := gR_of h1
      obtain ⟨pp, hp, _, e2⟩ := nR_of h2
      rw [e3]
      subst e0 e1 e2
      simp only [bI_t, i10, cl1_s]
      rw [X_marks HU (by omega) hg (by omega), cl2_s]
      have HU' : HX 40 (sN hx 2 (fun p => bI (mk U L g pp p)) 48) U L := HX_c (sN_n (by omega)) (sN_n (by omega)) HU
      have sx := SX_2 hx (fun p => bI (mk U L g pp p)) 48
      have sm := SM_242 hm (fun p => bI (mk U L g pp p)) 48
      by_cases c0 : a3 = 0
      · rw [if_pos c0, if_pos c0, X_opening HU' hg, M_opening HL hg, cl1_s, cl1_s]
        exact ⟨_, _, _, rfl, rfl, II_same sx (SM_r _) H⟩
      rw [if_neg c0, if_neg c0]
      by_cases c1 : a3 = 1
      · rw [if_pos c1, if_pos c1, M_marks HL hg (by omega), cl2_s]
        exact ⟨_, _, _, rfl, rfl, II_same sx sm H⟩
      rw [if_neg c1, if_neg c1]
      by_cases c2 : a3 = 2
      · rw [if_pos c2, if_pos c2, M_marks HL hg (by omega), cl2_s]
        obtain ⟨m, m1, m2, m3⟩ := first_ex (mk_ex U L hg pp)
        rw [X_first (fun p hp => sN_k hp) m1 m2 m3, M_first (fun p hp => sN_k hp) m1 m2 m3, cl1_s, cl1_s]
        exact ⟨_, _, _, rfl, rfl, II_same sx sm H⟩
      rw [if_neg c2, if_neg c2]
      by_cases c3 : a3 = 3
      · rw [if_pos c3, if_pos c3, X_faced _ hg, facing_n ⟨g, hg⟩, cl1_s, cl1_s]
        exact ⟨_, _, _, rfl, rfl, II_same sx (SM_r _) H⟩
      rw [if_neg c3, if_neg c3]
      by_cases c4 : a3 = 4
      · rw [if_pos c4, if_pos c4, X_widest HU' hg, M_gap HL hg, cl1_s, cl1_s]
        obtain ⟨p, hp⟩ := fc_some ⟨g, hg⟩
        rw [(mnf_e (HU_of HU) (F := 268435456) (F' := 1000000) (by omega) (by omega) 48 (by omega) ⟨p.val, p.isLt, hp⟩).1]
        exact ⟨_, _, _, rfl, rfl, II_same sx (SM_r _) H⟩
      rw [if_neg c4, if_neg c4]
      exact ⟨_, _, _, rfl, rfl, II_same sx (SM_r _) H⟩
