/-! figure: the class -/
set_option maxRecDepth 100000
theorem fob {p q : Nat} (hp : p < 48) (hq : q < 48) : 0 ≤ fo p q ∧ fo p q ≤ 98 := by
  have a := cxb hp
  have b := cxb hq
  have h1 := mulb (a := cx p - cx q) (b := cx p - cx q) (by omega) (by omega)
  have h2 := mulb (a := cy p - cy q) (b := cy p - cy q) (by omega) (by omega)
  have h3 : 0 ≤ (cx p - cx q) * (cx p - cx q) := by
    rcases Int.le_total 0 (cx p - cx q) with h | h
    · exact Int.mul_nonneg h h
    · exact Int.mul_nonneg_of_nonpos_of_nonpos h h
  have h4 : 0 ≤ (cy p - cy q) * (cy p - cy q) := by
    rcases Int.le_total 0 (cy p - cy q) with h | h
    · exact Int.mul_nonneg h h
    · exact Int.mul_nonneg_of_nonpos_of_nonpos h h
  unfold fo
  omega
theorem X_farOff {p q : Nat} (hp : p < 48) (hq : q < 48) : mX0_farOff (nI p) (nI q) = some (iI (fo p q)) := by
  unfold mX0_farOff fo
  rw [r8 hp, r8 hq, q8 hp, q8 hq, iI_sub, iI_sub, iI_mul, iI_mul, iI_add]
theorem X_nextC {h : Hp} {P : Nat → Bool} {v : Nat} {κ : Nat → Nat} (hM : ∀ p, p < 48 → h 2 p = bI (P p)) (hv : v < 48) (hex : ∃ r, r < 48 ∧ P r = true ∧ r ≠ v) (H : KO P v κ) : R (mX0_nextCorner h (nI v)) (fun r => ∃ q, r = nI q ∧ NX P v κ q) := by
  unfold mX0_nextCorner
  refine fx_R2 48 (fun p x y => y = nI p ∧ ((x = -1 ∧ ∀ r, r < p → P r = true → r = v) ∨ ∃ b, x = nI b ∧ b < p ∧ P b = true ∧ b ≠ v ∧ ∀ r, r < p → P r = true → r ≠ v → κ b ≤ κ r ∧ (κ r = κ b → ds v r ≤ ds v b))) (by decide) ⟨rfl, Or.inl ⟨rfl, fun r hr => absurd hr (Nat.not_lt_zero r)⟩⟩ ?_
  rintro p x y k hp ⟨rfl, hI⟩ hk
  by_cases hp8 : p = 48
  · subst hp8
    rw [if_pos (show (48 : Int32) ≤ nI 48 by decide)]
    rcases hI with ⟨_, hI⟩ | ⟨b, e, h1, h2, h3, h4⟩
    · obtain ⟨r, r1, r2, r3⟩ := hex
      exact absurd (hI r r1 r2) r3
    · exact R_some ⟨b, e, h1, h2, h3, h4⟩
  · have hp' : p < 48 := by omega
    rw [if_neg (nl48 hp'), ck_s hp' (by decide), nI_clamp (by omega), hM p hp']
    refine R_let (fun x' => (x' = x ∧ ((P p = true → p = v) ∨ ∃ b, x = nI b ∧ b < p ∧ P b = true ∧ b ≠ v ∧ κ b ≤ κ p ∧ (κ p = κ b → ds v p ≤ ds v b))) ∨ (x' = nI p ∧ P p = true ∧ p ≠ v ∧ ∀ b, x = nI b → b < p → P b = true → b ≠ v → κ p ≤ κ b ∧ (κ b = κ p → ds v b ≤ ds v p))) ?_ ?_
    · rintro x' hx'
      rw [nI_1]
      refine hk (p + 1) _ _ (by omega) (by omega) ⟨rfl, ?_⟩
      rcases hx' with ⟨rfl, hx'⟩ | ⟨rfl, hP, hpv, hx'⟩
      · rcases hI with ⟨e, hI⟩ | ⟨b, e, h1, h2, h3, h4⟩
        · refine Or.inl ⟨e, fun r hr Pr => ?_⟩
          by_cases er : r = p
          · subst er
            rcases hx' with h9 | ⟨b, e9, hb9, _⟩
            · exact h9 Pr
            · exact absurd (e9.symm.trans e) (ne_m1 (by omega))
          · exact hI r (by omega) Pr
        · refine Or.inr ⟨b, e, by omega, h2, h3, fun r hr Pr nr => ?_⟩
          by_cases er : r = p
          · subst er
            rcases hx' with h9 | ⟨b', e9, hb9, _, _, h9⟩
            · exact absurd (h9 Pr) nr
            · have : b' = b := (nI_eq (by omega) (by omega)).mp (e9.symm.trans e)
              subst this
              exact h9
          · exact h4 r (by omega) Pr nr
      · refine Or.inr ⟨p, rfl, by omega, hP, hpv, fun r hr Pr nr => ?_⟩
        by_cases er : r = p
        · subst er
          exact ⟨Nat.le_refl _, fun _ => Nat.le_refl _⟩
        · rcases hI with ⟨e, hI⟩ | ⟨b, e, h1, h2, h3, h4⟩
          · exact absurd (hI r (by omega) Pr) nr
          · have a := hx' b e h1 h2 h3
            have c := h4 r (by omega) Pr nr
            exact ⟨by omega, fun e => by have := a.2 (by omega); have := c.2 (by omega); omega⟩
    · intro kk hkk
      cases hP : P p with
      | false =>
        rw [bI_f, i00]
        exact hkk _ (Or.inl ⟨rfl, Or.inl (fun h9 => by rw [hP] at h9; cases h9)⟩)
      | true =>
        rw [bI_t, i10]
        by_cases hpv : p = v
        · rw [if_pos (by rw [hpv])]
          exact hkk _ (Or.inl ⟨rfl, Or.inl (fun _ => hpv)⟩)
        · rw [if_neg (fun e => hpv ((nI_eq (by omega) (by omega)).mp e))]
          rcases hI with ⟨rfl, hI⟩ | ⟨b, rfl, h1, h2, h3, h4⟩
          · rw [nm_s, if_pos rfl]
            show R (nm (kk (nI p)) _) _
            rw [nm_s, if_pos (by decide)]
            exact hkk _ (Or.inr ⟨rfl, hP, hpv, fun b e hb => absurd e.symm (ne_m1 (by omega))⟩)
          · have hb8 : b < 48 := by omega
            have K := H b p hb8 hp' h2 hP h3 hpv
            have t1 := tnb hv hb8 hp'
            have f1 := fob hv hb8
            have f2 := fob hv hp'
            rw [nm_s, if_neg (ne_m1 (by omega)), X_turn hv hb8 hp', cl1_s]
            show R (nm (kk (nI p)) _) _
            rw [nm_s, X_farOff hv hp', X_farOff hv hb8]
            have bb : ∀ b', nI b = nI b' → b' < p → b' = b := fun b' e hb' => ((nI_eq (by omega) (by omega)).mp e).symm
            by_cases c1 : tn v b p < 0
            · rw [if_pos (show iI (tn v b p) < 0 from (iI_lt (b := 0) (by omega) (by omega)).mpr c1)]
              have := K.1.mp c1
              refine hkk _ (Or.inr ⟨rfl, hP, hpv, fun b' e hb' _ _ => ?_⟩)
              rw [bb b' e hb']
              exact ⟨by omega, fun e => by omega⟩
            · rw [if_neg (show ¬ iI (tn v b p) < 0 from fun e => c1 ((iI_lt (b := 0) (by omega) (by omega)).mp e))]
              by_cases c2 : tn v b p = 0
              · have e2 := K.2.1.mp c2
                have f := K.2.2 e2
                rw [if_pos (show iI (tn v b p) = 0 from (iI_eq (b := 0) (by omega) (by omega)).mpr c2), cl1_s, cl1_s]
                by_cases c3 : fo v p ≤ fo v b
                · rw [if_pos ((iI_le (by omega) (by omega)).mpr c3)]
                  exact hkk _ (Or.inl ⟨rfl, Or.inr ⟨b, rfl, h1, h2, h3, by omega, fun _ => by omega⟩⟩)
                · rw [if_neg (fun e => c3 ((iI_le (by omega) (by omega)).mp e))]
                  refine hkk _ (Or.inr ⟨rfl, hP, hpv, fun b' e hb' _ _ => ?_⟩)
                  rw [bb b' e hb']
                  exact ⟨by omega, fun _ => by omega⟩
              · rw [if_neg (show ¬ iI (tn v b p) = 0 from fun e => c2 ((iI_eq (b := 0) (by omega) (by omega)).mp e))]
                have k1 : ¬ κ p < κ b := fun e => c1 (K.1.mpr e)
                have k2 : ¬ κ p = κ b := fun e => c2 (K.2.1.mpr e)
                exact hkk _ (Or.inl ⟨rfl, Or.inr ⟨b, rfl, h1, h2, h3, by omega, fun e => absurd e k2⟩⟩)
theorem tn_crs (f v q : Nat) : tn f v q = crs v q + crs f v - crs f q := by
  unfold tn crs
  grind
theorem jabs_i {a : Int} (h : 0 ≤ a ∧ a < 2147483648) : jabs (iI a) = iI a := if_pos ((iI_le (a := 0) (by omega) (by omega)).mpr h.1)
theorem X_figL {h : Hp} {P : Nat → Bool} {f : Nat} (hM : ∀ p, p < 48 → h 2 p = bI (P p)) (hf : f < 48) (Pf : P f = true) (hn : ∀ s, s < f → P s = false) (h2 : ∃ r, r < 48 ∧ P r = true ∧ f < r) : R (fx FU (fun _ _ _ => none) (fun k28 (x2_6 : Int32) (x3_7 : Int32) (x4_8 : Int32) =>
nm (
some ((jabs x2_6), h)) (fun k71 =>
if (48 : Int32) ≤ x4_8 then (
k71) else (
nm (
cl1 (mX0_nextCorner h x3_7) (fun r10 =>
cl1 (mX0_turn (nI f) x3_7 r10) (fun r11 =>
nm ((x2_6 + r11)) (fun v13 =>
k28 v13 r10 (x4_8 + (1 : Int32)))))) (fun k45 =>
if x4_8 = 0 then (
k45) else (
if x3_7 = (nI f) then (
k71) else (
k45)))))) (0 : Int32) (nI f) (0 : Int32)) (fun r => r = (iI (tot P), h)) := by
  obtain ⟨a1, a2, a3⟩ := at_first hf hn
  have cff := (crs_y f f).2
  have ge : ∀ v, P v = true → f ≤ v := fun v Pv => by
    by_cases c : v < f
    · rw [hn v c] at Pv
      cases Pv
    · omega
  have oth : ∀ v, ∃ r, r < 48 ∧ P r = true ∧ r ≠ v := fun v => by
    by_cases c : v = f
    · obtain ⟨r, h1, h2, h3⟩ := h2
      exact ⟨r, h1, h2, by omega⟩
    · exact ⟨f, hf, Pf, fun e => c e.symm⟩
  refine fx_R3 48 (fun j x y z => z = nI j ∧ ∃ v, y = nI v ∧ v < 48 ∧ P v = true ∧ ((CU P v ∧ j = NU P v ∧ x = iI (SU P v - crs f v) ∧ 0 ≤ SU P v - crs f v ∧ SU P v - crs f v ≤ 98 * j) ∨ (CD P v ∧ 0 < j ∧ j = NU P 48 + ND P v ∧ x = iI (SU P 48 + SD P v - crs f v) ∧ 0 ≤ SU P 48 + SD P v - crs f v ∧ SU P 48 + SD P v - crs f v ≤ 98 * j))) (by decide) ⟨rfl, f, rfl, hf, Pf, Or.inl ⟨(fun r s hr _ _ Pr => by rw [hn r hr] at Pr; cases Pr), a2.symm, by rw [a1, cff]; rfl, by omega, by omega⟩⟩ ?_
  rintro j x y z k hj ⟨rfl, v, rfl, hv, Pv, hI⟩ hk
  rw [nm_s]
  -- one step to a next corner
  have go : ∀ (κ : Nat → Nat) (A : Int), KO P v κ → x = iI A → 0 ≤ A → A ≤ 98 * j → j < 48 → (∀ q, NX P v κ q → Eg P v q ∧ ∀ x', x' = iI (A + tn f v q) → 0 ≤ A + tn f v q → A + tn f v q ≤ 98 * (j + 1 : Nat) → R (k x' (nI q) (nI (j + 1))) (fun r => r = (iI (tot P), h))) → R (cl1 (mX0_nextCorner h (nI v)) (fun r10 => cl1 (mX0_turn (nI f) (nI v) r10) (fun r11 => nm (x + r11) (fun v13 => k v13 r10 (nI j + 1))))) (fun r => r = (iI (tot P), h)) := by
    intro κ A hK hx hA0 hA1 hj8 hq
    refine R_c1 (X_nextC hM hv (oth v) hK) ?_
    rintro r ⟨q, rfl, hN⟩
    have hq8 := hN.1
    obtain ⟨hE, hR⟩ := hq q hN
    have b := tnb hf hv hq8
    have e0 := (hE.2 f hf Pf).1
    rw [← tn_cy f v q] at e0
    rw [X_turn hf hv hq8, cl1_s, nm_s, hx, iI_add, nI_1]
    exact hR _ rfl (by omega) (by omega)
  have skip : ∀ (K K' : Option (Int32 × Hp)), (v = f → j = 0) → R K (fun r => r = (iI (tot P), h)) → R (if nI j = 0 then K else if nI v = nI f then K' else K) (fun r => r = (iI (tot P), h)) := by
    intro K K' hvf hK
    by_cases c : nI j = 0
    · rw [if_pos c]
      exact hK
    · rw [if_neg c, if_neg (fun e => c (by rw [hvf ((nI_eq (by omega) (by omega)).mp e)]; rfl))]
      exact hK
  rcases hI with ⟨C, ej, ex, l0, l1⟩ | ⟨C, j0, ej, ex, l0, l1⟩
  · have hj8 : j < 48 := by
      have := NU_lt (P := P) hv
      omega
    rw [if_neg (nl48 hj8), nm_s]
    refine skip _ _ (fun e => by rw [ej, e, a2]) ?_
    refine go (ku v) _ (KO_u hv C) ex l0 l1 hj8 (fun q hN => ?_)
    have hq8 := hN.1
    have hPq := hN.2.1
    have tc := tn_crs f v q
    by_cases hs : ∃ s, v < s ∧ s < 48 ∧ P s = true
    · obtain ⟨s, s1, s2, s3⟩ := hs
      have E := NX_u C hN s1 s2 s3
      have su := SU_s E Pv hPq hq8
      have nu := NU_s E Pv hPq hq8
      refine ⟨(Eg_u E.1 hq8).mpr E, fun x' e b0 b1 => hk (j + 1) _ _ _ (by omega) (by omega) ⟨rfl, q, rfl, hq8, hPq, Or.inl ⟨CU_s E hq8 Pv hPq, by omega, ?_, by omega, by omega⟩⟩⟩
      rw [e]
      congr 1
      omega
    · have hl : ∀ s, v < s → s < 48 → P s = false := fun s s1 s2 => by
        cases e : P s with
        | false => rfl
        | true => exact absurd ⟨s, s1, s2, e⟩ hs
      have E := NX_l hN hv hl
      have al := at_last (P := P) hv hl
      have su := SD_s E Pv hPq hv
      have nu := ND_s E Pv hPq hv
      refine ⟨(Eg_d E.1 hv).mpr E, fun x' e b0 b1 => hk (j + 1) _ _ _ (by omega) (by omega) ⟨rfl, q, rfl, hq8, hPq, Or.inr ⟨CD_s E hv Pv hPq, by omega, by omega, ?_, by omega, by omega⟩⟩⟩
      rw [e]
      congr 1
      omega
  · by_cases hvf : v = f
    · subst hvf
      have fin : R (some (jabs x, h)) (fun r => r = (iI (tot P), h)) := by
        refine R_some ?_
        rw [ex, jabs_i (by omega), a3, cff, Int.sub_zero]
      by_cases c8 : j = 48
      · rw [if_pos (by rw [c8]; decide)]
        exact fin
      · rw [if_neg (nl48 (by omega)), nm_s, if_neg (nI_ne0 j0 (by omega)), if_pos rfl]
        exact fin
    · have hfv : f < v := by
        have := ge v Pv
        omega
      have hj8 : j < 48 := by
        obtain ⟨r, e, q, rfl, hN⟩ := X_nextC hM hv (oth v) (KO_d hv C)
        have := ND_lt (NX_d C hN hv hfv Pf) hN.2.1 Pv hv
        omega
      rw [if_neg (nl48 hj8), nm_s]
      refine skip _ _ (fun e => absurd e hvf) ?_
      refine go (kd v) _ (KO_d hv C) ex l0 l1 hj8 (fun q hN => ?_)
      have hq8 := hN.1
      have hPq := hN.2.1
      have tc := tn_crs f v q
      have E := NX_d C hN hv hfv Pf
      have su := SD_s E Pv hPq hv
      have nu := ND_s E Pv hPq hv
      refine ⟨(Eg_d E.1 hv).mpr E, fun x' e b0 b1 => hk (j + 1) _ _ _ (by omega) (by omega) ⟨rfl, q, rfl, hq8, hPq, Or.inr ⟨CD_s E hv Pv hPq, by omega, by omega, ?_, by omega, by omega⟩⟩⟩
      rw [e]
      congr 1
      omega
theorem first_mk {P : Nat → Bool} : ∀ n, (∃ p, p < n ∧ P p = true) → ∃ f, f < n ∧ P f = true ∧ ∀ s, s < f → P s = false
  | 0, h => by
    obtain ⟨p, h, _⟩ := h
    omega
  | n + 1, h => by
    by_cases c : ∃ p, p < n ∧ P p = true
    · obtain ⟨f, h1, h2, h3⟩ := first_mk n c
      exact ⟨f, by omega, h2, h3⟩
    · obtain ⟨p, h1, h2⟩ := h
      have e : p = n := by
        by_cases e : p = n
        · exact e
        · exact absurd ⟨p, by omega, h2⟩ c
      subst e
      refine ⟨p, by omega, h2, fun s hs => ?_⟩
      cases e : P s with
      | false => rfl
      | true => exact absurd ⟨s, hs, e⟩ c
theorem cnt_two {P : Nat → Bool} {f : Nat} (hf : f < 48) (hn : ∀ s, s < f → P s = false) (h : 3 ≤ cnt P 48) : ∃ r, r < 48 ∧ P r = true ∧ f < r := by
  refine Classical.byContradiction (fun c => ?_)
  have h0 : cnt P f = 0 := cnt_z f hn
  have h1 : cnt P (f + 1) ≤ 1 := by
    cases e : P f with
    | true =>
      rw [cnt_st e]
      omega
    | false =>
      rw [cnt_sf e]
      omega
  have all : ∀ d, f + 1 + d ≤ 48 → cnt P (f + 1 + d) ≤ 1 := by
    intro d
    induction d with
    | zero => exact fun _ => h1
    | succ d ih =>
      intro hd
      rw [← Nat.add_assoc, cnt_sf]
      · exact ih (by omega)
      · cases e : P (f + 1 + d) with
        | false => rfl
        | true => exact absurd ⟨f + 1 + d, by omega, e, by omega⟩ c
  have := all (48 - (f + 1)) (by omega)
  rw [show f + 1 + (48 - (f + 1)) = 48 by omega] at this
  omega
theorem X_figure {h : Hp} {U L : Nat → Nat} (H : HX 40 h U L) : R (mX0_figure h) (fun r => r.1 = iI (tot (mk U L 31 0)) ∧ SX h r.2) := by
  unfold mX0_figure
  rw [show mX3_marks 40 h 31 0 = _ from X_mks H (by decide) (g := 31) (by decide), cl2_s]
  have hS : SX h (sN h 2 (fun p => bI (mk U L 31 0 p)) 48) := SX_e (Ex_sN _ _ _ _) (by decide)
  have hM : ∀ p, p < 48 → sN h 2 (fun p => bI (mk U L 31 0 p)) 48 2 p = bI (mk U L 31 0 p) := fun p hp => sN_k hp
  obtain ⟨f, hf, Pf, hn⟩ := first_mk 48 (mk_ex U L (g := 31) (by decide) 0)
  have hl := mks_le U L 31
  have em : mks U L 31 = cnt (mk U L 31 0) 48 := rfl
  generalize sN h 2 (fun p => bI (mk U L 31 0 p)) 48 = h3 at hS hM ⊢
  rw [em] at hl ⊢
  generalize mk U L 31 0 = P at hM Pf hn hl ⊢
  by_cases c : 3 ≤ cnt P 48
  · rw [if_pos (l_le (N := 3) (c := 3) rfl c (by omega)), X_first hM hf Pf hn, cl1_s]
    refine R_m (X_figL hM hf Pf hn (cnt_two hf hn c)) ?_
    rintro _ rfl
    exact ⟨rfl, hS⟩
  · rw [if_neg (l_ge (N := 3) (c := 3) rfl (by omega) (by decide))]
    refine R_some ⟨?_, hS⟩
    rw [tot_2 hf Pf hn (by omega)]
    rfl
