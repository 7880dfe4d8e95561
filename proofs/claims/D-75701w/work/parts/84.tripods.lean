/-! tripods -/
set_option maxRecDepth 100000
noncomputable def g3 (P : Nat → Bool) (a b c : Nat) : Nat := if P a && P b && P c && triB a b c then 1 else 0
theorem g3_z {P : Nat → Bool} {a b c : Nat} (h : P a = false ∨ P b = false ∨ P c = false) : g3 P a b c = 0 := by
  unfold g3
  rcases h with h | h | h <;> rw [h] <;> simp
theorem g3_t {P : Nat → Bool} {a b c : Nat} (h1 : P a = true) (h2 : P b = true) (h3 : P c = true) : g3 P a b c = if triB a b c then 1 else 0 := by
  unfold g3
  rw [h1, h2, h3]
  rfl
theorem smN_0 {f : Nat → Nat} : ∀ n, (∀ i, i < n → f i = 0) → smN f n = 0
  | 0, _ => rfl
  | n + 1, h => by rw [smN_s, smN_0 n (fun i hi => h i (by omega)), h n (by omega)]
theorem triB_rev (a b c : Nat) : triB c b a = triB a b c := bo_c (tri_rev c b a)
noncomputable def s1 (P : Nat → Bool) (b c n : Nat) : Nat := smN (fun a => g3 P a b c) n
noncomputable def s2 (P : Nat → Bool) (c n : Nat) : Nat := smN (fun b => s1 P b c b) n
noncomputable def s3 (P : Nat → Bool) (n : Nat) : Nat := smN (fun c => s2 P c c) n
theorem X_tripods {h : Hp} {U L : Nat → Nat} (H : HX 40 h U L) : R (mX0_tripods h) (fun r => r.1 = nI (s3 (mk U L 31 0) 48) ∧ SX h r.2) := by
  unfold mX0_tripods
  rw [show mX3_marks 40 h 31 0 = _ from X_mks H (by decide) (g := 31) (by decide), cl2_s]
  have hS : SX h (sN h 2 (fun p => bI (mk U L 31 0 p)) 48) := SX_e (Ex_sN _ _ _ _) (by decide)
  have hM : ∀ p, p < 48 → sN h 2 (fun p => bI (mk U L 31 0 p)) 48 2 p = bI (mk U L 31 0 p) := fun p hp => sN_k hp
  generalize sN h 2 (fun p => bI (mk U L 31 0 p)) 48 = h3 at hS hM
  generalize mk U L 31 0 = P at hM
  refine fx_R2 48 (fun c n x => x = nI c ∧ n = nI (s3 P c)) (by decide) ⟨rfl, rfl⟩ ?_
  rintro c n x k hc ⟨rfl, rfl⟩ hk
  by_cases hc8 : c = 48
  · subst hc8
    rw [if_pos (show (48 : Int32) ≤ nI 48 by decide)]
    exact R_some ⟨rfl, hS⟩
  · have hc' : c < 48 := by omega
    rw [if_neg (nl48 hc')]
    refine fx_R2 c (fun b n x => x = nI b ∧ n = nI (s3 P c + s2 P c b)) (by show c < 100000; omega) ⟨rfl, rfl⟩ ?_
    rintro b n x k2 hb ⟨rfl, rfl⟩ hk2
    by_cases hbc : b = c
    · subst hbc
      rw [if_pos (nI_le (Nat.le_refl _) (by omega)), nI_1]
      exact hk (b + 1) _ _ (by omega) (by omega) ⟨rfl, rfl⟩
    · rw [if_neg (nI_ge (by omega) (by omega))]
      refine fx_R2 b (fun a n x => x = nI a ∧ n = nI (s3 P c + s2 P c b + s1 P b c a)) (by show b < 100000; omega) ⟨rfl, rfl⟩ ?_
      rintro a n x k3 ha ⟨rfl, rfl⟩ hk3
      rw [nm_s]
      have out : s1 P b c a = s1 P b c b → R (k2 (nI (s3 P c + s2 P c b + s1 P b c a)) (nI b + 1)) (fun r => r.1 = nI (s3 P 48) ∧ SX h r.2) := fun e => by
        rw [e, nI_1]
        exact hk2 (b + 1) _ _ (by omega) (by omega) ⟨rfl, by rw [Nat.add_assoc]; rfl⟩
      by_cases hab : a = b
      · rw [if_pos (nI_le (show b ≤ a by omega) (by omega))]
        exact out (by rw [hab])
      · rw [if_neg (nI_ge (by omega) (by omega)), ck_s hc' (by decide), nI_clamp (by omega), hM c hc']
        cases hPc : P c with
        | false =>
          rw [bI_f, i00]
          exact out (by unfold s1; rw [smN_0 a (fun i _ => g3_z (Or.inr (Or.inr hPc))), smN_0 b (fun i _ => g3_z (Or.inr (Or.inr hPc)))])
        | true =>
          rw [bI_t, i10, ck_s (show b < 48 by omega) (by decide), nI_clamp (by omega), hM b (by omega)]
          cases hPb : P b with
          | false =>
            rw [bI_f, i00]
            exact out (by unfold s1; rw [smN_0 a (fun i _ => g3_z (Or.inr (Or.inl hPb))), smN_0 b (fun i _ => g3_z (Or.inr (Or.inl hPb)))])
          | true =>
            rw [bI_t, i10, ck_s (show a < 48 by omega) (by decide), nI_clamp (by omega), hM a (by omega), X_isTripod hc' (show b < 48 by omega) (show a < 48 by omega), triB_rev a b c]
            simp only [nm_q, cl1_q]
            rw [nI_1, Int32.add_zero, nI_1]
            have es : s1 P b c (a + 1) = s1 P b c a + g3 P a b c := rfl
            cases hPa : P a with
            | false =>
              rw [bI_f, i00]
              rw [g3_z (Or.inl hPa), Nat.add_zero] at es
              exact hk3 (a + 1) _ _ (by omega) (by omega) ⟨rfl, by rw [es]; rfl⟩
            | true =>
              rw [bI_t, i10]
              rw [g3_t hPa hPb hPc] at es
              cases ht : triB a b c with
              | false =>
                rw [bI_f, i00]
                rw [ht] at es
                exact hk3 (a + 1) _ _ (by omega) (by omega) ⟨rfl, by rw [es]; rfl⟩
              | true =>
                rw [bI_t, i10]
                rw [ht] at es
                exact hk3 (a + 1) _ _ (by omega) (by omega) ⟨rfl, by rw [es]; rfl⟩
/-- sums over the marked places behind one -/
theorem sm_gap {F : Nat → Nat} {x : Nat} : ∀ d, (∀ c, x < c → c < x + 1 + d → F c = 0) → smN F (x + 1 + d) = smN F x + F x
  | 0, _ => rfl
  | d + 1, h => by
    show smN F (x + 1 + d) + F (x + 1 + d) = _
    rw [sm_gap d (fun c h1 h2 => h c h1 (by omega)), h (x + 1 + d) (by omega) (by omega), Nat.add_zero]
theorem TCH_s {P : Nat → Bool} {T : Nat → Nat} {n m : Nat} (H : TCH P T n m) {F : Nat → Nat} (hF : ∀ c, P c = false → F c = 0) {i : Nat} (hi : i < n) : smN F (T (i + 1)) = smN F (T i) + F (T i) := by
  have h1 := (H.2.1 i hi).1
  have := sm_gap (F := F) (x := T i) (T (i + 1) - (T i + 1)) (fun c a b => hF c (H.2.2.1 i c hi a (by omega)))
  rw [show T i + 1 + (T (i + 1) - (T i + 1)) = T (i + 1) by omega] at this
  exact this
theorem TCH_m {P : Nat → Bool} {T : Nat → Nat} {n m : Nat} (H : TCH P T n m) : ∀ d i, i + d ≤ n → T i + d ≤ T (i + d)
  | 0, i, _ => Nat.le_refl _
  | d + 1, i, h => by
    have := TCH_m H d i (by omega)
    have := (H.2.1 (i + d) (by omega)).1
    show T i + (d + 1) ≤ T (i + d + 1)
    omega
/-- what lies behind a place: nought up to the next marked one -/
theorem TCH_0 {P : Nat → Bool} {T : Nat → Nat} {n m : Nat} (H : TCH P T n m) {F : Nat → Nat} (hF : ∀ c, P c = false → F c = 0) {i : Nat} (hi : i < n) (hz : ∀ c, c ≤ T i → F c = 0) : smN F (T (i + 1)) = 0 := by
  rw [TCH_s H hF hi, smN_0 (T i) (fun c hc => hz c (by omega)), hz _ (Nat.le_refl _)]
noncomputable def m1 (P : Nat → Bool) (a b n : Nat) : Nat := smN (fun c => if b < c then g3 P a b c else 0) n
noncomputable def m2 (P : Nat → Bool) (a n : Nat) : Nat := smN (fun b => if a < b then m1 P a b 48 else 0) n
noncomputable def m3 (P : Nat → Bool) (n : Nat) : Nat := smN (fun a => m2 P a 48) n
theorem smN_sw {F : Nat → Nat → Nat} : ∀ n m, smN (fun a => smN (fun b => F a b) m) n = smN (fun b => smN (fun a => F a b) n) m
  | 0, m => (smN_0 m (fun _ _ => rfl)).symm
  | n + 1, m => by
    rw [smN_s, smN_sw n m]
    have : ∀ k, smN (fun b => smN (fun a => F a b) n) k + smN (fun b => F n b) k = smN (fun b => smN (fun a => F a b) (n + 1)) k := by
      intro k
      induction k with
      | zero => rfl
      | succ k ih =>
        rw [smN_s, smN_s, smN_s, ← ih, smN_s]
        omega
    exact this m
theorem smN_if {f : Nat → Nat} {b : Nat} : ∀ n, smN (fun a => if a < b then f a else 0) n = smN f (min b n)
  | 0 => by rw [Nat.min_eq_right (Nat.zero_le _)]; rfl
  | n + 1 => by
    rw [smN_s, smN_if n]
    by_cases h : n < b
    · rw [if_pos h, Nat.min_eq_right (by omega), Nat.min_eq_right (by omega)]
      rfl
    · rw [if_neg h, Nat.min_eq_left (by omega), Nat.min_eq_left (by omega), Nat.add_zero]
theorem s3_m3 (P : Nat → Bool) : s3 P 48 = m3 P 48 := by
  have e1 : s3 P 48 = smN (fun c => smN (fun b => smN (fun a => if a < b then (if b < c then g3 P a b c else 0) else 0) 48) 48) 48 := smN_c 48 (fun c hc => by
    have : s2 P c c = smN (fun b => if b < c then s1 P b c b else 0) 48 := by
      rw [smN_if, Nat.min_eq_left (by omega)]
      rfl
    show s2 P c c = _
    rw [this]
    refine smN_c 48 (fun b hb => ?_)
    by_cases h : b < c
    · rw [if_pos h]
      have : s1 P b c b = smN (fun a => if a < b then g3 P a b c else 0) 48 := by
        rw [smN_if, Nat.min_eq_left (by omega)]
        rfl
      rw [this]
      refine smN_c 48 (fun a ha => ?_)
      by_cases h2 : a < b
      · rw [if_pos h2, if_pos h2, if_pos h]
      · rw [if_neg h2, if_neg h2]
    · rw [if_neg h]
      refine (smN_0 48 (fun a ha => ?_)).symm
      by_cases h2 : a < b
      · rw [if_pos h2, if_neg h]
      · rw [if_neg h2])
  have e2 : m3 P 48 = smN (fun a => smN (fun b => smN (fun c => if a < b then (if b < c then g3 P a b c else 0) else 0) 48) 48) 48 := smN_c 48 (fun a ha => by
    refine smN_c 48 (fun b hb => ?_)
    by_cases h : a < b
    · rw [if_pos h]
      refine smN_c 48 (fun c hc => ?_)
      rw [if_pos h]
    · rw [if_neg h]
      refine (smN_0 48 (fun c hc => ?_)).symm
      rw [if_neg h])
  rw [e1, e2]
  have e3 : smN (fun c => smN (fun b => smN (fun a => if a < b then (if b < c then g3 P a b c else 0) else 0) 48) 48) 48 = smN (fun c => smN (fun a => smN (fun b => if a < b then (if b < c then g3 P a b c else 0) else 0) 48) 48) 48 := smN_c 48 (fun c _ => smN_sw 48 48)
  rw [e3, smN_sw 48 48]
  exact smN_c 48 (fun a _ => smN_sw 48 48)
/-- what the reference has laid -/
def TL (P : Nat → Bool) (T : Nat → Nat) (n : Nat) (g : Hp) : Prop := TCH P T n 48 ∧ n ≤ 48 ∧ g 300 50 = nI n ∧ ∀ i, i < n → g 249 i = nI (T i)
theorem TL_lt {P : Nat → Bool} {T : Nat → Nat} {n : Nat} {g : Hp} (H : TL P T n g) {i : Nat} (hi : i < n) : T i < 48 := by
  have := TCH_lt H.1 (n - (i + 1)) (i + 1) (by omega)
  have := (H.1.2.1 i hi).1
  omega
theorem pM_249 : ∀ k, k ∈ pM → k ∉ [242, 249, 300] := by decide
theorem fM_50 : ∀ k, k ∈ fM → k ≠ 50 := by decide
theorem M_tripods {h : Hp} {U L : Nat → Nat} (H : HM h U L) : R (mX5_tripods h) (fun r => r.1 = nI (m3 (mk U L 31 0) 48) ∧ SM h r.2 ∧ ∃ T n, TL (mk U L 31 0) T n r.2) := by
  unfold mX5_tripods
  refine R_c1 (M_lays50 H) ?_
  rintro g ⟨T, n, hT, hn, h50, h249, hE, ho⟩
  have hS : SM h g := ⟨fun z hz => hE z (pM_249 z hz), fun i hi => ho i (fM_50 i hi)⟩
  generalize mk U L 31 0 = P at hT
  have hTL : TL P T n g := ⟨hT, hn, h50, h249⟩
  have fin : R (some (nI (m3 P 48), g)) (fun r => r.1 = nI (m3 P 48) ∧ SM h r.2 ∧ ∃ T n, TL P T n r.2) := R_some ⟨rfl, hS, T, n, hTL⟩
  refine fx_R2 n (fun i s x => x = nI i ∧ s = nI (m3 P (T i))) (by show n < 100000; omega) ⟨rfl, ?_⟩ ?_
  · have : m3 P (T 0) = 0 := smN_0 (T 0) (fun a ha => smN_0 48 (fun b hb => by
      by_cases c : a < b
      · rw [if_pos c]
        exact smN_0 48 (fun c' _ => by rw [g3_z (Or.inl (hT.2.2.2 a ha))]; split <;> rfl)
      · rw [if_neg c]))
    rw [this]
    rfl
  rintro i s x k hi ⟨rfl, rfl⟩ hk
  rw [h50]
  by_cases hin : i = n
  · subst hin
    rw [if_pos (nI_le (Nat.le_refl _) (by omega)), hT.1]
    exact fin
  · have hi' : i < n := by omega
    have hPi := (hT.2.1 i hi').2
    have hTi := TL_lt hTL hi'
    rw [if_neg (nI_ge (by omega) (by omega)), nm_s, nI_1]
    have z2 : ∀ b, P b = false → (if T i < b then m1 P (T i) b 48 else 0) = 0 := fun b hb => by
      by_cases c : T i < b
      · rw [if_pos c]
        exact smN_0 48 (fun c' _ => by rw [g3_z (Or.inr (Or.inl hb))]; split <;> rfl)
      · rw [if_neg c]
    refine fx_R2 (n - (i + 1)) (fun d s x => x = nI (i + 1 + d) ∧ s = nI (m3 P (T i) + m2 P (T i) (T (i + 1 + d)))) (by show n - (i + 1) < 100000; omega) ⟨rfl, ?_⟩ ?_
    · have : m2 P (T i) (T (i + 1)) = 0 := TCH_0 hT z2 hi' (fun b hb => by rw [if_neg (by omega)])
      show nI (m3 P (T i)) = nI (m3 P (T i) + m2 P (T i) (T (i + 1)))
      rw [this]
      rfl
    rintro d s x k2 hd ⟨rfl, rfl⟩ hk2
    by_cases hdn : i + 1 + d = n
    · rw [hdn, if_pos (nI_le (Nat.le_refl _) (by omega)), hT.1]
      have es : m3 P (T (i + 1)) = m3 P (T i) + m2 P (T i) 48 := TCH_s hT (F := fun a => m2 P a 48) (fun a ha => smN_0 48 (fun b _ => by
        by_cases c : a < b
        · rw [if_pos c]
          exact smN_0 48 (fun c' _ => by rw [g3_z (Or.inl ha)]; split <;> rfl)
        · rw [if_neg c])) hi'
      exact hk (i + 1) _ _ (by omega) (by omega) ⟨rfl, by rw [es]⟩
    · have hj' : i + 1 + d < n := by omega
      have hPj := (hT.2.1 _ hj').2
      have hTj := TL_lt hTL hj'
      have hij : T i < T (i + 1 + d) := by
        have := TCH_m hT (1 + d) i (by omega)
        rw [show i + (1 + d) = i + 1 + d by omega] at this
        omega
      generalize hjj : i + 1 + d = j at *
      rw [if_neg (nI_ge (by omega) (by omega)), nm_s, nI_1]
      have z1 : ∀ c, P c = false → (if T j < c then g3 P (T i) (T j) c else 0) = 0 := fun c hc => by rw [g3_z (Or.inr (Or.inr hc))]; split <;> rfl
      refine fx_R2 (n - (j + 1)) (fun e s x => x = nI (j + 1 + e) ∧ s = nI (m3 P (T i) + m2 P (T i) (T j) + m1 P (T i) (T j) (T (j + 1 + e)))) (by show n - (j + 1) < 100000; omega) ⟨rfl, ?_⟩ ?_
      · have : m1 P (T i) (T j) (T (j + 1)) = 0 := TCH_0 hT z1 hj' (fun b hb => by rw [if_neg (by omega)])
        show nI _ = nI (_ + m1 P (T i) (T j) (T (j + 1)))
        rw [this]
        rfl
      rintro e s x k3 he ⟨rfl, rfl⟩ hk3
      by_cases hen : j + 1 + e = n
      · rw [hen, if_pos (nI_le (Nat.le_refl _) (by omega)), hT.1]
        have es : m2 P (T i) (T (j + 1)) = m2 P (T i) (T j) + m1 P (T i) (T j) 48 := by
          have := TCH_s hT (F := fun b => if T i < b then m1 P (T i) b 48 else 0) z2 hj'
          rw [if_pos hij] at this
          exact this
        exact hk2 (d + 1) _ _ (by omega) (by omega) ⟨by rw [show i + 1 + (d + 1) = j + 1 by omega], by rw [show i + 1 + (d + 1) = j + 1 by omega, es, Nat.add_assoc]⟩
      · have hk' : j + 1 + e < n := by omega
        have hPk := (hT.2.1 _ hk').2
        have hTk := TL_lt hTL hk'
        have hjk : T j < T (j + 1 + e) := by
          have := TCH_m hT (1 + e) j (by omega)
          rw [show j + (1 + e) = j + 1 + e by omega] at this
          omega
        generalize hkk : j + 1 + e = k9 at *
        rw [if_neg (nI_ge (by omega) (by omega)), ck_s (show i < 48 by omega) (by decide), ck_s (show j < 48 by omega) (by decide), ck_s (show k9 < 48 by omega) (by decide), nI_clamp (by omega), nI_clamp (by omega), nI_clamp (by omega), h249 i hi', h249 j hj', h249 k9 hk', M_holds hTi hTj hTk, cl1_s, nI_1]
        simp only [nm_q]
        rw [nI_1]
        have es : m1 P (T i) (T j) (T (k9 + 1)) = m1 P (T i) (T j) (T k9) + if triB (T i) (T j) (T k9) then 1 else 0 := by
          have := TCH_s hT (F := fun c => if T j < c then g3 P (T i) (T j) c else 0) z1 hk'
          rw [if_pos hjk, g3_t hPi hPj hPk] at this
          exact this
        cases ht : triB (T i) (T j) (T k9) with
        | false =>
          rw [bI_f, i00]
          rw [ht] at es
          exact hk3 (e + 1) _ _ (by omega) (by omega) ⟨by rw [show j + 1 + (e + 1) = k9 + 1 by omega], by rw [show j + 1 + (e + 1) = k9 + 1 by omega, es]; rfl⟩
        | true =>
          rw [bI_t, i10]
          rw [ht] at es
          exact hk3 (e + 1) _ _ (by omega) (by omega) ⟨by rw [show j + 1 + (e + 1) = k9 + 1 by omega], by rw [show j + 1 + (e + 1) = k9 + 1 by omega, es]; rfl⟩
theorem st_tripods (LW : LWt) : St_tripods (II LW) := by
  intro tt hx hm H
  obtain ⟨U, L, HU, HL⟩ := BM_HX H.1
  refine st_hh (fun a => a = nI (s3 (mk U L 31 0) 48)) (fun a => a = nI (m3 (mk U L 31 0) 48)) H (X_tripods HU) (R_m (M_tripods HL) (fun r h => ⟨h.1, h.2.1⟩)) (fun a b p q => ?_)
  rw [p, q, s3_m3]
