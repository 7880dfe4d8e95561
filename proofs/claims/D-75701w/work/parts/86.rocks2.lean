/-! rocks -/
set_option maxRecDepth 100000
theorem ang_s {p q : Nat} (hp : p < 48) (hq : q < 48) : dD p q < 20 ↔ (0 < am p q ∨ (am p q = 0 ∧ 0 < dm p q)) := by
  have g := ang_p hp hq
  constructor
  · intro h
    by_cases c : dD p q = 0
    · exact Or.inr (g.2.2.2.1.mpr c)
    · exact Or.inl (g.2.1.mpr ⟨by omega, h⟩)
  · rintro (h | h)
    · exact (g.2.1.mp h).2
    · have := g.2.2.2.1.mp h
      omega
theorem X_oneSided {h : Hp} {P : Nat → Bool} (hM : ∀ p, p < 48 → h 2 p = bI (P p)) {p : Nat} (hp : p < 48) : R (mX0_isOneSided h (nI p)) (fun r => r = bI (bo (oneS P p))) := by
  unfold mX0_isOneSided
  rw [nm_s, nm_s]
  refine fx_R1 48 (fun q x => x = nI q ∧ ∀ q', q' < q → P q' = true → dD p q' < 20) (by decide) ⟨rfl, fun q' h9 => by omega⟩ ?_
  rintro q x k hq ⟨rfl, hI⟩ hk
  by_cases hq8 : q = 48
  · subst hq8
    rw [if_pos (show (48 : Int32) ≤ nI 48 by decide), bz_1, bo_t (show oneS P p from hI)]
    exact R_some rfl
  · have hq' : q < 48 := by omega
    rw [if_neg (nl48 hq'), ck_s hq' (by decide), nm_s, nI_clamp (by omega), hM q hq', nI_1]
    have same : (P q = true → dD p q < 20) → R (k (nI (q + 1))) (fun r => r = bI (bo (oneS P p))) := fun hs => by
      refine hk (q + 1) _ (by omega) (by omega) ⟨rfl, fun q' h1 h2 => ?_⟩
      by_cases e : q' = q
      · rw [e] at h2 ⊢
        exact hs h2
      · exact hI q' (by omega) h2
    cases hP : P q with
    | false =>
      rw [bI_f, i00]
      exact same (fun h9 => by rw [hP] at h9; cases h9)
    | true =>
      have b1 := amb hp hq'
      have g := ang_s hp hq'
      have no : ¬ dD p q < 20 → R (bz 0 (some 0)) (fun r => r = bI (bo (oneS P p))) := fun hs => by
        rw [bz_0, bo_f (fun h9 => hs (h9 q hq' hP))]
        exact R_some rfl
      rw [bI_t, i10, nm_s, nm_s, nm_s, nm_s, r8 hp, r8 hq', q8 hp, q8 hq', ilit2, ilit7, ilit5, iI_mul, iI_mul, iI_mul, iI_mul, iI_sub, iI_sub, iI_sub, iI_sub, iI_mul, iI_mul, iI_mul, iI_mul, iI_sub, iI_add]
      show R (if iI (am p q) < 0 then _ else if iI (am p q) = 0 then if 0 < iI (dm p q) then _ else _ else _) _
      by_cases c1 : am p q < 0
      · rw [if_pos (show iI (am p q) < 0 from (iI_lt (b := 0) (by omega) (by omega)).mpr c1)]
        exact no (fun h9 => by have := g.mp h9; omega)
      · rw [if_neg (show ¬ iI (am p q) < 0 from fun e => c1 ((iI_lt (b := 0) (by omega) (by omega)).mp e))]
        by_cases c2 : am p q = 0
        · rw [if_pos (show iI (am p q) = 0 from (iI_eq (b := 0) (by omega) (by omega)).mpr c2)]
          by_cases c3 : 0 < dm p q
          · rw [if_pos (show 0 < iI (dm p q) from (iI_lt (a := 0) (by omega) (by omega)).mpr c3)]
            exact same (fun _ => g.mpr (Or.inr ⟨c2, c3⟩))
          · rw [if_neg (show ¬ 0 < iI (dm p q) from fun e => c3 ((iI_lt (a := 0) (by omega) (by omega)).mp e))]
            exact no (fun h9 => by have := g.mp h9; omega)
        · rw [if_neg (show ¬ iI (am p q) = 0 from fun e => c2 ((iI_eq (b := 0) (by omega) (by omega)).mp e))]
          exact same (fun _ => g.mpr (Or.inl (by omega)))
theorem X_rocks {h : Hp} {U L : Nat → Nat} (H : HX 40 h U L) : R (mX0_rocks h) (fun r => r.1 = bI (bo (∃ p, p < 48 ∧ mk U L 31 0 p = true ∧ oneS (mk U L 31 0) p)) ∧ SX h r.2) := by
  unfold mX0_rocks
  rw [show mX3_marks 40 h 31 0 = _ from X_mks H (by decide) (g := 31) (by decide), cl2_s]
  have hS : SX h (sN h 2 (fun p => bI (mk U L 31 0 p)) 48) := SX_e (Ex_sN _ _ _ _) (by decide)
  have hM : ∀ p, p < 48 → sN h 2 (fun p => bI (mk U L 31 0 p)) 48 2 p = bI (mk U L 31 0 p) := fun p hp => sN_k hp
  generalize sN h 2 (fun p => bI (mk U L 31 0 p)) 48 = h3 at hS hM
  generalize mk U L 31 0 = P at hM
  refine fx_R1 48 (fun p x => x = nI p ∧ ∀ p', p' < p → P p' = true → ¬ oneS P p') (by decide) ⟨rfl, fun p' h9 => by omega⟩ ?_
  rintro p x k hp ⟨rfl, hI⟩ hk
  by_cases hp8 : p = 48
  · subst hp8
    rw [if_pos (show (48 : Int32) ≤ nI 48 by decide), bo_f (fun ⟨p, h1, h2, h3⟩ => hI p h1 h2 h3)]
    exact R_some ⟨rfl, hS⟩
  · have hp' : p < 48 := by omega
    rw [if_neg (nl48 hp'), ck_s hp' (by decide), nm_s, nI_clamp (by omega), hM p hp', nI_1]
    have same : (P p = true → ¬ oneS P p) → R (k (nI (p + 1))) (fun r => r.1 = bI (bo (∃ p, p < 48 ∧ P p = true ∧ oneS P p)) ∧ SX h r.2) := fun hs => by
      refine hk (p + 1) _ (by omega) (by omega) ⟨rfl, fun p' h1 h2 => ?_⟩
      by_cases e : p' = p
      · rw [e] at h2 ⊢
        exact hs h2
      · exact hI p' (by omega) h2
    cases hP : P p with
    | false =>
      rw [bI_f, i00]
      exact same (fun h9 => by rw [hP] at h9; cases h9)
    | true =>
      obtain ⟨r, e, hr⟩ := X_oneSided hM hp'
      rw [bI_t, i10, e, cl1_s, hr]
      by_cases c : oneS P p
      · rw [bo_t c, bI_t, i10, bo_t ⟨p, hp', hP, c⟩]
        exact R_some ⟨rfl, hS⟩
      · rw [bo_f c, bI_f, i00]
        exact same (fun _ => c)
theorem M_between {p q : Nat} (hp : p < 48) (hq : q < 48) : mX5_isBetween (nI p) (nI q) = some (bI (bo (dD p q = 20))) := by
  have b1 := amb hp hq
  have g := (ang_p hp hq).2.2.2.2
  unfold mX5_isBetween
  rw [M_mside hp hq, cl1_s, M_across hp, M_across hq, M_alongO hp, M_alongO hq]
  simp only [nm_q, cl1_q, bz_0, bz_1]
  rw [iI_mul, iI_mul, iI_add]
  show (if iI (am p q) = 0 then if 0 ≤ iI (dm p q) then some 0 else some 1 else some 0) = _
  by_cases c2 : am p q = 0
  · rw [if_pos (show iI (am p q) = 0 from (iI_eq (b := 0) (by omega) (by omega)).mpr c2)]
    by_cases c3 : 0 ≤ dm p q
    · rw [if_pos (show 0 ≤ iI (dm p q) from (iI_le (a := 0) (by omega) (by omega)).mpr c3), bo_f (fun h9 => by have := g.mpr h9; omega)]
      rfl
    · rw [if_neg (show ¬ 0 ≤ iI (dm p q) from fun e => c3 ((iI_le (a := 0) (by omega) (by omega)).mp e)), bo_t (g.mp ⟨c2, by omega⟩)]
      rfl
  · rw [if_neg (show ¬ iI (am p q) = 0 from fun e => c2 ((iI_eq (b := 0) (by omega) (by omega)).mp e)), bo_f (fun h9 => c2 (g.mpr h9).1)]
    rfl
theorem TCH_ex {P : Nat → Bool} {T : Nat → Nat} {n m : Nat} (H : TCH P T n m) {c : Nat} (hP : P c = true) : ∀ k, k ≤ n → c < T k → ∃ i, i < k ∧ T i = c
  | 0, _, h => by rw [H.2.2.2 c h] at hP; cases hP
  | k + 1, hk, h => by
    by_cases c1 : c < T k
    · obtain ⟨i, h1, h2⟩ := TCH_ex H hP k (by omega) c1
      exact ⟨i, by omega, h2⟩
    · by_cases c2 : c = T k
      · exact ⟨k, by omega, c2.symm⟩
      · rw [H.2.2.1 k c (by omega) (by omega) h] at hP
        cases hP
theorem smN_ge {f : Nat → Nat} : ∀ n i, i < n → f i ≤ smN f n
  | 0, i, h => by omega
  | n + 1, i, h => by
    rw [smN_s]
    by_cases e : i = n
    · subst e
      omega
    · have := smN_ge (f := f) n i (by omega)
      omega
theorem g3_le (P : Nat → Bool) (a b c : Nat) : g3 P a b c ≤ 1 := by
  unfold g3
  split <;> omega
theorem m3_le (P : Nat → Bool) : m3 P 48 ≤ 48 * 48 * 48 := by
  have h1 : ∀ a b, m1 P a b 48 ≤ 48 := fun a b => by
    have := smN_le (f := fun c => if b < c then g3 P a b c else 0) (B := 1) (fun c => by
      have := g3_le P a b c
      show (if b < c then g3 P a b c else 0) ≤ 1
      split <;> omega) 48
    unfold m1
    omega
  have h2 : ∀ a, m2 P a 48 ≤ 48 * 48 := fun a => smN_le (f := fun b => if a < b then m1 P a b 48 else 0) (B := 48) (fun b => by
      have := h1 a b
      show (if a < b then m1 P a b 48 else 0) ≤ 48
      split <;> omega) 48
  exact smN_le (f := fun a => m2 P a 48) (B := 48 * 48) h2 48
theorem thr_ord {P : Nat → Bool} (h : thr P) : ∃ a b c, a < b ∧ b < c ∧ c < 48 ∧ P a = true ∧ P b = true ∧ P c = true ∧ triP a b c := by
  obtain ⟨p, q, r, hp, hq, hr, Pp, Pq, Pr, ht⟩ := h
  have hn := tn_am p q r
  have y1 := am_y p q
  have y2 := am_y q r
  have y3 := am_y r p
  have z1 := am_y p p
  have z2 := am_y q q
  have z3 := am_y r r
  have d1 : p ≠ q := fun e => by subst e; have := ht.1; omega
  have d2 : q ≠ r := fun e => by subst e; have := ht.1; omega
  have d3 : p ≠ r := fun e => by subst e; have := ht.1; omega
  have t1 := (tri_rot p q r).mp ht
  have t2 := (tri_rot q r p).mp t1
  have u0 := (tri_rev p q r).mp ht
  have u1 := (tri_rev q r p).mp t1
  have u2' := (tri_rev r p q).mp t2
  by_cases c1 : p < q
  · by_cases c2 : q < r
    · exact ⟨p, q, r, c1, c2, hr, Pp, Pq, Pr, ht⟩
    · by_cases c3 : p < r
      · exact ⟨p, r, q, c3, by omega, hq, Pp, Pr, Pq, u1⟩
      · exact ⟨r, p, q, by omega, c1, hq, Pr, Pp, Pq, t2⟩
  · by_cases c2 : q < r
    · by_cases c3 : p < r
      · exact ⟨q, p, r, by omega, c3, hr, Pq, Pp, Pr, u2'⟩
      · exact ⟨q, r, p, c2, by omega, hp, Pq, Pr, Pp, t1⟩
    · exact ⟨r, q, p, by omega, by omega, hp, Pr, Pq, Pp, u0⟩
theorem m3_thr (P : Nat → Bool) : 0 < m3 P 48 ↔ thr P := by
  constructor
  · intro h
    refine Classical.byContradiction (fun hno => ?_)
    have : m3 P 48 = 0 := smN_0 48 (fun a ha => smN_0 48 (fun b hb => by
      by_cases c1 : a < b
      · rw [if_pos c1]
        refine smN_0 48 (fun c hc => ?_)
        by_cases c2 : b < c
        · rw [if_pos c2]
          unfold g3
          rw [if_neg]
          intro h9
          simp only [Bool.and_eq_true] at h9
          exact hno ⟨a, b, c, ha, hb, hc, h9.1.1.1, h9.1.1.2, h9.1.2, bo_i.mp h9.2⟩
        · rw [if_neg c2]
      · rw [if_neg c1]))
    omega
  · intro h
    obtain ⟨a, b, c, h1, h2, h3, Pa, Pb, Pc, ht⟩ := thr_ord h
    have e1 := smN_ge (f := fun c => if b < c then g3 P a b c else 0) 48 c h3
    have e2 := smN_ge (f := fun b => if a < b then m1 P a b 48 else 0) 48 b (by omega)
    have e3 := smN_ge (f := fun a => m2 P a 48) 48 a (by omega)
    have f1 : (if b < c then g3 P a b c else 0) = 1 := by
      rw [if_pos h2, g3_t Pa Pb Pc]
      unfold triB
      rw [bo_t ht]
      rfl
    have f2 : (if a < b then m1 P a b 48 else 0) = m1 P a b 48 := if_pos h1
    have g1 : (if b < c then g3 P a b c else 0) ≤ m1 P a b 48 := e1
    have g2 : (if a < b then m1 P a b 48 else 0) ≤ m2 P a 48 := e2
    have g3' : m2 P a 48 ≤ m3 P 48 := e3
    omega
theorem M_rocks {h : Hp} {U L : Nat → Nat} (H : HM h U L) : R (mX5_rocks h) (fun r => r.1 = bI (bo (¬ opp (mk U L 31 0) ∧ ¬ thr (mk U L 31 0))) ∧ SM h r.2) := by
  unfold mX5_rocks
  refine R_c2 (M_tripods H) ?_
  rintro r2 g ⟨e2, hS, T, n, hTL⟩
  dsimp only at e2 hS hTL
  generalize mk U L 31 0 = P at e2 hTL
  subst e2
  have hT := hTL.1
  have hn := hTL.2.1
  have h50 := hTL.2.2.1
  have h249 := hTL.2.2.2
  have m3l := m3_le P
  refine fx_R1 n (fun i x => x = nI i ∧ ∀ i' j', i' < i → i' < j' → j' < n → ¬ dD (T i') (T j') = 20) (by show n < 100000; omega) ⟨rfl, fun i' j' h9 => by omega⟩ ?_
  rintro i x k hi ⟨rfl, hI⟩ hk
  rw [h50]
  by_cases hin : i = n
  · subst hin
    rw [if_pos (nI_le (Nat.le_refl _) (by omega)), nm_s]
    have hno : ¬ opp P := by
      rintro ⟨p, q, hp, hq, Pp, Pq, e⟩
      obtain ⟨a, ha, ea⟩ := TCH_ex hT Pp i (Nat.le_refl _) (by rw [hT.1]; exact hp)
      obtain ⟨b, hb, eb⟩ := TCH_ex hT Pq i (Nat.le_refl _) (by rw [hT.1]; exact hq)
      have e' : dD q p = 20 := by
        have g1 := (ang_p hp hp).1
        have g2 := (ang_p hq hq).1
        unfold dD at *
        omega
      subst ea eb
      by_cases c : a < b
      · exact hI a b ha c hb e
      · by_cases c2 : a = b
        · subst c2
          unfold dD at e
          omega
        · exact hI b a hb (by omega) ha e'
    by_cases c : thr P
    · have := (m3_thr P).mpr c
      rw [if_neg (nI_nle this (by omega)), bo_f (fun h9 => h9.2 c)]
      exact R_some ⟨rfl, hS⟩
    · have : ¬ 0 < m3 P 48 := fun h9 => c ((m3_thr P).mp h9)
      rw [show m3 P 48 = 0 by omega, if_pos (show nI 0 ≤ (0 : Int32) by decide), bo_t ⟨hno, c⟩]
      exact R_some ⟨rfl, hS⟩
  · have hi' : i < n := by omega
    have hTi := TL_lt hTL hi'
    rw [if_neg (nI_ge (by omega) (by omega)), nm_s, nI_1]
    refine fx_R1 (n - (i + 1)) (fun d x => x = nI (i + 1 + d) ∧ ∀ j', i < j' → j' < i + 1 + d → ¬ dD (T i) (T j') = 20) (by show n - (i + 1) < 100000; omega) ⟨rfl, fun j' h1 h2 => by omega⟩ ?_
    rintro d x k2 hd ⟨rfl, hJ⟩ hk2
    by_cases hdn : i + 1 + d = n
    · rw [hdn, if_pos (nI_le (Nat.le_refl _) (by omega))]
      refine hk (i + 1) _ (by omega) (by omega) ⟨rfl, fun i' j' h1 h2 h3 => ?_⟩
      by_cases e : i' = i
      · rw [e]
        exact hJ j' (by omega) (by omega)
      · exact hI i' j' (by omega) h2 h3
    · have hj' : i + 1 + d < n := by omega
      have hTj := TL_lt hTL hj'
      rw [if_neg (nI_ge (by omega) (by omega)), ck_s (show i < 48 by omega) (by decide), ck_s (show i + 1 + d < 48 by omega) (by decide), nI_clamp (by omega), nI_clamp (by omega), h249 i hi', h249 _ hj', M_between hTi hTj, cl1_s, nI_1]
      by_cases c : dD (T i) (T (i + 1 + d)) = 20
      · rw [bo_t c, bI_t, i10, bo_f (fun h9 => h9.1 ⟨T i, T (i + 1 + d), hTi, hTj, (hT.2.1 i hi').2, (hT.2.1 _ hj').2, c⟩)]
        exact R_some ⟨rfl, hS⟩
      · rw [bo_f c, bI_f, i00]
        refine hk2 (d + 1) _ (by omega) (by omega) ⟨by rw [show i + 1 + (d + 1) = i + 1 + d + 1 by omega], fun j' h1 h2 => ?_⟩
        by_cases e : j' = i + 1 + d
        · rw [e]; exact c
        · exact hJ j' h1 (by omega)
theorem st_rocks (LW : LWt) : St_rocks (II LW) := by
  intro tt hx hm H
  obtain ⟨U, L, HU, HL⟩ := BM_HX H.1
  refine st_hh (fun a => a = bI (bo (∃ p, p < 48 ∧ mk U L 31 0 p = true ∧ oneS (mk U L 31 0) p))) (fun a => a = bI (bo (¬ opp (mk U L 31 0) ∧ ¬ thr (mk U L 31 0)))) H (X_rocks HU) (M_rocks HL) (fun a b p q => ?_)
  rw [p, q]
  congr 1
  obtain ⟨s, hs, Ps⟩ := mk_ex U L (g := 31) (by decide) 0
  exact bo_c ⟨fun ⟨p, h1, _, h3⟩ => rk_1 h1 h3, fun h => rk_2 hs Ps h.1 h.2⟩
