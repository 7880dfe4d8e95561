/-! tour: the guide of the class -/
set_option maxRecDepth 100000
def XG (h : Hp) (n a c : Nat) (P : Nat → Nat) (L : Nat) : Prop := SC 85 h n a 0 0 ∧ a ≤ n ∧ h 85 6 = nI c ∧ c ≤ 48 ∧ h 85 7 = nI L ∧ ∀ i, i < c → h 86 i = nI (P i) ∧ P i < 5
/-- the plain reader goes from one state to another; it meets a fault -/
def tG (t : Nat → Nat) (n a c : Nat) (P : Nat → Nat) (k : List (Nat × Nat × Nat)) (a' c' : Nat) (P' : Nat → Nat) (k' : List (Nat × Nat × Nat)) : Prop := ∃ f, ∀ F, tR t n (F + f) a c P k = tR t n F a' c' P' k'
def tB (t : Nat → Nat) (n a c : Nat) (P : Nat → Nat) (k : List (Nat × Nat × Nat)) (w q : Nat) : Prop := ∃ f, ∀ F, tR t n (F + f) a c P k = .inl (w, q)
section
variable {t : Nat → Nat} {n a c a' c' a2 c2 w q : Nat} {P P' P2 : Nat → Nat} {k k' k2 : List (Nat × Nat × Nat)}
theorem tG_r : tG t n a c P k a c P k := ⟨0, fun _ => rfl⟩
theorem tG_t (h1 : tG t n a c P k a' c' P' k') (h2 : tG t n a' c' P' k' a2 c2 P2 k2) : tG t n a c P k a2 c2 P2 k2 := by
  obtain ⟨f1, h1⟩ := h1
  obtain ⟨f2, h2⟩ := h2
  exact ⟨f2 + f1, fun F => by rw [← Nat.add_assoc, h1, h2]⟩
theorem tG_b (h1 : tG t n a c P k a' c' P' k') (h2 : tB t n a' c' P' k' w q) : tB t n a c P k w q := by
  obtain ⟨f1, h1⟩ := h1
  obtain ⟨f2, h2⟩ := h2
  exact ⟨f2 + f1, fun F => by rw [← Nat.add_assoc, h1, h2]⟩
theorem tG_s (h : a < n ∨ k.length ≠ 0) (e : tS t n a c P k = .inr (a', c', P', k')) : tG t n a c P k a' c' P' k' := ⟨1, fun F => by rw [tR_s h, e]⟩
theorem tB_s (h : a < n ∨ k.length ≠ 0) (e : tS t n a c P k = .inl (w, q)) : tB t n a c P k w q := ⟨1, fun F => by rw [tR_s h, e]⟩
theorem tB_e (h : n ≤ a) (hk : k.length ≠ 0) : tB t n a c P k 1 a := ⟨1, fun F => by rw [tR, if_pos h, if_neg hk]⟩
end
theorem hc_in {t : Nat → Nat} {n i : Nat} (h : 0 < hc t n i) : i < n := by
  unfold hc at h
  by_cases g : i < n
  · exact g
  · rw [if_neg g] at h
    omega
theorem Ex_tt {l : List Nat} {a b c : Hp} (h1 : Ex l a b) (h2 : Ex l b c) : Ex l a c := fun k hk => (h2 k hk).trans (h1 k hk)
theorem Ex_85 {a b : Hp} (h : Ex [85] a b) : Ex [85, 86] a b := fun k hk => h k (fun e => hk (by simp at e; rw [e]; simp))
theorem Ex_86 {a b : Hp} (h : Ex [86] a b) : Ex [85, 86] a b := fun k hk => h k (fun e => hk (by simp at e; rw [e]; simp))
theorem tX_E {a b : Hp} {t : Nat → Nat} (e : Ex [85, 86] a b) (h : tX a = t) : tX b = t := by
  rw [← h]
  funext i
  unfold tX
  rw [e 8 (by decide)]
theorem X_allB {h : Hp} {n a w q d : Nat} (S : SC 85 h n a w q) (hw : 0 < w) : R (mX17_allR (d + 1) h) (fun g => g = h) := by
  show R (mX17_all _ h) _
  unfold mX17_all
  rw [X_isGood S, cl1_s, decide_eq_false (by omega), bI_f]
  refine fx_R2 0 (fun _ x g => x = 0 ∧ g = h) (by decide) ⟨rfl, rfl⟩ ?_
  rintro _ _ _ k _ ⟨rfl, rfl⟩ _
  rw [i00]
  exact R_some rfl
def gQ (t : Nat → Nat) (n a c : Nat) (P : Nat → Nat) (k : List (Nat × Nat × Nat)) (d : Nat) (E : Nat → Prop) (h0 h' : Hp) : Prop := Ex [85, 86] h0 h' ∧ ((∃ a' c' P', XG h' n a' c' P' k.length ∧ a < a' ∧ c < c' ∧ E a' ∧ tG t n a c P k a' c' P' k) ∨ (∃ w q a', SC 85 h' n a' w q ∧ 0 < w ∧ a' ≤ 400 + d ∧ tB t n a c P k w q))
def AOK (t : Nat → Nat) (n D : Nat) : Prop := ∀ h a c P (k : List (Nat × Nat × Nat)), tX h = t → k.length ≤ 2 → 4 ≤ k.length + D → XG h n a c P k.length → (a < n ∨ k.length ≠ 0) → (hc t n a = 41 → ∀ z k', k = z :: k' → z.1 = c) → R (mX17_allR D h) (gQ t n a c P k (10 * D) (fun a' => n ≤ a' ∨ hc t n a' = 41) h)
theorem SC_7 {h : Hp} {n a f p i : Nat} {v : Int32} (S : SC 85 h n a f p) (hi : 4 ≤ i) : SC 85 (u2 h 85 i v) n a f p := SC_c S (fun z hz => by rw [u2_e, upd_n (by omega)])
theorem X_rounds {t : Nat → Nat} {g : Hp} {n av c m p D : Nat} {P : Nat → Nat} {k : List (Nat × Nat × Nat)} (IH : AOK t n D) (hT : tX g = t) (hk : k.length ≤ 2) (hD : 4 ≤ k.length + (D + 1)) (S : XG g n av c P k.length) (hav : av < n) (hn : n ≤ 80) (hD9 : D ≤ 10) : R (mX17_rounds (mX17_allR D) g) (fun g' => Ex [85, 86] g g' ∧ if k.length = 2 then (∃ a', SC 85 g' n a' 5 av ∧ a' ≤ 400) else (∃ a' c' P', XG g' n (a' + 1) c' P' k.length ∧ av < a' ∧ c < c' ∧ a' < n ∧ hc t n a' = 41 ∧ tG t n (av + 1) c P ((c, m, p) :: k) a' c' P' ((c, m, p) :: k)) ∨ (∃ w q a', SC 85 g' n a' w q ∧ 0 < w ∧ a' ≤ 401 + 10 * D ∧ tB t n (av + 1) c P ((c, m, p) :: k) w q)) := by
  unfold mX17_rounds
  refine R_let (fun g1 => (k.length = 2 ∧ Ex [85] g g1 ∧ SC 85 g1 n av 5 av) ∨ (k.length ≠ 2 ∧ g1 = g)) ?_ ?_
  · rintro g1 (⟨hk2, E1, S1⟩ | ⟨hk2, rfl⟩)
    · rw [X_goesOn, cl1_s, nm_s]
      have S4 : SC 85 (u2 (sA1 85 g1) 85 7 (sA1 85 g1 85 7 + 1)) n (av + 1) 5 av := SC_7 (SC_A S1 (by omega)) (by decide)
      have E4 : Ex [85] g (u2 (sA1 85 g1) 85 7 (sA1 85 g1 85 7 + 1)) := Ex_tt E1 (Ex_tt (Ex_A 85 g1) (Ex_u2 _ _ _ _))
      generalize u2 (sA1 85 g1) 85 7 (sA1 85 g1 85 7 + 1) = g4 at S4 E4 ⊢
      obtain ⟨D', rfl⟩ : ∃ D', D = D' + 1 := ⟨D - 1, by omega⟩
      refine R_c1 (X_allB S4 (by decide)) ?_
      rintro _ rfl
      rw [X_isGood S4, cl1_s, decide_eq_false (by decide), nm_s, bI_f, i00]
      show R (cl1 (mX15_goesOn 85 _) _) _
      rw [X_goesOn, cl1_s, nm_s]
      refine R_some ⟨Ex_85 (Ex_tt E4 (Ex_tt (Ex_A 85 _) (Ex_u2 _ _ _ _))), ?_⟩
      rw [if_pos hk2]
      exact ⟨av + 1 + 1, SC_7 (SC_A S4 (by omega)) (by decide), by omega⟩
    · rw [X_goesOn, cl1_s, nm_s]
      obtain ⟨S0, S1, S2, S3, S4, S5⟩ := S
      have G4 : XG (u2 (sA1 85 g1) 85 7 (sA1 85 g1 85 7 + 1)) n (av + 1) c P ((c, m, p) :: k).length := by
        refine ⟨SC_7 (SC_A S0 (by omega)) (by decide), by omega, ?_, S3, ?_, fun i hi => ?_⟩
        · rw [u2_e, upd_n (by decide), A_i (by decide)]
          exact S2
        · rw [u2_e, upd_e, A_i (by decide), S4, nI_1]
          rfl
        · rw [u2_n (by decide), Ex_A _ _ 86 (by decide)]
          exact S5 i hi
      have E4 : Ex [85, 86] g1 (u2 (sA1 85 g1) 85 7 (sA1 85 g1 85 7 + 1)) := Ex_85 (Ex_tt (Ex_A 85 g1) (Ex_u2 _ _ _ _))
      generalize u2 (sA1 85 g1) 85 7 (sA1 85 g1 85 7 + 1) = g4 at G4 E4 ⊢
      have hkl : ((c, m, p) :: k).length = k.length + 1 := rfl
      refine R_c1 (IH g4 (av + 1) c P ((c, m, p) :: k) (tX_E E4 hT) (by omega) (by omega) G4 (Or.inr (by omega)) (fun _ z k' e => by cases e; rfl)) ?_
      rintro g6 ⟨E6, H6⟩
      have E46 := Ex_tt E4 E6
      rcases H6 with ⟨a', c', P', G6, ha, hc', he, hg⟩ | ⟨w, q, a', S6, hw, ha, hb⟩
      · obtain ⟨T0, T1, T2, T3, T4, T5⟩ := G6
        have hh := X_here T0
        rw [tX_E E46 hT] at hh
        have h256 := hc_lt (t := t) (fun i => by rw [← hT]; exact oct_lt _) n a'
        rw [X_isGood T0, cl1_s, decide_eq_true rfl, nm_s, bI_t, i10, hh, cl1_s]
        by_cases h41 : hc t n a' = 41
        · rw [if_pos ((l_eq (N := 41) (c := 41) rfl (by decide) (by omega)).mpr h41)]
          show R (cl1 (mX15_goesOn 85 _) _) _
          rw [X_goesOn, cl1_s, nm_s]
          have han : a' < n := hc_in (t := t) (by omega)
          refine R_some ⟨Ex_tt E46 (Ex_85 (Ex_tt (Ex_A 85 _) (Ex_u2 _ _ _ _))), ?_⟩
          rw [if_neg hk2]
          refine Or.inl ⟨a', c', P', ⟨SC_7 (SC_A T0 (by omega)) (by decide), by omega, ?_, T3, ?_, fun i hi => ?_⟩, by omega, hc', han, h41, hg⟩
          · rw [u2_e, upd_n (by decide), A_i (by decide)]
            exact T2
          · rw [u2_e, upd_e, A_i (by decide), T4, hkl, nI_pred]
          · rw [u2_n (by decide), Ex_A _ _ 86 (by decide)]
            exact T5 i hi
        · rw [if_neg (fun e => h41 ((l_eq (N := 41) (c := 41) rfl (by decide) (by omega)).mp e)), X_place T0, cl1_s, show mX15_bad 85 g6 1 (nI a') = _ from X_bad0 T0 1 a', cl1_s]
          show R (cl1 (mX15_goesOn 85 _) _) _
          rw [X_goesOn, cl1_s, nm_s]
          have hna : n ≤ a' := by
            rcases he with he | he
            · exact he
            · exact absurd he h41
          refine R_some ⟨Ex_tt E46 (Ex_85 (Ex_tt (Ex_F 85 _ _ _) (Ex_tt (Ex_A 85 _) (Ex_u2 _ _ _ _)))), ?_⟩
          rw [if_neg hk2]
          exact Or.inr ⟨1, a', a' + 1, SC_7 (SC_A (SC_F T0 (by decide) (by omega)) (by omega)) (by decide), by decide, by omega, tG_b hg (tB_e hna (by omega))⟩
      · rw [X_isGood S6, cl1_s, decide_eq_false (by omega), nm_s, bI_f, i00]
        show R (cl1 (mX15_goesOn 85 _) _) _
        rw [X_goesOn, cl1_s, nm_s]
        refine R_some ⟨Ex_tt E46 (Ex_85 (Ex_tt (Ex_A 85 _) (Ex_u2 _ _ _ _))), ?_⟩
        rw [if_neg hk2]
        have := S6.2.2.2.2.2.1
        exact Or.inr ⟨w, q, a' + 1, SC_7 (SC_A S6 (by omega)) (by decide), hw, by omega, hb⟩
  · intro kk hkk
    rw [S.2.2.2.2.1]
    by_cases hk2 : k.length = 2
    · rw [if_pos (by rw [hk2]; rfl), X_place S.1, cl1_s, show mX15_bad 85 g 5 (nI av) = _ from X_bad0 S.1 5 av, cl1_s]
      exact hkk _ (Or.inl ⟨hk2, Ex_F _ _ _ _, SC_F S.1 (by decide) (by omega)⟩)
    · rw [if_neg (fun e => hk2 ((l_eq (N := 2) (c := 2) rfl (by decide) (by omega)).mp e))]
      exact hkk _ (Or.inr ⟨hk2, rfl⟩)
