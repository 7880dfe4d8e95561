/-! tour: the guide reads one -/
set_option maxRecDepth 100000
theorem pT_r (P : Nat → Nat) (c d : Nat) : rT (pT P c d) c (c + 1) = pT P c d := by
  funext i
  unfold rT pT
  by_cases h1 : c + 1 ≤ i
  · rw [if_pos h1, if_pos (by omega), if_pos (by omega)]
  · rw [if_neg h1]
theorem nz_n {ρ : Type} {j : Nat} {M : Option ρ} (h0 : 0 < j) (h : j < 2 ^ 31) : nz (nI j) M = M := if_neg (nI_ne0 h0 h)
theorem X_one {t : Nat → Nat} {h : Hp} {n a c D : Nat} {P : Nat → Nat} {k : List (Nat × Nat × Nat)} (IH : AOK t n D) (hT : tX h = t) (hk : k.length ≤ 2) (hD : 4 ≤ k.length + (D + 1)) (S : XG h n a c P k.length) (hn : n ≤ 80) (hD9 : D ≤ 10) (hak : a < n ∨ k.length ≠ 0) (h41 : hc t n a = 41 → ∀ z k', k = z :: k' → z.1 = c) : R (mX17_one (mX17_rounds (mX17_allR D)) h) (gQ t n a c P k (10 * D + 2) (fun _ => True) h) := by
  have ht : ∀ i, t i < 256 := fun i => by rw [← hT]; exact oct_lt _
  have tb := tms_9 (t := t) (n := n) (a := a)
  have vb := vA_b (t := t) (n := n) (a := a)
  unfold mX17_one
  have T := X_times S.1 (hi := 57) (by decide)
  rw [hT] at T
  rw [X_place S.1, cl1_s, show mX15_times 85 h 57 = _ from T, cl2_s]
  obtain ⟨g, eg, G, Eg⟩ : ∃ g, (if 50 ≤ hc t n a ∧ hc t n a ≤ 57 then sA1 85 h else h) = g ∧ XG g n (vA t n a) c P k.length ∧ Ex [85, 86] h g := by
    refine ⟨_, rfl, ?_, ?_⟩
    · unfold vA
      by_cases hd : 50 ≤ hc t n a ∧ hc t n a ≤ 57
      · have han : a < n := hc_in (t := t) (by omega)
        rw [if_pos hd, if_pos hd]
        obtain ⟨S0, S1, S2, S3, S4, S5⟩ := S
        refine ⟨SC_A S0 (by omega), by omega, ?_, S3, ?_, fun i hi => ?_⟩
        · rw [A_i (by decide)]
          exact S2
        · rw [A_i (by decide)]
          exact S4
        · rw [Ex_A _ _ 86 (by decide)]
          exact S5 i hi
      · rw [if_neg hd, if_neg hd]
        exact S
    · by_cases hd : 50 ≤ hc t n a ∧ hc t n a ≤ 57
      · rw [if_pos hd]
        exact Ex_85 (Ex_A _ _)
      · rw [if_neg hd]
        exact Ex_r _ _
  have hTg := tX_E Eg hT
  have hh := X_here G.1
  rw [hTg] at hh
  have h256 := hc_lt ht n (vA t n a)
  have hv41 : hc t n a = 41 → vA t n a = a := fun e => by
    unfold vA
    rw [if_neg (by omega)]
  rw [eg, nm_s, G.2.2.1, hh, cl1_s]
  generalize hm : tms t n a 57 = m at tb ⊢
  refine R_let (fun s => (∃ d, lS (hc t n (vA t n a)) = some d ∧ s = nI d) ∨ (lS (hc t n (vA t n a)) = none ∧ s = -1)) ?_ ?_
  · intro s hs
    rw [cl1_s]
    refine R_let (fun h12 => Ex [85, 86] h h12 ∧ ((∃ a1 c1 P1, XG h12 n a1 c1 P1 k.length ∧ a < a1 ∧ c < c1 ∧ if c + (c1 - c) * m ≤ 48 then tG t n a c P k a1 (c + (c1 - c) * m) (rT P1 c c1) k else tB t n a c P k 6 a) ∨ ∃ w q a', SC 85 h12 n a' w q ∧ 0 < w ∧ a' ≤ 402 + 10 * D ∧ tB t n a c P k w q)) ?_ ?_
    · rintro h12 ⟨E12, H12⟩
      rw [nm_s]
      rcases H12 with ⟨a1, c1, P1, G1, ha1, hc1, hfit⟩ | ⟨w, q, a', S', hw, ha', hb⟩
      · have c48 := G1.2.2.2.1
        have hsz : (c1 - c) * m ≤ 48 * 9 := Nat.mul_le_mul (by omega) tb.2
        have hsz1 : (c1 - c) * 1 ≤ (c1 - c) * m := Nat.mul_le_mul (Nat.le_refl _) tb.1
        rw [X_isGood G1.1, cl1_s, decide_eq_true rfl, bI_t, G1.2.2.1, nI_subn (by omega), nI_ml, nI_add]
        refine R_let (fun h16 => (c + (c1 - c) * m ≤ 48 ∧ h16 = h12) ∨ (¬ c + (c1 - c) * m ≤ 48 ∧ h16 = sF 85 h12 6 a)) ?_ ?_
        · rintro h16 (⟨hf, rfl⟩ | ⟨hf, rfl⟩)
          · rw [if_pos hf] at hfit
            refine fx_R2 ((c1 - c) * m - (c1 - c)) (fun i x g' => x = nI (c1 - c + i) ∧ Ex [85, 86] h16 g' ∧ XG g' n a1 (c1 + i) (rT P1 c c1) k.length) (by show _ < 100000; omega) ⟨rfl, Ex_r _ _, G1.1, G1.2.1, G1.2.2.1, G1.2.2.2.1, G1.2.2.2.2.1, fun i hi => ?_⟩ ?_
            · unfold rT
              rw [if_neg (by omega)]
              exact G1.2.2.2.2.2 i hi
            · rintro i x g' k9 hi ⟨rfl, E', G'⟩ hk9
              rw [X_isGood G'.1, cl1_s, nm_s, decide_eq_true rfl, bI_t, i10]
              by_cases hie : i = (c1 - c) * m - (c1 - c)
              · rw [if_pos (nI_le (by omega) (by omega))]
                refine R_some ⟨Ex_tt E12 E', Or.inl ⟨a1, _, _, ?_, ha1, ?_, trivial, hfit⟩⟩
                · rw [show c + (c1 - c) * m = c1 + i by omega]
                  exact G'
                · omega
              · rw [if_neg (nI_ge (by omega) (by omega)), nz_n (by omega) (by omega), jrem_s (by omega) (by omega) (by omega), nI_add, nm_s]
                have hmod : (c1 - c + i) % (c1 - c) < c1 - c := Nat.mod_lt _ (by omega)
                rw [ck_s (show c + (c1 - c + i) % (c1 - c) < 48 by omega) (by decide), G'.2.2.1, ck_s (show c1 + i < 48 by omega) (by decide), nm_s, nI_clamp (by omega), nI_clamp (by omega), u2_n (show (85 : Nat) ≠ 86 by decide), G'.2.2.1, nm_s, nI_1, nI_1]
                have hsrc := G'.2.2.2.2.2 (c + (c1 - c + i) % (c1 - c)) (by omega)
                refine hk9 (i + 1) _ _ (by omega) (by omega) ⟨rfl, Ex_tt E' (Ex_tt (Ex_86 (Ex_u2 _ _ _ _)) (Ex_85 (Ex_u2 _ _ _ _))), SC_7 (SC_c G'.1 (fun z _ => by rw [u2_n (by decide)])) (by decide), G'.2.1, ?_, by omega, ?_, fun z hz => ?_⟩
                · rw [u2_e, upd_e]
                  rfl
                · rw [u2_e, upd_n (by decide), u2_n (by decide)]
                  exact G'.2.2.2.2.1
                · rw [u2_n (by decide), u2_e]
                  by_cases ez : z = c1 + i
                  · have er : rT P1 c c1 z = rT P1 c c1 (c + (c1 - c + i) % (c1 - c)) := by
                      unfold rT
                      rw [if_pos (by omega), if_neg (by omega), show z - c = c1 - c + i by omega]
                    rw [ez, upd_e, ← ez, er]
                    exact hsrc
                  · rw [upd_n ez]
                    exact G'.2.2.2.2.2 z (by omega)
          · rw [if_neg hf] at hfit
            have hGn := G.2.1
            have SF := SC_F G1.1 (w := 6) (q := a) (by decide) (by omega)
            refine fx_R2 0 (fun _ x g' => g' = sF 85 h12 6 a) (by decide) rfl ?_
            rintro _ _ _ k9 _ rfl _
            rw [X_isGood SF, cl1_s, nm_s, decide_eq_false (by decide), bI_f, i00]
            exact R_some ⟨Ex_tt E12 (Ex_85 (Ex_F _ _ _ _)), Or.inr ⟨6, a, a1, SF, by decide, by have := G1.2.1; omega, hfit⟩⟩
        · intro k5 hk5
          rw [i10]
          by_cases hf : c + (c1 - c) * m ≤ 48
          · rw [if_pos (l_lec (N := 48) (c := 48) rfl hf (by decide))]
            exact hk5 _ (Or.inl ⟨hf, rfl⟩)
          · rw [if_neg (l_nlec (N := 48) (c := 48) rfl (by omega) (by omega)), show mX15_bad 85 h12 6 (nI a) = _ from X_bad0 G1.1 6 a, cl1_s]
            exact hk5 _ (Or.inr ⟨hf, rfl⟩)
      · rw [X_isGood S', cl1_s, decide_eq_false (by omega), bI_f, nm_s, i00]
        refine fx_R2 0 (fun _ x g' => g' = h12) (by decide) rfl ?_
        rintro _ _ _ k9 _ rfl _
        rw [X_isGood S', cl1_s, nm_s, decide_eq_false (by omega), bI_f, i00]
        exact R_some ⟨E12, Or.inr ⟨w, q, a', S', hw, by omega, hb⟩⟩
    · intro k8 hk8
      by_cases h40 : hc t n (vA t n a) = 40
      · have hvn : vA t n a < n := hc_in (t := t) (by omega)
        have n41 : ¬ hc t n a = 41 := fun e => by
          rw [hv41 e] at h40
          omega
        have eS : tS t n a c P k = if k.length = 2 then .inl (5, vA t n a) else .inr (vA t n a + 1, c, P, (c, m, a) :: k) := by
          unfold tS
          rw [if_neg n41, h40, hm]
          rfl
        rw [if_pos ((l_eq (N := 40) (c := 40) rfl (by decide) (by omega)).mpr h40)]
        refine R_c1 (X_rounds (m := m) (p := a) IH hTg hk hD G hvn hn hD9) ?_
        rintro g' ⟨E', H'⟩
        by_cases hk2 : k.length = 2
        · rw [if_pos hk2] at H' eS
          obtain ⟨a', S', ha'⟩ := H'
          exact hk8 _ ⟨Ex_tt Eg E', Or.inr ⟨5, _, a', S', by decide, by omega, tB_s hak eS⟩⟩
        · rw [if_neg hk2] at H' eS
          rcases H' with ⟨a', c', P', G', h1, h2, h3, h4, hg⟩ | ⟨w, q, a', S', hw, ha', hb⟩
          · have run := tG_t (tG_s hak eS) hg
            refine hk8 _ ⟨Ex_tt Eg E', Or.inl ⟨a' + 1, c', P', G', by omega, h2, ?_⟩⟩
            have eC : tS t n a' c' P' ((c, m, a) :: k) = if c + (c' - c) * m ≤ 48 then .inr (a' + 1, c + (c' - c) * m, rT P' c c', k) else .inl (6, a) := by
              unfold tS
              rw [if_pos h4]
              show (if c' = c then _ else _) = _
              rw [if_neg (by omega)]
            by_cases hf : c + (c' - c) * m ≤ 48
            · rw [if_pos hf] at eC ⊢
              exact tG_t run (tG_s (Or.inl h3) eC)
            · rw [if_neg hf] at eC ⊢
              exact tG_b run (tB_s (Or.inl h3) eC)
          · exact hk8 _ ⟨Ex_tt Eg E', Or.inr ⟨w, q, a', S', hw, by omega, tG_b (tG_s hak eS) hb⟩⟩
      · rw [if_neg (fun e => h40 ((l_eq (N := 40) (c := 40) rfl (by decide) (by omega)).mp e))]
        rcases hs with ⟨d, hl, rfl⟩ | ⟨hl, rfl⟩
        · obtain ⟨l1, l2⟩ := lS_s hl
          have hpos : 0 < hc t n (vA t n a) := by
            refine Nat.pos_of_ne_zero (fun e => ?_)
            rw [e] at hl
            cases hl
          have hvn : vA t n a < n := hc_in (t := t) hpos
          have n41 : ¬ hc t n a = 41 := fun e => by
            rw [hv41 e, e] at hl
            cases hl
          have eS : tS t n a c P k = if c + m ≤ 48 then .inr (vA t n a + 1, c + m, pT P c d, k) else .inl (6, a) := by
            unfold tS
            rw [if_neg n41, hl, hm]
          rw [if_pos (nI_pos' (by omega)), nI_add]
          by_cases hf : c + m ≤ 48
          · rw [if_pos hf] at eS
            obtain ⟨G0, G1, G2, G3, G4, G5⟩ := G
            rw [if_pos (l_lec (N := 48) (c := 48) rfl hf (by decide)), ck_s (show c < 48 by omega) (by decide), nm_s, nI_clamp (by omega), nm_s, X_goesOn, cl1_s]
            refine hk8 _ ⟨Ex_tt Eg (Ex_tt (Ex_86 (Ex_u2 _ _ _ _)) (Ex_85 (Ex_tt (Ex_u2 _ _ _ _) (Ex_A _ _)))), Or.inl ⟨vA t n a + 1, c + 1, pT P c d, ⟨SC_A (SC_7 (SC_c G0 (fun z _ => by rw [u2_n (by decide)])) (by decide)) (by omega), by omega, ?_, by omega, ?_, fun i hi => ?_⟩, by omega, by omega, ?_⟩⟩
            · rw [A_i (by decide), u2_e, upd_e, u2_n (by decide), G2, nI_1]
            · rw [A_i (by decide), u2_e, upd_n (by decide), u2_n (by decide)]
              exact G4
            · rw [Ex_A _ _ 86 (by decide), u2_n (by decide), u2_e]
              unfold pT
              by_cases e : i = c
              · rw [e, upd_e, if_pos (by omega)]
                exact ⟨rfl, l2⟩
              · rw [upd_n e, if_neg (by omega)]
                exact G5 i (by omega)
            · rw [show c + 1 - c = 1 by omega, Nat.one_mul, if_pos hf, pT_r]
              exact tG_s hak eS
          · rw [if_neg hf] at eS
            rw [if_neg (l_nlec (N := 48) (c := 48) rfl (by omega) (by have := G.2.2.2.1; omega)), show mX15_bad 85 g 6 (nI a) = _ from X_bad0 G.1 6 a, cl1_s]
            have han := G.2.1
            exact hk8 _ ⟨Ex_tt Eg (Ex_85 (Ex_F _ _ _ _)), Or.inr ⟨6, a, _, SC_F G.1 (by decide) (by omega), by decide, by omega, tB_s hak eS⟩⟩
        · have eS : tS t n a c P k = .inl (1, vA t n a) := by
            unfold tS
            by_cases e41 : hc t n a = 41
            · rw [if_pos e41, hv41 e41]
              cases k with
              | nil => rfl
              | cons z k' =>
                obtain ⟨b, m', p⟩ := z
                have := h41 e41 _ _ rfl
                show (if c = b then _ else _) = _
                rw [if_pos this.symm]
            · rw [if_neg e41, hl]
              show (if _ = 40 then _ else _) = _
              rw [if_neg h40]
          have han := G.2.1
          rw [if_neg (by decide), X_place G.1, cl1_s, show mX15_bad 85 g 1 (nI (vA t n a)) = _ from X_bad0 G.1 1 _, cl1_s]
          exact hk8 _ ⟨Ex_tt Eg (Ex_85 (Ex_F _ _ _ _)), Or.inr ⟨1, _, _, SC_F G.1 (by decide) (by omega), by decide, by omega, tB_s hak eS⟩⟩
  · intro kk hkk
    by_cases h0 : hc t n (vA t n a) = 0
    · rw [if_pos (by rw [h0]; rfl)]
      exact hkk _ (Or.inr ⟨by rw [h0]; rfl, rfl⟩)
    · rw [if_neg (nI_ne0 (by omega) (by omega)), cl1_s, X_ixs h256, cl1_s]
      refine hkk _ ?_
      cases hl : lS (hc t n (vA t n a)) with
      | some d => exact Or.inl ⟨d, rfl, rfl⟩
      | none => exact Or.inr ⟨rfl, rfl⟩
