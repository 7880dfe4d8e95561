/-! tour: the reference -/
set_option maxRecDepth 100000
def tE (h0 : Hp) (z : (Nat × Nat) ⊕ (Nat × (Nat → Nat))) (r : Int32 × Hp) : Prop := Ex [234, 235, 236, 237, 238, 300] h0 r.2 ∧ (∀ i, i ∉ [6, 7, 8, 9, 12, 14, 39, 40, 41] → r.2 300 i = h0 300 i) ∧ r.2 300 6 = 0 ∧ match z with
  | .inl (w, q) => r.1 = -1000 * nI w - nI q ∧ r.2 300 39 = h0 300 39 ∧ r.2 234 = h0 234
  | .inr (c, P) => c ≤ 48 ∧ r.1 = nI c ∧ r.2 300 39 = nI c ∧ ∀ i, i < c → r.2 234 i = nI (sL (P i))
theorem R_l0 {ρ : Type} {E : Option ρ} {F : Option ρ → Option ρ} {Q : ρ → Prop} (C : Prop) (hE : C → R E Q) (hF : ∀ k : Option ρ, (C → R k Q) → R (F k) Q) : R (nm E F) Q := hF E hE
theorem M_tourL {h0 h : Hp} {n : Nat} {P : Nat → Nat} (hn : n ≤ 80) (S : TM9 h n 0 0 P []) (E0 : Ex [234, 235, 236, 237, 238, 300] h0 h) (E1 : ∀ i, i ∉ [6, 7, 8, 9, 12, 14, 39, 40, 41] → h 300 i = h0 300 i) (E2 : h 300 39 = h0 300 39) (E3 : h 234 = h0 234) : R (fx FU (fun _ _ => none) (fun k37 (x2_7 : Int32) (h8 : Hp) =>
nm (
nm (fun (x2_9 : Int32) (h10 : Hp) =>
nm (u2 h10 300 6 (0 : Int32)) (fun h11 =>
if x2_9 = 0 then (
some ((h11 300 9), h11)) else (
nm (u2 h11 300 39 (h11 300 40)) (fun h12 =>
fx FU (fun _ _ => none) (fun k105 (x3_13 : Int32) (h14 : Hp) =>
if (h14 300 40) ≤ x3_13 then (
some ((h14 300 39), h14)) else (
ck x3_13 48 (
ck x3_13 48 (nm (u2 h14 234 x3_13.toNatClampNeg (h14 235 x3_13.toNatClampNeg)) (fun h15 =>
k105 (x3_13 + (1 : Int32)) h15))))) (0 : Int32) h12)))) (fun k81 =>
if x2_7 = 0 then (
k81 x2_7 h8) else (
if (h8 300 41) ≤ 0 then (
k81 x2_7 h8) else (
cl2 (mX5_wrongAt h8 (1 : Int32) (h8 300 7)) (fun r17 h18 =>
k81 r17 h18))))) (fun k60 =>
if x2_7 = 0 then (
k60) else (
if (h8 300 8) ≤ (h8 300 7) then (
k60) else (
cl2 (mX5_readsStep h8) (fun r20 h21 =>
k37 r20 h21))))) (1 : Int32) h) (tE h0 (tR (tM h) n 82 0 0 P [])) := by
  generalize hZ : tR (tM h) n 82 0 0 P [] = Z
  refine fx_R2 82 (fun j y g => TF h g ∧ ((y = 1 ∧ ∃ a c P' k, j ≤ a ∧ j ≤ 81 ∧ a ≤ 82 ∧ TM9 g n a c P' k ∧ tR (tM h) n (82 - j) a c P' k = Z) ∨ (y = 0 ∧ ∃ w q, Z = .inl (w, q) ∧ g 300 9 = -1000 * nI w - nI q))) (by decide) ⟨TF_r h, .inl ⟨rfl, 0, 0, P, [], Nat.le_refl _, by decide, by decide, S, hZ⟩⟩ ?_
  rintro j y g k9 hj ⟨T1, T2⟩ hk9
  refine R_l0 ((y = 1 ∧ ∃ a c P' k, n ≤ a ∧ j ≤ 81 ∧ a ≤ 82 ∧ TM9 g n a c P' k ∧ tR (tM h) n (82 - j) a c P' k = Z) ∨ (y = 0 ∧ ∃ w q, Z = .inl (w, q) ∧ g 300 9 = -1000 * nI w - nI q)) (fun C => ?_) (fun kk hkk => ?_)
  · refine R_let2 (fun y' g' => TF h g' ∧ ((y' = 1 ∧ ∃ c P', Z = .inr (c, P') ∧ c ≤ 48 ∧ g' 300 40 = nI c ∧ ∀ i, i < c → g' 235 i = nI (sL (P' i))) ∨ (y' = 0 ∧ ∃ w q, Z = .inl (w, q) ∧ g' 300 9 = -1000 * nI w - nI q))) ?_ ?_
    · rintro y' g' ⟨U1, U2⟩
      have X0 : Ex [234, 235, 236, 237, 238, 300] h0 g' := fun q hq => (U1.1 q (fun e => hq (by simp at e ⊢; omega))).trans (E0 q hq)
      have X1 : ∀ i, i ∉ [6, 7, 8, 9, 12, 14, 39, 40, 41] → g' 300 i = h0 300 i := fun i hi => (U1.2 i (fun e => hi (by simp at e ⊢; omega))).trans (E1 i hi)
      have X2 : g' 300 39 = h0 300 39 := (U1.2 39 (by decide)).trans E2
      have X3 : g' 234 = h0 234 := (U1.1 234 (by decide)).trans E3
      rw [nm_s]
      rcases U2 with ⟨rfl, c, P', et, hc48, e40, e235⟩ | ⟨rfl, w, q, et, e9⟩
      · rw [if_neg (by decide), nm_s, u2_e, upd_n (by decide), e40]
        refine fx_R2 c (fun i y g2 => y = nI i ∧ Ex [234, 300] g' g2 ∧ (∀ i, i ∉ [6, 39] → g2 300 i = g' 300 i) ∧ g2 300 6 = 0 ∧ g2 300 39 = nI c ∧ ∀ z, z < i → g2 234 z = nI (sL (P' z))) (by show c < 100000; omega) ⟨rfl, ?_, ?_, ?_, ?_, fun z hz => absurd hz (by omega)⟩ ?_
        · intro q hq
          rw [u2_n (fun e => hq (by rw [e]; simp)), u2_n (fun e => hq (by rw [e]; simp))]
        · intro i hi
          rw [u2_e, upd_n (fun e => hi (by rw [e]; simp)), u2_e, upd_n (fun e => hi (by rw [e]; simp))]
        · rw [u2_e, upd_n (by decide), u2_e, upd_e]
        · rw [u2_e, upd_e]
        · rintro i _ g2 k7 hi ⟨rfl, v1, v2, v3, v4, v5⟩ hk7
          rw [v2 40 (by decide), e40]
          by_cases hic : i = c
          · rw [if_pos (nI_le (by omega) (by omega))]
            subst hic
            refine R_some ⟨fun q hq => (v1 q (fun e => hq (by simp at e ⊢; omega))).trans (X0 q hq), fun z hz => (v2 z (fun e => hz (by simp at e ⊢; omega))).trans (X1 z hz), v3, ?_⟩
            rw [et]
            exact ⟨hc48, v4, v4, v5⟩
          · rw [if_neg (nI_ge (by omega) (by omega)), ck_s (show i < 48 by omega) (by decide), ck_s (show i < 48 by omega) (by decide), nm_s, nI_clamp (by omega), nI_1]
            refine hk7 (i + 1) _ _ (by omega) (by omega) ⟨rfl, fun q hq => ?_, fun z hz => ?_, ?_, ?_, fun z hz => ?_⟩
            · rw [u2_n (fun e => hq (by rw [e]; simp))]
              exact v1 q hq
            · rw [u2_n (by decide)]
              exact v2 z hz
            · rw [u2_n (by decide)]
              exact v3
            · rw [u2_n (by decide)]
              exact v4
            · rw [u2_e]
              by_cases e : z = i
              · rw [e, upd_e, v1 235 (by decide)]
                exact e235 i (by omega)
              · rw [upd_n e]
                exact v5 z (by omega)
      · rw [if_pos rfl]
        refine R_some ⟨fun q hq => ?_, fun i hi => ?_, ?_, ?_⟩
        · dsimp only
          rw [u2_n (fun e => hq (by rw [e]; simp))]
          exact X0 q hq
        · dsimp only
          rw [u2_e, upd_n (fun e => hi (by rw [e]; simp))]
          exact X1 i hi
        · dsimp only
          rw [u2_e, upd_e]
        · rw [et]
          dsimp only
          refine ⟨?_, ?_, ?_⟩
          · rw [u2_e, upd_n (by decide)]
            exact e9
          · rw [u2_e, upd_n (by decide)]
            exact X2
          · rw [u2_n (by decide)]
            exact X3
    · intro k8 hk8
      rcases C with ⟨rfl, a, c, P', k, ha, hj1, a82, TM, et⟩ | ⟨rfl, w, q, et, e9⟩
      · obtain ⟨f, hf⟩ : ∃ f, 82 - j = f + 1 := ⟨81 - j, by omega⟩
        rw [hf] at et
        unfold tR at et
        rw [if_pos ha] at et
        rw [if_neg (by decide), TM.2.2.2.2.1]
        by_cases hk : k.length = 0
        · rw [if_pos (by rw [hk]; decide)]
          rw [if_pos hk] at et
          exact hk8 _ _ ⟨T1, .inl ⟨rfl, c, P', et.symm, TM.2.2.1, TM.2.1, TM.2.2.2.1⟩⟩
        · have hk2 := TM.2.2.2.2.2.1
          rw [if_neg (nI_nle (by omega) (by omega)), TM.1.2.1, M_wrong, cl2_s]
          rw [if_neg hk] at et
          refine hk8 _ _ ⟨TF_u T1 (by decide), .inr ⟨rfl, 1, a, et.symm, ?_⟩⟩
          rw [u2_e, upd_e]
          rfl
      · rw [if_pos rfl]
        exact hk8 _ _ ⟨T1, .inr ⟨rfl, w, q, et, e9⟩⟩
  · rcases T2 with ⟨rfl, a, c, P', k, ja, hj1, a82, TM, et⟩ | ⟨rfl, w, q, et, e9⟩
    · rw [if_neg (by decide), TM.1.1, TM.1.2.1]
      by_cases ha : n ≤ a
      · rw [if_pos (nI_le ha (by omega))]
        exact hkk (.inl ⟨rfl, a, c, P', k, ha, hj1, a82, TM, et⟩)
      · rw [if_neg (nI_ge (by omega) (by omega))]
        have tg : tM g = tM h := by
          funext i
          unfold tM
          rw [T1.1 205 (by decide)]
        obtain ⟨f, hf⟩ : ∃ f, 82 - j = f + 1 := ⟨81 - j, by omega⟩
        rw [hf] at et
        unfold tR at et
        rw [if_neg ha] at et
        refine R_c2 (M_readsStep TM (by omega)) (fun r g' hq => ?_)
        obtain ⟨q1, q2⟩ := hq
        rw [tg] at q2
        cases hs : tS (tM h) n a c P' k with
        | inl z =>
          obtain ⟨w, q⟩ := z
          rw [hs] at q2 et
          exact hk9 (j + 1) _ _ (by omega) (by omega) ⟨TF_t T1 q1, .inr ⟨q2.1, w, q, et.symm, q2.2⟩⟩
        | inr z =>
          obtain ⟨a', c', P2, k'⟩ := z
          have up := tS_up hs
          rw [hs] at q2 et
          exact hk9 (j + 1) _ _ (by omega) (by omega) ⟨TF_t T1 q1, .inl ⟨q2.1, a', c', P2, k', by omega, by omega, by omega, q2.2, by rw [show 82 - (j + 1) = f by omega]; exact et⟩⟩
    · rw [if_pos rfl]
      exact hkk (.inr ⟨rfl, w, q, et, e9⟩)
