/-! casts -/
set_option maxRecDepth 100000
def mPost (h0 : Hp) (Z : Option (Nat × Nat) × Nat × (Nat → Nat → Nat)) (r : Int32 × Hp) : Prop := (∀ z, z ∉ [200, 201, 229, 300] → r.2 z = h0 z) ∧ (∀ i, i ∈ fM → i ≠ 6 → r.2 300 i = h0 300 i) ∧ r.2 300 6 = 0 ∧ match Z.1 with
  | some (w, q) => r.1 = -1000 * nI w - nI q ∧ r.2 200 = h0 200 ∧ r.2 201 = h0 201
  | none => r.1 = nI Z.2.1 ∧ (∀ c i, c < 2 → i < 48 → r.2 200 (48 * c + i) = nI (Z.2.2 c i)) ∧ r.2 201 0 = 0 ∧ r.2 201 1 = 0
def mB (h : Hp) (n : Nat) : Hp := u2 (u2 (u2 (u2 (u2 (u2 h 300 7 0) 300 8 (nI n)) 300 12 0) 300 14 0) 300 30 0) 300 31 0
theorem fM_n : ∀ i, i ∈ fM → i ∉ [7, 9, 30, 31, 32, 33] ∧ i ≠ 7 ∧ i ≠ 8 ∧ i ≠ 12 ∧ i ≠ 14 ∧ i ≠ 30 ∧ i ≠ 31 := by decide
theorem M_casts {h : Hp} {n t : Nat} (hn : 1 ≤ n ∧ n ≤ 240 ∧ n ≤ t ∧ t ≤ 260) (h6 : h 300 6 = nI t) : R (mX5_casts h (nI n)) (fun r => mPost h (rrun (tM h) n 500 0 0 0 (fun _ _ => 0)) r) := by
  generalize hZ : rrun (tM h) n 500 0 0 0 (fun _ _ => 0) = Z
  have ht : ∀ i, tM h i < 256 := fun i => oct_lt _
  have e0 : nI n - 1 = nI (n - 1) := nI_subn (b := 1) hn.1
  unfold mX5_casts mX5_beginsText
  rw [M_wi1 (nI n) 240 240 (by decide), e0, nR_s (by omega) (by omega), cl1_s, nm_s, bI_t, i10, h6, if_pos (nI_le (by omega) (by omega)), nm_s, nm_s, nm_s, nm_s, cl1_s, nm_s, nm_s]
  show R (fx FU (fun _ _ => none) _ 0 (mB h n)) _
  have B1 : ∀ z, z ≠ 300 → mB h n z = h z := fun z hz => by
    unfold mB
    rw [u2_n hz, u2_n hz, u2_n hz, u2_n hz, u2_n hz, u2_n hz]
  have B2 : ∀ i, i ∈ fM → mB h n 300 i = h 300 i := fun i hi => by
    have := fM_n i hi
    unfold mB
    rw [u2_e, upd_n this.2.2.2.2.2.2, u2_e, upd_n this.2.2.2.2.2.1, u2_e, upd_n this.2.2.2.2.1, u2_e, upd_n this.2.2.2.1, u2_e, upd_n this.2.2.1, u2_e, upd_n this.2.1]
  have B3 : MC (mB h n) n 0 := ⟨rfl, rfl, by omega, by omega⟩
  have B4 : mB h n 300 30 = 0 := rfl
  have B5 : mB h n 300 31 = nI 0 := rfl
  generalize mB h n = hb at *
  refine fx_R2 96 (fun j x g => x = nI j ∧ g = sN hb 229 (fun _ => 0) j) (by decide) ⟨rfl, (sN_0 _ _ _).symm⟩ ?_
  rintro j x g k hj ⟨rfl, rfl⟩ hk
  by_cases hj96 : j = 96
  · subst hj96
    rw [if_pos (show (96 : Int32) ≤ nI 96 by decide)]
    clear hk k
    have S0 : MC (sN hb 229 (fun _ => 0) 96) n 0 := ⟨by rw [sN_n (by decide)]; exact B3.1, by rw [sN_n (by decide)]; exact B3.2.1, B3.2.2⟩
    have T0 : tM (sN hb 229 (fun _ => 0) 96) = tM h := by
      funext z
      unfold tM
      rw [sN_n (by decide), B1 205 (by decide)]
    have G0 : GM (sN hb 229 (fun _ => 0) 96) (fun _ _ => 0) := fun c i hc' hi => by
      rw [sN_k (by omega)]
      rfl
    have V0 : sN hb 229 (fun _ => 0) 96 300 30 = 0 := by rw [sN_n (by decide)]; exact B4
    have L0 : sN hb 229 (fun _ => 0) 96 300 31 = nI 0 := by rw [sN_n (by decide)]; exact B5
    have N1 : ∀ z, z ≠ 229 → sN hb 229 (fun _ => 0) 96 z = hb z := fun z hz => sN_n hz
    generalize sN hb 229 (fun _ => 0) 96 = g0 at *
    have aft : ∀ (g : Hp) (r : Int32 × Hp) (k a l : Nat) (v : Int32) (G : Nat → Nat → Nat), (∀ c i, G c i ≤ 25) → MF g0 g → tM g = tM h → rrun (tM h) n (k + 1) a v l G = Z → rPost g n l (lrun (tM g) n a v G) r → MF g0 r.2 ∧ ((r.1 = 0 ∧ ∃ w q, r.2 300 9 = -1000 * nI w - nI q ∧ Z.1 = some (w, q)) ∨ (r.1 = 1 ∧ ∃ a' v' G' G0, a < a' ∧ a' ≤ 3000 ∧ MC r.2 n a' ∧ r.2 300 30 = v' ∧ r.2 300 31 = nI (l + 1) ∧ GM r.2 G' ∧ (∀ c i, G' c i ≤ 25) ∧ rnx (tM h) n k a' v' (l + 1) G' G0 = Z)) := by
      intro g r k a l v G hb' hE hT hR hP
      rw [hT] at hP
      obtain ⟨E, hP⟩ := hP
      refine ⟨MF_t hE E, ?_⟩
      have lf := lrun_f (t := tM h) (n := n) (a := a) (v := v) hb'
      rw [rrun_s] at hR
      cases hL : (lrun (tM h) n a v G).1 with
      | some wq =>
        obtain ⟨w, q⟩ := wq
        rw [hL] at hP hR
        exact Or.inl ⟨hP.1, w, q, hP.2, by rw [← hR]⟩
      | none =>
        rw [hL] at hP hR
        obtain ⟨b0, b1, b2, b3, b4, b5⟩ := hP
        exact Or.inr ⟨b0, _, _, _, G, lf.1 hL, b2, b1, b3, b4, b5, lf.2, hR⟩
    refine R_c2 (M_row S0 (by omega) V0 L0 G0) ?_
    intro r1 g1 hg1
    have A1 := aft g0 (r1, g1) 499 0 0 0 _ (fun _ _ => Nat.zero_le _) (MF_r _) T0 hZ hg1
    have kp : ∀ g, MF g0 g → (∀ z, z ∉ [229, 300] → g z = h z) ∧ ∀ i, i ∈ fM → g 300 i = h 300 i := fun g hM => by
      refine ⟨fun z hz => ?_, fun i hi => ?_⟩
      · simp only [List.mem_cons, List.not_mem_nil, or_false, not_or] at hz
        rw [hM.1 z (by simp only [List.mem_cons, List.not_mem_nil, or_false, not_or]; exact hz), N1 z hz.1, B1 z hz.2]
      · rw [hM.2 i (fM_n i hi).1, N1 300 (by decide), B2 i hi]
    refine fx_R2 400 (fun j x g => MF g0 g ∧ ((x = 0 ∧ ∃ w q, g 300 9 = -1000 * nI w - nI q ∧ Z.1 = some (w, q)) ∨ (x = 1 ∧ j ≤ 300 ∧ ∃ k a' l v' G' G0, k + j = 499 ∧ j ≤ a' ∧ a' ≤ 3000 ∧ MC g n a' ∧ g 300 30 = v' ∧ g 300 31 = nI l ∧ GM g G' ∧ (∀ c i, G' c i ≤ 25) ∧ rnx (tM h) n k a' v' l G' G0 = Z))) (by decide) ⟨A1.1, ?_⟩ ?_
    · rcases A1.2 with h9 | ⟨e1, a', v', G', G9, b1, b2, b3, b4, b5, b6, b7, b8⟩
      · exact Or.inl h9
      · exact Or.inr ⟨e1, by omega, 499, a', _, v', G', G9, by omega, by omega, b2, b3, b4, b5, b6, b7, b8⟩
    rintro j x g k9 hj ⟨hM, hI⟩ hk9
    have hT : tM g = tM h := by
      funext z
      unfold tM
      rw [(kp g hM).1 205 (by decide)]
    rw [nm_s]
    rcases hI with ⟨rfl, w, q, b1, b2⟩ | ⟨rfl, hj3, k, a', l, v', G', G9, b0, b1, b2, b3, b4, b5, b6, b7, b8⟩
    · rw [i00, nm_s, i00]
      have K := kp g hM
      refine R_some ⟨fun z hz => ?_, fun i hi h6' => ?_, ?_, ?_⟩
      · dsimp only
        simp only [List.mem_cons, List.not_mem_nil, or_false, not_or] at hz
        rw [u2_n hz.2.2.2]
        exact K.1 z (by simp only [List.mem_cons, List.not_mem_nil, or_false, not_or]; exact hz.2.2)
      · dsimp only
        rw [u2_e, upd_n h6']
        exact K.2 i hi
      · dsimp only
        rw [u2_e, upd_e]
      · rw [b2]
        dsimp only
        rw [u2_e, upd_n (by decide), u2_n (by decide), u2_n (by decide)]
        exact ⟨b1, K.1 200 (by decide), K.1 201 (by decide)⟩
    · rw [i10, b3.1, b3.2.1]
      unfold rnx at b8
      by_cases c1 : n ≤ a'
      · rw [if_neg (by omega)] at b8
        rw [if_pos (nI_le c1 (by omega)), nm_s, i10]
        have K := kp g hM
        refine fx_R2 96 (fun j x g' => x = nI j ∧ g' = sN (u2 g 300 6 0) 200 (g 229) j) (by decide) ⟨rfl, (sN_0 _ _ _).symm⟩ ?_
        rintro i _ _ k2 hi ⟨rfl, rfl⟩ hk2
        by_cases hi96 : i = 96
        · subst hi96
          rw [if_pos (show (96 : Int32) ≤ nI 96 by decide), nm_s, nm_s]
          refine R_some ⟨fun z hz => ?_, fun i hi h6' => ?_, ?_, ?_⟩
          · dsimp only
            simp only [List.mem_cons, List.not_mem_nil, or_false, not_or] at hz
            rw [u2_n hz.2.1, u2_n hz.2.1, sN_n hz.1, u2_n hz.2.2.2]
            exact K.1 z (by simp only [List.mem_cons, List.not_mem_nil, or_false, not_or]; exact hz.2.2)
          · dsimp only
            rw [u2_n (by decide), u2_n (by decide), sN_n (by decide), u2_e, upd_n h6']
            exact K.2 i hi
          · dsimp only
            rw [u2_n (by decide), u2_n (by decide), sN_n (by decide), u2_e, upd_e]
          · rw [← b8]
            refine ⟨?_, fun c i hc' hi => ?_, ?_, ?_⟩
            · dsimp only
              rw [u2_n (by decide), u2_n (by decide), sN_n (by decide), u2_e, upd_n (by decide)]
              exact b5
            · dsimp only
              rw [u2_n (by decide), u2_n (by decide), sN_k (by omega)]
              exact b6 c i hc' hi
            · dsimp only
              rw [u2_e, upd_n (by decide), u2_e, upd_e]
            · dsimp only
              rw [u2_e, upd_e]
        · have hi' : i < 96 := by omega
          rw [if_neg (nl96 hi'), ck_s hi' (by decide), ck_s hi' (by decide), nm_s, nI_clamp (by omega), sN_n (show (229 : Nat) ≠ 200 by decide), u2_n (show (229 : Nat) ≠ 300 by decide), nI_1, sN_s (u2 g 300 6 0) 200 (g 229) i]
          exact hk2 (i + 1) _ _ (by omega) (by omega) ⟨rfl, rfl⟩
      · rw [if_pos (by omega)] at b8
        have tk := M_takes b3 (c := 59) (by decide) (by decide)
        rw [hT] at tk
        rw [if_neg (nI_ge (by omega) (by omega)), show mX5_takes g 59 = _ from tk]
        by_cases c2 : hc (tM h) n a' = 59
        · rw [if_pos c2] at b8
          rw [if_pos c2, cl2_s, nm_s, nm_s, i10]
          obtain ⟨k', rfl⟩ : ∃ k', k = k' + 1 := ⟨k - 1, by omega⟩
          have M2 : MF g0 (u2 g 300 7 (nI (a' + 1))) := MF_u hM (by decide)
          have T2 : tM (u2 g 300 7 (nI (a' + 1))) = tM h := by
            rw [← hT]
            rfl
          refine R_c2 (M_row (v := v') (l := l) (G := G') (MC_a b3 (by omega)) (by omega) (by rw [u2_e, upd_n (by decide)]; exact b4) (by rw [u2_e, upd_n (by decide)]; exact b5) (fun c i hc' hi => by
            rw [u2_n (by decide)]
            exact b6 c i hc' hi)) ?_
          intro r3 g3 hg3
          have A3 := aft _ (r3, g3) k' (a' + 1) l v' G' b7 M2 T2 b8 hg3
          rcases A3.2 with ⟨e3, w, q, d1, d2⟩ | ⟨e3, a3, v3, G3, G03, d1, d2, d3, d4, d5, d6, d7, d8⟩
          · have e3' : r3 = 0 := e3
            rw [e3', i00]
            exact hk9 (j + 1) _ _ (by omega) (by omega) ⟨A3.1, Or.inl ⟨rfl, w, q, d1, d2⟩⟩
          · have e3' : r3 = 1 := e3
            rw [e3', i10]
            exact hk9 (j + 1) _ _ (by omega) (by omega) ⟨A3.1, Or.inr ⟨rfl, by omega, k', a3, _, v3, G3, G03, by omega, by omega, d2, d3, d4, d5, d6, d7, d8⟩⟩
        · rw [if_neg c2] at b8
          rw [if_neg c2, cl2_s, nm_s, nm_s, i00]
          exact hk9 (j + 1) _ _ (by omega) (by omega) ⟨MF_u hM (by decide), Or.inl ⟨rfl, 1, a', by rw [u2_e, upd_e], by rw [← b8]⟩⟩
  · have hj' : j < 96 := by omega
    rw [if_neg (nl96 hj'), ck_s hj' (by decide), nm_s, nI_clamp (by omega), nI_1, sN_s hb 229 (fun _ => 0) j]
    exact hk (j + 1) _ _ (by omega) (by omega) ⟨rfl, rfl⟩
