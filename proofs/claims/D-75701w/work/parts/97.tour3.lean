/-! tour: the reference ends a group -/
set_option maxRecDepth 100000
theorem nI_ml (a b : Nat) : nI a * nI b = nI (a * b) := by
  have h := mulK a b 0
  rw [show nI 0 = 0 from rfl, Int32.add_zero, Nat.add_zero] at h
  exact h
theorem M_endsGroup0 {h : Hp} {n a c : Nat} {P : Nat → Nat} (S : TM9 h n a c P []) : R (mX5_endsGroup h) (fun r => TF h r.2 ∧ r.1 = 0 ∧ r.2 300 9 = -1000 * nI 1 - nI a) := by
  obtain ⟨S1, S2, S3, S4, S5, S6, S7⟩ := S
  unfold mX5_endsGroup
  rw [nm_s, S5, if_pos (show nI ([] : List (Nat × Nat × Nat)).length = 0 from rfl), S1.2.1, M_wrong, cl2_s, bz_0]
  refine R_some ⟨TF_u (TF_r h) (by decide), rfl, ?_⟩
  dsimp only
  rw [u2_e, upd_e]
  rfl
theorem M_endsGroup1 {h : Hp} {n a c b m p : Nat} {P : Nat → Nat} {k : List (Nat × Nat × Nat)} (S : TM9 h n a c P ((b, m, p) :: k)) (ha : a ≤ 3000) : R (mX5_endsGroup h) (fun r => TF h r.2 ∧ if c = b then r.1 = 0 ∧ r.2 300 9 = -1000 * nI 1 - nI a else if b + (c - b) * m ≤ 48 then r.1 = 1 ∧ TM9 r.2 n (a + 1) (b + (c - b) * m) (rT P b c) k else r.1 = 0 ∧ r.2 300 9 = -1000 * nI 6 - nI p) := by
  obtain ⟨S1, S2, S3, S4, S5, S6, S7⟩ := S
  rw [List.length_cons] at S5 S6
  obtain ⟨z1, z2, z3, z4, ⟨z5, z6⟩, z7⟩ := S7 k.length _ (kr_top _ k)
  dsimp only at z1 z2 z3 z4 z5 z6 z7
  unfold mX5_endsGroup
  rw [nm_s, S5, if_neg (nI_ne0 (by omega) (by omega)), nm_s, show nI (k.length + 1) - 1 = nI k.length from nI_subn (b := 1) (by omega), ck_s (show k.length < 3 by omega) (by decide), nI_clamp (by omega), z1, S2]
  by_cases hcb : c = b
  · rw [if_pos (by rw [hcb]), S1.2.1, M_wrong, cl2_s, bz_0]
    refine R_some ⟨TF_u (TF_r h) (by decide), ?_⟩
    rw [if_pos hcb]
    refine ⟨rfl, ?_⟩
    dsimp only
    rw [u2_e, upd_e]
    rfl
  · rw [if_neg (fun e => hcb ((nI_eq (by omega) (by omega)).mp e)), nm_s]
    have e41 : u2 h 300 41 (nI k.length) 300 41 = nI k.length := by rw [u2_e, upd_e]
    have e40 : u2 h 300 41 (nI k.length) 300 40 = nI c := by rw [u2_e, upd_n (by decide)]; exact S2
    have e236 : u2 h 300 41 (nI k.length) 236 = h 236 := u2_n (by decide)
    have e237 : u2 h 300 41 (nI k.length) 237 = h 237 := u2_n (by decide)
    have e238 : u2 h 300 41 (nI k.length) 238 = h 238 := u2_n (by decide)
    have e235 : u2 h 300 41 (nI k.length) 235 = h 235 := u2_n (by decide)
    have eMC : MC (u2 h 300 41 (nI k.length)) n a := MC_u S1 (by decide) (by decide)
    have eTF : TF h (u2 h 300 41 (nI k.length)) := TF_u (TF_r h) (by decide)
    generalize u2 h 300 41 (nI k.length) = g at *
    have hml : (c - b) * m ≤ 48 * 9 := Nat.mul_le_mul (by omega) z6
    have hml2 : c - b ≤ (c - b) * m := by
      have := Nat.mul_le_mul_left (c - b) z5
      omega
    rw [e41, nm_s, ck_s (show k.length < 3 by omega) (by decide), nI_clamp (by omega), e236, z1, nm_s, e40, show nI c - nI b = nI (c - b) from nI_subn z4, nm_s, nm_s, ck_s (show k.length < 3 by omega) (by decide), e237, nI_clamp (by omega), z2, nI_ml, nI_add]
    by_cases hle : b + (c - b) * m ≤ 48
    · rw [if_pos (l_lec (N := 48) (c := 48) rfl hle (by decide))]
      refine fx_R2 ((c - b) * m - (c - b)) (fun i y g' => y = nI (c - b + i) ∧ TF h g' ∧ TM9 g' n a (c + i) (rT P b c) k ∧ g' 237 k.length = nI m) (by show _ < 100000; omega) ⟨by rw [Nat.add_zero], eTF, ⟨eMC, by rw [Nat.add_zero]; exact e40, by omega, ?_, e41, by omega, ?_⟩, by rw [e237]; exact z2⟩ ?_
      · intro i hi
        rw [e235]
        unfold rT
        rw [if_neg (by omega)]
        exact S4 i (by omega)
      · intro i z hz
        rw [e236, e237, e238]
        exact S7 i z (kr_sub hz).2
      · rintro i _ g' k9 hi ⟨rfl, q1, ⟨q2, q3, q4, q5, q6, q7, q8⟩, q9⟩ hk9
        rw [q6, nm_s, ck_s (show k.length < 3 by omega) (by decide), nI_clamp (by omega), q9, nI_ml]
        by_cases him : i = (c - b) * m - (c - b)
        · rw [if_pos (nI_le (by omega) (by omega)), nm_s, bz_1, q2.2.1, nI_1]
          refine R_some ⟨TF_u q1 (by decide), ?_⟩
          rw [if_neg hcb, if_pos hle]
          have ec : c + i = b + (c - b) * m := by omega
          rw [ec] at q3 q4 q5 q8
          refine ⟨rfl, MC_a q2 (by omega), ?_, q4, ?_, ?_, q7, ?_⟩
          · dsimp only
            rw [u2_e, upd_n (by decide)]
            exact q3
          · intro z hz
            dsimp only
            rw [u2_n (by decide)]
            exact q5 z hz
          · dsimp only
            rw [u2_e, upd_n (by decide)]
            exact q6
          · intro z w hw
            dsimp only
            rw [u2_n (by decide), u2_n (by decide), u2_n (by decide)]
            exact q8 z w hw
        · have hlt : (c - b + i) % (c - b) < c - b := Nat.mod_lt _ (by omega)
          rw [if_neg (nI_ge (by omega) (by omega)), show ∀ {ρ : Type} {M : Option ρ}, nz (nI (c - b)) M = M from fun {ρ M} => if_neg (nI_ne0 (by omega) (by omega)), jrem_s (by omega) (by omega) (by omega), nI_add, nm_s, ck_s (show b + (c - b + i) % (c - b) < 48 by omega) (by decide), q3, ck_s (show c + i < 48 by omega) (by decide), nm_s, nm_s, nI_clamp (by omega), nI_clamp (by omega), u2_n (show (300 : Nat) ≠ 235 by decide), q3, nI_1, nI_1]
          refine hk9 (i + 1) _ _ (by omega) (by omega) ⟨rfl, TF_u (TF_v q1 (by decide)) (by decide), ⟨MC_u ⟨by rw [u2_n (by decide)]; exact q2.1, by rw [u2_n (by decide)]; exact q2.2.1, q2.2.2⟩ (by decide) (by decide), ?_, by omega, ?_, ?_, q7, ?_⟩, ?_⟩
          · rw [u2_e, upd_e]
            rfl
          · intro z hz
            rw [u2_n (by decide), u2_e]
            by_cases e : z = c + i
            · rw [e, upd_e, q5 _ (by omega)]
              unfold rT
              rw [if_neg (by omega), if_pos (by omega), show c + i - b = c - b + i by omega]
            · rw [upd_n e]
              exact q5 z (by omega)
          · rw [u2_e, upd_n (by decide), u2_n (by decide)]
            exact q6
          · intro z w hw
            rw [u2_n (by decide), u2_n (by decide), u2_n (by decide), u2_n (by decide), u2_n (by decide), u2_n (by decide)]
            obtain ⟨w1, w2, w3, w4, w5, w6⟩ := q8 z w hw
            exact ⟨w1, w2, w3, by omega, w5, w6⟩
          · rw [u2_n (by decide), u2_n (by decide)]
            exact q9
    · rw [if_neg (l_nlec (N := 48) (c := 48) rfl (by omega) (by omega)), nm_s, ck_s (show k.length < 3 by omega) (by decide), nI_clamp (by omega), e238, z3, M_wrong, cl2_s, bz_0]
      refine R_some ⟨TF_u eTF (by decide), ?_⟩
      rw [if_neg hcb, if_neg hle]
      refine ⟨rfl, ?_⟩
      dsimp only
      rw [u2_e, upd_e]
      rfl
