/-! tour: the reference's groups -/
set_option maxRecDepth 100000
theorem kr_top (z : Nat × Nat × Nat) (k : List (Nat × Nat × Nat)) : (z :: k).reverse[k.length]? = some z := by
  rw [List.reverse_cons, List.getElem?_append_right (by rw [List.length_reverse]; omega), List.length_reverse, Nat.sub_self]
  rfl
theorem kr_sub {z w : Nat × Nat × Nat} {k : List (Nat × Nat × Nat)} {i : Nat} (h : k.reverse[i]? = some w) : i < k.length ∧ (z :: k).reverse[i]? = some w := by
  have hi : i < k.reverse.length := by
    refine Classical.byContradiction (fun h9 => ?_)
    rw [List.getElem?_eq_none (by omega)] at h
    cases h
  refine ⟨by rw [List.length_reverse] at hi; exact hi, ?_⟩
  rw [List.reverse_cons, List.getElem?_append_left hi]
  exact h
theorem kr_cases {z w : Nat × Nat × Nat} {k : List (Nat × Nat × Nat)} {i : Nat} (h : (z :: k).reverse[i]? = some w) : (i = k.length ∧ w = z) ∨ (i < k.length ∧ k.reverse[i]? = some w) := by
  by_cases e : i = k.length
  · subst e
    rw [kr_top] at h
    cases h
    exact .inl ⟨rfl, rfl⟩
  · refine .inr ?_
    have hi : i < (z :: k).reverse.length := by
      refine Classical.byContradiction (fun h9 => ?_)
      rw [List.getElem?_eq_none (by omega)] at h
      cases h
    rw [List.length_reverse, List.length_cons] at hi
    have h2 : i < k.length := by omega
    rw [List.reverse_cons, List.getElem?_append_left (by rw [List.length_reverse]; exact h2)] at h
    exact ⟨h2, h⟩
theorem M_opensGroup {h : Hp} {n a c m p : Nat} {P : Nat → Nat} {k : List (Nat × Nat × Nat)} (S : TM9 h n a c P k) (ha : a ≤ 3000) (hm1 : 1 ≤ m) (hm : m ≤ 9) (hp : p ≤ 100000) : R (mX5_opensGroup h (nI m) (nI p)) (fun r => TF h r.2 ∧ if k.length = 2 then r.1 = 0 ∧ r.2 300 9 = -1000 * nI 5 - nI a else r.1 = 1 ∧ TM9 r.2 n (a + 1) c P ((c, m, p) :: k)) := by
  obtain ⟨S1, S2, S3, S4, S5, S6, S7⟩ := S
  unfold mX5_opensGroup
  by_cases h2 : k.length = 2
  · rw [S5, if_pos (by rw [h2]; rfl), S1.2.1, M_wrong, cl2_s, bz_0]
    refine R_some ⟨TF_u (TF_r h) (by decide), ?_⟩
    rw [if_pos h2]
    refine ⟨rfl, ?_⟩
    dsimp only
    rw [u2_e, upd_e]
    rfl
  · have hl : k.length < 2 := by omega
    rw [S5, if_neg (show ¬ nI k.length = 2 from fun e => h2 ((nI_eq (b := 2) (by omega) (by decide)).mp e)), ck_s (show k.length < 3 by omega) (by decide), nm_s, nI_clamp (by omega), S2]
    rw [u2_n (show (300 : Nat) ≠ 236 by decide), S5, ck_s (show k.length < 3 by omega) (by decide), nm_s, nI_clamp (by omega)]
    rw [u2_n (show (300 : Nat) ≠ 237 by decide), u2_n (show (300 : Nat) ≠ 236 by decide), S5, ck_s (show k.length < 3 by omega) (by decide), nm_s, nI_clamp (by omega)]
    rw [u2_n (show (300 : Nat) ≠ 238 by decide), u2_n (show (300 : Nat) ≠ 237 by decide), u2_n (show (300 : Nat) ≠ 236 by decide), S5, nI_1, nm_s, nm_s, bz_1]
    have e7 : u2 (u2 (u2 (u2 h 236 k.length (nI c)) 237 k.length (nI m)) 238 k.length (nI p)) 300 41 (nI (k.length + 1)) 300 7 = nI a := by
      rw [u2_e, upd_n (by decide), u2_n (by decide), u2_n (by decide), u2_n (by decide)]
      exact S1.2.1
    rw [e7, nI_1]
    refine R_some ⟨TF_u (TF_u (TF_v (TF_v (TF_v (TF_r h) (by decide)) (by decide)) (by decide)) (by decide)) (by decide), ?_⟩
    rw [if_neg h2]
    refine ⟨rfl, ⟨?_, ?_, S1.2.2.1, by omega⟩, ?_, S3, ?_, ?_, by rw [List.length_cons]; omega, ?_⟩
    · dsimp only
      rw [u2_e, upd_n (by decide), u2_e, upd_n (by decide), u2_n (by decide), u2_n (by decide), u2_n (by decide)]
      exact S1.1
    · dsimp only
      rw [u2_e, upd_e]
    · dsimp only
      rw [u2_e, upd_n (by decide), u2_e, upd_n (by decide), u2_n (by decide), u2_n (by decide), u2_n (by decide)]
      exact S2
    · intro i hi
      dsimp only
      rw [u2_n (by decide), u2_n (by decide), u2_n (by decide), u2_n (by decide), u2_n (by decide)]
      exact S4 i hi
    · dsimp only
      rw [u2_e, upd_n (by decide), u2_e, upd_e, List.length_cons]
    · intro i z hz
      dsimp only
      have a1 : u2 (u2 (u2 (u2 (u2 h 236 k.length (nI c)) 237 k.length (nI m)) 238 k.length (nI p)) 300 41 (nI (k.length + 1))) 300 7 (nI (a + 1)) 236 = upd (h 236) k.length (nI c) := by
        rw [u2_n (by decide), u2_n (by decide), u2_n (by decide), u2_n (by decide), u2_e]
      have a2 : u2 (u2 (u2 (u2 (u2 h 236 k.length (nI c)) 237 k.length (nI m)) 238 k.length (nI p)) 300 41 (nI (k.length + 1))) 300 7 (nI (a + 1)) 237 = upd (h 237) k.length (nI m) := by
        rw [u2_n (by decide), u2_n (by decide), u2_n (by decide), u2_e, u2_n (by decide)]
      have a3 : u2 (u2 (u2 (u2 (u2 h 236 k.length (nI c)) 237 k.length (nI m)) 238 k.length (nI p)) 300 41 (nI (k.length + 1))) 300 7 (nI (a + 1)) 238 = upd (h 238) k.length (nI p) := by
        rw [u2_n (by decide), u2_n (by decide), u2_e, u2_n (by decide), u2_n (by decide)]
      rw [a1, a2, a3]
      rcases kr_cases hz with ⟨rfl, rfl⟩ | ⟨hi, hz2⟩
      · rw [upd_e, upd_e, upd_e]
        exact ⟨rfl, rfl, rfl, Nat.le_refl _, ⟨hm1, hm⟩, hp⟩
      · rw [upd_n (by omega), upd_n (by omega), upd_n (by omega)]
        exact S7 i z hz2
