/-! check -/
set_option maxRecDepth 100000
theorem nI_subn {a b : Nat} (h : b ≤ a) : nI a - nI b = nI (a - b) := by
  have e : nI a = nI (a - b) + nI b := by rw [nI_add]; congr 1; omega
  rw [e, add_sub4]
theorem X_fed {h : Hp} {i : Nat} (hi : i < 260) : mX0_fed h (nI i) = some (h 8 i &&& 255) := by
  unfold mX0_fed
  rw [ck_s hi (by decide), nI_clamp (by omega)]
theorem M_octet {h : Hp} {i : Nat} (hi : i < 260) : mX5_octet h (nI i) = some (h 205 i &&& 255) := by
  unfold mX5_octet
  rw [ck_s hi (by decide), nI_clamp (by omega)]
theorem ck_t1 : ∀ n : Fin 17, ∀ j : Fin 17, nI n.val - 1 - nI j.val + (-1) = nI n.val - 1 - nI (j.val + 1) := by decide +kernel
theorem ck_t2 : ∀ n : Fin 17, nI n.val - 1 - nI n.val < 0 := by decide +kernel
theorem nI_leN {a b : Nat} (ha : a < 2 ^ 31) (hb : b < 2 ^ 31) (h : ¬ a ≤ b) : ¬ nI a ≤ nI b := fun e => h ((nI_leI ha hb).mp e)
theorem II_taped0 {LW : LWt} {tt : TTy} {hx hm : Hp} (H : II LW tt hx hm) : II LW tt (u2 hx 100 10 0) (u2 hm 300 6 0) := by
  obtain ⟨H1, H2, ⟨_, H3⟩, H4⟩ := H
  exact ⟨H1, H2, ⟨⟨0, by omega, rfl, rfl⟩, H3⟩, H4⟩
theorem st_check (LW : LWt) : St_check (II LW) := by
  intro tt hx hm a0 H
  obtain ⟨U, L, HU, HL⟩ := BM_HX H.1
  obtain ⟨⟨t, ht, e1, e2⟩, H3⟩ := H.2.2.1
  unfold mX0_check mX5_check
  rw [X_wi a0 16 17 (by decide), M_wi a0 16 17 (by decide)]
  simp only [nm_s, cl1_s]
  cases h1 : nR a0 17 with
  | false => exact ⟨_, hx, hm, rfl, rfl, H⟩
  | true =>
    obtain ⟨n, hn, _, e0⟩ := nR_of h1
    subst e0
    simp only [bI_t, i10, e1, e2]
    by_cases hnt : n ≤ t
    · rw [if_pos (nI_le hnt (by omega)), if_pos (nI_le hnt (by omega))]
      have key : ∀ j, j < n → hx (42 + (if (8 : Int32) ≤ nI j then (0 : Int32) else 1).toNatClampNeg) (j % 8) = nI (if 8 ≤ j then L (j - 8) else U j) := fun j hj => by
        by_cases h8 : 8 ≤ j
        · rw [if_pos (l_le (N := 8) (c := 8) rfl h8 (by omega)), if_pos h8, show j % 8 = j - 8 by omega]
          exact (HU (j - 8) (by omega)).2.2.2
        · rw [if_neg (nl8 (by omega)), if_neg h8, show j % 8 = j by omega]
          exact (HU j (by omega)).2.2.1
      have stX : ∀ j, j < n → ∀ k : Int32 → Option (Int32 × Hp), (cl1 (mX0_fed (u2 hx 100 10 0) (nI j)) fun r6 => if (8 : Int32) ≤ nI j then ck 0 2 (ck (jrem (nI j) 8) 48 (if r6 = u2 hx 100 10 0 (42 + (0 : Int32).toNatClampNeg) (jrem (nI j) 8).toNatClampNeg then k (nI j + 1) else some (nI j, u2 hx 100 10 0))) else ck 1 2 (ck (jrem (nI j) 8) 48 (if r6 = u2 hx 100 10 0 (42 + (1 : Int32).toNatClampNeg) (jrem (nI j) 8).toNatClampNeg then k (nI j + 1) else some (nI j, u2 hx 100 10 0)))) = if hx 8 j &&& 255 = nI (if 8 ≤ j then L (j - 8) else U j) then k (nI (j + 1)) else some (nI j, u2 hx 100 10 0) := fun j hj k => by
        rw [X_fed (by omega), cl1_s, show jrem (nI j) 8 = nI (j % 8) from jrem_s (d := 8) (by omega) (by decide) (by decide), nI_clamp (by omega)]
        have kj := key j hj
        by_cases h8 : (8 : Int32) ≤ nI j
        · rw [if_pos h8] at kj
          rw [if_pos h8, ck_s (show j % 8 < 48 by omega) (by decide), nI_1]
          show (if hx 8 j &&& 255 = hx (42 + (0 : Int32).toNatClampNeg) (j % 8) then _ else _) = _
          rw [kj]
        · rw [if_neg h8] at kj
          rw [if_neg h8, ck_s (show j % 8 < 48 by omega) (by decide), nI_1]
          show (if hx 8 j &&& 255 = hx (42 + (1 : Int32).toNatClampNeg) (j % 8) then _ else _) = _
          rw [kj]
      have hM : ∀ o, fst (fun i => decide (¬ hx 8 i &&& 255 = nI (if 8 ≤ i then L (i - 8) else U i))) n n = o → (fx FU (fun _ _ => none) (fun k27 (x2_4 : Int32) (x3_5 : Int32) => if x3_5 < 0 then some (x2_4, u2 hm 300 6 0) else cl1 (mX5_octet hm x3_5) fun r8 => if (8 : Int32) ≤ x3_5 then cl1 (mX5_lowerAt hm (x3_5 - 8)) fun r12 => if r8 = r12 then k27 x2_4 (x3_5 + -1) else k27 x3_5 (x3_5 + -1) else cl1 (mX5_upperAt hm x3_5) fun r14 => if r8 = r14 then k27 x2_4 (x3_5 + -1) else k27 x3_5 (x3_5 + -1)) (-1) (nI n - 1)) = some (on1 o, u2 hm 300 6 0) := fun o ho => by
        refine fx_g2 (fun j => on1 (fst (fun i => decide (¬ hx 8 i &&& 255 = nI (if 8 ≤ i then L (i - 8) else U i))) n j)) (fun j => nI n - 1 - nI j) n rfl (by rw [nI_0, Int32.sub_zero]) (by show n < 100000; omega) (fun j hj k => ?_) (fun k => ?_)
        · rw [ck_t1 ⟨n, hn⟩ ⟨j, by omega⟩]
          rw [show nI n - 1 - nI j = nI (n - 1 - j) from by rw [show (1 : Int32) = nI 1 from rfl, nI_subn (by omega), nI_subn (by omega)]]
          rw [if_neg (nI_pos (by omega)), M_octet (by omega), cl1_s, ← H3 _ (by omega)]
          generalize hi : n - 1 - j = i
          have hiv : fst (fun i => decide (¬ hx 8 i &&& 255 = nI (if 8 ≤ i then L (i - 8) else U i))) n (j + 1) = if (decide (¬ hx 8 i &&& 255 = nI (if 8 ≤ i then L (i - 8) else U i))) then some i else fst (fun i => decide (¬ hx 8 i &&& 255 = nI (if 8 ≤ i then L (i - 8) else U i))) n j := by
            rw [fst, hi]
          by_cases h8 : 8 ≤ i
          · rw [if_pos (l_le (N := 8) (c := 8) rfl h8 (by omega)), show nI i - (8 : Int32) = nI (i - 8) from nI_subn h8, M_lo HL (by omega), cl1_s, hiv]
            rw [if_pos h8]
            by_cases hc : hx 8 i &&& 255 = nI (L (i - 8))
            · rw [if_pos hc, if_neg (by simp [hc])]
            · rw [if_neg hc, if_pos (by simp [hc])]
              rfl
          · rw [if_neg (nl8 (by omega)), M_up HL (by omega), cl1_s, hiv]
            rw [if_neg h8]
            by_cases hc : hx 8 i &&& 255 = nI (U i)
            · rw [if_pos hc, if_neg (by simp [hc])]
            · rw [if_neg hc, if_pos (by simp [hc])]
              rfl
        · rw [if_pos (ck_t2 ⟨n, hn⟩), ho]
      rcases first_of (fun i => decide (¬ hx 8 i &&& 255 = nI (if 8 ≤ i then L (i - 8) else U i))) n with ⟨m, hm1, hm2, hm3⟩ | hno
      · refine ⟨nI m, u2 hx 100 10 0, u2 hm 300 6 0, ?_, hM (some m) (fst_m hm1 hm2 hm3 n (by omega) (by omega)), II_taped0 H⟩
        refine fx_g1 (fun j => nI j) m rfl (by show m < 100000; omega) (fun j hj k => ?_) (fun k => ?_)
        · rw [if_neg (nI_ge (by omega) (by omega)), stX j (by omega), if_pos (by simpa using hm3 j hj)]
        · rw [if_neg (nI_ge (by omega) (by omega)), stX m (by omega), if_neg (by simpa using hm2)]
      · refine ⟨-1, u2 hx 100 10 0, u2 hm 300 6 0, ?_, hM none (fst_0 hno n (by omega)), II_taped0 H⟩
        refine fx_g1 (fun j => nI j) n rfl (by show n < 100000; omega) (fun j hj k => ?_) (fun k => ?_)
        · rw [if_neg (nI_ge (by omega) (by omega)), stX j (by omega), if_pos (by simpa using hno j hj)]
        · rw [if_pos (nI_le (by omega) (by omega))]
    · rw [if_neg (nI_leN (by omega) (by omega) hnt), if_neg (nI_leN (by omega) (by omega) hnt)]
      exact ⟨_, hx, hm, rfl, rfl, H⟩
