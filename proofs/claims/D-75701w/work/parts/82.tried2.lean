/-! tried -/
set_option maxRecDepth 100000
theorem M_wiK (x a b K : Int32) (N : Nat) (hK : 0 ≤ K.toInt ∧ K.toInt ≤ 1000) (hN : N ≤ 1000) (ha : a = K) (hb : b.toInt + 1 = K.toInt + N) : mX5_in x a b = some (bI (nR (x - K) N)) := (win_sp x a b).trans (dec_c (by
  rw [ha, Int32.toInt_sub]
  have h1 := Int32.toInt_lt x
  have h2 := Int32.le_toInt x
  simp only [Int.bmod]
  split <;> omega))
theorem tr_end {tt : TTy} {hx hm h8 h10 hm9 : Hp} (H : II LWd tt hx hm) (E8 : Ex [50, 52, 53, 54] hx h8) (S : NS 50 h8 (shE hm 0) h10 hm9) {s x3 : Int32} (hs : h10 50 4 = s) (hc : nR x3 3 = true ∨ nR (x3 - 100) 48 = true ∨ nR (x3 - 200) 48 = true) : ∃ r hx' hm', (if x3 = (0 : Int32) then some (h10 50 4, h10) else if x3 = (1 : Int32) then cl1 (mX3_opening 50 h10 31) (fun r13 => some (r13, h10)) else if x3 = (2 : Int32) then cl2 (mX3_marks 50 h10 31 0) (fun r16 h17 => some (r16, h17)) else nm (fun (s19 : Int32) => some (s19, h10)) (fun k164 => if (200 : Int32) ≤ x3 then nm (x3 - 200) (fun v20 => ck v20 48 (k164 (h10 52 v20.toNatClampNeg))) else nm (x3 - 100) (fun v21 => ck v21 48 (k164 (h10 53 v21.toNatClampNeg))))) = some (r, hx') ∧ cl2 (mX5_triedIs hm9 s x3) (fun r11 h12 => cl1 (mX5_takesBack h12 0) (fun h14 => some (r11, h14))) = some (r, hm') ∧ II LWd tt hx' hm' := by
  obtain ⟨U, L, HU, HL⟩ := BM_HX S.1
  unfold mX5_triedIs
  rw [M_wiK x3 100 147 100 48 (by decide) (by decide) rfl (by decide), M_wiK x3 200 247 200 48 (by decide) (by decide) rfl (by decide)]
  by_cases h1 : nR (x3 - 100) 48 = true
  · obtain ⟨p, hp, _, e⟩ := nR_of h1
    have e3 : x3 = nI (100 + p) := by
      have : x3 = nI p + 100 := by rw [← e, Int32.sub_add_cancel]
      rw [this]
      exact (nI_add p 100).trans (by rw [Nat.add_comm])
    subst e3
    have hn : ¬ (200 : Int32) ≤ nI (100 + p) := l_ge (N := 200) (c := 200) rfl (by omega) (by decide)
    have n0 : ¬ nI (100 + p) = (0 : Int32) := fun e9 => by have := (l_eq (N := 0) (c := 0) rfl (by decide) (by omega)).mp e9; omega
    have n1 : ¬ nI (100 + p) = (1 : Int32) := fun e9 => by have := (l_eq (N := 1) (c := 1) rfl (by decide) (by omega)).mp e9; omega
    have n2 : ¬ nI (100 + p) = (2 : Int32) := fun e9 => by have := (l_eq (N := 2) (c := 2) rfl (by decide) (by omega)).mp e9; omega
    rw [if_neg n0, if_neg n1, if_neg n2, nm_s, if_neg hn, nm_s, e, ck_s hp (by decide), nI_clamp (by omega), show h10 53 p = nI (U p) from (HU p hp).2.2.1, nR_s hp (by omega), cl1_s, bI_t, i10, M_up HL hp, cl1_s, cl2_s, M_back0, cl1_s]
    exact ⟨_, _, _, rfl, rfl, tr_b H E8 S⟩
  · have h1f : nR (x3 - 100) 48 = false := by simpa using h1
    rw [h1f, cl1_s, bI_f, i00]
    by_cases h2 : nR (x3 - 200) 48 = true
    · obtain ⟨p, hp, _, e⟩ := nR_of h2
      have e3 : x3 = nI (200 + p) := by
        have : x3 = nI p + 200 := by rw [← e, Int32.sub_add_cancel]
        rw [this]
        exact (nI_add p 200).trans (by rw [Nat.add_comm])
      subst e3
      have hn : (200 : Int32) ≤ nI (200 + p) := l_le (N := 200) (c := 200) rfl (by omega) (by omega)
      have n0 : ¬ nI (200 + p) = (0 : Int32) := fun e9 => by have := (l_eq (N := 0) (c := 0) rfl (by decide) (by omega)).mp e9; omega
      have n1 : ¬ nI (200 + p) = (1 : Int32) := fun e9 => by have := (l_eq (N := 1) (c := 1) rfl (by decide) (by omega)).mp e9; omega
      have n2 : ¬ nI (200 + p) = (2 : Int32) := fun e9 => by have := (l_eq (N := 2) (c := 2) rfl (by decide) (by omega)).mp e9; omega
      rw [if_neg n0, if_neg n1, if_neg n2, nm_s, if_pos hn, nm_s, e, ck_s hp (by decide), nI_clamp (by omega), show h10 52 p = nI (L p) from (HU p hp).2.2.2, nR_s hp (by omega), cl1_s, bI_t, i10, M_lo HL hp, cl1_s, cl2_s, M_back0, cl1_s]
      exact ⟨_, _, _, rfl, rfl, tr_b H E8 S⟩
    · have h2f : nR (x3 - 200) 48 = false := by simpa using h2
      have h3 : nR x3 3 = true := by
        rcases hc with h | h | h
        · exact h
        · exact absurd h h1
        · exact absurd h h2
      obtain ⟨w, hw, _, e⟩ := nR_of h3
      subst e
      rw [h2f, cl1_s, bI_f, i00]
      have hw3 : w = 0 ∨ w = 1 ∨ w = 2 := by omega
      rcases hw3 with e | e | e <;> subst e
      · rw [if_pos (show nI 0 = (0 : Int32) from rfl), nm_s, if_pos (show nI 0 = (0 : Int32) from rfl), cl2_s, M_back0, cl1_s, hs]
        exact ⟨_, _, _, rfl, rfl, tr_b H E8 S⟩
      · rw [if_neg (show ¬ nI 1 = (0 : Int32) by decide), if_pos (show nI 1 = (1 : Int32) from rfl), nm_s, if_neg (show ¬ nI 1 = (0 : Int32) by decide), if_pos (show nI 1 = (1 : Int32) from rfl), X_rest HU, cl1_s, M_rest HL, cl1_s, cl2_s, M_back0, cl1_s]
        exact ⟨_, _, _, rfl, rfl, tr_b H E8 S⟩
      · rw [if_neg (show ¬ nI 2 = (0 : Int32) by decide), if_neg (show ¬ nI 2 = (1 : Int32) by decide), if_pos (show nI 2 = (2 : Int32) from rfl), nm_s, if_neg (show ¬ nI 2 = (0 : Int32) by decide), if_neg (show ¬ nI 2 = (1 : Int32) by decide), X_mks0 HU, cl2_s, M_mks0 HL, cl2_s, cl2_s, M_back0, cl1_s]
        exact ⟨_, _, _, rfl, rfl, tr_b H E8 (NS_mk S _ _)⟩
theorem st_tried : St_tried (II LWd) := by
  intro tt hx hm a0 a1 a2 H
  cases h1 : nR (a0 - 1) 30 with
  | false =>
    unfold mX0_tried mX5_tried
    rw [X_wi1 a0 30 30 (by decide), M_isNights, h1]
    exact ⟨-1, hx, hm, rfl, rfl, H⟩
  | true =>
    cases h2 : nR a1 51 with
    | false =>
      unfold mX0_tried mX5_tried
      rw [X_wi1 a0 30 30 (by decide), M_isNights, h1, X_isSum, h2]
      exact ⟨-1, hx, hm, rfl, rfl, H⟩
    | true =>
      by_cases hc : nR a2 3 = true ∨ nR (a2 - 100) 48 = true ∨ nR (a2 - 200) 48 = true
      · obtain ⟨n0, hn0, _, e0'⟩ := nR_of h1
        have e0 : a0 = nI (n0 + 1) := sub1_of e0'
        obtain ⟨pp, hpp, _, e2⟩ := nR_of h2
        subst e0 e2
        obtain ⟨h8, t1, t2, t3, t4, t5⟩ := tr_0 H
        obtain ⟨n, hn, en⟩ := NS_n t5
        obtain ⟨h10, hm9, s, b1, b2, b3, b4, _⟩ := many t4 t5 (n0 := n0 + 1) (pp := pp) (by omega) (by omega) hn en
        obtain ⟨r, hx', hm', q1, q2, q3⟩ := tr_end H t2 b3 b4 hc
        have qb : cl1 (mX3_takes 50 40 hx) (fun h8 => cl1 (mX3_goes 50 tt h8 (nI (n0 + 1)) (nI pp)) (fun h10 => if a2 = (0 : Int32) then ( some ((h10 50 4), h10)) else ( if a2 = (1 : Int32) then ( cl1 (mX3_opening 50 h10 (31 : Int32)) (fun r13 => some (r13, h10))) else ( if a2 = (2 : Int32) then ( cl2 (mX3_marks 50 h10 (31 : Int32) (0 : Int32)) (fun r16 h17 => some (r16, h17))) else ( nm (fun (s19 : Int32) => some (s19, h10)) (fun k164 => if (200 : Int32) ≤ a2 then ( nm ((a2 - (200 : Int32))) (fun v20 => ck v20 48 ( k164 (h10 52 v20.toNatClampNeg)))) else ( nm ((a2 - (100 : Int32))) (fun v21 => ck v21 48 ( k164 (h10 53 v21.toNatClampNeg)))))))))) = some (r, hx') := by
          rw [t1, cl1_s, b1, cl1_s]
          exact q1
        have qm : cl1 (mX5_shelves hm (0 : Int32)) (fun h6 => cl2 (mX5_wears h6 (nI (n0 + 1)) (nI pp)) (fun r8 h9 => cl2 (mX5_triedIs h9 r8 a2) (fun r11 h12 => cl1 (mX5_takesBack h12 (0 : Int32)) (fun h14 => some (r11, h14))))) = some (r, hm') := by
          rw [t3, cl1_s, b2, cl2_s]
          exact q2
        refine ⟨r, hx', hm', ?_, ?_, q3⟩
        · unfold mX0_tried
          rw [X_wi1 _ 30 30 (by decide), h1, cl1_s, nm_s, bI_t, i10, X_isSum, h2, cl1_s, bI_t, i10, X_in _ 3 3 (by decide), X_isPlace, X_isPlace, cl1_s, nm_s, qb]
          clear qb qm q1 q2
          revert hc
          cases nR a2 3 <;> cases nR (a2 - 100) 48 <;> cases nR (a2 - 200) 48 <;> intro hc <;> first | rfl | (exfalso; rcases hc with h | h | h <;> cases h)
        · unfold mX5_tried
          rw [M_isNights, h1, h2, cl1_s, nm_s, show bI (true && true) = 1 from rfl, i10, M_wi _ 2 3 (by decide), M_wiK _ 100 147 100 48 (by decide) (by decide) rfl (by decide), M_wiK _ 200 247 200 48 (by decide) (by decide) rfl (by decide), cl1_s, nm_s, qm]
          clear qb qm q1 q2
          revert hc
          cases nR a2 3 <;> cases nR (a2 - 100) 48 <;> cases nR (a2 - 200) 48 <;> intro hc <;> first | rfl | (exfalso; rcases hc with h | h | h <;> cases h)
      · have f1 : nR a2 3 = false := by
          cases h : nR a2 3 with
          | false => rfl
          | true => exact absurd (Or.inl h) hc
        have f2 : nR (a2 - 100) 48 = false := by
          cases h : nR (a2 - 100) 48 with
          | false => rfl
          | true => exact absurd (Or.inr (Or.inl h)) hc
        have f3 : nR (a2 - 200) 48 = false := by
          cases h : nR (a2 - 200) 48 with
          | false => rfl
          | true => exact absurd (Or.inr (Or.inr h)) hc
        refine ⟨-1, hx, hm, ?_, ?_, H⟩
        · unfold mX0_tried
          rw [X_wi1 _ 30 30 (by decide), h1, cl1_s, nm_s, bI_t, i10, X_isSum, h2, cl1_s, bI_t, i10, X_in _ 3 3 (by decide), f1, X_isPlace, f2, X_isPlace, f3, cl1_s, nm_s, bI_f, i00, cl1_s, i00, cl1_s, i00]
        · unfold mX5_tried
          rw [M_isNights, h1, h2, cl1_s, nm_s, show bI (true && true) = 1 from rfl, i10, M_wi _ 2 3 (by decide), f1, M_wiK _ 100 147 100 48 (by decide) (by decide) rfl (by decide), f2, M_wiK _ 200 247 200 48 (by decide) (by decide) rfl (by decide), f3, cl1_s, nm_s, bI_f, i00, cl1_s, i00, cl1_s, i00]
