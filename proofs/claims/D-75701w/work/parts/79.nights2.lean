/-! a night, both sides -/
set_option maxRecDepth 100000
theorem BM_c {b : Nat} {hx hm hx' hm' : Hp} (H : BM hx hm b) (e0 : hx' b = hx b) (e2 : hx' (b + 2) = hx (b + 2)) (e3 : hx' (b + 3) = hx (b + 3)) (e4 : hx' (b + 4) = hx (b + 4)) (f0 : hm' 200 = hm 200) (f1 : hm' 201 = hm 201) (f3 : hm' 300 3 = hm 300 3) (f4 : hm' 300 4 = hm 300 4) : BM hx' hm' b := by
  unfold BM
  rw [f0, f1, f3, f4]
  exact BR_c e0 e2 e3 e4 H
theorem night {b : Nat} {tt : TTy} {hx0 hm0 hx hm : Hp} (C : NC b tt hx0 hm0) (S : NS b hx0 hm0 hx hm) {pp n : Nat} (hpp : pp ≤ 50) (hn : n < 9999) (en : hx b 2 = nI n) : ∃ hx' hm' s, mX3_nightGoes b tt hx (nI pp) = some hx' ∧ mX5_wearsNight hm (nI pp) = some (s, hm') ∧ NS b hx0 hm0 hx' hm' ∧ hx' b 4 = hx b 4 + s ∧ hx' b 2 = nI (n + 1) := by
  have hb := C.1
  obtain ⟨N, hN, eN, eN2, hpath⟩ := C.2.2.1
  have hG := gaf_lt (hm0 234)
  have nin : ∀ z l, z ∉ (l : List Nat) → True := fun _ _ _ => trivial
  obtain ⟨s1, s2, t1, t2, t3, ⟨r1, r2, r3, r4, r5, r6, r7⟩, q1, q2⟩ := fx_p23 (F := (fun (_ : Unit) (k2 : Int32 → Hp → Option Hp) (x2_1 : Int32) (h2 : Hp) => if (h2 100 4) ≤ x2_1 then ( nm (u2 h2 b 2 ((h2 b 2) + (1 : Int32))) (fun h3 => some h3)) else ( ck x2_1 48 ( cl2 (mX3_marks b h2 (h2 3 x2_1.toNatClampNeg) (nI pp)) (fun r5 h6 => fx FU (fun _ _ => none) (fun k31 (x4_7 : Int32) (h8 : Hp) => if (48 : Int32) ≤ x4_7 then ( k2 (x2_1 + (1 : Int32)) h8) else ( ck x4_7 48 ( nm (fun (h9 : Hp) => k31 (x4_7 + (1 : Int32)) h9) (fun k68 => if (h8 2 x4_7.toNatClampNeg) = 0 then ( k68 h8) else ( ck x2_1 48 ( cl1 (mX3_isRubbed b tt h8 x4_7 (h8 3 x2_1.toNatClampNeg) r5 x2_1) (fun h11 => k68 h11))))))) (0 : Int32) h6))))) (b := fun _ _ => none) (G := (fun (_ : Unit) (k14 : Int32 → Int32 → Hp → Option (Int32 × Hp)) (x2_3 : Int32) (x3_4 : Int32) (h5 : Hp) => if (h5 300 39) ≤ x3_4 then ( nm (u2 h5 300 4 ((h5 300 4) + (1 : Int32))) (fun h6 => some (x2_3, h6))) else ( ck x3_4 48 ( cl1 (mX5_glides h5 (h5 234 x3_4.toNatClampNeg)) (fun h8 => cl2 (mX5_marks h8 (h8 300 52) (h8 300 53) (nI pp)) (fun r10 h11 => fx FU (fun _ _ _ => none) (fun k50 (x2_12 : Int32) (x5_13 : Int32) (h14 : Hp) => if (48 : Int32) ≤ x5_13 then ( k14 x2_12 (x3_4 + (1 : Int32)) h14) else ( ck x5_13 48 ( nm (fun (x2_15 : Int32) (h16 : Hp) => k50 x2_15 (x5_13 + (1 : Int32)) h16) (fun k79 => if (h14 242 x5_13.toNatClampNeg) = 0 then ( k79 x2_12 h14) else ( cl2 (mX5_wearsAt h14 x5_13 x3_4 r10) (fun r18 h19 => nm ((x2_12 + r18)) (fun v20 => k79 v20 h19))))))) x2_3 (0 : Int32) h11)))))) (b' := fun _ _ _ => none) N (by show N < 100000; omega) (fun j x hx1 s y hm1 => x = nI j ∧ y = nI j ∧ NS b hx0 hm0 hx1 hm1 ∧ hx1 b 4 = hx b 4 + s ∧ hx1 b 2 = hx b 2 ∧ hm1 300 52 = sA (gaf (hm0 234) j) ∧ hm1 300 53 = sB (gaf (hm0 234) j)) (a1 := (0 : Int32)) (a2 := hx) (c1 := (0 : Int32)) (c2 := (0 : Int32)) (c3 := u2 (u2 hm 300 52 0) 300 53 0) ⟨rfl, rfl, ⟨BM_c S.1 rfl rfl rfl rfl rfl rfl rfl rfl, S.2.1, fun z hz => by
      rw [u2_n (fun e => hz (by rw [e]; simp)), u2_n (fun e => hz (by rw [e]; simp))]
      exact S.2.2.1 z hz, fun i i3 i4 i5 i6 => by
      rw [u2_e, upd_n i6, u2_e, upd_n i5]
      exact S.2.2.2 i i3 i4 i5 i6⟩, by rw [Int32.add_zero], rfl, by
      rw [u2_e, upd_n (by decide), u2_e, upd_e]
      exact (by decide : (0 : Int32) = sA 31), by
      rw [u2_e, upd_e]
      exact (by decide : (0 : Int32) = sB 31)⟩ (by
    rintro j x hx1 s y hm1 hj ⟨rfl, rfl, hS, a1, a2, a3, a4⟩
    obtain ⟨U, L, HU, HL⟩ := BM_HX hS.1
    have h100 : hx1 100 4 = nI N := by
      rw [hS.2.1 100 (by simp only [List.mem_cons, List.not_mem_nil, or_false]; omega)]
      exact eN
    have h3 : hx1 3 j = nI (gaf (hm0 234) (j + 1)) := by
      rw [hS.2.1 3 (by simp only [List.mem_cons, List.not_mem_nil, or_false]; omega)]
      exact hpath j hj
    have h39 : hm1 300 39 = nI N := by
      rw [hS.2.2.2 39 (by decide) (by decide) (by decide) (by decide)]
      exact eN2
    have h234 : hm1 234 = hm0 234 := hS.2.2.1 234 (by decide)
    obtain ⟨h8, g1, g2, g3, g4, g5⟩ := M_glides (h := hm1) (hG j) ⟨a3, a4, Ex_r _ _, fun _ _ _ => rfl⟩ (hm0 234 j)
    have es : stc (gaf (hm0 234) j) (hm0 234 j) = gaf (hm0 234) (j + 1) := rfl
    rw [es] at g2 g3
    have HL8 : HM h8 U L := HM_c (g4 200 (by decide)) HL
    have x1 := X_marks HU (by omega) (hG (j + 1)) hpp
    have x2 := M_marks HL8 (hG (j + 1)) hpp
    obtain ⟨hx', hm', s', b1, b2, b3, b4, b5, b6, b7⟩ := night_in (j := j) C (h6 := sN hx1 2 (fun p => bI (mk U L (gaf (hm0 234) (j + 1)) pp p)) 48) (h11 := sN h8 242 (fun p => bI (mk U L (gaf (hm0 234) (j + 1)) pp p)) 48) ⟨BM_c hS.1 (sN_n (by omega)) (sN_n (by omega)) (sN_n (by omega)) (sN_n (by omega)) (by rw [sN_n (by decide), g4 200 (by decide)]) (by rw [sN_n (by decide), g4 201 (by decide)]) (by rw [sN_n (by decide), g5 3 (by decide) (by decide)]) (by rw [sN_n (by decide), g5 4 (by decide) (by decide)]), fun z hz => by
        rw [sN_n (fun e => hz (by rw [e]; simp))]
        exact hS.2.1 z hz, fun z hz => by
        rw [sN_n (fun e => hz (by rw [e]; simp)), g4 z (fun e => hz (by simp at e; rw [e]; simp))]
        exact hS.2.2.1 z hz, fun i i3 i4 i5 i6 => by
        rw [sN_n (by decide), g5 i i5 i6]
        exact hS.2.2.2 i i3 i4 i5 i6⟩ (hG (j + 1)) (P := mk U L (gaf (hm0 234) (j + 1)) pp) (fun p hp hm9 => by
        unfold mk at hm9
        cases hf : fcg p (gaf (hm0 234) (j + 1)) with
        | none => rw [hf] at hm9; cases hm9
        | some q => exact ⟨q, rfl⟩) (fun p hp => sN_k hp) (fun p hp => sN_k hp) (by rw [sN_n (by decide)]; exact g2) (by rw [sN_n (by decide)]; exact g3) (hpath j hj) (by omega) (nI (cnt (mk U L (gaf (hm0 234) (j + 1)) pp) 48)) s
    refine ⟨nI (j + 1), hx', s + s', nI (j + 1), hm', ⟨rfl, rfl, b1, ?_, ?_, b4, b5⟩, fun K k => ?_, fun K k => ?_⟩
    · rw [b2, sN_n (by omega), a1, Int32.add_assoc]
    · rw [b3, sN_n (by omega), a2]
    · show (if hx1 100 4 ≤ nI j then _ else _) = _
      rw [h100, if_neg (nI_ge hj (by omega)), ck_s (show j < 48 by omega) (by decide), nI_clamp (by omega), h3, x1, cl2_s]
      rw [← nI_1]
      exact b6 k
    · show (if hm1 300 39 ≤ nI j then _ else _) = _
      rw [h39, if_neg (nI_ge hj (by omega)), ck_s (show j < 48 by omega) (by decide), nI_clamp (by omega), h234, g1, cl1_s, g2, g3, x2, cl2_s]
      rw [← nI_1]
      exact b7 k) (fun _ x h => some (u2 h b 2 (h b 2 + 1))) (fun _ s x h => some (s, u2 h 300 4 (h 300 4 + 1))) (by
    rintro x hx1 s y hm1 ⟨rfl, rfl, hS, a1, a2, a3, a4⟩
    have h100 : hx1 100 4 = nI N := by
      rw [hS.2.1 100 (by simp only [List.mem_cons, List.not_mem_nil, or_false]; omega)]
      exact eN
    have h39 : hm1 300 39 = nI N := by
      rw [hS.2.2.2 39 (by decide) (by decide) (by decide) (by decide)]
      exact eN2
    refine ⟨fun K k => ?_, fun K k => ?_⟩
    · show (if hx1 100 4 ≤ nI N then _ else _) = _
      rw [h100, if_pos (nI_le (Nat.le_refl _) (by omega)), nm_s]
    · show (if hm1 300 39 ≤ nI N then _ else _) = _
      rw [h39, if_pos (nI_le (Nat.le_refl _) (by omega)), nm_s])
  refine ⟨u2 s2 b 2 (s2 b 2 + 1), u2 t3 300 4 (t3 300 4 + 1), t1, q1 (), ?_, ?_, ?_, ?_⟩
  · unfold mX5_wearsNight
    rw [nm_s, nm_s]
    exact q2 ()
  · obtain ⟨⟨HB, w0, w1, hlot, n', hn', en', em'⟩, E1, E2, E3⟩ := r3
    have e9 : n' = n := by
      rw [r5, en] at en'
      exact ((nI_eq (by omega) (by omega)).mp en').symm
    subst e9
    refine ⟨⟨?_, ?_, ?_, ?_, n' + 1, by omega, ?_, ?_⟩, fun z hz => ?_, fun z hz => ?_, fun i i3 i4 i5 i6 => ?_⟩
    · obtain ⟨U, L, H1, H2⟩ := HB
      exact ⟨U, L, HX_c (u2_n (by omega)) (u2_n (by omega)) H1, H2⟩
    · rw [u2_n (by omega)]
      exact w0
    · rw [u2_n (by omega)]
      exact w1
    · rw [u2_e, upd_n (by decide), u2_e, upd_n (by decide)]
      exact hlot
    · rw [u2_e, upd_e, en', nI_1]
    · rw [u2_e, upd_e, em', nI_1]
    · rw [u2_n (fun e => hz (by rw [e]; simp))]
      exact E1 z hz
    · rw [u2_n (fun e => hz (by rw [e]; simp))]
      exact E2 z hz
    · rw [u2_e, upd_n i4]
      exact E3 i i3 i4 i5 i6
  · rw [u2_e, upd_n (by decide)]
    exact r4
  · rw [u2_e, upd_e, r5, en, nI_1]
