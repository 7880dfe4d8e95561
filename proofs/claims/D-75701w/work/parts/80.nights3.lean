/-! nights -/
set_option maxRecDepth 100000
theorem NS_300 {b : Nat} {hx0 hm0 hx hm : Hp} (S : NS b hx0 hm0 hx hm) : hm 300 4 = hx b 2 := by
  obtain ⟨⟨_, _, _, _, n, _, e1, e2⟩, _⟩ := S
  rw [e1, e2]
theorem NS_n {b : Nat} {hx0 hm0 hx hm : Hp} (S : NS b hx0 hm0 hx hm) : ∃ n, n ≤ 9999 ∧ hx b 2 = nI n := by
  obtain ⟨⟨_, _, _, _, n, h, e1, e2⟩, _⟩ := S
  exact ⟨n, h, e1⟩
theorem many {b : Nat} {tt : TTy} {hx0 hm0 hx hm : Hp} (C : NC b tt hx0 hm0) (S : NS b hx0 hm0 hx hm) {n0 pp n : Nat} (hn0 : n0 ≤ 30) (hpp : pp ≤ 50) (hn : n ≤ 9999) (en : hx b 2 = nI n) : ∃ hx' hm' s, mX3_goes b tt hx (nI n0) (nI pp) = some hx' ∧ mX5_wears hm (nI n0) (nI pp) = some (s, hm') ∧ NS b hx0 hm0 hx' hm' ∧ hx' b 4 = s ∧ hx' b 2 = nI (n + min n0 (9999 - n)) := by
  have hb := C.1
  have S0 : NS b hx0 hm0 (u2 hx b 4 0) hm := by
    refine ⟨⟨?_, ?_, ?_, ?_, ?_⟩, fun z hz => ?_, S.2.2.1, S.2.2.2⟩
    · obtain ⟨U, L, H1, H2⟩ := S.1.1
      exact ⟨U, L, HX_c (u2_n (by omega)) (u2_n (by omega)) H1, H2⟩
    · rw [u2_n (by omega)]
      exact S.1.2.1
    · rw [u2_n (by omega)]
      exact S.1.2.2.1
    · rw [u2_e, upd_n (by decide)]
      exact S.1.2.2.2.1
    · rw [u2_e, upd_n (by decide)]
      exact S.1.2.2.2.2
    · rw [u2_n (fun e => hz (by rw [e]; simp))]
      exact S.2.1 z hz
  have z4 : u2 hx b 4 0 b 4 = 0 := by
    rw [u2_e, upd_e]
  have z2 : u2 hx b 4 0 b 2 = nI (n + 0) := by
    rw [u2_e, upd_n (by decide)]
    exact en
  obtain ⟨s1, s2, t1, t2, t3, ⟨r1, r2, r3, r4, r5⟩, q1, q2⟩ := fx_p23 (F := (fun (_ : Unit) (k7 : Int32 → Hp → Option Hp) (x3_2 : Int32) (h3 : Hp) => nm ( some h3) (fun k33 => if (nI n0) ≤ x3_2 then ( k33) else ( if (9999 : Int32) ≤ (h3 b 2) then ( k33) else ( cl1 (mX3_nightGoes b tt h3 (nI pp)) (fun h5 => k7 (x3_2 + (1 : Int32)) h5)))))) (b := fun _ _ => none) (G := (fun (_ : Unit) (k5 : Int32 → Int32 → Hp → Option (Int32 × Hp)) (x3_1 : Int32) (x4_2 : Int32) (h3 : Hp) => nm ( some (x3_1, h3)) (fun k35 => if (nI n0) ≤ x4_2 then ( k35) else ( if (9999 : Int32) ≤ (h3 300 4) then ( k35) else ( cl2 (mX5_wearsNight h3 (nI pp)) (fun r5 h6 => nm ((x3_1 + r5)) (fun v7 => k5 v7 (x4_2 + (1 : Int32)) h6))))))) (b' := fun _ _ _ => none) (min n0 (9999 - n)) (by show min n0 (9999 - n) < 100000; omega) (fun j x hx1 s y hm1 => x = nI j ∧ y = nI j ∧ NS b hx0 hm0 hx1 hm1 ∧ hx1 b 4 = s ∧ hx1 b 2 = nI (n + j)) (a1 := (0 : Int32)) (a2 := u2 hx b 4 0) (c1 := (0 : Int32)) (c2 := (0 : Int32)) (c3 := hm) ⟨rfl, rfl, S0, z4, z2⟩ (by
    rintro j x hx1 s y hm1 hj ⟨rfl, rfl, hS, a1, a2⟩
    obtain ⟨hx', hm', s', b1, b2, b3, b4, b5⟩ := night C hS hpp (by omega) a2
    have h4 := NS_300 hS
    refine ⟨nI (j + 1), hx', s + s', nI (j + 1), hm', ⟨rfl, rfl, b3, by rw [b4, a1], by rw [b5]; rfl⟩, fun K k => ?_, fun K k => ?_⟩
    · show nm (some hx1) _ = _
      rw [nm_s, if_neg (nI_ge (by omega) (by omega)), a2, if_neg (l_ge (N := 9999) (c := 9999) rfl (by omega) (by decide)), b1, cl1_s, nI_1]
    · show nm (some (s, hm1)) _ = _
      rw [nm_s, if_neg (nI_ge (by omega) (by omega)), h4, a2, if_neg (l_ge (N := 9999) (c := 9999) rfl (by omega) (by decide)), b2, cl2_s, nm_s, nI_1]) (fun _ x h => some h) (fun _ s x h => some (s, h)) (by
    rintro x hx1 s y hm1 ⟨rfl, rfl, hS, a1, a2⟩
    have h4 := NS_300 hS
    refine ⟨fun K k => ?_, fun K k => ?_⟩
    · show nm (some hx1) _ = _
      rw [nm_s]
      by_cases c : n0 ≤ 9999 - n
      · rw [if_pos (nI_le (by omega) (by omega))]
      · rw [if_neg (nI_ge (by omega) (by omega)), a2, if_pos (l_le (N := 9999) (c := 9999) rfl (by omega) (by omega))]
    · show nm (some (s, hm1)) _ = _
      rw [nm_s]
      by_cases c : n0 ≤ 9999 - n
      · rw [if_pos (nI_le (by omega) (by omega))]
      · rw [if_neg (nI_ge (by omega) (by omega)), h4, a2, if_pos (l_le (N := 9999) (c := 9999) rfl (by omega) (by omega))])
  refine ⟨s2, t3, t1, ?_, q2 (), r3, r4, r5⟩
  unfold mX3_goes
  rw [nm_s]
  exact q1 ()
theorem II_NC {tt : TTy} {hx hm : Hp} (H : II LWd tt hx hm) : NC 40 tt hx hm := ⟨Or.inl rfl, H.2.1, H.2.2.2.1, H.2.2.2.2.2⟩
theorem II_NS0 {tt : TTy} {hx hm : Hp} (H : II LWd tt hx hm) : NS 40 hx hm hx hm := ⟨H.1, Ex_r _ _, Ex_r _ _, fun _ _ _ _ _ => rfl⟩
theorem II_NS {LW : LWt} {tt : TTy} {hx hm hx' hm' : Hp} (H : II LW tt hx hm) (S : NS 40 hx hm hx' hm') : II LW tt hx' hm' := by
  obtain ⟨_, J2, J3, J4, J5, J6⟩ := H
  obtain ⟨S1, S5, T5, F⟩ := S
  refine ⟨S1, ?_, ?_, ?_, ?_, ?_⟩
  · unfold IOff
    rw [S5 1 (by decide), T5 202 (by decide)]
    exact J2
  · unfold ITape
    rw [S5 100 (by decide), S5 8 (by decide), T5 205 (by decide), F 6 (by decide) (by decide) (by decide) (by decide)]
    exact J3
  · unfold IPath
    rw [S5 100 (by decide), S5 3 (by decide), T5 234 (by decide), F 39 (by decide) (by decide) (by decide) (by decide)]
    exact J4
  · unfold IKept
    rw [S5 100 (by decide), T5 255 (by decide), F 56 (by decide) (by decide) (by decide) (by decide)]
    rcases J5 with J5 | ⟨a, b, J5⟩
    · exact Or.inl J5
    · exact Or.inr ⟨a, b, BR_c (S5 60 (by decide)) (S5 62 (by decide)) (S5 63 (by decide)) (S5 64 (by decide)) J5⟩
  · rw [S5 70 (by decide), S5 71 (by decide), T5 222 (by decide), T5 223 (by decide), T5 224 (by decide), T5 225 (by decide), T5 226 (by decide), F 15 (by decide) (by decide) (by decide) (by decide)]
    exact J6
theorem M_isNights (a b : Int32) : mX5_isNights a b = some (bI (nR (a - 1) 30 && nR b 51)) := by
  unfold mX5_isNights
  rw [M_wi1 a 30 30 (by decide), M_isSum]
  simp only [cl1_q, nm_q]
  cases nR (a - 1) 30 <;> cases nR b 51 <;> rfl
theorem st_nights : St_nights (II LWd) := by
  intro tt hx hm a0 a1 H
  unfold mX0_nights mX5_nights
  rw [X_wi1 a0 30 30 (by decide), X_isSum, M_isNights]
  cases h1 : nR (a0 - 1) 30 with
  | false => exact ⟨-1, hx, hm, rfl, rfl, H⟩
  | true =>
    cases h2 : nR a1 51 with
    | false => exact ⟨-1, hx, hm, rfl, rfl, H⟩
    | true =>
      obtain ⟨n0, hn0, _, e0'⟩ := nR_of h1
      have e0 : a0 = nI (n0 + 1) := sub1_of e0'
      obtain ⟨pp, hpp, _, e2⟩ := nR_of h2
      subst e0 e2
      obtain ⟨n, hn, en⟩ := NS_n (II_NS0 H)
      obtain ⟨hx', hm', s, b1, b2, b3, b4, _⟩ := many (II_NC H) (II_NS0 H) (n0 := n0 + 1) (pp := pp) (by omega) (by omega) hn en
      rw [cl1_s, nm_s, nm_s, bI_t, i10, cl1_s, i10, b1, cl1_s, b4, cl1_s, nm_s, show bI (true && true) = 1 from rfl, i10, b2, cl2_s]
      exact ⟨s, hx', hm', rfl, rfl, II_NS H b3⟩
