/-! law: the reference's condition -/
set_option maxRecDepth 100000
section
variable {t : Nat → Nat} {n a o e x : Nat} {h : Hp} {W K : List Nat} {u : Zu}
theorem MS_w0 (S : MS h n a o W K) : MS (u2 h 300 13 0) n a o [] K := by
  obtain ⟨S1, S2, S3, S4, S5, S6, S7, S8⟩ := S
  refine ⟨MC_u S1 (by omega) (by omega), ?_, S3, ?_, fun i z hz => by simp at hz, ?_, fun i z hz => ?_, by simp, S8.2⟩
  · rw [u2_e, upd_n (by omega)]; exact S2
  · rw [u2_e, upd_e]; rfl
  · rw [u2_e, upd_n (by omega)]; exact S6
  · rw [u2_n (by decide)]; exact S7 i z hz
theorem M_condition {o0 : Nat} {S0 W0 : List Nat} {x0 : Nat} {f b m : Nat} {L : List (Nat × Nat × Nat × Nat)} (et : tM h = t) (T1 : MS h n a o W K) (T2 : MV n a 0 0 [] K) : R (mX5_readsCondition h) (MO t n (3, a, o0, S0, K, (x0, W0, (f, b, m), L)) h (fun g s' => ∃ a' K', s' = (7, a', 0, [], K', (0, [], (f, b, m), L ++ [(f, b, m, K'.length)])) ∧ a < a' ∧ MS g n a' 0 [] K' ∧ MV n a' 0 0 [] K')) := by
  have ht : ∀ i, t i < 256 := fun i => by rw [← et]; exact oct_lt _
  have hh := M_here T1.1
  have hp7 := T1.1.2.1
  have hb := MV_b T2
  rw [et] at hh
  unfold mX5_readsCondition
  rw [hh, cl1_s]
  by_cases c40 : hc t n a = 40
  · have hin := hc_in (t := t) (n := n) (i := a) (by omega)
    rw [if_pos ((M_is t (c := 40) (C := 40) rfl (by decide) (by decide) ht).mpr c40), nm_s, nm_s]
    have p1 := MS_w0 (MS_opn T1 (o' := 0) (by omega))
    have hF0 : MFr h (u2 (u2 h 300 11 (nI 0)) 300 13 0) := MFr_u (MFr_u (MFr_r h) (by decide)) (by decide)
    refine R_c2 (M_opens p1 (k := 13) (by omega) (by decide) (by decide)) (fun r b1 hb1 => ?_)
    obtain ⟨b2, b3⟩ := hb1
    rw [if_neg (by decide)] at b3
    dsimp only at b2 b3
    obtain ⟨b3, b4⟩ := b3
    rw [b3, if_neg (by decide)]
    have hF1 := MFr_t hF0 b2
    refine fx_R1 300 (fun j g => MFr h g ∧ ∃ o' W' K' y, Rn t n (3, a, o0, S0, K, (x0, W0, (f, b, m), L)) (4, a + 1 + j, o', [], K', (y, W', (f, b, m), L)) ∧ MT g n (a + 1 + j) o' 0 W' K' ∧ WI W') (by decide) ⟨hF1, 1, [13 * uN], K, 1, Rn_s ?_, ⟨b4, MV_p T2 hin (x := uN * 13) (by decide)⟩, ?_, trivial, rfl⟩ ?_
    · show zC t n a K _ = _
      unfold zC
      rw [if_pos c40]
    · intro w hw
      rw [List.mem_singleton] at hw
      rw [hw]
      decide
    rintro j g k40 hj ⟨hF, o', W', K', y, hR, ⟨T3, T4⟩, hI⟩ hk
    have eg : tM g = t := tM_F hF et
    have hh3 := M_here T3.1
    have hb3 := MV_b T4
    rw [eg] at hh3
    simp only [hh3, cl1_q]
    have hopen : ∀ kd, kd = 10 ∨ kd = 13 → (0 < hc t n (a + 1 + j)) → (zP t n (a + 1 + j) o' K' (y, W', (f, b, m), L) = if o' = 6 then .inl (.inl (5, a + 1 + j)) else .inr (4, a + 1 + j + 1, o' + 1, [], K', (1, kd * uN :: W', (f, b, m), L))) → R (cl2 (mX5_opens g (nI kd)) (fun r15 h16 => if r15 = 0 then bz 0 (some (0, h16)) else k40 h16)) (MO t n (3, a, o0, S0, K, (x0, W0, (f, b, m), L)) h (fun g s' => ∃ a' K', s' = (7, a', 0, [], K', (0, [], (f, b, m), L ++ [(f, b, m, K'.length)])) ∧ a < a' ∧ MS g n a' 0 [] K' ∧ MV n a' 0 0 [] K')) := by
      intro kd hkd hc0 hz
      have hin3 := hc_in hc0
      refine R_c2 (M_opens T3 (k := kd) (by omega) (by omega) (by omega)) (fun r b5 hb5 => ?_)
      obtain ⟨q1, q2⟩ := hb5
      by_cases c6 : o' = 6
      · rw [if_pos c6] at q2
        dsimp only at q1 q2
        rw [q2.1, if_pos rfl, bz_0]
        refine R_some ⟨MFr_t hF q1, Or.inl ⟨rfl, 5, a + 1 + j, Rn_H hR ?_, q2.2⟩⟩
        show zP t n (a + 1 + j) o' K' _ = _
        rw [hz, if_pos c6]
      · rw [if_neg c6] at q2
        dsimp only at q1 q2
        rw [q2.1, if_neg (by decide)]
        have d1 : kd * uN / uN = kd := Nat.mul_div_cancel kd (by decide)
        have q3 := MV_p T4 hin3 (x := kd * uN) (by rw [d1]; omega)
        have ho : onB (kd * uN) = true := by unfold onB; rw [d1]; exact decide_eq_true (by omega)
        rw [ho, if_pos rfl] at q3
        refine hk (j + 1) b5 (by omega) (by omega) ⟨MFr_t hF q1, o' + 1, kd * uN :: W', K', 1, Rn_t hR (Rn_s ?_), ⟨?_, q3⟩, WI_p hI (by rw [d1]; omega) (by rw [d1]; omega)⟩
        · show zP t n (a + 1 + j) o' K' _ = _
          rw [hz, if_neg c6]
          rfl
        · rw [Nat.mul_comm kd]
          exact q2.2
    rw [nm_s]
    by_cases c33 : hc t n (a + 1 + j) = 33
    · rw [if_pos ((M_is t (c := 33) (C := 33) rfl (by decide) (by decide) ht).mpr c33), nm_s, if_pos ((M_is t (c := 33) (C := 33) rfl (by decide) (by decide) ht).mpr c33)]
      refine hopen 10 (Or.inl rfl) (by omega) ?_
      unfold zP
      rw [if_pos c33]
    · rw [if_neg (fun e9 => c33 ((M_is t (c := 33) (C := 33) rfl (by decide) (by decide) ht).mp e9))]
      by_cases c4 : hc t n (a + 1 + j) = 40
      · rw [if_pos ((M_is t (c := 40) (C := 40) rfl (by decide) (by decide) ht).mpr c4), nm_s, if_neg (fun e9 => c33 ((M_is t (c := 33) (C := 33) rfl (by decide) (by decide) ht).mp e9))]
        refine hopen 13 (Or.inr rfl) (by omega) ?_
        unfold zP
        rw [if_neg c33, if_pos c4]
      · rw [if_neg (fun e9 => c4 ((M_is t (c := 40) (C := 40) rfl (by decide) (by decide) ht).mp e9))]
        refine MO_c (M_compared (u := ((f, b, m), L)) eg hI ⟨T3, T4⟩) hF (Rn_t hR (Rn_s ?_)) (fun b => rfl) ?_
        · show zP t n (a + 1 + j) o' K' _ = _
          unfold zP
          rw [if_neg c33, if_neg c4]
        rintro g5 s' hF5 - hR5 ⟨a5, o5, W5, K5, y5, rfl, ha5, T5, hI5, hN5⟩
        rw [if_neg (by decide)]
        refine fx_R1 300 (fun i g => MFr h g ∧ ∃ o' W' K' y, Rn t n (3, a, o0, S0, K, (x0, W0, (f, b, m), L)) (5, a5 + i, o', [], K', (y, W', (f, b, m), L)) ∧ MT g n (a5 + i) o' 0 W' K' ∧ WI W' ∧ HN W') (by decide) ⟨hF5, o5, W5, K5, y5, hR5, T5, hI5, hN5⟩ ?_
        rintro i g6 k92 hi ⟨hF6, o6, W6, K6, y6, hR6, T6, hI6, hN6⟩ hk6
        have eg6 : tM g6 = t := tM_F hF6 et
        have hh6 := M_here T6.1.1
        have hb6 := MV_b T6.2
        rw [eg6] at hh6
        simp only [hh6, cl1_q]
        by_cases c41 : hc t n (a5 + i) = 41
        · have hin6 := hc_in (t := t) (n := n) (i := a5 + i) (by omega)
          rw [if_pos ((M_is t (c := 41) (C := 41) rfl (by decide) (by decide) ht).mpr c41)]
          refine R_c1 (M_lands (x := y6) (u := ((f, b, m), L)) (x1 := 1) (Or.inr (Or.inr c41)) (by rw [decide_eq_true (by omega)]; rfl) hI6 hN6 T6) (fun g7 hg7 => ?_)
          obtain ⟨r1, W7, K7, y7, r2, ⟨r3, r4⟩, r5, r6, r7⟩ := hg7
          cases W7 with
          | nil => exact absurd rfl (WI_n r5)
          | cons w W8 =>
            have w1 := r5.1 w (List.mem_cons_self ..)
            have w2 := r6 w W8 rfl
            obtain ⟨w3, w4⟩ := r7 w W8 rfl
            have w5 := w4 (by omega)
            have w6 : w / uN = 13 := by omega
            have p2 := MS_pop r3
            obtain ⟨v1, v2⟩ := MV_tl r4 (by unfold pdB; exact decide_eq_false (by omega))
            have ho : onB w = true := by unfold onB; exact decide_eq_true (by omega)
            have v3 := v2 ho
            rw [ho, if_pos rfl] at v1
            rw [nm_s, nm_s, p2.2.1, show nI o6 - 1 = nI (o6 - 1) from nI_subn (b := 1) v3]
            have p3 := MS_opn p2 (o' := o6 - 1) (by have := p2.2.2.1; omega)
            rw [nm_s, p3.1.2.1, nI_1]
            have p4 := MS_pos p3 (a' := a5 + i + 1) (by omega)
            have v4 := MV_a v1 (a' := a5 + i + 1) (by omega) (by omega)
            have hF7 := MFr_u (i := 7) (v := nI (a5 + i + 1)) (MFr_u (i := 11) (v := nI (o6 - 1)) (MFr_u (i := 13) (v := g7 300 13 - 1) (MFr_t hF6 r1) (by decide)) (by decide)) (by decide)
            have hR7 : Rn t n (3, a, o0, S0, K, (x0, W0, (f, b, m), L)) (5, a5 + i + 1, o6 - 1, [], K7, (1, W8, (f, b, m), L)) := by
              refine Rn_t hR6 (Rn_t r2 (Rn_s ?_))
              show zB t n (a5 + i) o6 K7 (y7, w :: W8, (f, b, m), L) = _
              unfold zB
              dsimp only
              rw [if_neg w2, if_neg (by omega), if_neg (by omega), if_pos c41]
            rw [p4.2.2.2.1]
            by_cases c8 : W8 = []
            · subst c8
              have ho9 : o6 - 1 = 0 := v4.2.2.2.2.1
              rw [ho9] at p4 v4 hR7 hF7
              rw [if_pos (show nI ([] : List Nat).length = 0 from rfl), bz_1, ho9]
              refine R_some ⟨hF7, Or.inr ⟨rfl, _, Rn_t hR7 (Rn_s ?_), a5 + i + 1, K7, rfl, by omega, p4, v4⟩⟩
              rfl
            · have hl8 : 0 < W8.length := List.length_pos_iff.mpr c8
              have hb8 := MV_b v4
              rw [if_neg (nI_ne0 (by omega) (by omega))]
              refine R_c1 (M_ends (t := t) (x := 1) (u := ((f, b, m), L)) (WI_t r5 c8) ⟨p4, v4⟩) (fun g9 hg9 => ?_)
              obtain ⟨s1, o9, W9, K9, y9, s2, s3, s4, s5⟩ := hg9
              exact hk6 (i + 1) g9 (by omega) (by omega) ⟨MFr_t hF7 s1, o9, W9, K9, y9, Rn_t hR7 s2, s3, s4, s5⟩
        · rw [if_neg (fun e9 => c41 ((M_is t (c := 41) (C := 41) rfl (by decide) (by decide) ht).mp e9))]
          have hgo : (hc t n (a5 + i) = 38 ∨ hc t n (a5 + i) = 124) → ∀ x1, x1 = bI (decide (hc t n (a5 + i) ≠ 38)) → R (cl1 (mX5_lands g6 x1) (fun h31 => cl1 (mX5_here h31) (fun r33 => nm (fun (s34 : Int32) => cl1 (mX5_jumps h31 s34) (fun h36 => k40 h36)) (fun k215 => if r33 = 38 then k215 11 else k215 12)))) (MO t n (3, a, o0, S0, K, (x0, W0, (f, b, m), L)) h (fun g s' => ∃ a' K', s' = (7, a', 0, [], K', (0, [], (f, b, m), L ++ [(f, b, m, K'.length)])) ∧ a < a' ∧ MS g n a' 0 [] K' ∧ MV n a' 0 0 [] K')) := by
            intro hcc x1 hx1
            have hin6 := hc_in (t := t) (n := n) (i := a5 + i) (by omega)
            refine R_c1 (M_lands (x := y6) (u := ((f, b, m), L)) (x1 := x1) (by omega) hx1 hI6 hN6 T6) (fun g7 hg7 => ?_)
            obtain ⟨r1, W7, K7, y7, r2, T7, r5, r6, r7⟩ := hg7
            have eg7 : tM g7 = t := tM_F (MFr_t hF6 r1) et
            have hh7 := M_here T7.1.1
            rw [eg7] at hh7
            rw [hh7, cl1_s, nm_s]
            have hj7 : ∀ kd, (kd = 11 ∧ hc t n (a5 + i) = 38 ∨ kd = 12 ∧ hc t n (a5 + i) = 124) → R (cl1 (mX5_jumps g7 (nI kd)) (fun h36 => k40 h36)) (MO t n (3, a, o0, S0, K, (x0, W0, (f, b, m), L)) h (fun g s' => ∃ a' K', s' = (7, a', 0, [], K', (0, [], (f, b, m), L ++ [(f, b, m, K'.length)])) ∧ a < a' ∧ MS g n a' 0 [] K' ∧ MV n a' 0 0 [] K')) := by
              intro kd hkd
              obtain ⟨g8, e1, e2, e3⟩ := M_jumps (k := kd) (by omega) hin6 T7
              rw [e1, cl1_s]
              have hb7 := MV_b T7.2
              have d1 : (kd * uN + K7.length) / uN = kd := by
                rw [Nat.add_comm, Nat.add_mul_div_right _ _ (show 0 < uN by decide), Nat.div_eq_of_lt (by unfold uN; omega), Nat.zero_add]
              have e6 : a + 1 + (a5 + i + 1 - (a + 1)) = a5 + i + 1 := by omega
              refine hk (a5 + i + 1 - (a + 1)) g8 (by omega) (by omega) ⟨MFr_t (MFr_t hF6 r1) e2, o6, (kd * uN + K7.length) :: W7, K7 ++ [kd * uN], 1, ?_, ?_, WI_p r5 (by rw [d1]; omega) (fun _ => r6)⟩
              · rw [e6]
                refine Rn_t hR6 (Rn_t r2 (Rn_s ?_))
                show zB t n (a5 + i) o6 K7 _ = _
                unfold zB
                cases W7 with
                | nil => exact absurd rfl (WI_n r5)
                | cons w W8 =>
                  have w2 := r6 w W8 rfl
                  obtain ⟨w3, w4⟩ := r7 w W8 rfl
                  dsimp only
                  rcases hkd with ⟨rfl, h38⟩ | ⟨rfl, h12⟩
                  · rw [if_neg w2, if_neg (by omega), if_neg (by omega), if_neg c41, if_pos h38]
                  · have := w4 (by omega)
                    rw [if_neg w2, if_neg (by omega), if_neg (by omega), if_neg c41, if_neg (by omega), if_pos h12]
              · rw [e6]
                exact e3
            by_cases c38 : hc t n (a5 + i) = 38
            · rw [if_pos ((M_is t (c := 38) (C := 38) rfl (by decide) (by decide) ht).mpr c38)]
              exact hj7 11 (Or.inl ⟨rfl, c38⟩)
            · rw [if_neg (fun e9 => c38 ((M_is t (c := 38) (C := 38) rfl (by decide) (by decide) ht).mp e9))]
              exact hj7 12 (Or.inr ⟨rfl, by omega⟩)
          rw [nm_s]
          by_cases c38 : hc t n (a5 + i) = 38
          · rw [if_pos ((M_is t (c := 38) (C := 38) rfl (by decide) (by decide) ht).mpr c38), nm_s, if_neg (fun e9 => by have := (M_is t (c := 124) (C := 124) rfl (by decide) (by decide) ht).mp e9; omega)]
            exact hgo (Or.inl c38) 0 (by rw [decide_eq_false (by omega)]; rfl)
          · rw [if_neg (fun e9 => c38 ((M_is t (c := 38) (C := 38) rfl (by decide) (by decide) ht).mp e9))]
            by_cases c124 : hc t n (a5 + i) = 124
            · rw [if_pos ((M_is t (c := 124) (C := 124) rfl (by decide) (by decide) ht).mpr c124), nm_s, if_pos ((M_is t (c := 124) (C := 124) rfl (by decide) (by decide) ht).mpr c124)]
              exact hgo (Or.inr c124) 1 (by rw [decide_eq_true (by omega)]; rfl)
            · rw [if_neg (fun e9 => c124 ((M_is t (c := 124) (C := 124) rfl (by decide) (by decide) ht).mp e9))]
              refine MO_w (a := a5 + i) 1 rfl T6.1.1.2.1 hF6 (Rn_H hR6 ?_) (fun b => rfl)
              show zB t n (a5 + i) o6 K6 _ = _
              unfold zB
              cases W6 with
              | nil => exact absurd rfl (WI_n hI6)
              | cons w W8 =>
                have w2 := hN6 w W8 rfl
                dsimp only
                rw [if_neg w2, if_neg (by omega), if_neg (by omega), if_neg c41, if_neg c38, if_neg c124]
  · rw [if_neg (fun e9 => c40 ((M_is t (c := 40) (C := 40) rfl (by decide) (by decide) ht).mp e9))]
    refine MO_w (a := a) 1 rfl hp7 (MFr_r h) (Hz_s ?_) (fun b => rfl)
    show zC t n a K _ = _
    unfold zC
    rw [if_neg c40]
end
