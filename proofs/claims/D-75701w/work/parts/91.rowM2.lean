/-! casts: a line of the reference -/
set_option maxRecDepth 100000
def GM (h : Hp) (G : Nat → Nat → Nat) : Prop := ∀ c i, c < 2 → i < 48 → h 229 (48 * c + i) = nI (G c i)
def rPost (h0 : Hp) (n l : Nat) (Z : Option (Nat × Nat) × Nat × Int32 × (Nat → Nat → Nat)) (r : Int32 × Hp) : Prop := MF h0 r.2 ∧ match Z.1 with
  | some (w, q) => r.1 = 0 ∧ r.2 300 9 = -1000 * nI w - nI q
  | none => r.1 = 1 ∧ MC r.2 n Z.2.1 ∧ Z.2.1 ≤ 3000 ∧ r.2 300 30 = Z.2.2.1 ∧ r.2 300 31 = nI (l + 1) ∧ GM r.2 Z.2.2.2
theorem mul88 (c r : Nat) : (48 : Int32) * nI c + 8 * nI r = nI (48 * c + 8 * r) := by
  rw [mul8', show (48 : Int32) = nI 48 from rfl, pk_mul, nI_add]
theorem M_row {h : Hp} {n a l : Nat} {v : Int32} {G : Nat → Nat → Nat} (S : MC h n a) (ha : a ≤ 900) (hv : h 300 30 = v) (hl : h 300 31 = nI l) (hG : GM h G) : R (mX5_readsRow h) (fun r => rPost h n l (lrun (tM h) n a v G) r) := by
  have ht : ∀ i, tM h i < 256 := fun i => oct_lt _
  have b0 := hc_lt ht n a
  have b1 := hc_lt ht n (a + 1)
  have cb := lC_b (t := tM h) (n := n) (a := a)
  generalize hZ : lrun (tM h) n a v G = Z
  unfold lrun at hZ
  unfold mX5_readsRow
  have flt : ∀ g w q, MF h g → Z.1 = some (w, q) → R (cl2 (mX5_wrongAt g (nI w) (nI q)) (fun r37 h38 => bz r37 (some (r37, h38)))) (fun r => rPost h n l Z r) := fun g w q hM hz => by
    rw [M_wrong, cl2_s, bz_0]
    refine R_some ⟨MF_u hM (by decide), ?_⟩
    rw [hz]
    exact ⟨rfl, by dsimp only; rw [u2_e, upd_e]⟩
  have e85 : hcM (tM h) n a = (85 : Int32) ↔ hc (tM h) n a = 85 := hcM_eq ht (n := n) (i := a) (c := 85) (by decide) (by decide)
  have e76 : hcM (tM h) n a = (76 : Int32) ↔ hc (tM h) n a = 76 := hcM_eq ht (n := n) (i := a) (c := 76) (by decide) (by decide)
  rw [M_here S, cl1_s]
  refine R_let (fun s => ((hc (tM h) n a = 85 ∨ hc (tM h) n a = 76) ∧ s = nI (lC (tM h) n a)) ∨ (¬ (hc (tM h) n a = 85 ∨ hc (tM h) n a = 76) ∧ s = -1)) ?_ ?_
  · rintro s (⟨c0, rfl⟩ | ⟨c0, rfl⟩)
    · rw [if_neg (ne_m1 (by omega)), nm_s, S.2.1, nI_1]
      rw [bo_t c0, if_pos rfl] at hZ
      have S1 : MC (u2 h 300 7 (nI (a + 1))) n (a + 1) := MC_a S (by omega)
      have hh1 := M_here S1
      rw [show tM (u2 h 300 7 (nI (a + 1))) = tM h from rfl] at hh1
      have M1 : MF h (u2 h 300 7 (nI (a + 1))) := MF_u (MF_r h) (by decide)
      have v1 : u2 h 300 7 (nI (a + 1)) 300 30 = v := hv
      have l1 : u2 h 300 7 (nI (a + 1)) 300 31 = nI l := hl
      have G1 : GM (u2 h 300 7 (nI (a + 1))) G := hG
      have T1 : tM (u2 h 300 7 (nI (a + 1))) = tM h := rfl
      generalize u2 h 300 7 (nI (a + 1)) = g1 at *
      rw [hh1, cl1_s, show mX5_in (hcM (tM h) n (a + 1)) 48 53 = _ from hcM_in ht (lo := 48) (hi := 53) (by decide) (by decide) (by decide), cl1_s]
      by_cases c1 : 48 ≤ hc (tM h) n (a + 1) ∧ hc (tM h) n (a + 1) ≤ 53
      · rw [bo_t c1, if_pos rfl] at hZ
        have hlt : a + 1 < n := by
          refine Classical.byContradiction (fun h9 => ?_)
          unfold hc at c1
          rw [if_neg h9] at c1
          omega
        have ev : hcM (tM h) n (a + 1) - 48 = nI (lR (tM h) n a) := by
          have e1 : hcM (tM h) n (a + 1) = nI (hc (tM h) n (a + 1)) := by
            unfold hcM hc
            rw [if_pos hlt, if_pos hlt]
          rw [e1]
          exact nI_subn (b := 48) c1.1
        have hr6 : lR (tM h) n a < 6 := by
          unfold lR
          omega
        rw [decide_eq_true c1, bI_t, i10, cl1_s, nm_s, ev, nm_s, show ((6 : Int32) * nI (lC (tM h) n a) + nI (lR (tM h) n a)) &&& 31 = _ from kk_t ⟨_, cb⟩ ⟨_, hr6⟩, v1]
        by_cases c2 : lbit v (6 * lC (tM h) n a + lR (tM h) n a)
        · rw [bo_t c2, if_pos rfl] at hZ
          rw [if_neg c2, S1.2.1]
          exact flt g1 6 (a + 1) M1 (by rw [← hZ])
        · rw [bo_f c2, if_neg Bool.false_ne_true] at hZ
          rw [if_pos (Classical.byContradiction (fun h9 => c2 h9)), nm_s, nm_s]
          have e7 : u2 g1 300 30 (v ||| (1 : Int32) <<< nI (6 * lC (tM h) n a + lR (tM h) n a)) 300 7 + 1 = nI (a + 1 + 1) := by
            rw [u2_e, upd_n (by decide), S1.2.1, nI_1]
          rw [e7]
          have S2 : MC (u2 (u2 g1 300 30 (v ||| (1 : Int32) <<< nI (6 * lC (tM h) n a + lR (tM h) n a))) 300 7 (nI (a + 1 + 1))) n (a + 1 + 1) := MC_a (MC_u S1 (by decide) (by decide)) (by omega)
          have M2 : MF h (u2 (u2 g1 300 30 (v ||| (1 : Int32) <<< nI (6 * lC (tM h) n a + lR (tM h) n a))) 300 7 (nI (a + 1 + 1))) := MF_u (MF_u M1 (by decide)) (by decide)
          have v2 : u2 (u2 g1 300 30 (v ||| (1 : Int32) <<< nI (6 * lC (tM h) n a + lR (tM h) n a))) 300 7 (nI (a + 1 + 1)) 300 30 = v ||| (1 : Int32) <<< nI (6 * lC (tM h) n a + lR (tM h) n a) := by
            rw [u2_e, upd_n (by decide), u2_e, upd_e]
          have l2 : u2 (u2 g1 300 30 (v ||| (1 : Int32) <<< nI (6 * lC (tM h) n a + lR (tM h) n a))) 300 7 (nI (a + 1 + 1)) 300 31 = nI l := by
            rw [u2_e, upd_n (by decide), u2_e, upd_n (by decide)]
            exact l1
          have G2 : GM (u2 (u2 g1 300 30 (v ||| (1 : Int32) <<< nI (6 * lC (tM h) n a + lR (tM h) n a))) 300 7 (nI (a + 1 + 1))) G := fun c i hc' hi => by
            rw [u2_n (by decide), u2_n (by decide)]
            exact G1 c i hc' hi
          have T2 : tM (u2 (u2 g1 300 30 (v ||| (1 : Int32) <<< nI (6 * lC (tM h) n a + lR (tM h) n a))) 300 7 (nI (a + 1 + 1))) = tM h := by
            rw [← T1]
            rfl
          generalize u2 (u2 g1 300 30 (v ||| (1 : Int32) <<< nI (6 * lC (tM h) n a + lR (tM h) n a))) 300 7 (nI (a + 1 + 1)) = g2 at *
          have tk := M_takes S2 (c := 61) (by decide) (by decide)
          rw [T2] at tk
          rw [show mX5_takes g2 61 = _ from tk]
          by_cases c3 : hc (tM h) n (a + 2) = 61
          · have c3' : hc (tM h) n (a + 1 + 1) = 61 := c3
            rw [bo_t c3, if_pos rfl] at hZ
            rw [if_pos c3', cl2_s, i10, nm_s, nm_s, mul88]
            generalize lC (tM h) n a = c at *
            generalize lR (tM h) n a = r at *
            generalize hV : v ||| (1 : Int32) <<< nI (6 * c + r) = v' at *
            have S3 : MC (u2 (u2 g2 300 7 (nI (a + 1 + 1 + 1))) 300 32 0) n (a + 3) := MC_u (MC_a S2 (by omega)) (by decide) (by decide)
            have M3 : MF h (u2 (u2 g2 300 7 (nI (a + 1 + 1 + 1))) 300 32 0) := MF_u (MF_u M2 (by decide)) (by decide)
            have v3 : u2 (u2 g2 300 7 (nI (a + 1 + 1 + 1))) 300 32 0 300 30 = v' := by
              rw [u2_e, upd_n (by decide), u2_e, upd_n (by decide)]
              exact v2
            have l3 : u2 (u2 g2 300 7 (nI (a + 1 + 1 + 1))) 300 32 0 300 31 = nI l := by
              rw [u2_e, upd_n (by decide), u2_e, upd_n (by decide)]
              exact l2
            have x3 : u2 (u2 g2 300 7 (nI (a + 1 + 1 + 1))) 300 32 0 300 32 = nI 0 := by
              rw [u2_e, upd_e]
              rfl
            have G3 : GM (u2 (u2 g2 300 7 (nI (a + 1 + 1 + 1))) 300 32 0) G := fun c i hc' hi => by
              rw [u2_n (by decide), u2_n (by decide)]
              exact G2 c i hc' hi
            have T3 : tM (u2 (u2 g2 300 7 (nI (a + 1 + 1 + 1))) 300 32 0) = tM h := by
              rw [← T2]
              rfl
            generalize u2 (u2 g2 300 7 (nI (a + 1 + 1 + 1))) 300 32 0 = g3 at *
            have U := M_unit (s := 48 * c + 8 * r) (F := fun i => G c (8 * r + i)) S3 (by omega) (by omega) x3 (by omega) (fun i hi => by
              have := G3 c (8 * r + i) cb (by omega)
              rw [show 48 * c + (8 * r + i) = 48 * c + 8 * r + i by omega] at this
              exact this)
            rw [T3] at U
            generalize hY : hrun (tM h) n 9 (a + 3) 0 (fun i => G c (8 * r + i)) = Y at *
            have hYs := hrun_s (tM h) n 8 (a + 3) 0 (fun i => G c (8 * r + i))
            rw [hY] at hYs
            refine R_c2 U ?_
            rintro r0 g4 ⟨M4, v4, l4, h4⟩
            dsimp only at M4 v4 l4 h4
            have bad : ∀ g, MF h g → ∀ w q, Y.1 = some (w, q) → g 300 9 = -1000 * nI w - nI q → R (bz 0 (some ((0 : Int32), g))) (fun r => rPost h n l Z r) := fun g hM w q hy h9 => by
              rw [bz_0]
              refine R_some ⟨hM, ?_⟩
              rw [← hZ]
              show match Y.1 with | some (w, q) => _ | none => _
              rw [hy]
              exact ⟨rfl, h9⟩
            have ub := uA_b (t := tM h) (n := n) (a := a + 3)
            by_cases d1 : 97 ≤ hc (tM h) n (uA (tM h) n (a + 3)) ∧ hc (tM h) n (uA (tM h) n (a + 3)) ≤ 122
            · rw [if_pos d1] at h4 hYs
              by_cases d2 : 0 + tms (tM h) n (a + 3) 56 ≤ 8
              · rw [if_pos d2] at h4 hYs
                obtain ⟨rfl, S5, x5, R5, o5⟩ := h4
                rw [i10]
                have tb := tms_b (t := tM h) (n := n) (a := a + 3)
                have v4' : g4 300 30 = v' := v4.trans v3
                have l4' : g4 300 31 = nI l := l4.trans l3
                refine fx_R1 8 (fun j g => ∃ a' x' F', MF h g ∧ g 300 30 = v' ∧ g 300 31 = nI l ∧ MC g n a' ∧ a' ≤ a + 3 + 2 * (j + 1) ∧ g 300 32 = nI x' ∧ j + 1 ≤ x' ∧ x' ≤ 8 ∧ RM g (48 * c + 8 * r) F' ∧ (∀ z, ¬ (48 * c + 8 * r ≤ z ∧ z < 48 * c + 8 * r + 8) → g 229 z = g3 229 z) ∧ (if a' < n ∧ hc (tM h) n a' ≠ 59 then hrun (tM h) n (8 - j) a' x' F' else (none, a', F')) = Y) (by decide) ⟨_, _, _, MF_t M3 M4, v4', l4', S5, by omega, x5, by omega, d2, R5, o5, hYs.symm⟩ ?_
                rintro j g k9 hj ⟨a', x', F', m1, m2, m3, m4, m5, m6, m7, m8, m9, m10, m11⟩ hk9
                have Tg : tM g = tM h := by
                  funext z
                  unfold tM
                  rw [m1.1 205 (by decide)]
                have done : Y = (none, a', F') → R (nm (u2 g 300 31 (g 300 31 + 1)) (fun h24 => bz (1 : Int32) (some ((1 : Int32), h24)))) (fun r => rPost h n l Z r) := fun hy => by
                  rw [nm_s, bz_1, m3, nI_1]
                  refine R_some ⟨MF_u m1 (by decide), ?_⟩
                  rw [← hZ, hy]
                  refine ⟨rfl, MC_u m4 (by decide) (by decide), by show a' ≤ 3000; omega, ?_, ?_, fun c' i hc' hi => ?_⟩
                  · dsimp only
                    rw [u2_e, upd_n (by decide)]
                    exact m2
                  · dsimp only
                    rw [u2_e, upd_e]
                  · dsimp only
                    rw [u2_n (by decide)]
                    unfold lset
                    by_cases e : c' = c ∧ 8 * r ≤ i ∧ i < 8 * r + 8
                    · rw [if_pos e, e.1]
                      have := m9 (i - 8 * r) (by omega)
                      rw [show 48 * c + 8 * r + (i - 8 * r) = 48 * c + i by omega] at this
                      exact this
                    · rw [if_neg e, m10 _ (fun e9 => e (by omega))]
                      exact G3 c' i hc' hi
                have hg := M_here m4
                rw [Tg] at hg
                have b9 := hc_lt ht n a'
                have e59 : hcM (tM h) n a' = (59 : Int32) ↔ hc (tM h) n a' = 59 := hcM_eq ht (n := n) (i := a') (c := 59) (by decide) (by decide)
                rw [nm_s (v := nm _ _), m4.1, m4.2.1]
                by_cases p1 : n ≤ a'
                · rw [if_pos (nI_le p1 (by omega))]
                  exact done (by rw [← m11, if_neg (by omega)])
                · rw [if_neg (nI_ge (by omega) (by have := m4.2.2.1; omega)), hg, cl1_s]
                  by_cases p2 : hc (tM h) n a' = 59
                  · rw [if_pos (e59.mpr p2)]
                    exact done (by rw [← m11, if_neg (fun e => e.2 p2)])
                  · rw [if_neg (fun e => p2 (e59.mp e))]
                    rw [if_pos ⟨by omega, p2⟩] at m11
                    have hj8 : j ≠ 8 := fun e => by
                      -- no fuel is left only if the row is full
                      subst e
                      omega
                    have hm11 := hrun_s (tM h) n (7 - j) a' x' F'
                    rw [show 7 - j + 1 = 8 - j by omega, m11] at hm11
                    have U2 := M_unit m4 (by omega) m8 m6 (by omega) m9
                    rw [Tg] at U2
                    have ub2 := uA_b (t := tM h) (n := n) (a := a')
                    have tb2 := tms_b (t := tM h) (n := n) (a := a')
                    refine R_c2 U2 ?_
                    rintro r1 g6 ⟨M6, v6, l6, h6⟩
                    dsimp only at M6 v6 l6 h6
                    by_cases d3 : 97 ≤ hc (tM h) n (uA (tM h) n a') ∧ hc (tM h) n (uA (tM h) n a') ≤ 122
                    · rw [if_pos d3] at h6 hm11
                      by_cases d4 : x' + tms (tM h) n a' 56 ≤ 8
                      · rw [if_pos d4] at h6 hm11
                        obtain ⟨rfl, S7, x7, R7, o7⟩ := h6
                        rw [i10]
                        exact hk9 (j + 1) _ (by omega) (by omega) ⟨_, _, _, MF_t m1 M6, v6.trans m2, l6.trans m3, S7, by omega, x7, by omega, d4, R7, fun z hz => (o7 z hz).trans (m10 z hz), by rw [show 8 - (j + 1) = 7 - j by omega]; exact hm11.symm⟩
                      · rw [if_neg d4] at h6 hm11
                        obtain ⟨rfl, h9⟩ := h6
                        rw [i00]
                        exact bad g6 (MF_t m1 M6) 4 a' (by rw [hm11]) h9
                    · rw [if_neg d3] at h6 hm11
                      obtain ⟨rfl, h9⟩ := h6
                      rw [i00]
                      exact bad g6 (MF_t m1 M6) 1 _ (by rw [hm11]) h9
              · rw [if_neg d2] at h4 hYs
                obtain ⟨rfl, h9⟩ := h4
                rw [i00]
                exact bad g4 (MF_t M3 M4) 4 (a + 3) (by rw [hYs]) h9
            · rw [if_neg d1] at h4 hYs
              obtain ⟨rfl, h9⟩ := h4
              rw [i00]
              exact bad g4 (MF_t M3 M4) 1 _ (by rw [hYs]) h9
          · have c3' : ¬ hc (tM h) n (a + 1 + 1) = 61 := c3
            rw [bo_f c3, if_neg Bool.false_ne_true] at hZ
            rw [if_neg c3', cl2_s, i00, bz_0]
            refine R_some ⟨MF_u M2 (by decide), ?_⟩
            rw [← hZ]
            exact ⟨rfl, by dsimp only; rw [u2_e, upd_e]⟩
      · rw [bo_f c1, if_neg Bool.false_ne_true] at hZ
        rw [decide_eq_false c1, bI_f, i00, S1.2.1]
        exact flt g1 1 (a + 1) M1 (by rw [← hZ])
    · rw [bo_f c0, if_neg Bool.false_ne_true] at hZ
      rw [if_pos rfl, S.2.1]
      exact flt h 1 a (MF_r h) (by rw [← hZ])
  · intro k hk
    by_cases c : hc (tM h) n a = 85
    · rw [if_pos (e85.mpr c)]
      exact hk _ (Or.inl ⟨Or.inl c, by unfold lC; rw [if_pos c]; rfl⟩)
    · rw [if_neg (fun e => c (e85.mp e)), cl1_s]
      by_cases c2 : hc (tM h) n a = 76
      · rw [if_pos (e76.mpr c2)]
        exact hk _ (Or.inl ⟨Or.inr c2, by unfold lC; rw [if_neg c]; rfl⟩)
      · rw [if_neg (fun e => c2 (e76.mp e))]
        exact hk _ (Or.inr ⟨fun e => by rcases e with e | e; exact c e; exact c2 e, rfl⟩)
