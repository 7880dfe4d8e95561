/-! law: the reference's law -/
set_option maxRecDepth 100000
def MFz (h h' : Hp) : Prop := Ex [216, 217, 218, 219, 220, 221, 222, 223, 224, 225, 226, 300] h h' ∧ (∀ i, i ∉ [6, 7, 8, 9, 10, 11, 12, 13, 14, 15] → h' 300 i = h 300 i) ∧ h' 300 6 = 0
/-- the codes and the clauses as the reference keeps them -/
def MKp (h : Hp) (K : List Nat) (L : List (Nat × Nat × Nat × Nat)) : Prop := h 300 15 = nI L.length ∧ L.length ≤ 16 ∧ K.length ≤ 240 ∧ (∀ i z, K[i]? = some z → h 222 i = nI z ∧ z < 20 * uN) ∧ ∀ i z, L[i]? = some z → (h 223 i = nI z.1 ∧ h 224 i = nI z.2.1 ∧ h 225 i = nI z.2.2.1 ∧ h 226 i = nI z.2.2.2) ∧ z.1 < 256 ∧ z.2.1 ≤ 240 ∧ z.2.2.1 ≤ 240 ∧ z.2.2.2 ≤ 240
def MLq (h : Hp) (r : Zr) (p : Int32 × Hp) : Prop := MFz h p.2 ∧ match r with
  | .inl (w, q) => p.1 = -1000 * nI w - nI q ∧ p.2 222 = h 222 ∧ p.2 223 = h 223 ∧ p.2 224 = h 224 ∧ p.2 225 = h 225 ∧ p.2 226 = h 226 ∧ p.2 300 15 = h 300 15
  | .inr (K, L) => p.1 = nI L.length ∧ MKp p.2 K L
theorem M_law {h : Hp} {n t0 : Nat} (h1 : 1 ≤ n) (hn : n ≤ 240) (h6 : h 300 6 = nI t0) (hnt : n ≤ t0) (ht0 : t0 ≤ 260) : R (mX5_law h (nI n)) (fun p => ∃ r, Hz (tM h) n s00 r ∧ MLq h r p) := by
  have ht : ∀ i, tM h i < 256 := fun i => oct_lt _
  have hin : mX5_in (nI n) 1 240 = some 1 := by
    unfold mX5_in
    simp only [nm_q]
    rw [if_neg (l_nlt (N := 1) (c := 1) rfl h1 (by omega)), if_neg (l_ngt (N := 240) (c := 240) rfl hn (by decide)), bz_1]
  unfold mX5_law
  rw [hin, cl1_s, nm_s, i10, h6, if_pos (nI_le hnt (by omega))]
  have hbt : mX5_beginsText h (nI n) = some (u2 (u2 (u2 (u2 h 300 7 (nI 0)) 300 8 (nI n)) 300 12 (nI 0)) 300 14 (nI 0)) := rfl
  rw [hbt, cl1_s]
  generalize hg0 : u2 (u2 (u2 (u2 h 300 7 (nI 0)) 300 8 (nI n)) 300 12 (nI 0)) 300 14 (nI 0) = g0
  have hE0 : Ex [300] h g0 := by
    intro q hq
    rw [← hg0, u2_n (fun e => hq (by rw [e]; simp)), u2_n (fun e => hq (by rw [e]; simp)), u2_n (fun e => hq (by rw [e]; simp)), u2_n (fun e => hq (by rw [e]; simp))]
  have hf0 : ∀ i, i ∉ [7, 8, 12, 14] → g0 300 i = h 300 i := by
    intro i hi
    simp at hi
    rw [← hg0, u2_e, upd_n (by omega), u2_e, upd_n (by omega), u2_e, upd_n (by omega), u2_e, upd_n (by omega)]
  have et0 : tM g0 = tM h := by
    funext i
    unfold tM
    rw [hE0 205 (by decide)]
  have k0 : MSk g0 n 0 [] := ⟨⟨by rw [← hg0]; rfl, by rw [← hg0]; rfl, by omega, by omega⟩, by rw [← hg0]; rfl, fun i z hz => by simp at hz, by simp⟩
  have m0 : MV n 0 0 0 [] [] := ⟨hn, by omega, by simp, by simp, by simp, fun w hw => by cases hw⟩
  have l0 : MLt g0 [] := ⟨by rw [← hg0]; rfl, by simp, fun i z hz => by simp at hz⟩
  refine R_c2 (M_rule (o0 := 0) (x0 := 0) (S0 := []) (W0 := []) (u0 := (0, 0, 0)) et0 k0 m0 l0) (fun r6 h7 hg => ?_)
  refine fx_R2 300 (fun j x g => MFq g0 g ∧ ((x = 0 ∧ ∃ w p, Hz (tM h) n s00 (.inl (w, p)) ∧ g 300 9 = -1000 * nI w - nI p) ∨ (x = 1 ∧ ∃ a K u L, j ≤ a ∧ Rn (tM h) n s00 (7, a, 0, [], K, (0, [], u, L)) ∧ MSk g n a K ∧ MV n a 0 0 [] K ∧ MLt g L))) (by decide) ?_ ?_
  · obtain ⟨b1, ⟨b2, w, p, b3, b4⟩ | ⟨b2, s', b3, a, K, u, z, b5, b6, b7, b8, b9⟩⟩ := hg
    · exact ⟨b1, Or.inl ⟨b2, w, p, b3, b4⟩⟩
    · subst b5
      exact ⟨b1, Or.inr ⟨b2, a, K, u, _, by omega, b3, MSk_m b7, b8, b9⟩⟩
  rintro j x g k hj ⟨hF, hC⟩ hk
  have eg : tM g = tM h := tM_q hF et0
  have hFz : ∀ g2, Ex [222, 223, 224, 225, 226, 300] g g2 → (∀ i, i ≠ 6 → i ≠ 15 → g2 300 i = g 300 i) → g2 300 6 = 0 → MFz h g2 := by
    intro g2 e1 e2 e3
    refine ⟨fun q hq => ?_, fun i hi => ?_, e3⟩
    · simp at hq
      rw [e1 q (by simp; omega), hF.1 q (by simp; omega), hE0 q (by simp; omega)]
    · simp at hi
      rw [e2 i (by omega) (by omega), hF.2 i (by simp; omega), hf0 i (by simp; omega)]
  rw [nm_s, nm_s]
  rcases hC with ⟨rfl, w, p, c1, c2⟩ | ⟨rfl, a, K, u, L, c0, c1, c2, c3, c4⟩
  · rw [i00, i00]
    refine R_some ⟨_, c1, hFz _ (fun q hq => ?_) (fun i h1 _ => ?_) ?_, ?_⟩
    · dsimp only
      rw [u2_n (fun e => hq (by rw [e]; simp))]
    · dsimp only
      rw [u2_e, upd_n h1]
    · dsimp only
      rw [u2_e, upd_e]
    · dsimp only
      exact ⟨by rw [u2_e, upd_n (by decide)]; exact c2, (by rw [u2_n (by decide), hF.1 222 (by decide), hE0 222 (by decide)]), (by rw [u2_n (by decide), hF.1 223 (by decide), hE0 223 (by decide)]), (by rw [u2_n (by decide), hF.1 224 (by decide), hE0 224 (by decide)]), (by rw [u2_n (by decide), hF.1 225 (by decide), hE0 225 (by decide)]), (by rw [u2_n (by decide), hF.1 226 (by decide), hE0 226 (by decide)]), by rw [u2_e, upd_n (by decide), hF.2 15 (by decide), hf0 15 (by decide)]⟩
  · have hb := MV_b c3
    rw [i10, i10, c2.1.1, c2.1.2.1]
    by_cases cn : n ≤ a
    · rw [if_pos (nI_le cn (by omega))]
      rw [nm_s, show u2 g 300 6 0 300 14 = nI L.length from c4.1]
      generalize hh11 : u2 (u2 g 300 6 0) 300 15 (nI L.length) = h11
      have q0 : Ex [300] g h11 := by
        intro q hq
        rw [← hh11, u2_n (fun e => hq (by rw [e]; simp)), u2_n (fun e => hq (by rw [e]; simp))]
      have q1 : ∀ i, i ≠ 6 → i ≠ 15 → h11 300 i = g 300 i := by
        intro i i1 i2
        rw [← hh11, u2_e, upd_n i2, u2_e, upd_n i1]
      have q2 : h11 300 6 = 0 := by rw [← hh11, u2_e, upd_n (by decide), u2_e, upd_e]
      have q3 : h11 300 15 = nI L.length := by rw [← hh11, u2_e, upd_e]
      have hzL : Hz (tM h) n s00 (.inr (K, L)) := by
        refine c1 _ (Hz_s ?_)
        show zL (tM h) n a K _ = _
        unfold zL
        rw [if_pos cn]
      refine fx_R2 300 (fun i x y => x = nI i ∧ i ≤ K.length ∧ Ex [222] h11 y ∧ ∀ m, m < i → y 222 m = h11 216 m) (by decide) ⟨rfl, by omega, Ex_r _ _, fun m hm => by omega⟩ ?_
      rintro i x y k2 hi ⟨rfl, hiK, hEy, hcp⟩ hk2
      rw [show y 300 12 = nI K.length by rw [hEy 300 (by decide), q1 12 (by decide) (by decide)]; exact c2.2.1]
      by_cases cK : K.length ≤ i
      · have hiK2 : i = K.length := by omega
        subst hiK2
        rw [if_pos (nI_le (by omega) (by omega))]
        have y14 : ∀ z, Ex [223, 224, 225, 226] y z → z 300 14 = nI L.length := by
          intro z hz
          rw [hz 300 (by decide), hEy 300 (by decide), q1 14 (by decide) (by decide)]
          exact c4.1
        have hL16 := c4.2.1
        refine fx_R2 300 (fun i x z => x = nI i ∧ i ≤ L.length ∧ Ex [223, 224, 225, 226] y z ∧ ∀ m, m < i → z 223 m = y 218 m ∧ z 224 m = y 219 m ∧ z 225 m = y 220 m ∧ z 226 m = y 221 m) (by decide) ⟨rfl, by omega, Ex_r _ _, fun m hm => by omega⟩ ?_
        rintro i x z k3 hi3 ⟨rfl, hiL, hEz, hcz⟩ hk3
        rw [y14 z hEz]
        by_cases cL : L.length ≤ i
        · have hiL2 : i = L.length := by omega
          subst hiL2
          rw [if_pos (nI_le (by omega) (by omega))]
          refine R_some ⟨.inr (K, L), hzL, hFz _ (fun q hq => ?_) (fun i i1 i2 => ?_) ?_, rfl, ?_, hL16, by omega, fun i z9 hz => ?_, fun i z9 hz => ?_⟩
          · simp at hq
            dsimp only
            rw [hEz q (by simp; omega), hEy q (by simp; omega), q0 q (by simp; omega)]
          · dsimp only
            rw [hEz 300 (by decide), hEy 300 (by decide), q1 i i1 i2]
          · dsimp only
            rw [hEz 300 (by decide), hEy 300 (by decide), q2]
          · dsimp only
            rw [hEz 300 (by decide), hEy 300 (by decide), q3]
          · dsimp only
            rw [hEz 222 (by decide), hcp i (List.getElem?_eq_some_iff.mp hz).1, q0 216 (by decide)]
            exact c2.2.2.1 i z9 hz
          · dsimp only
            obtain ⟨d1, d2, d3, d4⟩ := hcz i (List.getElem?_eq_some_iff.mp hz).1
            rw [d1, d2, d3, d4, hEy 218 (by decide), hEy 219 (by decide), hEy 220 (by decide), hEy 221 (by decide), q0 218 (by decide), q0 219 (by decide), q0 220 (by decide), q0 221 (by decide)]
            exact c4.2.2 i z9 hz
        · rw [if_neg (nI_ge (by omega) (by omega))]
          simp only [ck_s (show i < 16 by omega) (show 16 < 2 ^ 31 by decide), nI_clamp (show i < 2 ^ 31 by omega), nm_q]
          rw [nI_1]
          refine hk3 (i + 1) _ _ (by omega) (by omega) ⟨rfl, by omega, fun q hq => ?_, fun m hm => ?_⟩
          · simp at hq
            rw [u2_n (by omega), u2_n (by omega), u2_n (by omega), u2_n (by omega), hEz q (by simp; omega)]
          · have z8 : z 218 = y 218 := hEz 218 (by decide)
            have z9 : z 219 = y 219 := hEz 219 (by decide)
            have z10 : z 220 = y 220 := hEz 220 (by decide)
            have z11 : z 221 = y 221 := hEz 221 (by decide)
            show upd (z 223) i (z 218 i) m = _ ∧ upd (z 224) i (z 219 i) m = _ ∧ upd (z 225) i (z 220 i) m = _ ∧ upd (z 226) i (z 221 i) m = _
            rw [z8, z9, z10, z11]
            by_cases cm : m = i
            · rw [cm, upd_e, upd_e, upd_e, upd_e]
              exact ⟨rfl, rfl, rfl, rfl⟩
            · rw [upd_n cm, upd_n cm, upd_n cm, upd_n cm]
              exact hcz m (by omega)
      · rw [if_neg (nI_ge (by omega) (by omega)), ck_s (by omega) (by decide), ck_s (by omega) (by decide), nI_clamp (by omega), nm_s, nI_1]
        refine hk2 (i + 1) _ _ (by omega) (by omega) ⟨rfl, by omega, fun q hq => ?_, fun m hm => ?_⟩
        · rw [u2_n (fun e => hq (by rw [e]; simp)), hEy q hq]
        · rw [u2_e, show y 216 = h11 216 from hEy 216 (by decide)]
          by_cases cm : m = i
          · rw [cm, upd_e]
          · rw [upd_n cm]
            exact hcp m (by omega)
    · rw [if_neg (nI_ge (by omega) (by omega))]
      have htk := M_takes (c := 59) c2.1 (by decide) (by decide)
      rw [show mX5_takes g 59 = _ from htk, eg]
      by_cases c59 : hc (tM h) n a = 59
      · rw [if_pos c59, cl2_s]
        simp only [nm_q]
        rw [i10]
        have c5 := MSk_pos c2 (a' := a + 1) (by omega)
        have c6 : MLt (u2 g 300 7 (nI (a + 1))) L := c4
        have hF2 := MFq_u (i := 7) (v := nI (a + 1)) hF (by decide)
        have hR2 : Rn (tM h) n s00 (0, a + 1, 0, [], K, (0, [], u, L)) := by
          refine Rn_t c1 (Rn_s ?_)
          show zL (tM h) n a K _ = _
          unfold zL
          rw [if_neg cn, if_pos c59]
        refine R_c2 (M_rule (o0 := 0) (x0 := 0) (S0 := []) (W0 := []) (u0 := u) (tM_q hF2 et0) c5 (MV_a c3 (by omega) (by omega)) c6) (fun r8 h9 hg9 => ?_)
        obtain ⟨b1, ⟨b2, w, p, b3, b4⟩ | ⟨b2, s', b3, a', K', u', z, b5, b6, b7, b8, b9⟩⟩ := hg9
        · dsimp only at b1 b2 b4
          rw [b2, i00]
          exact hk (j + 1) _ _ (by omega) (by omega) ⟨MFq_t hF2 b1, Or.inl ⟨rfl, w, p, hR2 _ b3, b4⟩⟩
        · dsimp only at b1 b2 b7 b9
          subst b5
          rw [b2, i10]
          exact hk (j + 1) _ _ (by omega) (by omega) ⟨MFq_t hF2 b1, Or.inr ⟨rfl, a', K', u', _, by omega, Rn_t hR2 b3, MSk_m b7, b8, b9⟩⟩
      · rw [if_neg c59, cl2_s]
        simp only [nm_q]
        rw [if_pos trivial]
        refine hk (j + 1) _ _ (by omega) (by omega) ⟨MFq_u hF (by decide), Or.inl ⟨rfl, 1, a, Rn_H c1 ?_, by rw [u2_e, upd_e]⟩⟩
        show zL (tM h) n a K _ = _
        unfold zL
        rw [if_neg cn, if_neg c59]
