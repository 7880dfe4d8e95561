/-! height, keepOff, heightOf, seed -/
set_option maxRecDepth 100000
theorem nI2 {a : Nat} (h : a < 2) : a = 0 ∨ a = 1 := by omega
theorem mul48 (c : Nat) (p : Nat) : (48 : Int32) * nI c + nI p = nI (48 * c + p) := by
  rw [show (48 : Int32) = nI 48 from rfl]
  apply Int32.toBitVec_inj.mp
  show BitVec.ofNat 32 48 * BitVec.ofNat 32 c + BitVec.ofNat 32 p = BitVec.ofNat 32 (48 * c + p)
  rw [BitVec.ofNat_add, BitVec.ofNat_mul]
theorem BM_HX {hx hm : Hp} {b : Nat} (H : BM hx hm b) : ∃ U L, HX b hx U L ∧ HM hm U L := by
  obtain ⟨⟨U, L, H1, H2⟩, _⟩ := H
  exact ⟨U, L, H1, fun p hp => ⟨(H1 p hp).1, (H1 p hp).2.1, (H2 p hp).2, (H2 p hp).1⟩⟩
theorem upd_e (f : Nat → Int32) (i : Nat) (v : Int32) : upd f i v i = v := by
  unfold upd
  exact if_pos rfl
theorem upd_n {f : Nat → Int32} {i j : Nat} {v : Int32} (h : j ≠ i) : upd f i v j = f j := by
  unfold upd
  exact if_neg h
theorem u2_e (h : Hp) (k i : Nat) (v : Int32) : u2 h k i v k = upd (h k) i v := by
  unfold u2
  exact if_pos rfl
theorem u2_n {h : Hp} {k i q : Nat} {v : Int32} (e : q ≠ k) : u2 h k i v q = h q := by
  unfold u2
  exact if_neg e
theorem st_height (LW : LWt) : St_height (II LW) := by
  intro tt hx hm a0 a1 a2 H
  unfold mX0_height mX5_height
  rw [X_isCast, M_isCast, X_isPlace, M_isPlace, X_wi a2 25 26 (by decide), M_wi a2 25 26 (by decide)]
  simp only [nm_s, cl1_s]
  cases h1 : nR a0 2 with
  | false => exact ⟨0, hx, hm, rfl, rfl, H⟩
  | true =>
    cases h2 : nR a1 48 with
    | false => exact ⟨0, hx, hm, rfl, rfl, H⟩
    | true =>
      cases h3 : nR a2 26 with
      | false => exact ⟨0, hx, hm, rfl, rfl, H⟩
      | true =>
        obtain ⟨c, hc, _, e0⟩ := nR_of h1
        obtain ⟨p, hp, _, e1⟩ := nR_of h2
        obtain ⟨v, hv, _, e2⟩ := nR_of h3
        subst e0 e1 e2
        simp only [bI_t, i10, bz_1]
        rw [ck_s hc (by decide), ck_s hp (by decide), mul48, ck_s (by omega) (by decide), nI_clamp (by omega), nI_clamp (by omega), nI_clamp (by omega)]
        refine ⟨_, _, _, rfl, rfl, ?_⟩
        obtain ⟨⟨⟨U, L, H1, H2⟩, H3⟩, H4⟩ := H
        rcases nI2 hc with e | e
        · subst e
          refine ⟨⟨⟨U, fun q => if q = p then v else L q, fun q hq => ?_, fun q hq => ?_⟩, H3⟩, H4⟩
          · have a := H1 q hq
            refine ⟨a.1, ?_, a.2.2.1, ?_⟩
            · show (if q = p then v else L q) ≤ 25
              split <;> omega
            · show u2 hx 42 p (nI v) 42 q = nI (if q = p then v else L q)
              rw [u2_e]
              by_cases e : q = p
              · rw [e, upd_e, if_pos rfl]
              · rw [upd_n e, if_neg e]
                exact a.2.2.2
          · show u2 hm 200 (48 * 0 + p) (nI v) 200 q = nI (if q = p then v else L q) ∧ u2 hm 200 (48 * 0 + p) (nI v) 200 (48 + q) = nI (U q)
            rw [u2_e, show 48 * 0 + p = p by omega]
            refine ⟨?_, ?_⟩
            · by_cases e : q = p
              · rw [e, upd_e, if_pos rfl]
              · rw [upd_n e, if_neg e]
                exact (H2 q hq).1
            · rw [upd_n (by omega)]
              exact (H2 q hq).2
        · subst e
          refine ⟨⟨⟨fun q => if q = p then v else U q, L, fun q hq => ?_, fun q hq => ?_⟩, H3⟩, H4⟩
          · have a := H1 q hq
            refine ⟨?_, a.2.1, ?_, a.2.2.2⟩
            · show (if q = p then v else U q) ≤ 25
              split <;> omega
            · show u2 hx 43 p (nI v) 43 q = nI (if q = p then v else U q)
              rw [u2_e]
              by_cases e : q = p
              · rw [e, upd_e, if_pos rfl]
              · rw [upd_n e, if_neg e]
                exact a.2.2.1
          · show u2 hm 200 (48 * 1 + p) (nI v) 200 q = nI (L q) ∧ u2 hm 200 (48 * 1 + p) (nI v) 200 (48 + q) = nI (if q = p then v else U q)
            rw [u2_e, show 48 * 1 + p = 48 + p by omega]
            refine ⟨?_, ?_⟩
            · rw [upd_n (by omega)]
              exact (H2 q hq).1
            · by_cases e : q = p
              · rw [e, upd_e, if_pos rfl]
              · rw [upd_n (by omega), if_neg e]
                exact (H2 q hq).2
theorem st_keepOff (LW : LWt) : St_keepOff (II LW) := by
  intro tt hx hm a0 a1 ha H
  unfold mX0_keepOff mX5_keepOff
  rw [X_isPlace, M_isPlace]
  simp only [nm_s, cl1_s]
  cases h1 : nR a0 48 with
  | false => exact ⟨0, hx, hm, rfl, rfl, H⟩
  | true =>
    obtain ⟨p, hp, _, e0⟩ := nR_of h1
    subst e0
    simp only [bI_t, i10, bz_1]
    have hv : vp_nar .boolean a1 = 0 ∨ vp_nar .boolean a1 = 1 := by
      rcases ha with e | e <;> subst e <;> decide
    generalize vp_nar .boolean a1 = v at hv
    rw [ck_s hp (by decide), ck_s hp (by decide), nI_clamp (by omega)]
    refine ⟨_, _, _, rfl, rfl, ?_⟩
    obtain ⟨H1, H2, H3⟩ := H
    refine ⟨H1, fun q hq => ?_, H3⟩
    rw [u2_e, u2_e]
    by_cases e : q = p
    · rw [e, upd_e, upd_e]
      exact ⟨rfl, hv⟩
    · rw [upd_n e, upd_n e]
      exact H2 q hq
theorem X_heightAt {b : Nat} {h : Hp} {U L : Nat → Nat} (H : HX b h U L) {c p : Nat} (hc : c < 2) (hp : p < 48) : h (b + 2 + c) p = nI (if c = 0 then L p else U p) := by
  rcases nI2 hc with e | e
  · subst e
    exact (H p hp).2.2.2
  · subst e
    exact (H p hp).2.2.1
theorem M_heightAt {h : Hp} {U L : Nat → Nat} (H : HM h U L) {c p : Nat} (hc : c < 2) (hp : p < 48) : h 200 (48 * c + p) = nI (if c = 0 then L p else U p) := by
  rcases nI2 hc with e | e
  · subst e
    rw [show 48 * 0 + p = p by omega]
    exact (H p hp).2.2.2
  · subst e
    exact (H p hp).2.2.1
theorem st_heightOf (LW : LWt) : St_heightOf (II LW) := by
  intro tt hx hm a0 a1 H
  obtain ⟨U, L, HU, HL⟩ := BM_HX H.1
  unfold mX0_heightOf mX5_heightOf
  rw [X_isCast, M_isCast, X_isPlace, M_isPlace]
  simp only [nm_s, cl1_s]
  cases h1 : nR a0 2 with
  | false => exact ⟨-1, rfl, rfl, H⟩
  | true =>
    cases h2 : nR a1 48 with
    | false => exact ⟨-1, rfl, rfl, H⟩
    | true =>
      obtain ⟨c, hc, _, e0⟩ := nR_of h1
      obtain ⟨p, hp, _, e1⟩ := nR_of h2
      subst e0 e1
      simp only [bI_t, i10]
      rw [ck_s hc (by decide), ck_s hp (by decide), mul48, ck_s (by omega) (by decide), nI_clamp (by omega), nI_clamp (by omega), nI_clamp (by omega), M_heightAt HL hc hp]
      refine ⟨_, ?_, rfl, H⟩
      exact congrArg some (X_heightAt HU hc hp)
theorem st_seed (LW : LWt) : St_seed (II LW) := by
  intro tt hx hm a0 H
  unfold mX0_seed mX5_seed
  rw [X_in a0 65536 65536 (by decide), M_wi a0 65535 65536 (by decide)]
  simp only [nm_s, cl1_s]
  cases h1 : nR a0 65536 with
  | false => exact ⟨0, hx, hm, rfl, rfl, H⟩
  | true =>
    obtain ⟨p, hp, _, e0⟩ := nR_of h1
    subst e0
    simp only [bI_t, i10, bz_1]
    refine ⟨_, _, _, rfl, rfl, ?_⟩
    obtain ⟨⟨H1, H2, H3, _, H5⟩, H6⟩ := H
    exact ⟨⟨H1, H2, H3, ⟨p, hp, rfl, rfl⟩, H5⟩, H6⟩
