/-! casts: the call -/
set_option maxRecDepth 100000
section
variable {t t' : Nat → Nat} {n : Nat}
theorem uA_c (e : ∀ i, hc t n i = hc t' n i) (a : Nat) : uA t n a = uA t' n a := by
  unfold uA
  rw [e a]
theorem tms_c (e : ∀ i, hc t n i = hc t' n i) (a b : Nat) : tms t n a b = tms t' n a b := by
  unfold tms
  rw [e a]
theorem hrun_c (e : ∀ i, hc t n i = hc t' n i) : ∀ k a x F, hrun t n k a x F = hrun t' n k a x F
  | 0, a, x, F => rfl
  | k + 1, a, x, F => by
    rw [hrun_s, hrun_s, uA_c e, tms_c e, e, e, hrun_c e k]
theorem lrun_c (e : ∀ i, hc t n i = hc t' n i) (a : Nat) (v : Int32) (G : Nat → Nat → Nat) : lrun t n a v G = lrun t' n a v G := by
  have e1 : lC t n a = lC t' n a := by
    unfold lC
    rw [e a]
  have e2 : lR t n a = lR t' n a := by
    unfold lR
    rw [e]
  unfold lrun
  rw [e1, e2, e a, e (a + 1), e (a + 2), hrun_c e]
theorem rrun_c (e : ∀ i, hc t n i = hc t' n i) : ∀ k a v l G, rrun t n k a v l G = rrun t' n k a v l G
  | 0, a, v, l, G => rfl
  | k + 1, a, v, l, G => by
    rw [rrun_s, rrun_s, lrun_c e]
    unfold rnx
    rw [e, rrun_c e k]
theorem rrun_l : ∀ k a v l G, (rrun t n k a v l G).2.1 ≤ l + k ∧ ((∀ c i, G c i ≤ 25) → ∀ c i, (rrun t n k a v l G).2.2 c i ≤ 25)
  | 0, a, v, l, G => ⟨Nat.le_refl _, fun h => h⟩
  | k + 1, a, v, l, G => by
    rw [rrun_s]
    cases (lrun t n a v G).1 with
    | some wq => exact ⟨by show l ≤ _; omega, fun h => h⟩
    | none =>
      show (rnx t n k _ _ _ _ _).2.1 ≤ _ ∧ _
      unfold rnx
      split
      · split
        · have := rrun_l k ((lrun t n a v G).2.1 + 1) (lrun t n a v G).2.2.1 (l + 1) (lrun t n a v G).2.2.2
          exact ⟨by omega, fun h => this.2 (lrun_f h).2⟩
        · exact ⟨by show l + 1 - 1 ≤ _; omega, fun h => h⟩
      · exact ⟨by show l + 1 ≤ _; omega, fun h => (lrun_f h).2⟩
end
def cPost (h0 : Hp) (Z : Option (Nat × Nat) × Nat × (Nat → Nat → Nat)) (r : Int32 × Hp) : Prop := (∀ z, z ∉ [80, 82, 83, 42, 43, 44, 100] → r.2 z = h0 z) ∧ r.2 100 = upd (h0 100) 10 0 ∧ match Z.1 with
  | some (w, q) => r.1 = -1000 * nI w - nI q ∧ r.2 42 = h0 42 ∧ r.2 43 = h0 43 ∧ r.2 44 = h0 44
  | none => r.1 = nI Z.2.1 ∧ (∀ i, i < 48 → r.2 42 i = nI (Z.2.2 0 i) ∧ r.2 43 i = nI (Z.2.2 1 i)) ∧ r.2 44 0 = 0 ∧ r.2 44 1 = 0
theorem X_casts {h : Hp} {n t : Nat} (hn : 1 ≤ n ∧ n ≤ 240 ∧ n ≤ t ∧ t ≤ 260) (h10 : h 100 10 = nI t) : R (mX0_casts h (nI n)) (fun r => cPost h (rrun (tX h) n 500 0 0 0 (fun _ _ => 0)) r) := by
  have e0 : nI n - 1 = nI (n - 1) := nI_subn (b := 1) hn.1
  unfold mX0_casts
  rw [X_wi1 (nI n) 240 240 (by decide), e0, nR_s (by omega) (by omega), cl1_s, nm_s, bI_t, i10, h10, if_pos (nI_le (by omega) (by omega)), nm_s, nm_s]
  have C1 : ∀ z, z ≠ 80 → z ≠ 82 → z ≠ 83 → hC0 (u2 h 100 10 0) (nI n) z = u2 h 100 10 0 z := fun z h1 h2 h3 => by
    unfold hC0
    rw [if_neg h1, if_neg h2, if_neg h3]
  have C2 : SC 80 (hC0 (u2 h 100 10 0) (nI n)) n 0 0 0 := ⟨rfl, rfl, rfl, rfl, by omega, by omega, by omega, by omega⟩
  have C3 : hC0 (u2 h 100 10 0) (nI n) 80 6 = 0 := rfl
  have C4 : hC0 (u2 h 100 10 0) (nI n) 80 7 = nI 0 := rfl
  have C5 : GX (hC0 (u2 h 100 10 0) (nI n)) (fun _ _ => 0) := fun c i hc' hi => by
    rcases nI2 hc' with e | e <;> subst e <;> rfl
  have C6 : tX (hC0 (u2 h 100 10 0) (nI n)) = tX h := rfl
  generalize hC0 (u2 h 100 10 0) (nI n) = h5 at *
  have Rd := X_read C2 (by omega) C3 C4 C5
  rw [C6] at Rd
  have rl := rrun_l (t := tX h) (n := n) 500 0 0 0 (fun _ _ => 0)
  generalize rrun (tX h) n 500 0 0 0 (fun _ _ => 0) = Z at *
  refine R_c2 Rd ?_
  rintro r8 h8 ⟨E8, P8⟩
  dsimp only at E8 P8
  have K8 : (∀ z, z ∉ [80, 82, 83, 100] → h8 z = h z) ∧ h8 100 = upd (h 100) 10 0 := by
    refine ⟨fun z hz => ?_, ?_⟩
    · simp only [List.mem_cons, List.not_mem_nil, or_false, not_or] at hz
      rw [E8 z (by simp only [List.mem_cons, List.not_mem_nil, or_false, not_or]; exact ⟨hz.1, hz.2.1, hz.2.2.1⟩), C1 z hz.1 hz.2.1 hz.2.2.1, u2_n hz.2.2.2]
    · rw [E8 100 (by decide), C1 100 (by decide) (by decide) (by decide), u2_e]
  cases hZ1 : Z.1 with
  | some wq =>
    obtain ⟨w, q⟩ := wq
    rw [hZ1] at P8
    obtain ⟨p1, p2, p3, p4⟩ := P8
    have hneg : ¬ (0 : Int32) ≤ r8 := by
      rw [p1, show (-1000 : Int32) = iI (-1000) from rfl, iI_n, iI_n, iI_mul, iI_sub]
      intro e
      have := (iI_le (a := 0) (by omega) (by omega)).mp e
      omega
    rw [if_neg hneg]
    refine R_some ⟨fun z hz => ?_, K8.2, ?_⟩
    · simp only [List.mem_cons, List.not_mem_nil, or_false, not_or] at hz
      exact K8.1 z (by simp only [List.mem_cons, List.not_mem_nil, or_false, not_or]; exact ⟨hz.1, hz.2.1, hz.2.2.1, hz.2.2.2.2.2.2⟩)
    · rw [hZ1]
      exact ⟨p1, K8.1 42 (by decide), K8.1 43 (by decide), K8.1 44 (by decide)⟩
  | none =>
    rw [hZ1] at P8
    obtain ⟨p1, p2⟩ := P8
    rw [p1, if_pos (nI_pos' (by omega))]
    refine fx_R2 2 (fun c x g => x = nI c ∧ Ex [42, 43, 44] h8 g ∧ (∀ c' i, c' < c → i < 48 → g (42 + c') i = nI (Z.2.2 c' i)) ∧ ∀ c', c' < c → g 44 c' = 0) (by decide) ⟨rfl, Ex_r _ _, fun c' i h9 => by omega, fun c' h9 => by omega⟩ ?_
    rintro c x g k hc' ⟨rfl, hE, hI, hJ⟩ hk
    by_cases hc2 : c = 2
    · subst hc2
      rw [if_pos (show (2 : Int32) ≤ nI 2 by decide)]
      refine R_some ⟨fun z hz => ?_, ?_, ?_⟩
      · dsimp only
        simp only [List.mem_cons, List.not_mem_nil, or_false, not_or] at hz
        rw [hE z (by simp only [List.mem_cons, List.not_mem_nil, or_false, not_or]; exact ⟨hz.2.2.2.1, hz.2.2.2.2.1, hz.2.2.2.2.2.1⟩)]
        exact K8.1 z (by simp only [List.mem_cons, List.not_mem_nil, or_false, not_or]; exact ⟨hz.1, hz.2.1, hz.2.2.1, hz.2.2.2.2.2.2⟩)
      · dsimp only
        rw [hE 100 (by decide)]
        exact K8.2
      · rw [hZ1]
        exact ⟨rfl, fun i hi => ⟨hI 0 i (by omega) hi, hI 1 i (by omega) hi⟩, hJ 0 (by omega), hJ 1 (by omega)⟩
    · have hcc : c < 2 := by omega
      rw [if_neg (nl2 hcc)]
      refine fx_R2 48 (fun p x g => x = nI p ∧ Ex [42, 43, 44] h8 g ∧ (∀ c' i, c' < c → i < 48 → g (42 + c') i = nI (Z.2.2 c' i)) ∧ (∀ c', c' < c → g 44 c' = 0) ∧ ∀ i, i < p → g (42 + c) i = nI (Z.2.2 c i)) (by decide) ⟨rfl, hE, hI, hJ, fun i h9 => by omega⟩ ?_
      clear hE hI hJ
      rintro p x g k2 hp ⟨rfl, hE, hI, hJ, hK⟩ hk2
      by_cases hp8 : p = 48
      · subst hp8
        rw [if_pos (show (48 : Int32) ≤ nI 48 by decide), ck_s hcc (by decide), nm_s, nI_clamp (by omega), nI_1]
        refine hk (c + 1) _ _ (by omega) (by omega) ⟨rfl, fun z hz => ?_, fun c' i h1 h2 => ?_, fun c' h1 => ?_⟩
        · rw [u2_n (fun e => hz (by rw [e]; simp))]
          exact hE z hz
        · rw [u2_n (by omega)]
          by_cases e : c' = c
          · rw [e]; exact hK i h2
          · exact hI c' i (by omega) h2
        · rw [u2_e]
          by_cases e : c' = c
          · rw [e, upd_e]
          · rw [upd_n e]
            exact hJ c' (by omega)
      · have hp' : p < 48 := by omega
        have ev : g (82 + c) p = nI (Z.2.2 c p) := by
          rw [hE (82 + c) (by simp only [List.mem_cons, List.not_mem_nil, or_false, not_or]; omega)]
          exact p2 c p hcc hp'
        rw [if_neg (nl48 hp'), ck_s hcc (by decide), ck_s hcc (by decide), ck_s hp' (by decide), ck_s hp' (by decide), nm_s, nI_clamp (by omega), nI_clamp (by omega), ev, nI_1]
        refine hk2 (p + 1) _ _ (by omega) (by omega) ⟨rfl, fun z hz => ?_, fun c' i h1 h2 => ?_, fun c' h1 => ?_, fun i hi => ?_⟩
        · rw [u2_n (fun e => hz (by simp only [List.mem_cons, List.not_mem_nil, or_false]; omega))]
          exact hE z hz
        · rw [u2_n (by omega)]
          exact hI c' i h1 h2
        · rw [u2_n (by omega)]
          exact hJ c' h1
        · rw [u2_e]
          by_cases e : i = p
          · rw [e, upd_e]
          · rw [upd_n e]
            exact hK i (by omega)
theorem st_casts (LW : LWt) : St_casts (II LW) := by
  intro tt hx hm a0 H
  obtain ⟨⟨t, ht, e1, e2⟩, H3⟩ := H.2.2.1
  cases h1 : nR (a0 - 1) 240 with
  | false =>
    unfold mX0_casts mX5_casts
    rw [X_wi1 a0 240 240 (by decide), M_wi1 a0 240 240 (by decide), h1]
    exact ⟨-1, hx, hm, rfl, rfl, H⟩
  | true =>
    obtain ⟨n0, hn0, _, e0'⟩ := nR_of h1
    have e0 : a0 = nI (n0 + 1) := sub1_of e0'
    clear e0'
    subst e0
    by_cases hnt : n0 + 1 ≤ t
    · obtain ⟨⟨r, x⟩, p1, c1, c2, c3⟩ := X_casts (n := n0 + 1) ⟨by omega, by omega, hnt, ht⟩ e1
      obtain ⟨⟨r', y⟩, p2, d1, d2, d3, d4⟩ := M_casts (n := n0 + 1) ⟨by omega, by omega, hnt, ht⟩ e2
      dsimp only at c1 c2 c3 d1 d2 d3 d4
      have ec : ∀ i, hc (tM hm) (n0 + 1) i = hc (tX hx) (n0 + 1) i := fun i => by
        unfold hc
        by_cases c : i < n0 + 1
        · rw [if_pos c, if_pos c]
          unfold tM tX
          rw [H3 i (by omega)]
        · rw [if_neg c, if_neg c]
      rw [rrun_c ec] at d4
      have rl := (rrun_l (t := tX hx) (n := n0 + 1) 500 0 0 0 (fun _ _ => 0)).2 (fun _ _ => Nat.zero_le _)
      generalize rrun (tX hx) (n0 + 1) 500 0 0 0 (fun _ _ => 0) = Z at *
      have X1 : ∀ z, z ∈ [1, 3, 8, 40, 60, 62, 63, 64, 70, 71] → x z = hx z := fun z hz => c1 z (by
        have a : ∀ z, z ∈ [1, 3, 8, 40, 60, 62, 63, 64, 70, 71] → z ∉ [80, 82, 83, 42, 43, 44, 100] := by decide
        exact a z hz)
      have Y1 : ∀ z, z ∈ [202, 205, 222, 223, 224, 225, 226, 234, 255] → y z = hm z := fun z hz => d1 z (by
        have a : ∀ z, z ∈ [202, 205, 222, 223, 224, 225, 226, 234, 255] → z ∉ [200, 201, 229, 300] := by decide
        exact a z hz)
      have X100 : ∀ i, i ≠ 10 → x 100 i = hx 100 i := fun i hi => by rw [c2, upd_n hi]
      have X10 : x 100 10 = 0 := by rw [c2, upd_e]
      have rest : BM x y 40 → II LW tt x y := fun hB => by
        obtain ⟨J1, J2, J3, J4, J5, J6⟩ := H
        refine ⟨hB, ?_, ?_, ?_, ?_, ?_⟩
        · unfold IOff
          rw [X1 1 (by decide), Y1 202 (by decide)]
          exact J2
        · refine ⟨⟨0, by omega, X10, d3⟩, ?_⟩
          rw [X1 8 (by decide), Y1 205 (by decide)]
          exact J3.2
        · unfold IPath
          rw [X100 4 (by decide), X1 3 (by decide), d2 39 (by decide) (by decide), Y1 234 (by decide)]
          exact J4
        · unfold IKept
          rw [X100 11 (by decide), d2 56 (by decide) (by decide), Y1 255 (by decide)]
          rcases J5 with J5 | ⟨a, b, J5⟩
          · exact Or.inl J5
          · exact Or.inr ⟨a, b, BR_c (X1 60 (by decide)) (X1 62 (by decide)) (X1 63 (by decide)) (X1 64 (by decide)) J5⟩
        · rw [X1 70 (by decide), X1 71 (by decide), Y1 222 (by decide), Y1 223 (by decide), Y1 224 (by decide), Y1 225 (by decide), Y1 226 (by decide), d2 15 (by decide) (by decide)]
          exact J6
      obtain ⟨K1, K2, K3, K4, K5⟩ := H.1
      cases hZ1 : Z.1 with
      | some wq =>
        obtain ⟨w, q⟩ := wq
        rw [hZ1] at c3 d4
        obtain ⟨f1, f2, f3, f4⟩ := c3
        obtain ⟨g1, g2, g3⟩ := d4
        refine ⟨r, x, y, p1, by rw [p2, f1, g1], rest ?_⟩
        exact BM_c H.1 (X1 40 (by decide)) f2 f3 f4 g2 g3 (d2 3 (by decide) (by decide)) (d2 4 (by decide) (by decide))
      | none =>
        rw [hZ1] at c3 d4
        obtain ⟨f1, f2, f3, f4⟩ := c3
        obtain ⟨g1, g2, g3, g4⟩ := d4
        refine ⟨r, x, y, p1, by rw [p2, f1, g1], rest ⟨⟨Z.2.2 1, Z.2.2 0, fun p hp => ⟨rl 1 p, rl 0 p, (f2 p hp).2, (f2 p hp).1⟩, fun p hp => ?_⟩, ?_, ?_, ?_, ?_⟩⟩
        · have a := g2 0 p (by omega) hp
          have b := g2 1 p (by omega) hp
          rw [show 48 * 0 + p = p by omega] at a
          rw [show 48 * 1 + p = 48 + p by omega] at b
          exact ⟨a, b⟩
        · show x 44 0 = y 201 0
          rw [f3, g3]
        · show x 44 1 = y 201 1
          rw [f4, g4]
        · rw [X1 40 (by decide), d2 3 (by decide) (by decide)]
          exact K4
        · rw [X1 40 (by decide), d2 4 (by decide) (by decide)]
          exact K5
    · refine ⟨-1, hx, hm, ?_, ?_, H⟩
      · unfold mX0_casts
        rw [X_wi1 _ 240 240 (by decide), h1, cl1_s, nm_s, bI_t, i10, e1, if_neg (nI_leN (by omega) (by omega) hnt)]
      · unfold mX5_casts
        rw [M_wi1 _ 240 240 (by decide), h1, cl1_s, nm_s, bI_t, i10, e2, if_neg (nI_leN (by omega) (by omega) hnt)]
