/-! casts: all lines -/
set_option maxRecDepth 100000
theorem hrun_a {t : Nat → Nat} {n : Nat} : ∀ k a x F, a ≤ (hrun t n k a x F).2.1 ∧ (0 < k → (hrun t n k a x F).1 = none → a < (hrun t n k a x F).2.1)
  | 0, a, x, F => ⟨Nat.le_refl _, fun h => by omega⟩
  | k + 1, a, x, F => by
    have ub := uA_b (t := t) (n := n) (a := a)
    rw [hrun_s]
    by_cases c1 : 97 ≤ hc t n (uA t n a) ∧ hc t n (uA t n a) ≤ 122
    · rw [if_pos c1]
      by_cases c2 : x + tms t n a 56 ≤ 8
      · rw [if_pos c2]
        by_cases c3 : uA t n a + 1 < n ∧ hc t n (uA t n a + 1) ≠ 59
        · rw [if_pos c3]
          have := (hrun_a (t := t) (n := n) k (uA t n a + 1) (x + tms t n a 56) (uF F x (tms t n a 56) (hc t n (uA t n a) - 97))).1
          exact ⟨by omega, fun _ _ => by omega⟩
        · rw [if_neg c3]
          exact ⟨by show a ≤ uA t n a + 1; omega, fun _ _ => by show a < uA t n a + 1; omega⟩
      · rw [if_neg c2]
        exact ⟨Nat.le_refl _, fun _ h => by cases h⟩
    · rw [if_neg c1]
      exact ⟨Nat.le_refl _, fun _ h => by cases h⟩
theorem hrun_b {t : Nat → Nat} {n : Nat} : ∀ k a x F, (∀ i, F i ≤ 25) → ∀ i, (hrun t n k a x F).2.2 i ≤ 25
  | 0, a, x, F, h => h
  | k + 1, a, x, F, h => by
    rw [hrun_s]
    by_cases c1 : 97 ≤ hc t n (uA t n a) ∧ hc t n (uA t n a) ≤ 122
    · have hF : ∀ i, uF F x (tms t n a 56) (hc t n (uA t n a) - 97) i ≤ 25 := fun i => by
        have := h i
        unfold uF
        split <;> omega
      rw [if_pos c1]
      by_cases c2 : x + tms t n a 56 ≤ 8
      · rw [if_pos c2]
        by_cases c3 : uA t n a + 1 < n ∧ hc t n (uA t n a + 1) ≠ 59
        · rw [if_pos c3]
          exact hrun_b k _ _ _ hF
        · rw [if_neg c3]
          exact hF
      · rw [if_neg c2]
        exact h
    · rw [if_neg c1]
      exact h
theorem lrun_f {t : Nat → Nat} {n a : Nat} {v : Int32} {G : Nat → Nat → Nat} (hG : ∀ c i, G c i ≤ 25) : ((lrun t n a v G).1 = none → a < (lrun t n a v G).2.1) ∧ ∀ c i, (lrun t n a v G).2.2.2 c i ≤ 25 := by
  unfold lrun
  split
  · split
    · split
      · exact ⟨(fun h => by cases h), hG⟩
      · split
        · have h1 := hrun_a (t := t) (n := n) 9 (a + 3) 0 (fun i => G (lC t n a) (8 * lR t n a + i))
          have h2 := hrun_b (t := t) (n := n) 9 (a + 3) 0 (fun i => G (lC t n a) (8 * lR t n a + i)) (fun i => hG _ _)
          refine ⟨fun h => ?_, fun c i => ?_⟩
          · have := h1.2 (by decide) h
            show a < (hrun t n 9 (a + 3) 0 (fun i => G (lC t n a) (8 * lR t n a + i))).2.1
            omega
          · show lset G (lC t n a) (lR t n a) _ c i ≤ 25
            unfold lset
            split
            · exact h2 _
            · exact hG c i
        · exact ⟨(fun h => by cases h), hG⟩
    · exact ⟨(fun h => by cases h), hG⟩
  · exact ⟨(fun h => by cases h), hG⟩
/-- all lines: a fault, or how many and what is laid -/
noncomputable def rrun (t : Nat → Nat) (n : Nat) : Nat → Nat → Int32 → Nat → (Nat → Nat → Nat) → Option (Nat × Nat) × Nat × (Nat → Nat → Nat)
  | 0, _, _, l, G => (none, l, G)
  | k + 1, a, v, l, G => match (lrun t n a v G).1 with
    | some wq => (some wq, l, G)
    | none => if (lrun t n a v G).2.1 < n then (if hc t n (lrun t n a v G).2.1 = 59 then rrun t n k ((lrun t n a v G).2.1 + 1) (lrun t n a v G).2.2.1 (l + 1) (lrun t n a v G).2.2.2 else (some (1, (lrun t n a v G).2.1), l, G)) else (none, l + 1, (lrun t n a v G).2.2.2)
/-- behind a line -/
noncomputable def rnx (t : Nat → Nat) (n k a : Nat) (v : Int32) (l : Nat) (G G0 : Nat → Nat → Nat) : Option (Nat × Nat) × Nat × (Nat → Nat → Nat) := if a < n then (if hc t n a = 59 then rrun t n k (a + 1) v l G else (some (1, a), l - 1, G0)) else (none, l, G)
theorem rrun_s (t : Nat → Nat) (n k a : Nat) (v : Int32) (l : Nat) (G : Nat → Nat → Nat) : rrun t n (k + 1) a v l G = match (lrun t n a v G).1 with
    | some wq => (some wq, l, G)
    | none => rnx t n k (lrun t n a v G).2.1 (lrun t n a v G).2.2.1 (l + 1) (lrun t n a v G).2.2.2 G := rfl
def xPost (h0 : Hp) (Z : Option (Nat × Nat) × Nat × (Nat → Nat → Nat)) (r : Int32 × Hp) : Prop := Ex [80, 82, 83] h0 r.2 ∧ match Z.1 with
  | some (w, q) => r.1 = -1000 * nI w - nI q ∧ 0 < w ∧ w ≤ 100 ∧ q ≤ 100000
  | none => r.1 = nI Z.2.1 ∧ GX r.2 Z.2.2
theorem X_read {h : Hp} {n : Nat} (S : SC 80 h n 0 0 0) (hn : n ≤ 240) (h6 : h 80 6 = 0) (h7 : h 80 7 = nI 0) (hG : GX h (fun _ _ => 0)) : R (mX16_read h) (fun r => xPost h (rrun (tX h) n 500 0 0 0 (fun _ _ => 0)) r) := by
  generalize hZ : rrun (tX h) n 500 0 0 0 (fun _ _ => 0) = Z
  have ht : ∀ i, tX h i < 256 := fun i => oct_lt _
  unfold mX16_read
  -- after a line
  have aft : ∀ (g g' : Hp) (k a l : Nat) (v : Int32) (G : Nat → Nat → Nat), (∀ c i, G c i ≤ 25) → Ex [80, 82, 83] h g → tX g = tX h → rrun (tX h) n (k + 1) a v l G = Z → lPost g n 0 l (lrun (tX g) n a v G) g' → Ex [80, 82, 83] h g' ∧ ((∃ w q a', a' ≤ 3000 ∧ 0 < w ∧ SC 80 g' n a' w q ∧ Z.1 = some (w, q)) ∨ (∃ a' v' G' G0, a < a' ∧ SC 80 g' n a' 0 0 ∧ g' 80 6 = v' ∧ g' 80 7 = nI (l + 1) ∧ GX g' G' ∧ (∀ c i, G' c i ≤ 25) ∧ rnx (tX h) n k a' v' (l + 1) G' G0 = Z)) := by
    intro g g' k a l v G hb hE hT hR hP
    rw [hT] at hP
    obtain ⟨E, hP⟩ := hP
    refine ⟨fun z hz => (E z hz).trans (hE z hz), ?_⟩
    have lf := lrun_f (t := tX h) (n := n) (a := a) (v := v) hb
    rw [rrun_s] at hR
    cases hL : (lrun (tX h) n a v G).1 with
    | some wq =>
      obtain ⟨w, q⟩ := wq
      rw [hL] at hP hR
      obtain ⟨a', b1, b2, b3⟩ := hP
      exact Or.inl ⟨w, q, a', b1, b2, b3, by rw [← hR]⟩
    | none =>
      rw [hL] at hP hR
      obtain ⟨b1, b2, b3, b4⟩ := hP
      exact Or.inr ⟨_, _, _, G, lf.1 hL, b1, b2, b3, b4, lf.2, hR⟩
  refine R_c1 (X_line S (by omega) h6 h7 hG) ?_
  intro g1 hg1
  have A1 := aft h g1 499 0 0 0 _ (fun _ _ => Nat.zero_le _) (Ex_r _ _) rfl hZ hg1
  refine fx_R1 400 (fun j g => Ex [80, 82, 83] h g ∧ ((∃ w q a', a' ≤ 3000 ∧ 0 < w ∧ SC 80 g n a' w q ∧ Z.1 = some (w, q)) ∨ (j ≤ 300 ∧ ∃ k a' l v' G' G0, k + j = 499 ∧ j ≤ a' ∧ SC 80 g n a' 0 0 ∧ g 80 6 = v' ∧ g 80 7 = nI l ∧ GX g G' ∧ (∀ c i, G' c i ≤ 25) ∧ rnx (tX h) n k a' v' l G' G0 = Z))) (by decide) ⟨A1.1, ?_⟩ ?_
  · rcases A1.2 with h9 | ⟨a', v', G', G0, b1, b2, b3, b4, b5, b6, b7⟩
    · exact Or.inl h9
    · exact Or.inr ⟨by omega, 499, a', _, v', G', G0, by omega, by omega, b2, b3, b4, b5, b6, b7⟩
  rintro j g k9 hj ⟨hE, hI⟩ hk9
  have hT : tX g = tX h := by
    funext z
    unfold tX
    rw [hE 8 (by decide)]
  rcases hI with ⟨w, q, a', b1, b2, b3, b4⟩ | ⟨hj3, k, a', l, v', G', G0, b0, b2, b3, b4, b5, b6, b7, b8⟩
  · have hw := b3.2.2.2.2.2.2
    rw [X_isGood b3, cl1_s, decide_eq_false (by omega), nm_s, bI_f, i00, X_answer b3, cl1_s, if_neg (by omega)]
    refine R_some ⟨hE, ?_⟩
    rw [b4]
    exact ⟨rfl, b2, hw.1, hw.2⟩
  · rw [X_isGood b3, cl1_s, decide_eq_true rfl, nm_s, bI_t, i10, X_isEnd b3, cl1_s]
    unfold rnx at b8
    by_cases c1 : n ≤ a'
    · rw [if_neg (by omega)] at b8
      rw [decide_eq_true c1, bI_t, i10, X_answer b3, cl1_s, if_pos rfl]
      refine R_some ⟨hE, ?_⟩
      rw [← b8]
      exact ⟨b5, b6⟩
    · rw [if_pos (by omega)] at b8
      have Mu := X_must b3 (c := 59) (by decide)
      rw [hT] at Mu
      rw [decide_eq_false c1, bI_f, i00, show mX15_must 80 g 59 = _ from Mu, cl1_s]
      by_cases c2 : hc (tX h) n a' = 59
      · rw [if_pos c2] at b8
        rw [if_neg (fun e => e.2 c2)]
        have S2 := SC_A b3 (by omega)
        have E2 : Ex [80, 82, 83] h (sA1 80 g) := fun z hz => by
          rw [Ex_A _ _ z (fun e => hz (by simp at e; rw [e]; simp))]
          exact hE z hz
        have T2 : tX (sA1 80 g) = tX h := by
          funext z
          unfold tX
          rw [E2 8 (by decide)]
        rw [X_isGood S2, cl1_s, decide_eq_true rfl, bI_t, i10]
        obtain ⟨k', rfl⟩ : ∃ k', k = k' + 1 := ⟨k - 1, by omega⟩
        refine R_c1 (X_line (v := v') (l := l) (G := G') S2 (by omega) (by rw [A_i (by decide)]; exact b4) (by rw [A_i (by decide)]; exact b5) (fun c i hc' hi => by
          rw [Ex_A _ _ (82 + c) (by simp only [List.mem_cons, List.not_mem_nil, or_false]; omega)]
          exact b6 c i hc' hi)) ?_
        intro g3 hg3
        have A3 := aft (sA1 80 g) g3 k' (a' + 1) l v' G' b7 E2 T2 b8 hg3
        refine hk9 (j + 1) _ (by omega) (by omega) ⟨A3.1, ?_⟩
        rcases A3.2 with h9 | ⟨a3, v3, G3, G03, d1, d2, d3, d4, d5, d6, d7⟩
        · exact Or.inl h9
        · exact Or.inr ⟨by omega, k', a3, _, v3, G3, G03, by omega, by omega, d2, d3, d4, d5, d6, d7⟩
      · rw [if_neg c2] at b8
        rw [if_pos ⟨rfl, c2⟩]
        have S2 := SC_F b3 (w := 1) (q := a') (by omega) (by omega)
        have S3 := SC_A S2 (by omega)
        rw [X_isGood S3, cl1_s, decide_eq_false (by decide), bI_f, i00]
        refine hk9 (j + 1) _ (by omega) (by omega) ⟨fun z hz => ?_, Or.inl ⟨1, a', a' + 1, by omega, by omega, S3, by rw [← b8]⟩⟩
        rw [Ex_A _ _ z (fun e => hz (by simp at e; rw [e]; simp)), Ex_F _ _ _ _ z (fun e => hz (by simp at e; rw [e]; simp))]
        exact hE z hz
