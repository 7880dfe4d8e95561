/-! toBear -/
set_option maxRecDepth 100000
def lsP (s : Nat → Nat) (F j : Nat) (a : Int32) : Prop := ∃ v, a = nI v ∧ v ≤ F ∧ (∀ i, i < j → v ≤ s i) ∧ ((j = 0 ∧ v = F) ∨ ∃ i, i < j ∧ v = s i)
theorem lsP_0 (s : Nat → Nat) (F : Nat) : lsP s F 0 (nI F) := ⟨F, rfl, Nat.le_refl _, fun i hi => by omega, Or.inl ⟨rfl, rfl⟩⟩
theorem lsP_s {s : Nat → Nat} {F j : Nat} {v : Nat} (hs : s j ≤ F) (h2 : ∀ i, i < j → v ≤ s i) (h3 : (j = 0 ∧ v = F) ∨ ∃ i, i < j ∧ v = s i) : lsP s F (j + 1) (nI (min v (s j))) := by
  refine ⟨_, rfl, by omega, fun i hi => ?_, Or.inr ?_⟩
  · by_cases e : i = j
    · subst e
      omega
    · have := h2 i (by omega)
      omega
  · by_cases c : v ≤ s j
    · rcases h3 with ⟨_, e⟩ | ⟨i, hi, e⟩
      · exact ⟨j, by omega, by omega⟩
      · exact ⟨i, by omega, by omega⟩
    · exact ⟨j, by omega, by omega⟩
def brP (off : Nat → Int32) (U L : Nat → Nat) (tp : Nat → Int32) (n : Nat) (r : Int32) : Prop := ((∃ i, i < n ∧ 48 ≤ oct (tp i)) ∧ r = -3) ∨ ((∀ i, i < n → oct (tp i) < 48) ∧ ∃ v, (∀ i, i < n → v ≤ U (oct (tp i)) + L (oct (tp i))) ∧ (∃ i, i < n ∧ v = U (oct (tp i)) + L (oct (tp i))) ∧ stk off U L v r)
theorem stk_u {off : Nat → Int32} {U L : Nat → Nat} {v : Nat} {r r' : Int32} (h1 : stk off U L v r) (h2 : stk off U L v r') : r = r' := by
  rcases h1 with ⟨m, a, b, c, e⟩ | ⟨a, e⟩ <;> rcases h2 with ⟨m', a', b', c', e'⟩ | ⟨a', e'⟩
  · rw [e, e']
  · rw [a' m a] at b
    cases b
  · rw [a m' a'] at b'
    cases b'
  · rw [e, e']
theorem X_bear {h : Hp} {U L : Nat → Nat} (H : HX 40 h U L) {n t : Nat} (hn : 1 ≤ n ∧ n ≤ 16 ∧ n ≤ t ∧ t ≤ 260) (ht : h 100 10 = nI t) : R (mX0_toBear h (nI n)) (fun r => brP (h 1) U L (h 8) n r.1 ∧ r.2 = u2 h 100 10 0) := by
  have hU := HU_of H
  have H3 : HX 40 (u2 h 100 10 0) U L := HX_c (u2_n (by decide)) (u2_n (by decide)) H
  have e0 : nI n - 1 = nI (n - 1) := nI_subn (b := 1) hn.1
  unfold mX0_toBear
  rw [X_wi1 (nI n) 16 16 (by decide), e0, nR_s (by omega) (by omega), ht]
  generalize hFF : (268435456 : Int32) = FF
  simp only [cl1_q, nm_q, bI_t, i10_q]
  subst hFF
  rw [if_pos (nI_le (by omega) (by omega))]
  refine fx_R2 n (fun j a x => x = nI j ∧ (∀ i, i < j → oct (h 8 i) < 48) ∧ lsP (fun i => U (oct (h 8 i)) + L (oct (h 8 i))) 268435456 j a) (by show n < 100000; omega) ⟨rfl, fun i hi => by omega, lsP_0 _ _⟩ ?_
  rintro j a x k hj ⟨rfl, hoc, v, rfl, hv, h1, h2⟩ hk
  by_cases hjn : n ≤ j
  · have ej : j = n := by omega
    subst ej
    rw [if_pos (nI_le hjn (by omega))]
    have hv2 : v ≤ 50 := by
      have := hU _ (hoc 0 (by omega))
      have : v ≤ U (oct (h 8 0)) + L (oct (h 8 0)) := h1 0 (by omega)
      omega
    obtain ⟨r, hr⟩ := stk_ex (h 1) U L v
    rw [X_strokes H3 (by omega) (show stk (u2 h 100 10 0 1) U L v r from hr), cl1_s]
    refine R_some ⟨Or.inr ⟨hoc, v, h1, ?_, hr⟩, rfl⟩
    rcases h2 with ⟨e, _⟩ | h2
    · omega
    · exact h2
  · have ho := oct_lt (h 8 j)
    rw [if_neg (nI_ge (by omega) (by omega)), X_oct (by omega), cl1_s, X_isPlace, cl1_s]
    show R (if bI (nR (nI (oct (h 8 j))) 48) = 0 then _ else _) _
    by_cases hp : oct (h 8 j) < 48
    · have := hU _ hp
      rw [nR_s hp (by omega), bI_t, i10, cl1_s]
      show R (cl1 (mX3_sumAt 40 (u2 h 100 10 0) (nI (oct (h 8 j))) 31) _) _
      rw [X_sumR H3 hp, cl1_s, jmin_s (by omega) (by omega), nI_1]
      refine hk (j + 1) _ _ (by omega) (by omega) ⟨rfl, fun i hi => ?_, lsP_s (s := fun i => U (oct (h 8 i)) + L (oct (h 8 i))) (by show U _ + L _ ≤ _; omega) h1 h2⟩
      by_cases e : i = j
      · rw [e]; exact hp
      · exact hoc i (by omega)
    · rw [nR_n (by omega) (by omega), bI_f, i00]
      exact R_some ⟨Or.inl ⟨⟨j, by omega, by omega⟩, rfl⟩, rfl⟩
theorem M_bear {h : Hp} {U L : Nat → Nat} (H : HM h U L) {n t : Nat} (hn : 1 ≤ n ∧ n ≤ 16 ∧ n ≤ t ∧ t ≤ 260) (ht : h 300 6 = nI t) : R (mX5_toBear h (nI n)) (fun r => brP (h 202) U L (h 205) n r.1 ∧ r.2 = u2 h 300 6 0) := by
  have hU := HV_of H
  have H3 : HM (u2 h 300 6 0) U L := HM_c (u2_n (by decide)) H
  have e0 : nI n - 1 = nI (n - 1) := nI_subn (b := 1) hn.1
  unfold mX5_toBear
  rw [M_wi1 (nI n) 16 16 (by decide), e0, nR_s (by omega) (by omega), ht]
  generalize hFF : (1000000 : Int32) = FF
  simp only [cl1_q, nm_q, bI_t, i10_q]
  subst hFF
  rw [if_pos (nI_le (by omega) (by omega))]
  refine fx_R3 n (fun j a b x => x = nI j ∧ ((b = 1 ∧ (∀ i, i < j → oct (h 205 i) < 48) ∧ lsP (fun i => U (oct (h 205 i)) + L (oct (h 205 i))) 1000000 j a) ∨ (b = 0 ∧ ∃ i, i < j ∧ 48 ≤ oct (h 205 i)))) (by show n < 100000; omega) ⟨rfl, Or.inl ⟨rfl, fun i hi => by omega, lsP_0 _ _⟩⟩ ?_
  rintro j a b x k hj ⟨rfl, hI⟩ hk
  by_cases hjn : n ≤ j
  · have ej : j = n := by omega
    subst ej
    rw [if_pos (nI_le hjn (by omega))]
    rcases hI with ⟨rfl, hoc, v, rfl, hv, h1, h2⟩ | ⟨rfl, hi⟩
    · have hv2 : v ≤ 50 := by
        have := hU _ (hoc 0 (by omega))
        have : v ≤ U (oct (h 205 0)) + L (oct (h 205 0)) := h1 0 (by omega)
        omega
      obtain ⟨r, hr⟩ := stk_ex (h 202) U L v
      rw [i10, M_strokes H3 (by omega) (show stk (u2 h 300 6 0 202) U L v r from hr), cl1_s]
      refine R_some ⟨Or.inr ⟨hoc, v, h1, ?_, hr⟩, rfl⟩
      rcases h2 with ⟨e, _⟩ | h2
      · omega
      · exact h2
    · rw [i00]
      exact R_some ⟨Or.inl ⟨hi, rfl⟩, rfl⟩
  · have ho := oct_lt (h 205 j)
    rw [if_neg (nI_ge (by omega) (by omega)), nI_1]
    rcases hI with ⟨rfl, hoc, v, rfl, hv, h1, h2⟩ | ⟨rfl, i, hi, hi2⟩
    · rw [i10, M_oct (by omega), cl1_s]
      by_cases hp : oct (h 205 j) < 48
      · have := hU _ hp
        rw [if_neg (nl48 hp), cl1_s, M_restAt H hp, cl1_s, M_min (by omega) (by omega), cl1_s]
        refine hk (j + 1) _ _ _ (by omega) (by omega) ⟨rfl, Or.inl ⟨rfl, fun i hi => ?_, lsP_s (s := fun i => U (oct (h 205 i)) + L (oct (h 205 i))) (by show U _ + L _ ≤ _; omega) h1 h2⟩⟩
        by_cases e : i = j
        · rw [e]; exact hp
        · exact hoc i (by omega)
      · rw [if_pos (l_le (N := 48) (c := 48) rfl (by omega) (by omega)), if_pos trivial]
        exact hk (j + 1) _ _ _ (by omega) (by omega) ⟨rfl, Or.inr ⟨rfl, j, by omega, by omega⟩⟩
    · rw [i00, if_pos trivial]
      exact hk (j + 1) _ _ _ (by omega) (by omega) ⟨rfl, Or.inr ⟨rfl, i, by omega, hi2⟩⟩
theorem brP_u {off off' : Nat → Int32} {U L : Nat → Nat} {tp tp' : Nat → Int32} {n : Nat} {r r' : Int32} (ho : ∀ i, i < 48 → off i = off' i) (htp : ∀ i, i < n → tp i = tp' i) (h1 : brP off U L tp n r) (h2 : brP off' U L tp' n r') : r = r' := by
  rcases h1 with ⟨⟨i, hi, a⟩, e⟩ | ⟨a, v, b, ⟨i, hi, c⟩, d⟩ <;> rcases h2 with ⟨⟨i', hi', a'⟩, e'⟩ | ⟨a', v', b', ⟨i', hi', c'⟩, d'⟩
  · rw [e, e']
  · have := a' i hi
    rw [htp i hi] at a
    omega
  · have := a i' hi'
    rw [← htp i' hi'] at a'
    omega
  · have e : v = v' := by
      have p := b i' hi'
      have q := b' i hi
      rw [htp i' hi'] at p
      rw [← htp i hi] at q
      omega
    subst e
    exact stk_u (stk_c ho d) d'
theorem st_toBear (LW : LWt) : St_toBear (II LW) := by
  intro tt hx hm a0 H
  obtain ⟨U, L, HU, HL⟩ := BM_HX H.1
  obtain ⟨⟨t, ht, e1, e2⟩, H3⟩ := H.2.2.1
  cases h1 : nR (a0 - 1) 16 with
  | false =>
    unfold mX0_toBear mX5_toBear
    rw [X_wi1 a0 16 16 (by decide), M_wi1 a0 16 16 (by decide), h1]
    exact ⟨_, hx, hm, rfl, rfl, H⟩
  | true =>
    obtain ⟨n0, hn0, _, e0'⟩ := nR_of h1
    have e0 : a0 = nI (n0 + 1) := sub1_of e0'
    clear e0'
    subst e0
    by_cases hnt : n0 + 1 ≤ t
    · obtain ⟨⟨r, x⟩, p1, q1, s1⟩ := X_bear HU (n := n0 + 1) ⟨by omega, by omega, hnt, ht⟩ e1
      obtain ⟨⟨r', y⟩, p2, q2, s2⟩ := M_bear HL (n := n0 + 1) ⟨by omega, by omega, hnt, ht⟩ e2
      have e : r = r' := brP_u (fun i hi => (H.2.1 i hi).1) (fun i hi => H3 i (by omega)) q1 q2
      have s1' : x = u2 hx 100 10 0 := s1
      have s2' : y = u2 hm 300 6 0 := s2
      subst e s1' s2'
      exact ⟨r, _, _, p1, p2, II_taped0 H⟩
    · unfold mX0_toBear mX5_toBear
      rw [X_wi1 _ 16 16 (by decide), M_wi1 _ 16 16 (by decide), h1, e1, e2]
      simp only [nm_q, cl1_q, bI_t, i10_q]
      rw [if_neg (nI_leN (by omega) (by omega) hnt), if_neg (nI_leN (by omega) (by omega) hnt)]
      exact ⟨_, hx, hm, rfl, rfl, H⟩
