/-! nights, tried, even -/
set_option maxRecDepth 100000
/-- two loops in step -/
theorem fx_p23 {A1 A2 B1 B2 B3 ρ σ Ω Ψ : Type} {F : Ω → (A1 → A2 → Option ρ) → A1 → A2 → Option ρ} {b : A1 → A2 → Option ρ} {G : Ψ → (B1 → B2 → B3 → Option σ) → B1 → B2 → B3 → Option σ} {b' : B1 → B2 → B3 → Option σ} (n : Nat) (hn : n < FU) (Rl : Nat → A1 → A2 → B1 → B2 → B3 → Prop) {a1 : A1} {a2 : A2} {c1 : B1} {c2 : B2} {c3 : B3} (h0 : Rl 0 a1 a2 c1 c2 c3) (hs : ∀ j s1 s2 t1 t2 t3, j < n → Rl j s1 s2 t1 t2 t3 → ∃ s1' s2' t1' t2' t3', Rl (j + 1) s1' s2' t1' t2' t3' ∧ (∀ K k, F K k s1 s2 = k s1' s2') ∧ ∀ K k, G K k t1 t2 t3 = k t1' t2' t3') (A : Ω → A1 → A2 → Option ρ) (B : Ψ → B1 → B2 → B3 → Option σ) (he : ∀ s1 s2 t1 t2 t3, Rl n s1 s2 t1 t2 t3 → (∀ K k, F K k s1 s2 = A K s1 s2) ∧ ∀ K k, G K k t1 t2 t3 = B K t1 t2 t3) : ∃ s1 s2 t1 t2 t3, Rl n s1 s2 t1 t2 t3 ∧ (∀ K, fx FU b (F K) a1 a2 = A K s1 s2) ∧ ∀ K, fx FU b' (G K) c1 c2 c3 = B K t1 t2 t3 := by
  have key : ∀ d j s1 s2 t1 t2 t3, j + d = n → Rl j s1 s2 t1 t2 t3 → ∃ s1' s2' t1' t2' t3', Rl n s1' s2' t1' t2' t3' ∧ (∀ K m, d < m → fx m b (F K) s1 s2 = A K s1' s2') ∧ ∀ K m, d < m → fx m b' (G K) t1 t2 t3 = B K t1' t2' t3' := by
    intro d
    induction d with
    | zero =>
      intro j s1 s2 t1 t2 t3 hj hR
      have e : j = n := by omega
      subst e
      obtain ⟨e1, e2⟩ := he _ _ _ _ _ hR
      refine ⟨_, _, _, _, _, hR, fun K m hm => ?_, fun K m hm => ?_⟩
      · obtain ⟨m', rfl⟩ : ∃ m', m = m' + 1 := ⟨m - 1, by omega⟩
        rw [fx_s]
        exact e1 K _
      · obtain ⟨m', rfl⟩ : ∃ m', m = m' + 1 := ⟨m - 1, by omega⟩
        rw [fx_s]
        exact e2 K _
    | succ d ih =>
      intro j s1 s2 t1 t2 t3 hj hR
      obtain ⟨u1, u2, v1, v2, v3, hR', e1, e2⟩ := hs j s1 s2 t1 t2 t3 (by omega) hR
      obtain ⟨s1', s2', t1', t2', t3', r1, r2, r3⟩ := ih (j + 1) u1 u2 v1 v2 v3 (by omega) hR'
      refine ⟨s1', s2', t1', t2', t3', r1, fun K m hm => ?_, fun K m hm => ?_⟩
      · obtain ⟨m', rfl⟩ : ∃ m', m = m' + 1 := ⟨m - 1, by omega⟩
        rw [fx_s, e1 K]
        exact r2 K m' (by omega)
      · obtain ⟨m', rfl⟩ : ∃ m', m = m' + 1 := ⟨m - 1, by omega⟩
        rw [fx_s, e2 K]
        exact r3 K m' (by omega)
  obtain ⟨s1', s2', t1', t2', t3', r1, r2, r3⟩ := key n 0 a1 a2 c1 c2 c3 (by omega) h0
  exact ⟨s1', s2', t1', t2', t3', r1, fun K => r2 K FU hn, fun K => r3 K FU hn⟩
theorem night_in {b : Nat} {tt : TTy} {hx0 hm0 h6 h11 : Hp} (C : NC b tt hx0 hm0) (S : NS b hx0 hm0 h6 h11) {g j : Nat} (hg : g < 63) {P : Nat → Bool} (hP : ∀ p, p < 48 → P p = true → ∃ q, fcg p g = some q) (m2 : ∀ p, p < 48 → h6 2 p = bI (P p)) (m242 : ∀ p, p < 48 → h11 242 p = bI (P p)) (e52 : h11 300 52 = sA g) (e53 : h11 300 53 = sB g) (e3 : hx0 3 j = nI g) (hj : j < 48) (cn s0 : Int32) : ∃ hx' hm' s', NS b hx0 hm0 hx' hm' ∧ hx' b 4 = h6 b 4 + s' ∧ hx' b 2 = h6 b 2 ∧ hm' 300 52 = sA g ∧ hm' 300 53 = sB g ∧ (∀ K, fx FU (fun _ _ => none) ((fun (k2 : Int32 → Hp → Option Hp) (k31 : Int32 → Hp → Option Hp) (x4_7 : Int32) (h8 : Hp) => if (48 : Int32) ≤ x4_7 then k2 (nI j + 1) h8 else ck x4_7 48 (nm (fun (h9 : Hp) => k31 (x4_7 + 1) h9) (fun k68 => if h8 2 x4_7.toNatClampNeg = 0 then k68 h8 else ck (nI j) 48 (cl1 (mX3_isRubbed b tt h8 x4_7 (h8 3 j) cn (nI j)) (fun h11 => k68 h11))))) K) 0 h6 = K (nI j + 1) hx') ∧ ∀ K, fx FU (fun _ _ _ => none) ((fun (k14 : Int32 → Int32 → Hp → Option (Int32 × Hp)) (k50 : Int32 → Int32 → Hp → Option (Int32 × Hp)) (x2_12 : Int32) (x5_13 : Int32) (h14 : Hp) => if (48 : Int32) ≤ x5_13 then k14 x2_12 (nI j + 1) h14 else ck x5_13 48 (nm (fun (x2_15 : Int32) (h16 : Hp) => k50 x2_15 (x5_13 + 1) h16) (fun k79 => if h14 242 x5_13.toNatClampNeg = 0 then k79 x2_12 h14 else cl2 (mX5_wearsAt h14 x5_13 (nI j) cn) (fun r18 h19 => nm (x2_12 + r18) (fun v20 => k79 v20 h19))))) K) s0 0 h11 = K (s0 + s') (nI j + 1) hm' := by
  have hb := C.1
  obtain ⟨s1, s2, t1, t2, t3, ⟨r1, r2, r3, s', r4, r5, r6, r7, r8, r9, r10⟩, q1, q2⟩ := fx_p23 (F := (fun (k2 : Int32 → Hp → Option Hp) (k31 : Int32 → Hp → Option Hp) (x4_7 : Int32) (h8 : Hp) => if (48 : Int32) ≤ x4_7 then k2 (nI j + 1) h8 else ck x4_7 48 (nm (fun (h9 : Hp) => k31 (x4_7 + 1) h9) (fun k68 => if h8 2 x4_7.toNatClampNeg = 0 then k68 h8 else ck (nI j) 48 (cl1 (mX3_isRubbed b tt h8 x4_7 (h8 3 j) cn (nI j)) (fun h11 => k68 h11)))))) (b := fun _ _ => none) (G := (fun (k14 : Int32 → Int32 → Hp → Option (Int32 × Hp)) (k50 : Int32 → Int32 → Hp → Option (Int32 × Hp)) (x2_12 : Int32) (x5_13 : Int32) (h14 : Hp) => if (48 : Int32) ≤ x5_13 then k14 x2_12 (nI j + 1) h14 else ck x5_13 48 (nm (fun (x2_15 : Int32) (h16 : Hp) => k50 x2_15 (x5_13 + 1) h16) (fun k79 => if h14 242 x5_13.toNatClampNeg = 0 then k79 x2_12 h14 else cl2 (mX5_wearsAt h14 x5_13 (nI j) cn) (fun r18 h19 => nm (x2_12 + r18) (fun v20 => k79 v20 h19)))))) (b' := fun _ _ _ => none) 48 (by decide) (fun p x hx s y hm => x = nI p ∧ y = nI p ∧ NS b hx0 hm0 hx hm ∧ ∃ s', s = s0 + s' ∧ hx b 4 = h6 b 4 + s' ∧ hx b 2 = h6 b 2 ∧ hm 300 52 = sA g ∧ hm 300 53 = sB g ∧ hx 2 = h6 2 ∧ hm 242 = h11 242) (a1 := (0 : Int32)) (a2 := h6) (c1 := s0) (c2 := (0 : Int32)) (c3 := h11) ⟨rfl, rfl, S, 0, by rw [Int32.add_zero], by rw [Int32.add_zero], rfl, e52, e53, rfl, rfl⟩ (by
    rintro p x hx s y hm hp ⟨rfl, rfl, hS, s', rfl, a1, a2, a3, a4, a5, a6⟩
    have h3 : hx 3 j = nI g := by
      rw [hS.2.1 3 (by simp only [List.mem_cons, List.not_mem_nil, or_false]; omega)]
      exact e3
    have h2 : hx 2 p = bI (P p) := by rw [a5]; exact m2 p hp
    have h242 : hm 242 p = bI (P p) := by rw [a6]; exact m242 p hp
    cases hPp : P p with
    | false =>
      refine ⟨nI (p + 1), hx, s0 + s', nI (p + 1), hm, ⟨rfl, rfl, hS, s', rfl, a1, a2, a3, a4, a5, a6⟩, fun K k => ?_, fun K k => ?_⟩
      · show (if (48 : Int32) ≤ nI p then _ else _) = _
        rw [if_neg (nl48 hp), ck_s hp (by decide), nm_s, nI_clamp (by omega), h2, hPp, bI_f, i00, nI_1]
      · show (if (48 : Int32) ≤ nI p then _ else _) = _
        rw [if_neg (nl48 hp), ck_s hp (by decide), nm_s, nI_clamp (by omega), h242, hPp, bI_f, i00, nI_1]
    | true =>
      obtain ⟨q, hf⟩ := hP p hp hPp
      obtain ⟨hx', hm', s9, b1, b2, b3, b4, b5, b6, b7, b8, b9⟩ := rub C hS hp hg hf a3 a4 cn (nI j)
      refine ⟨nI (p + 1), hx', s0 + s' + s9, nI (p + 1), hm', ⟨rfl, rfl, b3, s' + s9, by rw [Int32.add_assoc], by rw [b4, a1, Int32.add_assoc], by rw [b9, a2], b7, b8, by rw [b5, a5], by rw [b6, a6]⟩, fun K k => ?_, fun K k => ?_⟩
      · show (if (48 : Int32) ≤ nI p then _ else _) = _
        rw [if_neg (nl48 hp), ck_s hp (by decide), nm_s, nI_clamp (by omega), h2, hPp, bI_t, i10, ck_s hj (by decide), h3, b1, cl1_s, nI_1]
      · show (if (48 : Int32) ≤ nI p then _ else _) = _
        rw [if_neg (nl48 hp), ck_s hp (by decide), nm_s, nI_clamp (by omega), h242, hPp, bI_t, i10, b2, cl2_s, nm_s, nI_1]) (fun K x h => K (nI j + 1) h) (fun K s x h => K s (nI j + 1) h) (by
    rintro x hx s y hm ⟨rfl, rfl, hS, s', rfl, a1, a2, a3, a4, a5, a6⟩
    refine ⟨fun K k => ?_, fun K k => ?_⟩
    · show (if (48 : Int32) ≤ nI 48 then _ else _) = _
      rw [if_pos (by decide)]
    · show (if (48 : Int32) ≤ nI 48 then _ else _) = _
      rw [if_pos (by decide)])
  subst r4
  exact ⟨s2, t3, s', r3, r5, r6, r7, r8, q1, q2⟩
