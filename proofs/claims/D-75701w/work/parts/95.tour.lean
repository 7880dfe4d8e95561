/-! tour: the plain reader (a stack of open groups), and the reference's words -/
set_option maxRecDepth 100000
/-- behind the digit -/
def vA (t : Nat → Nat) (n a : Nat) : Nat := if 50 ≤ hc t n a ∧ hc t n a ≤ 57 then a + 1 else a
/-- the letter of a step, and back -/
def sL (d : Nat) : Nat := if d = 0 then 108 else if d = 1 then 114 else if d = 2 then 102 else if d = 3 then 98 else 46
def lS (c : Nat) : Option Nat := if c = 108 then some 0 else if c = 114 then some 1 else if c = 102 then some 2 else if c = 98 then some 3 else if c = 46 then some 4 else none
theorem lS_s {c d : Nat} (h : lS c = some d) : sL d = c ∧ d < 5 := by
  unfold lS at h
  by_cases h1 : c = 108
  · rw [if_pos h1] at h
    cases h
    exact ⟨h1.symm, by decide⟩
  · rw [if_neg h1] at h
    by_cases h2 : c = 114
    · rw [if_pos h2] at h
      cases h
      exact ⟨h2.symm, by decide⟩
    · rw [if_neg h2] at h
      by_cases h3 : c = 102
      · rw [if_pos h3] at h
        cases h
        exact ⟨h3.symm, by decide⟩
      · rw [if_neg h3] at h
        by_cases h4 : c = 98
        · rw [if_pos h4] at h
          cases h
          exact ⟨h4.symm, by decide⟩
        · rw [if_neg h4] at h
          by_cases h5 : c = 46
          · rw [if_pos h5] at h
            cases h
            exact ⟨h5.symm, by decide⟩
          · rw [if_neg h5] at h
            cases h
/-- m steps d laid behind c -/
def pT (P : Nat → Nat) (c d : Nat) : Nat → Nat := fun i => if c ≤ i then d else P i
/-- the piece from b to c again and again -/
def rT (P : Nat → Nat) (b c : Nat) : Nat → Nat := fun i => if c ≤ i then P (b + (i - b) % (c - b)) else P i
/-- one step of the reader at place a, with c steps P, open groups k (begin, times, place): the fault or the next state -/
def tS (t : Nat → Nat) (n a c : Nat) (P : Nat → Nat) (k : List (Nat × Nat × Nat)) : (Nat × Nat) ⊕ (Nat × Nat × (Nat → Nat) × List (Nat × Nat × Nat)) :=
  if hc t n a = 41 then
    match k with
    | [] => .inl (1, a)
    | (b, m, p) :: k' => if c = b then .inl (1, a) else if b + (c - b) * m ≤ 48 then .inr (a + 1, b + (c - b) * m, rT P b c, k') else .inl (6, p)
  else match lS (hc t n (vA t n a)) with
    | some d => if c + tms t n a 57 ≤ 48 then .inr (vA t n a + 1, c + tms t n a 57, pT P c d, k) else .inl (6, a)
    | none => if hc t n (vA t n a) = 40 then (if k.length = 2 then .inl (5, vA t n a) else .inr (vA t n a + 1, c, P, (c, tms t n a 57, a) :: k)) else .inl (1, vA t n a)
theorem M_isStep {t : Nat → Nat} (ht : ∀ i, t i < 256) {n i : Nat} : mX5_isStep (hcM t n i) = some (bI (lS (hc t n i)).isSome) := by
  have e : ∀ c : Nat, c < 1000 → 0 < c → (hcM t n i = nI c ↔ hc t n i = c) := by
    intro c hc9 h0
    unfold hcM hc
    by_cases g : i < n
    · rw [if_pos g, if_pos g]
      have := ht i
      exact nI_eq (by omega) (by omega)
    · rw [if_neg g, if_neg g]
      refine ⟨fun h9 => ?_, fun h9 => by omega⟩
      have h8 := congrArg Int32.toInt h9
      rw [nI_toInt (by omega), show (-1 : Int32).toInt = -1 by decide] at h8
      omega
  unfold mX5_isStep lS
  simp only [nm_q, bz_0, bz_1]
  by_cases h1 : hc t n i = 108
  · rw [if_pos (show hcM t n i = 108 from (e 108 (by decide) (by decide)).mpr h1), if_pos h1]
    rfl
  · rw [if_neg (show ¬ hcM t n i = 108 from fun h9 => h1 ((e 108 (by decide) (by decide)).mp h9)), if_neg h1]
    by_cases h2 : hc t n i = 114
    · rw [if_pos (show hcM t n i = 114 from (e 114 (by decide) (by decide)).mpr h2), if_pos h2]
      rfl
    · rw [if_neg (show ¬ hcM t n i = 114 from fun h9 => h2 ((e 114 (by decide) (by decide)).mp h9)), if_neg h2]
      by_cases h3 : hc t n i = 102
      · rw [if_pos (show hcM t n i = 102 from (e 102 (by decide) (by decide)).mpr h3), if_pos h3]
        rfl
      · rw [if_neg (show ¬ hcM t n i = 102 from fun h9 => h3 ((e 102 (by decide) (by decide)).mp h9)), if_neg h3]
        by_cases h4 : hc t n i = 98
        · rw [if_pos (show hcM t n i = 98 from (e 98 (by decide) (by decide)).mpr h4), if_pos h4]
          rfl
        · rw [if_neg (show ¬ hcM t n i = 98 from fun h9 => h4 ((e 98 (by decide) (by decide)).mp h9)), if_neg h4]
          by_cases h5 : hc t n i = 46
          · rw [if_pos (show hcM t n i = 46 from (e 46 (by decide) (by decide)).mpr h5), if_pos h5]
            rfl
          · rw [if_neg (show ¬ hcM t n i = 46 from fun h9 => h5 ((e 46 (by decide) (by decide)).mp h9)), if_neg h5]
            rfl
/-- the reference's reader stands so -/
def TM9 (h : Hp) (n a c : Nat) (P : Nat → Nat) (k : List (Nat × Nat × Nat)) : Prop := MC h n a ∧ h 300 40 = nI c ∧ c ≤ 48 ∧ (∀ i, i < c → h 235 i = nI (sL (P i))) ∧ h 300 41 = nI k.length ∧ k.length ≤ 2 ∧ ∀ i, ∀ z, k.reverse[i]? = some z → h 236 i = nI z.1 ∧ h 237 i = nI z.2.1 ∧ h 238 i = nI z.2.2 ∧ z.1 ≤ c ∧ (1 ≤ z.2.1 ∧ z.2.1 ≤ 9) ∧ z.2.2 ≤ 100000
def TF (h0 h : Hp) : Prop := Ex [235, 236, 237, 238, 300] h0 h ∧ ∀ i, i ∉ [7, 9, 40, 41] → h 300 i = h0 300 i
theorem TF_r (a : Hp) : TF a a := ⟨Ex_r _ _, fun _ _ => rfl⟩
theorem TF_t {a b c : Hp} (h1 : TF a b) (h2 : TF b c) : TF a c := ⟨fun q hq => (h2.1 q hq).trans (h1.1 q hq), fun i hi => (h2.2 i hi).trans (h1.2 i hi)⟩
theorem TF_u {h0 h : Hp} {i : Nat} {v : Int32} (H : TF h0 h) (hi : i ∈ [7, 9, 40, 41]) : TF h0 (u2 h 300 i v) := by
  refine ⟨fun q hq => ?_, fun k hk => ?_⟩
  · rw [u2_n (fun e => hq (by rw [e]; simp))]
    exact H.1 q hq
  · rw [u2_e, upd_n (fun e => hk (by rw [e]; exact hi))]
    exact H.2 k hk
theorem TF_v {h0 h : Hp} {q i : Nat} {v : Int32} (H : TF h0 h) (hq : q ∈ [235, 236, 237, 238]) : TF h0 (u2 h q i v) := by
  have h3 : (300 : Nat) ≠ q := fun e => absurd (e ▸ hq) (by decide)
  refine ⟨fun r hr => ?_, fun k hk => ?_⟩
  · rw [u2_n (fun e => hr (by rw [e]; simp at hq ⊢; omega))]
    exact H.1 r hr
  · rw [u2_n h3]
    exact H.2 k hk
theorem M_laysSteps {h : Hp} {n a c m d p : Nat} {P : Nat → Nat} {k : List (Nat × Nat × Nat)} (S : TM9 h n a c P k) (ha : a ≤ 3000) (hm1 : 1 ≤ m) (hm : m ≤ 9) (hd : d < 5) : R (mX5_laysSteps h (nI (sL d)) (nI m) (nI p)) (fun r => TF h r.2 ∧ if c + m ≤ 48 then r.1 = 1 ∧ TM9 r.2 n (a + 1) (c + m) (pT P c d) k else r.1 = 0 ∧ r.2 300 9 = -1000 * nI 6 - nI p) := by
  obtain ⟨S1, S2, S3, S4, S5, S6, S7⟩ := S
  unfold mX5_laysSteps
  rw [nm_s, S1.2.1, nI_1]
  have e40 : u2 h 300 7 (nI (a + 1)) 300 40 = nI c := by
    rw [u2_e, upd_n (by decide)]
    exact S2
  rw [e40, nI_add]
  by_cases hcm : c + m ≤ 48
  · rw [if_pos (l_lec (N := 48) (c := 48) rfl hcm (by decide))]
    refine fx_R2 m (fun i y g => y = nI i ∧ TF h g ∧ TM9 g n (a + 1) (c + i) (pT P c d) k) (by show m < 100000; omega) ⟨rfl, TF_u (TF_r h) (by decide), MC_a S1 (by omega), e40, by omega, ?_, ?_, S6, ?_⟩ ?_
    · intro i hi
      rw [u2_n (by decide)]
      unfold pT
      rw [if_neg (by omega)]
      exact S4 i (by omega)
    · rw [u2_e, upd_n (by decide)]
      exact S5
    · intro i z hz
      rw [u2_n (by decide), u2_n (by decide), u2_n (by decide)]
      exact S7 i z hz
    · rintro i _ g k9 hi ⟨rfl, q1, q2, q3, q4, q5, q6, q7, q8⟩ hk9
      by_cases him : i = m
      · rw [if_pos (nI_le (by omega) (by omega)), bz_1]
        subst him
        refine R_some ⟨q1, ?_⟩
        rw [if_pos hcm]
        exact ⟨rfl, q2, q3, q4, q5, q6, q7, q8⟩
      · rw [if_neg (nI_ge (by omega) (by omega)), q3, ck_s (show c + i < 48 by omega) (by decide), nm_s, nm_s, nI_clamp (by omega), u2_n (show (300 : Nat) ≠ 235 by decide), q3, nI_1, nI_1]
        refine hk9 (i + 1) _ _ (by omega) (by omega) ⟨rfl, TF_u (TF_v q1 (by decide)) (by decide), MC_u ⟨by rw [u2_n (by decide)]; exact q2.1, by rw [u2_n (by decide)]; exact q2.2.1, q2.2.2⟩ (by decide) (by decide), ?_, by omega, ?_, ?_, q7, ?_⟩
        · rw [u2_e, upd_e]
          rfl
        · intro z hz
          rw [u2_n (by decide), u2_e]
          by_cases e : z = c + i
          · rw [e, upd_e]
            unfold pT
            rw [if_pos (by omega)]
          · rw [upd_n e]
            exact q5 z (by omega)
        · rw [u2_e, upd_n (by decide), u2_n (by decide)]
          exact q6
        · intro z w hw
          rw [u2_n (by decide), u2_n (by decide), u2_n (by decide), u2_n (by decide), u2_n (by decide), u2_n (by decide)]
          obtain ⟨w1, w2, w3, w4, w5, w6⟩ := q8 z w hw
          exact ⟨w1, w2, w3, by omega, w5, w6⟩
  · rw [if_neg (l_nlec (N := 48) (c := 48) rfl (by omega) (by omega)), M_wrong, cl2_s, bz_0]
    refine R_some ⟨TF_u (TF_u (TF_r h) (by decide)) (by decide), ?_⟩
    rw [if_neg hcm]
    refine ⟨rfl, ?_⟩
    dsimp only
    rw [u2_e, upd_e]
    rfl
