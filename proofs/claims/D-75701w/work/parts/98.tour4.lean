/-! tour: the reference reads one step -/
set_option maxRecDepth 100000
def tQ (h0 : Hp) (n : Nat) (z : (Nat × Nat) ⊕ (Nat × Nat × (Nat → Nat) × List (Nat × Nat × Nat))) (r : Int32 × Hp) : Prop := TF h0 r.2 ∧ match z with
  | .inl (w, q) => r.1 = 0 ∧ r.2 300 9 = -1000 * nI w - nI q
  | .inr (a, c, P, k) => r.1 = 1 ∧ TM9 r.2 n a c P k
theorem hcM_pos {t : Nat → Nat} {n i : Nat} (h : 0 < hc t n i) : hcM t n i = nI (hc t n i) := by
  unfold hcM hc at *
  by_cases g : i < n
  · rw [if_pos g, if_pos g]
  · rw [if_neg g] at h
    omega
theorem tms_9 {t : Nat → Nat} {n a : Nat} : 1 ≤ tms t n a 57 ∧ tms t n a 57 ≤ 9 := by
  unfold tms
  by_cases g : 50 ≤ hc t n a ∧ hc t n a ≤ 57
  · rw [if_pos g]
    omega
  · rw [if_neg g]
    omega
theorem vA_b {t : Nat → Nat} {n a : Nat} : a ≤ vA t n a ∧ vA t n a ≤ a + 1 := by
  unfold vA
  by_cases g : 50 ≤ hc t n a ∧ hc t n a ≤ 57
  · rw [if_pos g]
    omega
  · rw [if_neg g]
    omega
theorem TM9_a {h : Hp} {n a a' c : Nat} {P : Nat → Nat} {k : List (Nat × Nat × Nat)} (S : TM9 h n a c P k) (ha : a' ≤ 100000) : TM9 (u2 h 300 7 (nI a')) n a' c P k := by
  obtain ⟨S1, S2, S3, S4, S5, S6, S7⟩ := S
  refine ⟨MC_a S1 ha, ?_, S3, fun i hi => ?_, ?_, S6, fun i z hz => ?_⟩
  · rw [u2_e, upd_n (by decide)]
    exact S2
  · rw [u2_n (by decide)]
    exact S4 i hi
  · rw [u2_e, upd_n (by decide)]
    exact S5
  · rw [u2_n (by decide), u2_n (by decide), u2_n (by decide)]
    exact S7 i z hz
theorem R_let2 {α β ρ : Type} {E : α → β → Option ρ} {F : (α → β → Option ρ) → Option ρ} {Q : ρ → Prop} (P : α → β → Prop) (hE : ∀ s h, P s h → R (E s h) Q) (hF : ∀ k : α → β → Option ρ, (∀ s h, P s h → R (k s h) Q) → R (F k) Q) : R (nm E F) Q := hF E hE
theorem M_readsStep {h : Hp} {n a c : Nat} {P : Nat → Nat} {k : List (Nat × Nat × Nat)} (S : TM9 h n a c P k) (ha : a ≤ 2000) : R (mX5_readsStep h) (tQ h n (tS (tM h) n a c P k)) := by
  have ht : ∀ i, tM h i < 256 := fun i => oct_lt _
  have tb := tms_9 (t := tM h) (n := n) (a := a)
  have vb := vA_b (t := tM h) (n := n) (a := a)
  have S1 := S.1
  unfold mX5_readsStep
  rw [nm_s, S1.2.1, M_here S1, cl1_s]
  by_cases h41 : hc (tM h) n a = 41
  · rw [if_pos (show hcM (tM h) n a = 41 from (hcM_eq ht (by decide) (by decide)).mpr h41)]
    unfold tS
    rw [if_pos h41]
    cases k with
    | nil =>
      refine R_c2 (M_endsGroup0 S) (fun r g hq => ?_)
      obtain ⟨f1, f2, f3⟩ := hq
      dsimp only at f2 f3
      subst f2
      rw [bz_0]
      exact R_some ⟨f1, rfl, f3⟩
    | cons z k =>
      obtain ⟨b, m, p⟩ := z
      refine R_c2 (M_endsGroup1 S (by omega)) (fun r g hq => ?_)
      obtain ⟨f1, f2⟩ := hq
      dsimp only at f2 ⊢
      by_cases hcb : c = b
      · rw [if_pos hcb] at f2 ⊢
        rw [f2.1, bz_0]
        exact R_some ⟨f1, rfl, f2.2⟩
      · rw [if_neg hcb] at f2 ⊢
        by_cases hle : b + (c - b) * m ≤ 48
        · rw [if_pos hle] at f2 ⊢
          rw [f2.1, bz_1]
          exact R_some ⟨f1, rfl, f2.2⟩
        · rw [if_neg hle] at f2 ⊢
          rw [f2.1, bz_0]
          exact R_some ⟨f1, rfl, f2.2⟩
  · rw [if_neg (show ¬ hcM (tM h) n a = 41 from fun e => h41 ((hcM_eq ht (by decide) (by decide)).mp e)), cl1_s, show mX5_in (hcM (tM h) n a) 50 57 = _ from hcM_in ht (lo := 50) (hi := 57) (by decide) (by decide) (by decide), cl1_s]
    refine R_let2 (fun v g => v = nI (tms (tM h) n a 57) ∧ TF h g ∧ TM9 g n (vA (tM h) n a) c P k) ?_ ?_
    · rintro _ g ⟨rfl, g1, g2⟩
      have tg : tM g = tM h := by
        funext i
        unfold tM
        rw [g1.1 205 (by decide)]
      have hh := M_here g2.1
      rw [tg] at hh
      unfold tS
      rw [if_neg h41, hh, cl1_s, M_isStep ht, cl1_s]
      cases hl : lS (hc (tM h) n (vA (tM h) n a)) with
      | some d =>
        obtain ⟨l1, l2⟩ := lS_s hl
        have hp : 0 < hc (tM h) n (vA (tM h) n a) := by
          refine Nat.pos_of_ne_zero (fun e => ?_)
          rw [e] at hl
          cases hl
        rw [show bI (some d).isSome = 1 from rfl, i10, cl1_s, hcM_pos hp, ← l1]
        refine R_c2 (M_laysSteps g2 (by omega) tb.1 tb.2 l2) (fun r g' hq => ?_)
        obtain ⟨f1, f2⟩ := hq
        dsimp only at f2 ⊢
        by_cases hle : c + tms (tM h) n a 57 ≤ 48
        · rw [if_pos hle] at f2 ⊢
          rw [f2.1, bz_1]
          exact R_some ⟨TF_t g1 f1, rfl, f2.2⟩
        · rw [if_neg hle] at f2 ⊢
          rw [f2.1, bz_0]
          exact R_some ⟨TF_t g1 f1, rfl, f2.2⟩
      | none =>
        rw [show bI (none : Option Nat).isSome = 0 from rfl, i00, cl1_s, nm_s]
        dsimp only
        by_cases h40 : hc (tM h) n (vA (tM h) n a) = 40
        · rw [if_pos (show hcM (tM h) n (vA (tM h) n a) = 40 from (hcM_eq ht (by decide) (by decide)).mpr h40), if_pos h40]
          refine R_c2 (M_opensGroup g2 (by omega) tb.1 tb.2 (by omega)) (fun r g' hq => ?_)
          obtain ⟨f1, f2⟩ := hq
          dsimp only at f2 ⊢
          by_cases hle : k.length = 2
          · rw [if_pos hle] at f2 ⊢
            rw [f2.1, bz_0]
            exact R_some ⟨TF_t g1 f1, rfl, f2.2⟩
          · rw [if_neg hle] at f2 ⊢
            rw [f2.1, bz_1]
            exact R_some ⟨TF_t g1 f1, rfl, f2.2⟩
        · rw [if_neg (show ¬ hcM (tM h) n (vA (tM h) n a) = 40 from fun e => h40 ((hcM_eq ht (by decide) (by decide)).mp e)), if_neg h40, g2.1.2.1, M_wrong, cl2_s, bz_0]
          refine R_some ⟨TF_u g1 (by decide), rfl, ?_⟩
          dsimp only
          rw [u2_e, upd_e]
          rfl
    · intro kk hk
      by_cases hd : 50 ≤ hc (tM h) n a ∧ hc (tM h) n a ≤ 57
      · rw [decide_eq_true hd, bI_t, i10, cl1_s, nm_s, nm_s, hcM_pos (by omega), nI_1]
        refine hk _ _ ⟨?_, TF_u (TF_r h) (by decide), ?_⟩
        · unfold tms
          rw [if_pos hd]
          exact nI_subn (b := 48) (by omega)
        · unfold vA
          rw [if_pos hd]
          exact TM9_a S (by omega)
      · rw [decide_eq_false hd, bI_f, i00]
        refine hk _ _ ⟨?_, TF_r h, ?_⟩
        · unfold tms
          rw [if_neg hd]
          rfl
        · unfold vA
          rw [if_neg hd]
          exact S
