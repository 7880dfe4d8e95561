/-! Reader: simple methods, plain; a factor -/
set_option maxRecDepth 100000
def RS (h : Hp) (n a o f p : Nat) : Prop := h 90 0 = nI n ∧ h 90 2 = nI a ∧ h 90 3 = nI o ∧ h 90 4 = nI f ∧ h 90 5 = nI p ∧ n ≤ 240 ∧ a ≤ 100000 ∧ o ≤ 100000 ∧ f ≤ 100 ∧ p ≤ 100000
def yF (h : Hp) (w p : Nat) : Hp := u2 (u2 h 90 4 (nI w)) 90 5 (nI p)
def yA (h : Hp) : Hp := u2 h 90 2 (h 90 2 + 1)
def yO (h : Hp) : Hp := u2 h 90 3 (h 90 3 + 1)
def yD (h : Hp) : Hp := u2 h 90 3 (h 90 3 - 1)
section
variable {h : Hp} {n a o f p : Nat}
theorem RS_A (S : RS h n a o f p) (ha : a < 100000) : RS (yA h) n (a + 1) o f p := by
  obtain ⟨e0, e1, e2, e3, e4, hr⟩ := S
  unfold yA
  refine ⟨?_, ?_, ?_, ?_, ?_, hr.1, by omega, hr.2.2⟩
  · rw [u2_e, upd_n (by decide)]; exact e0
  · rw [u2_e, upd_e, e1, nI_1]
  · rw [u2_e, upd_n (by decide)]; exact e2
  · rw [u2_e, upd_n (by decide)]; exact e3
  · rw [u2_e, upd_n (by decide)]; exact e4
theorem RS_O (S : RS h n a o f p) (ho : o < 100000) : RS (yO h) n a (o + 1) f p := by
  obtain ⟨e0, e1, e2, e3, e4, hr⟩ := S
  unfold yO
  refine ⟨?_, ?_, ?_, ?_, ?_, hr.1, hr.2.1, by omega, hr.2.2.2⟩
  · rw [u2_e, upd_n (by decide)]; exact e0
  · rw [u2_e, upd_n (by decide)]; exact e1
  · rw [u2_e, upd_e, e2, nI_1]
  · rw [u2_e, upd_n (by decide)]; exact e3
  · rw [u2_e, upd_n (by decide)]; exact e4
theorem RS_D (S : RS h n a (o + 1) f p) : RS (yD h) n a o f p := by
  obtain ⟨e0, e1, e2, e3, e4, hr⟩ := S
  unfold yD
  refine ⟨?_, ?_, ?_, ?_, ?_, hr.1, hr.2.1, by omega, hr.2.2.2⟩
  · rw [u2_e, upd_n (by decide)]; exact e0
  · rw [u2_e, upd_n (by decide)]; exact e1
  · rw [u2_e, upd_e, e2, nI_pred]
  · rw [u2_e, upd_n (by decide)]; exact e3
  · rw [u2_e, upd_n (by decide)]; exact e4
theorem RS_F (S : RS h n a o f p) {w q : Nat} (hw : w ≤ 100) (hq : q ≤ 100000 := by omega) : RS (yF h w q) n a o w q := by
  obtain ⟨e0, e1, e2, e3, e4, hr⟩ := S
  unfold yF
  refine ⟨?_, ?_, ?_, ?_, ?_, hr.1, hr.2.1, hr.2.2.1, hw, hq⟩
  · rw [u2_e, upd_n (by decide), u2_e, upd_n (by decide)]; exact e0
  · rw [u2_e, upd_n (by decide), u2_e, upd_n (by decide)]; exact e1
  · rw [u2_e, upd_n (by decide), u2_e, upd_n (by decide)]; exact e2
  · rw [u2_e, upd_n (by decide), u2_e, upd_e]
  · rw [u2_e, upd_e]
theorem Y_here (S : RS h n a o f p) : mX6_here h = some (nI (hc (tX h) n a)) := by
  obtain ⟨e0, e1, _, _, _, hn, ha, _⟩ := S
  unfold mX6_here hc
  rw [nm_s, e0, e1]
  by_cases c : n ≤ a
  · rw [if_pos (nI_le c (by omega)), if_neg (by omega)]
    rfl
  · rw [if_neg (nI_ge (by omega) (by omega)), nm_s, ck_s (by omega) (by decide), nI_clamp (by omega), if_pos (by omega), oct_e]
    rfl
theorem Y_isGood (S : RS h n a o f p) : mX6_isGood h = some (bI (decide (f = 0))) := by
  obtain ⟨_, _, _, e3, _, _, _, _, hf⟩ := S
  unfold mX6_isGood
  rw [nm_s, e3]
  by_cases c : f = 0
  · rw [if_pos (by rw [c]; rfl), decide_eq_true c]
    rfl
  · rw [if_neg (nI_ne0 (by omega) (by omega)), decide_eq_false c]
    rfl
theorem Y_good (S : RS h n a o 0 p) : mX6_isGood h = some 1 := Y_isGood S
theorem Y_ill (S : RS h n a o f p) (hf : 0 < f) : mX6_isGood h = some 0 := by
  rw [Y_isGood S, decide_eq_false (by omega)]
  rfl
theorem Y_bad0 (S : RS h n a o 0 p) (w q : Nat) : mX6_bad h (nI w) (nI q) = some (yF h w q) := by
  unfold mX6_bad
  rw [S.2.2.2.1, if_pos (show nI 0 ≤ (0 : Int32) by decide), nm_s, nm_s]
  rfl
theorem Y_bad1 (S : RS h n a o f p) (hf : 0 < f) (w q : Int32) : mX6_bad h w q = some h := by
  unfold mX6_bad
  rw [S.2.2.2.1, if_neg (nI_nle hf (by have := S.2.2.2.2.2.2.2.2; omega))]
theorem Y_digit (S : RS h n a o f p) : mX6_seesDigit h = some (bI (decide (48 ≤ hc (tX h) n a ∧ hc (tX h) n a ≤ 57))) := by
  have h256 := hc_lt (t := tX h) (fun i => oct_lt _) n a
  unfold mX6_seesDigit
  rw [Y_here S, cl1_s]
  simp only [nm_q, cl1_q, bz_0, bz_1]
  generalize hc (tX h) n a = c at h256
  by_cases c1 : c < 48
  · rw [if_pos (l_lt (N := 48) (c := 48) rfl c1 (by decide)), decide_eq_false (by omega)]
    rfl
  · rw [if_neg (l_nlt (N := 48) (c := 48) rfl (by omega) (by omega))]
    by_cases c2 : 57 < c
    · rw [if_pos (l_gt (N := 57) (c := 57) rfl c2 (by omega)), decide_eq_false (by omega)]
      rfl
    · rw [if_neg (l_ngt (N := 57) (c := 57) rfl (by omega) (by decide)), decide_eq_true (by omega)]
      rfl
theorem Y_must (S : RS h n a o 0 p) {c : Nat} (hc9 : c < 1000) : mX6_must h (nI c) = some (yA (if hc (tX h) n a = c then h else yF h 1 a)) := by
  have h256 := hc_lt (t := tX h) (fun i => oct_lt _) n a
  unfold mX6_must
  rw [Y_here S, cl1_s, nm_s]
  by_cases g : hc (tX h) n a = c
  · rw [if_pos (by rw [g]), if_pos g]
    rfl
  · rw [if_neg (fun e => g ((nI_eq (by omega) (by omega)).mp e)), if_neg g, S.2.1, show mX6_bad h 1 (nI a) = _ from Y_bad0 S 1 a, cl1_s]
    rfl
theorem Y_opens (S : RS h n a o 0 p) : mX6_opens h = some (yA (yO (if o = 6 then yF h 5 a else h))) := by
  have ho := S.2.2.2.2.2.2.2.1
  unfold mX6_opens
  rw [S.2.2.1, nm_s]
  by_cases g : o = 6
  · rw [if_pos (by rw [g]; rfl), if_pos g, S.2.1, show mX6_bad h 5 (nI a) = _ from Y_bad0 S 5 a, cl1_s]
    rfl
  · rw [if_neg (fun e => g ((l_eq (N := 6) (c := 6) rfl (by decide) (by omega)).mp e)), if_neg g]
    rfl
end
theorem Ex_u90 {h0 h : Hp} {i : Nat} {v : Int32} (e : Ex [90] h0 h) : Ex [90] h0 (u2 h 90 i v) := fun q hq => by
  rw [u2_n (fun e => hq (by rw [e]; simp))]
  exact e q hq
theorem Ex_yA {h0 h : Hp} (e : Ex [90] h0 h) : Ex [90] h0 (yA h) := Ex_u90 e
theorem Ex_yO {h0 h : Hp} (e : Ex [90] h0 h) : Ex [90] h0 (yO h) := Ex_u90 e
theorem Ex_yD {h0 h : Hp} (e : Ex [90] h0 h) : Ex [90] h0 (yD h) := Ex_u90 e
theorem Ex_yF {h0 h : Hp} {w p : Nat} (e : Ex [90] h0 h) : Ex [90] h0 (yF h w p) := Ex_u90 (Ex_u90 e)
theorem tX_9 {a b : Hp} {t : Nat → Nat} (e : Ex [90] a b) (h : tX a = t) : tX b = t := by
  rw [← h]
  funext i
  unfold tX
  rw [e 8 (by decide)]
theorem nmb_b {t : Nat → Nat} {n : Nat} : ∀ k a v, match nmb t n k a v with
    | .inl p => p ≤ a + k ∧ p < n
    | .inr (w, a') => a ≤ a' ∧ a' ≤ a + k ∧ w < (v + 1) * 10 ^ k ∧ (a' = a ∨ a' ≤ n)
  | 0, a, v => by
    unfold nmb
    by_cases c : 48 ≤ hc t n a ∧ hc t n a ≤ 57
    · rw [if_pos c]
      exact ⟨by omega, hc_in (t := t) (by omega)⟩
    · rw [if_neg c]
      exact ⟨by omega, by omega, by omega, Or.inl rfl⟩
  | k + 1, a, v => by
    unfold nmb
    by_cases c : 48 ≤ hc t n a ∧ hc t n a ≤ 57
    · rw [if_pos c]
      have hin := hc_in (t := t) (n := n) (i := a) (by omega)
      have := nmb_b (t := t) (n := n) k (a + 1) (10 * v + (hc t n a - 48))
      cases e : nmb t n k (a + 1) (10 * v + (hc t n a - 48)) with
      | inl p =>
        rw [e] at this
        dsimp only at this ⊢
        omega
      | inr z =>
        obtain ⟨w, a'⟩ := z
        rw [e] at this
        dsimp only at this ⊢
        refine ⟨by omega, by omega, ?_, by omega⟩
        have h2 : (10 * v + (hc t n a - 48) + 1) * 10 ^ k ≤ ((v + 1) * 10) * 10 ^ k := Nat.mul_le_mul_right _ (by omega)
        rw [Nat.pow_succ, Nat.mul_comm (10 ^ k) 10, ← Nat.mul_assoc]
        omega
    · rw [if_neg c]
      refine ⟨by omega, by omega, ?_, Or.inl rfl⟩
      have : v + 1 ≤ (v + 1) * 10 ^ (k + 1) := Nat.le_mul_of_pos_right _ (Nat.pow_pos (by decide))
      omega
theorem Y_number {h : Hp} {n a o : Nat} (S : RS h n a o 0 0) (ha : a ≤ 1000) : R (mX6_number h) (fun r => Ex [90] h r.2 ∧ match nmb (tX h) n 5 a 0 with
    | .inl p => RS r.2 n (p + 1) o 2 p
    | .inr (v, a') => r.1 = nI v ∧ RS r.2 n a' o 0 0) := by
  generalize hZ : nmb (tX h) n 5 a 0 = Z
  unfold mX6_number
  rw [nm_s, S.2.1]
  refine fx_R2 7 (fun j x g => Ex [90] h g ∧ ((j ≤ 5 ∧ ∃ v, x = nI v ∧ v < 1000000 ∧ RS g n (a + j) o 0 0 ∧ nmb (tX h) n (5 - j) (a + j) v = Z ∧ v < 10 ^ j) ∨ (∃ p, Z = .inl p ∧ RS g n (p + 1) o 2 p))) (by decide) ⟨Ex_r _ _, Or.inl ⟨by decide, 0, rfl, by decide, S, hZ, by decide⟩⟩ ?_
  rintro j x g k hj ⟨hE, hI⟩ hk
  rcases hI with ⟨hj5, v, rfl, hv, T, hN, hvj⟩ | ⟨p, e, T⟩
  · have ht := tX_9 hE rfl
    have hd := Y_digit T
    have hh := Y_here T
    rw [ht] at hd hh
    rw [Y_good T, cl1_s, nm_s, i10, hd, cl1_s]
    by_cases c : 48 ≤ hc (tX h) n (a + j) ∧ hc (tX h) n (a + j) ≤ 57
    · rw [decide_eq_true c, bI_t, i10, nm_s, T.2.1, show (5 : Int32) = nI 5 from rfl, nI_add]
      by_cases c5 : j = 5
      · subst c5
        rw [if_pos rfl, show mX6_bad g 2 (nI (a + 5)) = _ from Y_bad0 T 2 (a + 5), cl1_s]
        have T2 := RS_F T (w := 2) (q := a + 5) (by decide)
        have hZ2 : Z = .inl (a + 5) := by
          rw [← hN]
          show nmb (tX h) n 0 (a + 5) v = _
          unfold nmb
          rw [if_pos c]
        have hh2 := Y_here T2
        show R (cl1 (mX6_here (yF g 2 (a + 5))) _) _
        rw [hh2, cl1_s, nm_s, nm_s]
        exact hk 6 _ _ (by decide) (by decide) ⟨Ex_yA (Ex_yF hE), Or.inr ⟨a + 5, hZ2, RS_A T2 (by omega)⟩⟩
      · rw [if_neg (fun e => c5 (by have := (nI_eq (by omega) (by omega)).mp e; omega))]
        show R (cl1 (mX6_here g) _) _
        rw [hh, cl1_s, nm_s, nm_s]
        have e10 : (10 : Int32) * nI v + nI (hc (tX h) n (a + j)) - 48 = nI (10 * v + (hc (tX h) n (a + j) - 48)) := by
          rw [show (10 : Int32) = nI 10 from rfl, nI_ml, nI_add, show (48 : Int32) = nI 48 from rfl, nI_subn (by omega)]
          congr 1
          omega
        rw [e10]
        have hp : 10 ^ (j + 1) = 10 ^ j * 10 := Nat.pow_succ ..
        have hp5 : 10 ^ (j + 1) ≤ 10 ^ 5 := Nat.pow_le_pow_right (by decide) (by omega)
        refine hk (j + 1) _ _ (by omega) (by omega) ⟨Ex_yA hE, Or.inl ⟨by omega, _, rfl, by omega, (show RS (yA g) n (a + j + 1) o 0 0 from RS_A T (by omega)), ?_, by omega⟩⟩
        rw [← hN, show 5 - j = (5 - (j + 1)) + 1 by omega]
        conv => rhs; unfold nmb
        rw [if_pos c]
        rfl
    · rw [decide_eq_false c, bI_f, i00]
      refine R_some ⟨hE, ?_⟩
      have : Z = .inr (v, a + j) := by
        rw [← hN]
        cases 5 - j with
        | zero =>
          unfold nmb
          rw [if_neg c]
        | succ m =>
          unfold nmb
          rw [if_neg c]
      rw [this]
      exact ⟨rfl, T⟩
  · rw [Y_ill T (by decide), cl1_s, nm_s, i00]
    refine R_some ⟨hE, ?_⟩
    rw [e]
    exact T
