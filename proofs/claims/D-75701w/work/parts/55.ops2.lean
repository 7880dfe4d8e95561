/-! feed, keep, undo, check, count -/
set_option maxRecDepth 100000
theorem fx_g1 {A1 ρ : Type} {F : (A1 → Option ρ) → A1 → Option ρ} {b : A1 → Option ρ} {a1 : A1} (s1 : Nat → A1) (n : Nat) (e1 : s1 0 = a1) {res : Option ρ} (hn : n < FU) (hs : ∀ j, j < n → ∀ k, F k (s1 j) = k (s1 (j + 1))) (he : ∀ k, F k (s1 n) = res) : fx FU b F a1 = res := by
  subst e1
  exact fx_for1 s1 n hn hs he
theorem fx_g2 {A1 A2 ρ : Type} {F : (A1 → A2 → Option ρ) → A1 → A2 → Option ρ} {b : A1 → A2 → Option ρ} {a1 : A1} {a2 : A2} (s1 : Nat → A1) (s2 : Nat → A2) (n : Nat) (e1 : s1 0 = a1) (e2 : s2 0 = a2) {res : Option ρ} (hn : n < FU) (hs : ∀ j, j < n → ∀ k, F k (s1 j) (s2 j) = k (s1 (j + 1)) (s2 (j + 1))) (he : ∀ k, F k (s1 n) (s2 n) = res) : fx FU b F a1 a2 = res := by
  subst e1 e2
  exact fx_for2 s1 s2 n hn hs he
theorem fx_g3 {A1 A2 A3 ρ : Type} {F : (A1 → A2 → A3 → Option ρ) → A1 → A2 → A3 → Option ρ} {b : A1 → A2 → A3 → Option ρ} {a1 : A1} {a2 : A2} {a3 : A3} (s1 : Nat → A1) (s2 : Nat → A2) (s3 : Nat → A3) (n : Nat) (e1 : s1 0 = a1) (e2 : s2 0 = a2) (e3 : s3 0 = a3) {res : Option ρ} (hn : n < FU) (hs : ∀ j, j < n → ∀ k, F k (s1 j) (s2 j) (s3 j) = k (s1 (j + 1)) (s2 (j + 1)) (s3 (j + 1))) (he : ∀ k, F k (s1 n) (s2 n) (s3 n) = res) : fx FU b F a1 a2 a3 = res := by
  subst e1 e2 e3
  exact fx_for3 s1 s2 s3 n hn hs he
theorem fx_g4 {A1 A2 A3 A4 ρ : Type} {F : (A1 → A2 → A3 → A4 → Option ρ) → A1 → A2 → A3 → A4 → Option ρ} {b : A1 → A2 → A3 → A4 → Option ρ} {a1 : A1} {a2 : A2} {a3 : A3} {a4 : A4} (s1 : Nat → A1) (s2 : Nat → A2) (s3 : Nat → A3) (s4 : Nat → A4) (n : Nat) (e1 : s1 0 = a1) (e2 : s2 0 = a2) (e3 : s3 0 = a3) (e4 : s4 0 = a4) {res : Option ρ} (hn : n < FU) (hs : ∀ j, j < n → ∀ k, F k (s1 j) (s2 j) (s3 j) (s4 j) = k (s1 (j + 1)) (s2 (j + 1)) (s3 (j + 1)) (s4 (j + 1))) (he : ∀ k, F k (s1 n) (s2 n) (s3 n) (s4 n) = res) : fx FU b F a1 a2 a3 a4 = res := by
  subst e1 e2 e3 e4
  exact fx_for4 s1 s2 s3 s4 n hn hs he
theorem fx_g5 {A1 A2 A3 A4 A5 ρ : Type} {F : (A1 → A2 → A3 → A4 → A5 → Option ρ) → A1 → A2 → A3 → A4 → A5 → Option ρ} {b : A1 → A2 → A3 → A4 → A5 → Option ρ} {a1 : A1} {a2 : A2} {a3 : A3} {a4 : A4} {a5 : A5} (s1 : Nat → A1) (s2 : Nat → A2) (s3 : Nat → A3) (s4 : Nat → A4) (s5 : Nat → A5) (n : Nat) (e1 : s1 0 = a1) (e2 : s2 0 = a2) (e3 : s3 0 = a3) (e4 : s4 0 = a4) (e5 : s5 0 = a5) {res : Option ρ} (hn : n < FU) (hs : ∀ j, j < n → ∀ k, F k (s1 j) (s2 j) (s3 j) (s4 j) (s5 j) = k (s1 (j + 1)) (s2 (j + 1)) (s3 (j + 1)) (s4 (j + 1)) (s5 (j + 1))) (he : ∀ k, F k (s1 n) (s2 n) (s3 n) (s4 n) (s5 n) = res) : fx FU b F a1 a2 a3 a4 a5 = res := by
  subst e1 e2 e3 e4 e5
  exact fx_for5 s1 s2 s3 s4 s5 n hn hs he
theorem fx_g6 {A1 A2 A3 A4 A5 A6 ρ : Type} {F : (A1 → A2 → A3 → A4 → A5 → A6 → Option ρ) → A1 → A2 → A3 → A4 → A5 → A6 → Option ρ} {b : A1 → A2 → A3 → A4 → A5 → A6 → Option ρ} {a1 : A1} {a2 : A2} {a3 : A3} {a4 : A4} {a5 : A5} {a6 : A6} (s1 : Nat → A1) (s2 : Nat → A2) (s3 : Nat → A3) (s4 : Nat → A4) (s5 : Nat → A5) (s6 : Nat → A6) (n : Nat) (e1 : s1 0 = a1) (e2 : s2 0 = a2) (e3 : s3 0 = a3) (e4 : s4 0 = a4) (e5 : s5 0 = a5) (e6 : s6 0 = a6) {res : Option ρ} (hn : n < FU) (hs : ∀ j, j < n → ∀ k, F k (s1 j) (s2 j) (s3 j) (s4 j) (s5 j) (s6 j) = k (s1 (j + 1)) (s2 (j + 1)) (s3 (j + 1)) (s4 (j + 1)) (s5 (j + 1)) (s6 (j + 1))) (he : ∀ k, F k (s1 n) (s2 n) (s3 n) (s4 n) (s5 n) (s6 n) = res) : fx FU b F a1 a2 a3 a4 a5 a6 = res := by
  subst e1 e2 e3 e4 e5 e6
  exact fx_for6 s1 s2 s3 s4 s5 s6 n hn hs he
/-- one byte more on a tape -/
def pb (h : Hp) (pl ob fl : Nat) (v : Int32) : Hp := u2 (u2 h pl (h ob fl).toNatClampNeg v) ob fl ((u2 h pl (h ob fl).toNatClampNeg v) ob fl + 1)
def tpu (h : Hp) (pl ob fl : Nat) (f : Nat → Int32) : Nat → Hp
  | 0 => h
  | n + 1 => pb (tpu h pl ob fl f n) pl ob fl (f n)
def TP (LW : LWt) (tt : TTy) (t : Nat) (hx hm : Hp) : Prop := II LW tt hx hm ∧ hx 100 10 = nI t ∧ hm 300 6 = nI t
theorem TP_s {LW : LWt} {tt : TTy} {t : Nat} {hx hm : Hp} (ht : t < 260) (v : Int32) (H : TP LW tt t hx hm) : TP LW tt (t + 1) (pb hx 8 100 10 v) (pb hm 205 300 6 v) := by
  obtain ⟨⟨H1, H2, ⟨H3, H4⟩, H5⟩, e1, e2⟩ := H
  have f1 : pb hx 8 100 10 v = u2 (u2 hx 8 t v) 100 10 (nI (t + 1)) := by
    unfold pb
    rw [e1, nI_clamp (by omega)]
    show u2 (u2 hx 8 t v) 100 10 (hx 100 10 + 1) = _
    rw [e1, nI_1]
  have f2 : pb hm 205 300 6 v = u2 (u2 hm 205 t v) 300 6 (nI (t + 1)) := by
    unfold pb
    rw [e2, nI_clamp (by omega)]
    show u2 (u2 hm 205 t v) 300 6 (hm 300 6 + 1) = _
    rw [e2, nI_1]
  rw [f1, f2]
  refine ⟨⟨H1, H2, ⟨⟨t + 1, by omega, rfl, rfl⟩, fun i hi => ?_⟩, H5⟩, rfl, rfl⟩
  show u2 hx 8 t v 8 i = u2 hm 205 t v 205 i
  rw [u2_e, u2_e]
  by_cases e : i = t
  · rw [e, upd_e, upd_e]
  · rw [upd_n e, upd_n e]
    exact H4 i hi
theorem TP_n {LW : LWt} {tt : TTy} {t : Nat} {hx hm : Hp} (f : Nat → Int32) (H : TP LW tt t hx hm) : ∀ n, t + n ≤ 260 → TP LW tt (t + n) (tpu hx 8 100 10 f n) (tpu hm 205 300 6 f n)
  | 0, _ => H
  | n + 1, hn => TP_s (t := t + n) (by omega) (f n) (TP_n f H n (by omega))
theorem n4 {j : Nat} (h : j < 4) : j = 0 ∨ j = 1 ∨ j = 2 ∨ j = 3 := by omega
theorem push_pair {LW : LWt} {tt : TTy} {t : Nat} {hx hm : Hp} (ht : t + 4 ≤ 260) (v : Int32) (H : TP LW tt t hx hm) : ∃ hx' hm', mX0_push hx v = some hx' ∧ mX5_types hm v = some hm' ∧ TP LW tt (t + 4) hx' hm' := by
  have key := TP_n (fun j => vp_nar .byte ((v >>> (((24 : Int32) + (-8) * nI j) &&& 31)).toInt8.toInt32)) H
  refine ⟨_, _, ?_, ?_, key 4 ht⟩
  · unfold mX0_push
    refine fx_g2 (fun j => (24 : Int32) + (-8) * nI j) (fun j => tpu hx 8 100 10 (fun j => vp_nar .byte ((v >>> (((24 : Int32) + (-8) * nI j) &&& 31)).toInt8.toInt32)) j) 4 (by decide) rfl (by decide) (fun j hj k => ?_) (fun k => ?_)
    · have hk := (key j (by omega)).2.1
      rw [if_neg (by rcases n4 hj with e | e | e | e <;> subst e <;> decide)]
      simp only [nm_s]
      rw [show ck ((tpu hx 8 100 10 (fun j => vp_nar .byte ((v >>> (((24 : Int32) + (-8) * nI j) &&& 31)).toInt8.toInt32)) j) 100 10) 260 = fun (M : Option Hp) => M from by rw [hk]; funext M; exact ck_s (by omega) (by decide)]
      rw [show (24 : Int32) + (-8) * nI j + (-8) = (24 : Int32) + (-8) * nI (j + 1) from by rcases n4 hj with e | e | e | e <;> subst e <;> decide]
      rfl
    · rw [if_pos (by decide)]
  · unfold mX5_types
    refine fx_g2 (fun j => (3 : Int32) + (-1) * nI j) (fun j => tpu hm 205 300 6 (fun j => vp_nar .byte ((v >>> (((24 : Int32) + (-8) * nI j) &&& 31)).toInt8.toInt32)) j) 4 (by decide) rfl (by decide) (fun j hj k => ?_) (fun k => ?_)
    · have hk := (key j (by omega)).2.2
      rw [if_neg (by rcases n4 hj with e | e | e | e <;> subst e <;> decide)]
      simp only [nm_s]
      rw [show ck ((tpu hm 205 300 6 (fun j => vp_nar .byte ((v >>> (((24 : Int32) + (-8) * nI j) &&& 31)).toInt8.toInt32)) j) 300 6) 260 = fun (M : Option Hp) => M from by rw [hk]; funext M; exact ck_s (by omega) (by decide)]
      rw [show ((8 : Int32) * ((3 : Int32) + (-1) * nI j)) &&& 31 = ((24 : Int32) + (-8) * nI j) &&& 31 from by rcases n4 hj with e | e | e | e <;> subst e <;> decide]
      rw [show (3 : Int32) + (-1) * nI j + (-1) = (3 : Int32) + (-1) * nI (j + 1) from by rcases n4 hj with e | e | e | e <;> subst e <;> decide]
      rfl
    · rw [if_pos (by decide)]
theorem st_feed (LW : LWt) : St_feed (II LW) := by
  intro tt hx hm a0 a1 a2 a3 a4 H
  obtain ⟨⟨t, ht, e1, e2⟩, _⟩ := H.2.2.1
  unfold mX0_feed mX5_feed
  rw [e1, e2, show nI t + (20 : Int32) = nI (t + 20) from nI_add t 20]
  by_cases h : t + 20 ≤ 260
  · have hc : nI (t + 20) ≤ (260 : Int32) := nI_le (b := 260) h (by decide)
    rw [if_pos hc, if_pos hc]
    obtain ⟨x1, m1, p1, q1, H1⟩ := push_pair (v := a0) (by omega) ⟨H, e1, e2⟩
    obtain ⟨x2, m2, p2, q2, H2⟩ := push_pair (v := a1) (by omega) H1
    obtain ⟨x3, m3, p3, q3, H3⟩ := push_pair (v := a2) (by omega) H2
    obtain ⟨x4, m4, p4, q4, H4⟩ := push_pair (v := a3) (by omega) H3
    obtain ⟨x5, m5, p5, q5, H5⟩ := push_pair (v := a4) (by omega) H4
    rw [p1, q1, cl1_s, cl1_s, p2, q2, cl1_s, cl1_s, p3, q3, cl1_s, cl1_s, p4, q4, cl1_s, cl1_s, p5, q5, cl1_s, cl1_s, H5.2.1, H5.2.2]
    exact ⟨_, _, _, rfl, rfl, H5.1⟩
  · have hc : ¬ nI (t + 20) ≤ (260 : Int32) := nI_ge (b := t + 20) (a := 260) (by omega) (by omega)
    rw [if_neg hc, if_neg hc]
    exact ⟨_, _, _, rfl, rfl, H⟩
/-- how many of the first n -/
def cnt (P : Nat → Bool) : Nat → Nat
  | 0 => 0
  | n + 1 => cnt P n + (if P n then 1 else 0)
theorem cnt_le (P : Nat → Bool) : ∀ n, cnt P n ≤ n
  | 0 => Nat.le_refl _
  | n + 1 => by
    have := cnt_le P n
    unfold cnt
    split <;> omega
theorem X_keptOff (h : Hp) : mX0_keptOff h = some (nI (cnt (fun p => decide (h 1 p ≠ 0)) 48)) := by
  unfold mX0_keptOff
  refine fx_g2 (fun j => nI (cnt (fun p => decide (h 1 p ≠ 0)) j)) (fun j => nI j) 48 rfl rfl (by decide) (fun j hj k => ?_) (fun k => ?_)
  · simp only [nm_s]
    rw [if_neg (nl48 hj), ck_s hj (by decide), nI_clamp (by omega), nI_1]
    by_cases e : h 1 j = 0
    · rw [if_pos e, show cnt (fun p => decide (h 1 p ≠ 0)) (j + 1) = cnt (fun p => decide (h 1 p ≠ 0)) j from by rw [cnt]; simp [e], Int32.add_zero]
    · rw [if_neg e, nI_1, show cnt (fun p => decide (h 1 p ≠ 0)) (j + 1) = cnt (fun p => decide (h 1 p ≠ 0)) j + 1 from by rw [cnt]; simp [e]]
  · rw [if_pos (show (48 : Int32) ≤ nI 48 by decide)]
theorem M_offMany (h : Hp) : mX5_offMany h = some (nI (cnt (fun p => decide (h 202 p ≠ 0)) 48)) := by
  unfold mX5_offMany
  refine fx_g2 (fun j => nI (cnt (fun p => decide (h 202 p ≠ 0)) j)) (fun j => nI j) 48 rfl rfl (by decide) (fun j hj k => ?_) (fun k => ?_)
  · simp only [nm_s]
    rw [if_neg (nl48 hj), ck_s hj (by decide), nI_clamp (by omega), nI_1]
    by_cases e : h 202 j = 0
    · rw [if_pos e, show cnt (fun p => decide (h 202 p ≠ 0)) (j + 1) = cnt (fun p => decide (h 202 p ≠ 0)) j from by rw [cnt]; simp [e]]
    · rw [if_neg e, nI_1, show cnt (fun p => decide (h 202 p ≠ 0)) (j + 1) = cnt (fun p => decide (h 202 p ≠ 0)) j + 1 from by rw [cnt]; simp [e]]
  · rw [if_pos (show (48 : Int32) ≤ nI 48 by decide)]
theorem cnt_c {P Q : Nat → Bool} : ∀ n, (∀ i, i < n → P i = Q i) → cnt P n = cnt Q n
  | 0, _ => rfl
  | n + 1, h => by
    unfold cnt
    rw [cnt_c n (fun i hi => h i (by omega)), h n (by omega)]
theorem X_rest {b : Nat} {h : Hp} {U L : Nat → Nat} (H : HX b h U L) : mX3_opening b h 31 = some (nI (mxo U L 31 48)) := X_opening H (g := 31) (by decide)
theorem M_rest {h : Hp} {U L : Nat → Nat} (H : HM h U L) : mX5_opening h 0 0 = some (nI (mxo U L 31 48)) := M_opening H (g := 31) (by decide)
theorem some_ite {c : Prop} [Decidable c] {α : Type} (a b : α) : (if c then some a else some b) = some (if c then a else b) := by split <;> rfl
theorem st_count (LW : LWt) (hLW : ∀ tt a b c d e f g i, LW tt a b c d e f g i → a = c) : St_count (II LW) := by
  intro tt hx hm a0 H
  obtain ⟨U, L, HU, HL⟩ := BM_HX H.1
  have H' := H
  obtain ⟨⟨_, hw0, hw1, ⟨x, _, hx3, hm3⟩, ⟨n, _, hx2, hm2⟩⟩, H2, ⟨⟨t, _, ht1, ht2⟩, _⟩, ⟨s, _, hs1, hs2, _⟩, _, H6⟩ := H
  unfold mX0_count mX5_count
  rw [X_keptOff, M_offMany, X_rest HU, M_rest HL, hx2, hm2, hs1, hs2, hLW _ _ _ _ _ _ _ _ _ H6, ht1, ht2, hx3, hm3]
  rw [show hx 44 1 + hx 44 0 = hm 201 0 + hm 201 1 from by rw [show hx 44 1 = hm 201 1 from hw1, show hx 44 0 = hm 201 0 from hw0, Int32.add_comm]]
  rw [cnt_c 48 (P := fun p => decide (hx 1 p ≠ 0)) (Q := fun p => decide (hm 202 p ≠ 0)) (fun i hi => by rw [(H2 i hi).1])]
  simp only [cl1_s, some_ite]
  refine ⟨_, rfl, rfl, H'⟩
