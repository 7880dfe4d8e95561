/-! what reads texts: the scribe of the class, the reference's words -/
set_option maxRecDepth 100000
/-- the letter at a place, nought behind the end -/
def hc (t : Nat → Nat) (n i : Nat) : Nat := if i < n then t i else 0
def tX (h : Hp) : Nat → Nat := fun i => oct (h 8 i)
def tM (h : Hp) : Nat → Nat := fun i => oct (h 205 i)
theorem hc_lt {t : Nat → Nat} (ht : ∀ i, t i < 256) (n i : Nat) : hc t n i < 256 := by
  unfold hc
  split
  · exact ht i
  · omega
/-- a scribe stands at a, n letters, with a fault f at p -/
def SC (b : Nat) (h : Hp) (n a f p : Nat) : Prop := h b 0 = nI n ∧ h b 1 = nI a ∧ h b 2 = nI f ∧ h b 3 = nI p ∧ n ≤ 260 ∧ a ≤ 100000 ∧ f ≤ 100 ∧ p ≤ 100000
theorem X_here {b : Nat} {h : Hp} {n a f p : Nat} (S : SC b h n a f p) : mX15_here b h = some (nI (hc (tX h) n a)) := by
  obtain ⟨e0, e1, _, _, hn, ha, _⟩ := S
  unfold mX15_here hc
  rw [nm_s, e0, e1]
  by_cases c : n ≤ a
  · rw [if_pos (nI_le c (by omega)), if_neg (by omega)]
    rfl
  · rw [if_neg (nI_ge (by omega) (by omega)), nm_s, ck_s (by omega) (by decide), nI_clamp (by omega), if_pos (by omega), oct_e]
    rfl
theorem X_isGood {b : Nat} {h : Hp} {n a f p : Nat} (S : SC b h n a f p) : mX15_isGood b h = some (bI (decide (f = 0))) := by
  obtain ⟨_, _, e2, _, _, _, hf, _⟩ := S
  unfold mX15_isGood
  rw [nm_s, e2]
  by_cases c : f = 0
  · rw [if_pos (by rw [c]; rfl), decide_eq_true c]
    rfl
  · rw [if_neg (nI_ne0 (by omega) (by omega)), decide_eq_false c]
    rfl
theorem X_isEnd {b : Nat} {h : Hp} {n a f p : Nat} (S : SC b h n a f p) : mX15_isEnd b h = some (bI (decide (n ≤ a))) := by
  obtain ⟨e0, e1, _, _, hn, ha, _⟩ := S
  unfold mX15_isEnd
  rw [nm_s, e0, e1]
  by_cases c : n ≤ a
  · rw [if_neg (nI_nlt c (by omega)), decide_eq_true c]
    rfl
  · rw [if_pos (nI_lt (by omega) (by omega)), decide_eq_false c]
    rfl
theorem X_place {b : Nat} {h : Hp} {n a f p : Nat} (S : SC b h n a f p) : mX15_place b h = some (nI a) := by
  unfold mX15_place
  rw [S.2.1]
theorem X_sees {b : Nat} {h : Hp} {n a f p lo hi : Nat} (S : SC b h n a f p) (hl : lo < 1000) (hh : hi < 1000) : mX15_sees b h (nI lo) (nI hi) = some (bI (decide (lo ≤ hc (tX h) n a ∧ hc (tX h) n a ≤ hi))) := by
  have h256 := hc_lt (t := tX h) (fun i => oct_lt _) n a
  unfold mX15_sees
  rw [X_here S, cl1_s]
  simp only [nm_q, cl1_q, bz_0, bz_1]
  generalize hc (tX h) n a = c at h256
  by_cases c1 : c < lo
  · rw [if_pos (nI_lt c1 (by omega)), decide_eq_false (by omega)]
    rfl
  · rw [if_neg (nI_nlt (by omega) (by omega))]
    by_cases c2 : hi < c
    · rw [if_pos (nI_lt c2 (by omega)), decide_eq_false (by omega)]
      rfl
    · rw [if_neg (nI_nlt (by omega) (by omega)), decide_eq_true (by omega)]
      rfl
def sF (b : Nat) (h : Hp) (w p : Nat) : Hp := u2 (u2 h b 2 (nI w)) b 3 (nI p)
def sA1 (b : Nat) (h : Hp) : Hp := u2 h b 1 (h b 1 + 1)
theorem X_bad0 {b : Nat} {h : Hp} {n a p : Nat} (S : SC b h n a 0 p) (w q : Nat) : mX15_bad b h (nI w) (nI q) = some (sF b h w q) := by
  unfold mX15_bad
  rw [S.2.2.1, if_pos (show nI 0 ≤ (0 : Int32) by decide), nm_s, nm_s]
  rfl
theorem X_bad1 {b : Nat} {h : Hp} {n a f p : Nat} (S : SC b h n a f p) (hf : 0 < f) (w q : Int32) : mX15_bad b h w q = some h := by
  unfold mX15_bad
  rw [S.2.2.1, if_neg (nI_nle hf (by have := S.2.2.2.2.2.2.1; omega))]
theorem SC_F {b : Nat} {h : Hp} {n a p w q : Nat} (S : SC b h n a 0 p) (hw : w ≤ 100) (hq : q ≤ 100000) : SC b (sF b h w q) n a w q := by
  obtain ⟨e0, e1, e2, e3, h1, h2, h3, h4⟩ := S
  unfold sF
  refine ⟨?_, ?_, ?_, ?_, h1, h2, hw, hq⟩
  · rw [u2_e, upd_n (by decide), u2_e, upd_n (by decide)]
    exact e0
  · rw [u2_e, upd_n (by decide), u2_e, upd_n (by decide)]
    exact e1
  · rw [u2_e, upd_n (by decide), u2_e, upd_e]
  · rw [u2_e, upd_e]
theorem SC_A {b : Nat} {h : Hp} {n a f p : Nat} (S : SC b h n a f p) (ha : a < 100000) : SC b (sA1 b h) n (a + 1) f p := by
  obtain ⟨e0, e1, e2, e3, h1, h2, h3, h4⟩ := S
  unfold sA1
  refine ⟨?_, ?_, ?_, ?_, h1, by omega, h3, h4⟩
  · rw [u2_e, upd_n (by decide)]
    exact e0
  · rw [u2_e, upd_e, e1, nI_1]
  · rw [u2_e, upd_n (by decide)]
    exact e2
  · rw [u2_e, upd_n (by decide)]
    exact e3
theorem SC_c {b : Nat} {h h' : Hp} {n a f p : Nat} (S : SC b h n a f p) (e : ∀ i, i < 4 → h' b i = h b i) : SC b h' n a f p := by
  obtain ⟨e0, e1, e2, e3, hr⟩ := S
  exact ⟨by rw [e 0 (by decide)]; exact e0, by rw [e 1 (by decide)]; exact e1, by rw [e 2 (by decide)]; exact e2, by rw [e 3 (by decide)]; exact e3, hr⟩
theorem Ex_F (b : Nat) (h : Hp) (w p : Nat) : Ex [b] h (sF b h w p) := fun q hq => by
  unfold sF
  rw [u2_n (fun e => hq (by rw [e]; simp)), u2_n (fun e => hq (by rw [e]; simp))]
theorem Ex_A (b : Nat) (h : Hp) : Ex [b] h (sA1 b h) := Ex_u2 _ _ _ _
theorem F_i {b : Nat} {h : Hp} {w p i : Nat} (h2 : i ≠ 2) (h3 : i ≠ 3) : sF b h w p b i = h b i := by
  unfold sF
  rw [u2_e, upd_n h3, u2_e, upd_n h2]
theorem A_i {b : Nat} {h : Hp} {i : Nat} (h1 : i ≠ 1) : sA1 b h b i = h b i := by
  unfold sA1
  rw [u2_e, upd_n h1]
theorem X_goesOn (b : Nat) (h : Hp) : mX15_goesOn b h = some (sA1 b h) := by
  unfold mX15_goesOn
  rw [nm_s]
  rfl
/-- so many, by a digit ahead -/
def tms (t : Nat → Nat) (n a hi : Nat) : Nat := if 50 ≤ hc t n a ∧ hc t n a ≤ hi then hc t n a - 48 else 1
theorem X_times {b : Nat} {h : Hp} {n a f p hi : Nat} (S : SC b h n a f p) (hh : hi < 1000) : mX15_times b h (nI hi) = some (nI (tms (tX h) n a hi), if 50 ≤ hc (tX h) n a ∧ hc (tX h) n a ≤ hi then sA1 b h else h) := by
  have h256 := hc_lt (t := tX h) (fun i => oct_lt _) n a
  unfold mX15_times tms
  rw [show mX15_sees b h 50 (nI hi) = _ from X_sees S (lo := 50) (by decide) hh, cl1_s, X_here S]
  simp only [nm_q, cl1_q]
  generalize hc (tX h) n a = c at h256
  by_cases g : 50 ≤ c ∧ c ≤ hi
  · rw [decide_eq_true g, bI_t, i10, if_pos g, if_pos g, show (48 : Int32) = nI 48 from rfl, nI_subn (by omega), if_neg (l_nlec (N := 1) (c := 1) rfl (by omega) (by omega))]
    rfl
  · rw [decide_eq_false g, bI_f, i00, if_neg g, if_neg g, if_pos (by decide)]
    rfl
theorem X_must {b : Nat} {h : Hp} {n a f p c : Nat} (S : SC b h n a f p) (hc9 : c < 1000) : mX15_must b h (nI c) = some (sA1 b (if f = 0 ∧ hc (tX h) n a ≠ c then sF b h 1 a else h)) := by
  have h256 := hc_lt (t := tX h) (fun i => oct_lt _) n a
  unfold mX15_must
  rw [X_isGood S, cl1_s, X_here S]
  simp only [nm_q, cl1_q]
  by_cases g : f = 0
  · subst g
    rw [decide_eq_true rfl, bI_t, i10]
    by_cases g2 : hc (tX h) n a = c
    · rw [if_pos (by rw [g2]), if_neg (fun e => e.2 g2)]
      rfl
    · rw [if_neg (fun e => g2 ((nI_eq (by omega) (by omega)).mp e)), S.2.1, show mX15_bad b h 1 (nI a) = _ from X_bad0 S 1 a, cl1_s, if_pos ⟨rfl, g2⟩]
      rfl
  · rw [decide_eq_false g, bI_f, i00, if_neg (fun e => g e.1)]
    rfl
theorem X_answer {b : Nat} {h : Hp} {n a f p : Nat} (S : SC b h n a f p) (v : Int32) : mX15_answer b h v = some (if f = 0 then v else -1000 * nI f - nI p) := by
  unfold mX15_answer
  rw [X_isGood S, cl1_s, S.2.2.1, S.2.2.2.1, nm_s]
  by_cases g : f = 0
  · rw [decide_eq_true g, bI_t, i10, if_pos g]
  · rw [decide_eq_false g, bI_f, i00, if_neg g]
/-! the reference -/
def MC (h : Hp) (n a : Nat) : Prop := h 300 8 = nI n ∧ h 300 7 = nI a ∧ n ≤ 260 ∧ a ≤ 100000
def hcM (t : Nat → Nat) (n i : Nat) : Int32 := if i < n then nI (t i) else -1
theorem M_here {h : Hp} {n a : Nat} (S : MC h n a) : mX5_here h = some (hcM (tM h) n a) := by
  obtain ⟨e0, e1, hn, ha⟩ := S
  unfold mX5_here hcM
  rw [nm_s, e0, e1]
  by_cases c : n ≤ a
  · rw [if_pos (nI_le c (by omega)), if_neg (by omega)]
  · rw [if_neg (nI_ge (by omega) (by omega)), nm_s, ck_s (by omega) (by decide), nI_clamp (by omega), if_pos (by omega), oct_e]
    rfl
/-- no test sees whether nought or -1 stands behind the end -/
theorem hcM_eq {t : Nat → Nat} (ht : ∀ i, t i < 256) {n i c : Nat} (h0 : 0 < c) (hc9 : c < 1000) : hcM t n i = nI c ↔ hc t n i = c := by
  unfold hcM hc
  by_cases g : i < n
  · have := ht i
    rw [if_pos g, if_pos g]
    exact nI_eq (by omega) (by omega)
  · rw [if_neg g, if_neg g]
    exact ⟨fun e => absurd e.symm (ne_m1 (by omega)), fun e => by omega⟩
theorem hcM_in {t : Nat → Nat} (ht : ∀ i, t i < 256) {n i lo hi : Nat} (h0 : 0 < lo) (hl : lo < 1000) (hh : hi < 1000) : mX5_in (hcM t n i) (nI lo) (nI hi) = some (bI (decide (lo ≤ hc t n i ∧ hc t n i ≤ hi))) := by
  refine (win_sp _ _ _).trans (dec_c ?_)
  rw [nI_toInt (by omega), nI_toInt (by omega)]
  unfold hcM hc
  by_cases g : i < n
  · have := ht i
    rw [if_pos g, if_pos g, nI_toInt (by omega)]
    omega
  · rw [if_neg g, if_neg g, show (-1 : Int32).toInt = -1 by decide]
    omega
theorem M_wrong (h : Hp) (w p : Int32) : mX5_wrongAt h w p = some (0, u2 h 300 9 (-1000 * w - p)) := by
  unfold mX5_wrongAt
  rw [nm_s, bz_0]
theorem M_takes {h : Hp} {n a c : Nat} (S : MC h n a) (h0 : 0 < c) (hc9 : c < 1000) : mX5_takes h (nI c) = if hc (tM h) n a = c then some (1, u2 h 300 7 (nI (a + 1))) else some (0, u2 h 300 9 (-1000 * nI 1 - nI a)) := by
  unfold mX5_takes
  rw [M_here S, cl1_s]
  have g := hcM_eq (t := tM h) (fun i => oct_lt _) (n := n) (i := a) h0 hc9
  by_cases c1 : hc (tM h) n a = c
  · rw [if_pos (g.mpr c1), if_pos c1, nm_s, bz_1, S.2.1, nI_1]
  · rw [if_neg (fun e => c1 (g.mp e)), if_neg c1, S.2.1, M_wrong, cl2_s, bz_0]
    rfl
