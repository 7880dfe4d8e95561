/-! what touches at rest; tripods -/
set_option maxRecDepth 100000
def cx (p : Nat) : Int := ((p % 8 : Nat) : Int)
def cy (p : Nat) : Int := ((p / 8 : Nat) : Int)
def tn (p q r : Nat) : Int := (cx q - cx p) * (cy r - cy p) - (cy q - cy p) * (cx r - cx p)
def am (p q : Nat) : Int := (2 * cx p - 7) * (2 * cy q - 5) - (2 * cy p - 5) * (2 * cx q - 7)
def dm (p q : Nat) : Int := (2 * cx p - 7) * (2 * cx q - 7) + (2 * cy p - 5) * (2 * cy q - 5)
theorem mulb {a b : Int} (ha : -7 ≤ a ∧ a ≤ 7) (hb : -7 ≤ b ∧ b ≤ 7) : -49 ≤ a * b ∧ a * b ≤ 49 := by
  have hc : b = -7 ∨ b = -6 ∨ b = -5 ∨ b = -4 ∨ b = -3 ∨ b = -2 ∨ b = -1 ∨ b = 0 ∨ b = 1 ∨ b = 2 ∨ b = 3 ∨ b = 4 ∨ b = 5 ∨ b = 6 ∨ b = 7 := by omega
  rcases hc with e | e | e | e | e | e | e | e | e | e | e | e | e | e | e <;> subst e <;> omega
theorem cxb {p : Nat} (hp : p < 48) : 0 ≤ cx p ∧ cx p ≤ 7 ∧ 0 ≤ cy p ∧ cy p ≤ 5 := by
  unfold cx cy
  omega
theorem tnb {p q r : Nat} (hp : p < 48) (hq : q < 48) (hr : r < 48) : -98 ≤ tn p q r ∧ tn p q r ≤ 98 := by
  have a := cxb hp
  have b := cxb hq
  have c := cxb hr
  have h1 := mulb (a := cx q - cx p) (b := cy r - cy p) (by omega) (by omega)
  have h2 := mulb (a := cy q - cy p) (b := cx r - cx p) (by omega) (by omega)
  unfold tn
  omega
theorem amb {p q : Nat} (hp : p < 48) (hq : q < 48) : -98 ≤ am p q ∧ am p q ≤ 98 ∧ -98 ≤ dm p q ∧ dm p q ≤ 98 := by
  have a := cxb hp
  have b := cxb hq
  have h1 := mulb (a := 2 * cx p - 7) (b := 2 * cy q - 5) (by omega) (by omega)
  have h2 := mulb (a := 2 * cy p - 5) (b := 2 * cx q - 7) (by omega) (by omega)
  have h3 := mulb (a := 2 * cx p - 7) (b := 2 * cx q - 7) (by omega) (by omega)
  have h4 := mulb (a := 2 * cy p - 5) (b := 2 * cy q - 5) (by omega) (by omega)
  unfold am dm
  omega
theorem r8 {p : Nat} (hp : p < 48) : jrem (nI p) 8 = iI (cx p) := by
  rw [show jrem (nI p) 8 = nI (p % 8) from jrem_s (d := 8) (by omega) (by decide) (by decide), iI_n]
  rfl
theorem q8 {p : Nat} (hp : p < 48) : nI p / 8 = iI (cy p) := by
  rw [show nI p / 8 = nI (p / 8) from pk_div (d := 8) (by omega) (by decide) (by decide), iI_n]
  rfl
theorem X_turn {p q r : Nat} (hp : p < 48) (hq : q < 48) (hr : r < 48) : mX0_turn (nI p) (nI q) (nI r) = some (iI (tn p q r)) := by
  unfold mX0_turn tn
  rw [r8 hp, r8 hq, r8 hr, q8 hp, q8 hq, q8 hr, iI_sub, iI_sub, iI_sub, iI_sub, iI_mul, iI_mul, iI_sub]
theorem M_round3 {p q r : Nat} (hp : p < 48) (hq : q < 48) (hr : r < 48) : mX5_round3 (nI p) (nI q) (nI r) = some (iI (tn p q r)) := X_turn hp hq hr
theorem X_about {p q : Nat} (hp : p < 48) (hq : q < 48) : mX0_aboutMiddle (nI p) (nI q) = some (iI (am p q)) := by
  unfold mX0_aboutMiddle am
  rw [r8 hp, r8 hq, q8 hp, q8 hq, ilit2, ilit7, ilit5, iI_mul, iI_mul, iI_mul, iI_mul, iI_sub, iI_sub, iI_sub, iI_sub, iI_mul, iI_mul, iI_sub]
theorem M_across {p : Nat} (hp : p < 48) : mX5_acrossOf (nI p) = some (iI (2 * cx p - 7)) := by
  unfold mX5_acrossOf
  rw [r8 hp, ilit2, ilit7, iI_mul, iI_sub]
theorem M_alongO {p : Nat} (hp : p < 48) : mX5_alongOf (nI p) = some (iI (2 * cy p - 5)) := by
  unfold mX5_alongOf
  rw [q8 hp, ilit2, ilit5, iI_mul, iI_sub]
theorem M_mside {p q : Nat} (hp : p < 48) (hq : q < 48) : mX5_middleSide (nI p) (nI q) = some (iI (am p q)) := by
  unfold mX5_middleSide am
  rw [M_across hp, cl1_s, M_alongO hq, cl1_s, M_alongO hp, cl1_s, M_across hq, cl1_s, iI_mul, iI_mul, iI_sub]
/-- three places that hold the middle -/
def triP (p q r : Nat) : Prop := tn p q r ≠ 0 ∧ ((0 ≤ am p q ∧ 0 ≤ am q r ∧ 0 ≤ am r p) ∨ (am p q ≤ 0 ∧ am q r ≤ 0 ∧ am r p ≤ 0))
noncomputable def triB (p q r : Nat) : Bool := bo (triP p q r)
theorem am_y (p q : Nat) : am q p = - am p q := by
  unfold am
  rw [Int.mul_comm (2 * cx q - 7) (2 * cy p - 5), Int.mul_comm (2 * cy q - 5) (2 * cx p - 7)]
  omega
theorem tn_am (p q r : Nat) : 4 * tn p q r = am p q + am q r + am r p := by
  unfold tn am
  generalize cx p = a
  generalize cx q = b
  generalize cx r = c
  generalize cy p = d
  generalize cy q = e
  generalize cy r = f
  simp only [Int.sub_mul, Int.mul_sub, Int.mul_assoc]
  simp only [Int.mul_comm b, Int.mul_comm c, Int.mul_left_comm _ 2]
  grind
theorem tri_rev (p q r : Nat) : triP p q r ↔ triP r q p := by
  have h1 := tn_am p q r
  have h2 := tn_am r q p
  have a1 := am_y p q
  have a2 := am_y q r
  have a3 := am_y r p
  unfold triP
  omega
theorem tri_rot (p q r : Nat) : triP p q r ↔ triP q r p := by
  have h1 := tn_am p q r
  have h2 := tn_am q r p
  unfold triP
  omega
theorem X_isTripod {p q r : Nat} (hp : p < 48) (hq : q < 48) (hr : r < 48) : mX0_isTripod (nI p) (nI q) (nI r) = some (bI (triB p q r)) := by
  have b0 := tnb hp hq hr
  have b1 := amb hp hq
  have b2 := amb hq hr
  have b3 := amb hr hp
  unfold mX0_isTripod
  rw [X_turn hp hq hr, X_about hp hq, X_about hq hr, X_about hr hp]
  simp only [cl1_q, nm_q, bz_0, bz_1]
  unfold triB
  by_cases h : triP p q r
  · rw [bo_t h, bI_t]
    unfold triP at h
    rw [if_neg (show ¬ iI (tn p q r) = 0 from fun e => h.1 ((iI_eq (b := 0) (by omega) (by omega)).mp e))]
    by_cases c1 : am p q < 0
    · rw [if_pos (show iI (am p q) < 0 from (iI_lt (b := 0) (by omega) (by omega)).mpr c1), if_neg (show ¬ 0 < iI (am p q) from fun e => by have := (iI_lt (a := 0) (by omega) (by omega)).mp e; omega), if_neg (show ¬ 0 < iI (am q r) from fun e => by have := (iI_lt (a := 0) (by omega) (by omega)).mp e; omega), if_neg (show ¬ 0 < iI (am r p) from fun e => by have := (iI_lt (a := 0) (by omega) (by omega)).mp e; omega)]
    · rw [if_neg (show ¬ iI (am p q) < 0 from fun e => c1 ((iI_lt (b := 0) (by omega) (by omega)).mp e))]
      by_cases c2 : am q r < 0
      · rw [if_pos (show iI (am q r) < 0 from (iI_lt (b := 0) (by omega) (by omega)).mpr c2), if_neg (show ¬ 0 < iI (am p q) from fun e => by have := (iI_lt (a := 0) (by omega) (by omega)).mp e; omega), if_neg (show ¬ 0 < iI (am q r) from fun e => by have := (iI_lt (a := 0) (by omega) (by omega)).mp e; omega), if_neg (show ¬ 0 < iI (am r p) from fun e => by have := (iI_lt (a := 0) (by omega) (by omega)).mp e; omega)]
      · rw [if_neg (show ¬ iI (am q r) < 0 from fun e => c2 ((iI_lt (b := 0) (by omega) (by omega)).mp e))]
        by_cases c3 : 0 ≤ am r p
        · rw [if_pos (show 0 ≤ iI (am r p) from (iI_le (a := 0) (by omega) (by omega)).mpr c3)]
        · rw [if_neg (show ¬ 0 ≤ iI (am r p) from fun e => c3 ((iI_le (a := 0) (by omega) (by omega)).mp e)), if_neg (show ¬ 0 < iI (am p q) from fun e => by have := (iI_lt (a := 0) (by omega) (by omega)).mp e; omega), if_neg (show ¬ 0 < iI (am q r) from fun e => by have := (iI_lt (a := 0) (by omega) (by omega)).mp e; omega), if_neg (show ¬ 0 < iI (am r p) from fun e => by have := (iI_lt (a := 0) (by omega) (by omega)).mp e; omega)]
  · rw [bo_f h, bI_f]
    unfold triP at h
    by_cases c0 : tn p q r = 0
    · rw [if_pos (show iI (tn p q r) = 0 from (iI_eq (b := 0) (by omega) (by omega)).mpr c0)]
    · rw [if_neg (show ¬ iI (tn p q r) = 0 from fun e => c0 ((iI_eq (b := 0) (by omega) (by omega)).mp e))]
      have nn : ¬ (am p q ≤ 0 ∧ am q r ≤ 0 ∧ am r p ≤ 0) := fun e => h ⟨c0, Or.inr e⟩
      have np : ¬ (0 ≤ am p q ∧ 0 ≤ am q r ∧ 0 ≤ am r p) := fun e => h ⟨c0, Or.inl e⟩
      have tail : (if 0 < iI (am p q) then some (0 : Int32) else if 0 < iI (am q r) then some 0 else if 0 < iI (am r p) then some 0 else some 1) = some 0 := by
        by_cases d1 : 0 < am p q
        · rw [if_pos (show 0 < iI (am p q) from (iI_lt (a := 0) (by omega) (by omega)).mpr d1)]
        · rw [if_neg (show ¬ 0 < iI (am p q) from fun e => d1 ((iI_lt (a := 0) (by omega) (by omega)).mp e))]
          by_cases d2 : 0 < am q r
          · rw [if_pos (show 0 < iI (am q r) from (iI_lt (a := 0) (by omega) (by omega)).mpr d2)]
          · rw [if_neg (show ¬ 0 < iI (am q r) from fun e => d2 ((iI_lt (a := 0) (by omega) (by omega)).mp e)), if_pos (show 0 < iI (am r p) from (iI_lt (a := 0) (by omega) (by omega)).mpr (by omega))]
      rw [tail]
      by_cases c1 : am p q < 0
      · rw [if_pos (show iI (am p q) < 0 from (iI_lt (b := 0) (by omega) (by omega)).mpr c1)]
      · rw [if_neg (show ¬ iI (am p q) < 0 from fun e => c1 ((iI_lt (b := 0) (by omega) (by omega)).mp e))]
        by_cases c2 : am q r < 0
        · rw [if_pos (show iI (am q r) < 0 from (iI_lt (b := 0) (by omega) (by omega)).mpr c2)]
        · rw [if_neg (show ¬ iI (am q r) < 0 from fun e => c2 ((iI_lt (b := 0) (by omega) (by omega)).mp e)), if_neg (show ¬ 0 ≤ iI (am r p) from fun e => by have := (iI_le (a := 0) (by omega) (by omega)).mp e; omega)]
theorem M_holds {p q r : Nat} (hp : p < 48) (hq : q < 48) (hr : r < 48) : mX5_holdsMiddle (nI p) (nI q) (nI r) = some (bI (triB p q r)) := by
  have e : mX5_holdsMiddle (nI p) (nI q) (nI r) = mX0_isTripod (nI p) (nI q) (nI r) := by
    unfold mX5_holdsMiddle mX0_isTripod
    rw [X_turn hp hq hr, X_about hp hq, X_about hq hr, X_about hr hp, M_round3 hp hq hr, M_mside hp hq, M_mside hq hr, M_mside hr hp]
  rw [e, X_isTripod hp hq hr]
/-- the marked places in their order, behind the last 48 -/
def TCH (P : Nat → Bool) (T : Nat → Nat) (n m : Nat) : Prop := T n = m ∧ (∀ i, i < n → T i < T (i + 1) ∧ P (T i) = true) ∧ (∀ i c, i < n → T i < c → c < T (i + 1) → P c = false) ∧ ∀ c, c < T 0 → P c = false
theorem TCH_lt {P : Nat → Bool} {T : Nat → Nat} {n m : Nat} (H : TCH P T n m) : ∀ d i, i + d = n → T i ≤ m
  | 0, i, h => by
    have e : i = n := by omega
    rw [e, H.1]
    exact Nat.le_refl _
  | d + 1, i, h => by
    have := TCH_lt H d (i + 1) (by omega)
    have := (H.2.1 i (by omega)).1
    omega
theorem M_lays50 {h : Hp} {U L : Nat → Nat} (H : HM h U L) : R (mX5_laysTouching h) (fun g => ∃ T n, TCH (mk U L 31 0) T n 48 ∧ n ≤ 48 ∧ g 300 50 = nI n ∧ (∀ i, i < n → g 249 i = nI (T i)) ∧ Ex [242, 249, 300] h g ∧ ∀ i, i ≠ 50 → g 300 i = h 300 i) := by
  unfold mX5_laysTouching
  rw [M_mks0 H, cl2_s, nm_s]
  generalize mk U L 31 0 = P
  refine fx_R2 48 (fun p x g => x = nI p ∧ ∃ T n, TCH P T n p ∧ n ≤ p ∧ g 300 50 = nI n ∧ (∀ i, i < n → g 249 i = nI (T i)) ∧ Ex [242, 249, 300] h g ∧ (∀ i, i ≠ 50 → g 300 i = h 300 i) ∧ ∀ c, c < 48 → g 242 c = bI (P c)) (by decide) ⟨rfl, fun _ => 0, 0, ⟨rfl, fun i hi => by omega, fun i c hi => by omega, fun c hc => absurd hc (Nat.not_lt_zero c)⟩, Nat.le_refl _, by rw [u2_e, upd_e]; rfl, fun i hi => by omega, fun q hq => ?_, fun i hi => ?_, fun c hc => ?_⟩ ?_
  · rw [u2_n (fun e => hq (by rw [e]; simp)), sN_n (fun e => hq (by rw [e]; simp))]
  · rw [u2_e, upd_n hi, sN_n (by decide)]
  · rw [u2_n (by decide)]
    exact sN_k hc
  rintro p x g k hp ⟨rfl, T, n, hT, hn, h50, h249, hE, ho, h242⟩ hk
  by_cases hp8 : p = 48
  · subst hp8
    rw [if_pos (show (48 : Int32) ≤ nI 48 by decide)]
    exact R_some ⟨T, n, hT, hn, h50, h249, hE, ho⟩
  · have hp' : p < 48 := by omega
    rw [if_neg (nl48 hp'), ck_s hp' (by decide), nm_s, nI_clamp (by omega), h242 p hp', nI_1]
    obtain ⟨t1, t2, t3, t4⟩ := hT
    cases hP : P p with
    | false =>
      rw [bI_f, i00]
      refine hk (p + 1) _ _ (by omega) (by omega) ⟨rfl, upN T n (p + 1), n, ⟨upN_e _ _ _, fun i hi => ?_, fun i c hi h1 h2 => ?_, fun c hc => ?_⟩, by omega, h50, fun i hi => by rw [upN_n (by omega)]; exact h249 i hi, hE, ho, h242⟩
      · have := t2 i hi
        rw [upN_n (show i ≠ n by omega)]
        by_cases e : i + 1 = n
        · rw [e, upN_e]
          rw [e, t1] at this
          exact ⟨by omega, this.2⟩
        · rw [upN_n e]
          exact this
      · rw [upN_n (show i ≠ n by omega)] at h1
        by_cases e : i + 1 = n
        · rw [e, upN_e] at h2
          by_cases e2 : c = p
          · rw [e2]; exact hP
          · exact t3 i c hi h1 (by rw [e, t1]; omega)
        · rw [upN_n e] at h2
          exact t3 i c hi h1 h2
      · by_cases e : (0 : Nat) = n
        · rw [← e, upN_e] at hc
          by_cases e2 : c = p
          · rw [e2]; exact hP
          · exact t4 c (by rw [e, t1]; omega)
        · rw [upN_n e] at hc
          exact t4 c hc
    | true =>
      rw [bI_t, i10, h50, ck_s (show n < 48 by omega) (by decide), nm_s, nm_s, nI_clamp (by omega), u2_n (show (300 : Nat) ≠ 249 by decide), h50, nI_1]
      refine hk (p + 1) _ _ (by omega) (by omega) ⟨rfl, upN T (n + 1) (p + 1), n + 1, ⟨upN_e _ _ _, fun i hi => ?_, fun i c hi h1 h2 => ?_, fun c hc => ?_⟩, by omega, by rw [u2_e, upd_e], fun i hi => ?_, fun q hq => ?_, fun i hi => ?_, fun c hc => ?_⟩
      · rw [upN_n (show i ≠ n + 1 by omega)]
        by_cases e : i = n
        · rw [e, upN_e, t1]
          exact ⟨by omega, hP⟩
        · rw [upN_n (show i + 1 ≠ n + 1 by omega)]
          exact t2 i (by omega)
      · rw [upN_n (show i ≠ n + 1 by omega)] at h1
        by_cases e : i = n
        · rw [e, t1] at h1
          rw [e, upN_e] at h2
          omega
        · rw [upN_n (show i + 1 ≠ n + 1 by omega)] at h2
          exact t3 i c (by omega) h1 h2
      · rw [upN_n (by omega)] at hc
        exact t4 c hc
      · rw [u2_n (by decide), u2_e, upN_n (show i ≠ n + 1 by omega)]
        by_cases e : i = n
        · rw [e, upd_e, t1]
        · rw [upd_n e]
          exact h249 i (by omega)
      · rw [u2_n (fun e => hq (by rw [e]; simp)), u2_n (fun e => hq (by rw [e]; simp))]
        exact hE q hq
      · rw [u2_e, upd_n hi, u2_n (by decide)]
        exact ho i hi
      · rw [u2_n (by decide), u2_n (by decide)]
        exact h242 c hc
