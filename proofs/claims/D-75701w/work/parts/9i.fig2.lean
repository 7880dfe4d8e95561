/-! figure: sums over edges, the class's chain -/
set_option maxRecDepth 100000
def sI (f : Nat → Int) : Nat → Int
  | 0 => 0
  | n + 1 => sI f n + f n
theorem sI_c {f g : Nat → Int} : ∀ n, (∀ i, i < n → f i = g i) → sI f n = sI g n
  | 0, _ => rfl
  | n + 1, h => by
    show sI f n + f n = sI g n + g n
    rw [sI_c n (fun i hi => h i (by omega)), h n (by omega)]
theorem sI_add {f g : Nat → Int} : ∀ n, sI (fun i => f i + g i) n = sI f n + sI g n
  | 0 => rfl
  | n + 1 => by
    show sI (fun i => f i + g i) n + (f n + g n) = sI f n + f n + (sI g n + g n)
    rw [sI_add n]
    omega
theorem sI_1 {f : Nat → Int} {v : Nat} : ∀ n, (∀ i, i < n → i ≠ v → f i = 0) → sI f n = if v < n then f v else 0
  | 0, _ => rfl
  | n + 1, h => by
    show sI f n + f n = _
    rw [sI_1 n (fun i hi => h i (by omega))]
    by_cases c : v < n
    · rw [if_pos c, if_pos (by omega), h n (by omega) (by omega), Int.add_zero]
    · rw [if_neg c]
      by_cases e : v = n
      · rw [if_pos (by omega), e, Int.zero_add]
      · rw [if_neg (by omega), h n (by omega) (by omega), Int.zero_add]
theorem sI_0 {f : Nat → Int} : ∀ n, (∀ i, i < n → f i = 0) → sI f n = 0
  | 0, _ => rfl
  | n + 1, h => by
    show sI f n + f n = 0
    rw [sI_0 n (fun i hi => h i (by omega)), h n (by omega), Int.zero_add]
noncomputable def eU (P : Nat → Bool) (p q : Nat) : Bool := bo (P p = true ∧ P q = true ∧ EU P p q)
noncomputable def eD (P : Nat → Bool) (p q : Nat) : Bool := bo (P p = true ∧ P q = true ∧ ED P p q)
noncomputable def oU (P : Nat → Bool) (p : Nat) : Int := sI (fun q => if eU P p q = true then crs p q else 0) 48
noncomputable def oD (P : Nat → Bool) (p : Nat) : Int := sI (fun q => if eD P p q = true then crs p q else 0) 48
noncomputable def uU (P : Nat → Bool) (p : Nat) : Bool := bo (∃ q, q < 48 ∧ eU P p q = true)
noncomputable def uD (P : Nat → Bool) (p : Nat) : Bool := bo (∃ q, q < 48 ∧ eD P p q = true)
noncomputable def SU (P : Nat → Bool) (v : Nat) : Int := sI (fun p => if p < v then oU P p else 0) 48
noncomputable def SD (P : Nat → Bool) (v : Nat) : Int := sI (fun p => if v < p then oD P p else 0) 48
noncomputable def NU (P : Nat → Bool) (v : Nat) : Nat := cnt (fun p => decide (p < v) && uU P p) 48
noncomputable def ND (P : Nat → Bool) (v : Nat) : Nat := cnt (fun p => decide (v < p) && uD P p) 48
noncomputable def tot (P : Nat → Bool) : Int := sI (fun p => oU P p + oD P p) 48
section
variable {P : Nat → Bool} {v w : Nat}
theorem oU_0 {p : Nat} (h : ∀ q, q < 48 → eU P p q = false) : oU P p = 0 := sI_0 48 (fun q hq => by rw [h q hq]; rfl)
theorem oD_0 {p : Nat} (h : ∀ q, q < 48 → eD P p q = false) : oD P p = 0 := sI_0 48 (fun q hq => by rw [h q hq]; rfl)
theorem uU_f {p : Nat} (h : ∀ q, q < 48 → eU P p q = false) : uU P p = false := bo_f (fun ⟨q, h1, h2⟩ => by rw [h q h1] at h2; cases h2)
theorem uD_f {p : Nat} (h : ∀ q, q < 48 → eD P p q = false) : uD P p = false := bo_f (fun ⟨q, h1, h2⟩ => by rw [h q h1] at h2; cases h2)
theorem eU_cov (h : EU P v w) (Pv : P v = true) (Pw : P w = true) (hw : w < 48) {p q : Nat} (hq : q < 48) (hv : v ≤ p) (hp : p < w) (hn : ¬ (p = v ∧ q = w)) : eU P p q = false :=
  bo_f (fun ⟨a, b, c⟩ => hn (EU_cov h c Pv Pw a b hw hq hv hp))
theorem eD_cov (h : ED P v w) (Pv : P v = true) (Pw : P w = true) (hv8 : v < 48) {p q : Nat} (hp8 : p < 48) (hv : p ≤ v) (hp : w < p) (hn : ¬ (p = v ∧ q = w)) : eD P p q = false :=
  bo_f (fun ⟨a, b, c⟩ => hn (ED_cov h c Pv Pw a b hv8 hp8 hv hp))
theorem oU_e (h : EU P v w) (Pv : P v = true) (Pw : P w = true) (hw : w < 48) : oU P v = crs v w := by
  have l := h.1
  have e : eU P v w = true := bo_t ⟨Pv, Pw, h⟩
  unfold oU
  rw [sI_1 (v := w) 48 (fun q hq hn => by rw [eU_cov h Pv Pw hw hq (Nat.le_refl _) l (fun e => hn e.2)]; rfl), if_pos hw, if_pos e]
theorem oD_e (h : ED P v w) (Pv : P v = true) (Pw : P w = true) (hv : v < 48) : oD P v = crs v w := by
  have l := h.1
  have e : eD P v w = true := bo_t ⟨Pv, Pw, h⟩
  unfold oD
  rw [sI_1 (v := w) 48 (fun q hq hn => by rw [eD_cov h Pv Pw hv hv (Nat.le_refl _) l (fun e => hn e.2)]; rfl), if_pos (by omega), if_pos e]
theorem SU_s (h : EU P v w) (Pv : P v = true) (Pw : P w = true) (hw : w < 48) : SU P w = SU P v + crs v w := by
  have l := h.1
  unfold SU
  have e : sI (fun p => if p = v then crs v w else 0) 48 = crs v w := by
    rw [sI_1 (v := v) 48 (fun i _ hn => if_neg hn), if_pos (by omega), if_pos rfl]
  rw [← e, ← sI_add]
  refine sI_c 48 (fun p hp => ?_)
  by_cases c1 : p < v
  · rw [if_pos (show p < w by omega), if_pos c1, if_neg (show ¬ p = v by omega), Int.add_zero]
  · rw [if_neg c1, Int.zero_add]
    by_cases c2 : p = v
    · rw [if_pos c2, if_pos (show p < w by omega), c2]
      exact oU_e h Pv Pw hw
    · rw [if_neg c2]
      by_cases c3 : p < w
      · rw [if_pos c3]
        exact oU_0 (fun q hq => eU_cov h Pv Pw hw hq (by omega) c3 (fun e => c2 e.1))
      · rw [if_neg c3]
theorem SD_s (h : ED P v w) (Pv : P v = true) (Pw : P w = true) (hv : v < 48) : SD P w = SD P v + crs v w := by
  have l := h.1
  unfold SD
  have e : sI (fun p => if p = v then crs v w else 0) 48 = crs v w := by
    rw [sI_1 (v := v) 48 (fun i _ hn => if_neg hn), if_pos (by omega), if_pos rfl]
  rw [← e, ← sI_add]
  refine sI_c 48 (fun p hp => ?_)
  by_cases c1 : v < p
  · rw [if_pos (show w < p by omega), if_pos c1, if_neg (show ¬ p = v by omega), Int.add_zero]
  · rw [if_neg c1, Int.zero_add]
    by_cases c2 : p = v
    · rw [if_pos c2, if_pos (show w < p by omega), c2]
      exact oD_e h Pv Pw hv
    · rw [if_neg c2]
      by_cases c3 : w < p
      · rw [if_pos c3]
        exact oD_0 (fun q hq => eD_cov h Pv Pw hv hp (by omega) c3 (fun e => c2 e.1))
      · rw [if_neg c3]
theorem cnt_1 {v : Nat} : ∀ n, cnt (fun p => decide (p = v)) n = if v < n then 1 else 0
  | 0 => rfl
  | n + 1 => by
    by_cases c : n = v
    · rw [cnt_st (P := fun p => decide (p = v)) (n := n) (decide_eq_true c), cnt_1 n, if_neg (by omega), if_pos (by omega)]
    · rw [cnt_sf (P := fun p => decide (p = v)) (n := n) (decide_eq_false c), cnt_1 n]
      by_cases c2 : v < n
      · rw [if_pos c2, if_pos (by omega)]
      · rw [if_neg c2, if_neg (by omega)]
theorem NU_s (h : EU P v w) (Pv : P v = true) (Pw : P w = true) (hw : w < 48) : NU P w = NU P v + 1 := by
  have l := h.1
  have e := cnt_1 (v := v) 48
  rw [if_pos (by omega)] at e
  unfold NU
  rw [← e]
  refine cnt_or 48 (fun p hp => ⟨?_, ?_⟩)
  · simp only [Bool.and_eq_true, decide_eq_true_eq]
    constructor
    · rintro ⟨h1, h2⟩
      by_cases c1 : p < v
      · exact Or.inl ⟨c1, h2⟩
      · by_cases c2 : p = v
        · exact Or.inr c2
        · rw [uU_f (fun q hq => eU_cov h Pv Pw hw hq (by omega) h1 (fun e => c2 e.1))] at h2
          cases h2
    · rintro (⟨h1, h2⟩ | h1)
      · exact ⟨by omega, h2⟩
      · rw [h1]
        exact ⟨l, bo_t ⟨w, hw, bo_t ⟨Pv, Pw, h⟩⟩⟩
  · simp only [Bool.and_eq_true, decide_eq_true_eq]
    rintro ⟨⟨h1, _⟩, h2⟩
    omega
theorem ND_s (h : ED P v w) (Pv : P v = true) (Pw : P w = true) (hv : v < 48) : ND P w = ND P v + 1 := by
  have l := h.1
  have e := cnt_1 (v := v) 48
  rw [if_pos (by omega)] at e
  unfold ND
  rw [← e]
  refine cnt_or 48 (fun p hp => ⟨?_, ?_⟩)
  · simp only [Bool.and_eq_true, decide_eq_true_eq]
    constructor
    · rintro ⟨h1, h2⟩
      by_cases c1 : v < p
      · exact Or.inl ⟨c1, h2⟩
      · by_cases c2 : p = v
        · exact Or.inr c2
        · rw [uD_f (fun q hq => eD_cov h Pv Pw hv hp (by omega) h1 (fun e => c2 e.1))] at h2
          cases h2
    · rintro (⟨h1, h2⟩ | h1)
      · exact ⟨by omega, h2⟩
      · rw [h1]
        exact ⟨l, bo_t ⟨w, by omega, bo_t ⟨Pv, Pw, h⟩⟩⟩
  · simp only [Bool.and_eq_true, decide_eq_true_eq]
    rintro ⟨⟨h1, _⟩, h2⟩
    omega
theorem NU_lt (hv : v < 48) : NU P v < 48 := cnt_lt 48 ⟨v, hv, by rw [decide_eq_false (Nat.lt_irrefl v)]; rfl⟩
theorem ND_lt (h : ED P v w) (Pw : P w = true) (Pv : P v = true) (hv : v < 48) : NU P 48 + ND P v < 48 := by
  have l := h.1
  unfold NU ND
  have nu : ∀ p, p < 48 → uD P p = true → uU P p = false := fun p hp hd => by
    obtain ⟨q, q1, q2⟩ := bo_i.mp hd
    obtain ⟨a1, a2, a3⟩ := bo_i.mp q2
    refine bo_f (fun ⟨q', b1, b2⟩ => ?_)
    obtain ⟨c1, c2, c3⟩ := bo_i.mp b2
    exact EU_ED c3 a3 c2 a2 b1 hp
  have vd : uD P v = true := bo_t ⟨w, by omega, bo_t ⟨Pv, Pw, h⟩⟩
  rw [← cnt_or (D := fun p => (decide (p < 48) && uU P p) || (decide (v < p) && uD P p)) 48 (fun p hp => ⟨by simp only [Bool.or_eq_true], ?_⟩)]
  · refine cnt_lt 48 ⟨v, hv, ?_⟩
    rw [nu v hv vd, decide_eq_false (Nat.lt_irrefl v), Bool.and_false, Bool.false_and]
    rfl
  · simp only [Bool.and_eq_true, decide_eq_true_eq]
    rintro ⟨⟨_, h1⟩, _, h2⟩
    rw [nu p hp h2] at h1
    cases h1
/-- at the last one -/
theorem at_last (hv : v < 48) (hn : ∀ s, v < s → s < 48 → P s = false) : SU P v = SU P 48 ∧ NU P v = NU P 48 ∧ SD P v = 0 ∧ ND P v = 0 := by
  have nu : ∀ p q, p < 48 → q < 48 → v ≤ p → eU P p q = false := fun p q hp hq hvp => bo_f (fun ⟨_, b, c⟩ => by
    have := c.1
    rw [hn q (by omega) hq] at b
    cases b)
  have nd : ∀ p q, p < 48 → q < 48 → v < p → eD P p q = false := fun p q hp hq hvp => bo_f (fun ⟨a, _, _⟩ => by
    rw [hn p hvp hp] at a
    cases a)
  refine ⟨sI_c 48 (fun p hp => ?_), cnt_c 48 (fun p hp => ?_), sI_0 48 (fun p hp => ?_), cnt_z 48 (fun p hp => ?_)⟩
  · rw [if_pos hp]
    by_cases c : p < v
    · rw [if_pos c]
    · rw [if_neg c, oU_0 (fun q hq => nu p q hp hq (by omega))]
  · rw [decide_eq_true hp]
    by_cases c : p < v
    · rw [decide_eq_true c]
    · rw [decide_eq_false c, uU_f (fun q hq => nu p q hp hq (by omega))]
      rfl
  · by_cases c : v < p
    · rw [if_pos c, oD_0 (fun q hq => nd p q hp hq c)]
    · rw [if_neg c]
  · by_cases c : v < p
    · rw [uD_f (fun q hq => nd p q hp hq c), Bool.and_false]
    · rw [decide_eq_false c]
      rfl
/-- at the first one -/
theorem at_first (hv : v < 48) (hn : ∀ s, s < v → P s = false) : SU P v = 0 ∧ NU P v = 0 ∧ tot P = SU P 48 + SD P v := by
  have nu : ∀ p q, p < v → eU P p q = false := fun p q hp => bo_f (fun ⟨a, _, _⟩ => by
    rw [hn p hp] at a
    cases a)
  have nd : ∀ p q, p ≤ v → eD P p q = false := fun p q hp => bo_f (fun ⟨_, b, c⟩ => by
    have := c.1
    rw [hn q (by omega)] at b
    cases b)
  refine ⟨sI_0 48 (fun p hp => ?_), cnt_z 48 (fun p hp => ?_), ?_⟩
  · by_cases c : p < v
    · rw [if_pos c, oU_0 (fun q hq => nu p q c)]
    · rw [if_neg c]
  · by_cases c : p < v
    · rw [uU_f (fun q hq => nu p q c), Bool.and_false]
    · rw [decide_eq_false c]
      rfl
  · unfold tot SU SD
    rw [← sI_add]
    refine sI_c 48 (fun p hp => ?_)
    rw [if_pos hp]
    by_cases c : v < p
    · rw [if_pos c]
    · rw [if_neg c, oD_0 (fun q hq => nd p q (by omega))]
end
theorem cnt_mono {P : Nat → Bool} {n : Nat} : ∀ d, cnt P n ≤ cnt P (n + d)
  | 0 => Nat.le_refl _
  | d + 1 => by
    have := cnt_mono (P := P) (n := n) d
    cases h : P (n + d) with
    | true =>
      rw [← Nat.add_assoc, cnt_st h]
      omega
    | false =>
      rw [← Nat.add_assoc, cnt_sf h]
      exact this
theorem cnt_3 {P : Nat → Bool} {a b c n : Nat} (h1 : a < b) (h2 : b < c) (h3 : c < n) (Pa : P a = true) (Pb : P b = true) (Pc : P c = true) : 3 ≤ cnt P n := by
  have e1 := cnt_st Pa
  have e2 := cnt_st Pb
  have e3 := cnt_st Pc
  have m1 := cnt_mono (P := P) (n := a + 1) (b - (a + 1))
  have m2 := cnt_mono (P := P) (n := b + 1) (c - (b + 1))
  have m3 := cnt_mono (P := P) (n := c + 1) (n - (c + 1))
  rw [show a + 1 + (b - (a + 1)) = b by omega] at m1
  rw [show b + 1 + (c - (b + 1)) = c by omega] at m2
  rw [show c + 1 + (n - (c + 1)) = n by omega] at m3
  omega
theorem crs_y (p q : Nat) : crs p q + crs q p = 0 ∧ crs p p = 0 := by
  unfold crs
  constructor <;> grind
/-- fewer than three: nothing -/
theorem tot_2 {P : Nat → Bool} {f : Nat} (hf : f < 48) (Pf : P f = true) (hn : ∀ s, s < f → P s = false) (h : cnt P 48 < 3) : tot P = 0 := by
  obtain ⟨a1, a2, a3⟩ := at_first hf hn
  rw [a3]
  by_cases c : ∃ b, b < 48 ∧ f < b ∧ P b = true
  · obtain ⟨b, hb, hfb, Pb⟩ := c
    have two : ∀ r, r < 48 → P r = true → r = f ∨ r = b := fun r hr Pr => by
      by_cases e1 : r < f
      · rw [hn r e1] at Pr
        cases Pr
      · by_cases e2 : r = f
        · exact Or.inl e2
        · by_cases e3 : r = b
          · exact Or.inr e3
          · by_cases e4 : r < b
            · have := cnt_3 (show f < r by omega) e4 hb Pf Pr Pb
              omega
            · have := cnt_3 hfb (show b < r by omega) hr Pf Pb Pr
              omega
    have E1 : EU P f b := ⟨hfb, fun r hr Pr => by
      rcases two r hr Pr with e | e
      · subst e
        exact ⟨fun x => by omega, fun x => by omega⟩
      · subst e
        exact ⟨fun x => by omega, fun x => ⟨Nat.le_refl _, fun _ => Nat.le_refl _⟩⟩⟩
    have E2 : ED P b f := ⟨hfb, fun r hr Pr => by
      rcases two r hr Pr with e | e
      · subst e
        exact ⟨fun x => by omega, fun x => ⟨Nat.le_refl _, fun _ => Nat.le_refl _⟩⟩
      · subst e
        exact ⟨fun x => by omega, fun x => by omega⟩⟩
    have hl := at_last (P := P) hb (fun s h1 h2 => by
      cases e : P s with
      | false => rfl
      | true =>
        have := two s h2 e
        omega)
    have s1 := SU_s E1 Pf Pb hb
    have s2 := SD_s E2 Pb Pf hb
    have := (crs_y f b).1
    omega
  · have hl := at_last (P := P) hf (fun s h1 h2 => by
      cases e : P s with
      | false => rfl
      | true => exact absurd ⟨s, h2, h1, e⟩ c)
    omega
