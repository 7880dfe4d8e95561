/-! places that hang together: the plain law -/
set_option maxRecDepth 100000
theorem nb_sym_t : ∀ p : Fin 48, ∀ w : Fin 4, ∀ q : Fin 48, nb p.val w.val = some q.val → nb q.val (swy w.val) = some p.val := by decide +kernel
theorem nb_sym {p w q : Nat} (hp : p < 48) (hw : w < 4) (h : nb p w = some q) : nb q (swy w) = some p := nb_sym_t ⟨p, hp⟩ ⟨w, hw⟩ ⟨q, nb_lt hp hw h⟩ h
/-- to hang together -/
def Cn (P : Nat → Bool) (p q : Nat) : Prop := ∀ T : Nat → Prop, (∀ a b w, a < 48 → w < 4 → nb a w = some b → P a = true → P b = true → T a → T b) → T p → T q
theorem Cn_r (P : Nat → Bool) (p : Nat) : Cn P p p := fun _ _ h => h
theorem Cn_t {P : Nat → Bool} {p q r : Nat} (h1 : Cn P p q) (h2 : Cn P q r) : Cn P p r := fun T hT h => h2 T hT (h1 T hT h)
theorem Cn_1 {P : Nat → Bool} {a b w : Nat} (ha : a < 48) (hw : w < 4) (hn : nb a w = some b) (pa : P a = true) (pb : P b = true) : Cn P a b := fun T hT h => hT a b w ha hw hn pa pb h
theorem Cn_y {P : Nat → Bool} {p q : Nat} (h : Cn P p q) : Cn P q p := by
  refine h (fun x => Cn P x p) (fun a b w ha hw hn pa pb ht => ?_) (Cn_r P p)
  exact Cn_t (Cn_1 (nb_lt ha hw hn) (swy_lt hw) (nb_sym ha hw hn) pb pa) ht
theorem Cn_P {P : Nat → Bool} {p q : Nat} (h : Cn P p q) (hp : P p = true) : P q = true := h (fun x => P x = true) (fun _ _ _ _ _ _ _ pb _ => pb) hp
theorem Cn_lt {P : Nat → Bool} {p q : Nat} (h : Cn P p q) (hp : p < 48) : q < 48 := h (fun x => x < 48) (fun _ _ _ ha hw hn _ _ _ => nb_lt ha hw hn) hp
/-- the least place of its group -/
def root (P : Nat → Bool) (p : Nat) : Prop := P p = true ∧ ∀ q, Cn P p q → p ≤ q
noncomputable def csz (P : Nat → Bool) (p : Nat) : Nat := cnt (fun q => bo (Cn P p q)) 48
noncomputable def gN (P : Nat → Bool) (n : Nat) : Nat := cnt (fun p => bo (root P p)) n
noncomputable def rsz (P : Nat → Bool) (p : Nat) : Nat := if bo (root P p) = true then csz P p else 0
noncomputable def gL (P : Nat → Bool) : Nat → Nat
  | 0 => 0
  | n + 1 => max (gL P n) (rsz P n)
theorem gL_s (P : Nat → Bool) (n : Nat) : gL P (n + 1) = max (gL P n) (rsz P n) := rfl
theorem rsz_t {P : Nat → Bool} {p : Nat} (h : root P p) : rsz P p = csz P p := by
  unfold rsz
  rw [if_pos (bo_t h)]
theorem rsz_f {P : Nat → Bool} {p : Nat} (h : ¬ root P p) : rsz P p = 0 := by
  unfold rsz
  rw [bo_f h]
  rfl
theorem rsz_le (P : Nat → Bool) (p : Nat) : rsz P p ≤ 48 := by
  unfold rsz
  split
  · exact cnt_le _ _
  · omega
theorem gL_le (P : Nat → Bool) : ∀ n, gL P n ≤ 48
  | 0 => Nat.zero_le _
  | n + 1 => by
    have := gL_le P n
    have := rsz_le P n
    rw [gL_s]
    omega
theorem csz_pos {P : Nat → Bool} {p : Nat} (hp : p < 48) : 0 < csz P p := cnt_pos 48 ⟨p, hp, bo_t (Cn_r P p)⟩
theorem Cn_c {P Q : Nat → Bool} (h : ∀ p, p < 48 → P p = Q p) {p q : Nat} (hc : Cn P p q) : Cn Q p q := fun T hT ht => hc T (fun a b w ha hw hn pa pb h9 => hT a b w ha hw hn (by rw [← h a ha]; exact pa) (by rw [← h b (nb_lt ha hw hn)]; exact pb) h9) ht
/-- labels that fit: each marked place has the least of its group -/
def LBs (P : Nat → Bool) (G : Nat → Nat) : Prop := ∀ p, p < 48 → G p < 48 ∧ (P p = false → G p = p) ∧ (P p = true → Cn P p (G p) ∧ ∀ q, Cn P p q → G p ≤ q ∧ G q = G p)
theorem LBs_size {P : Nat → Bool} {G : Nat → Nat} (H : LBs P G) {g : Nat} (hg : g < 48) : cnt (fun p => P p && decide (G p = g)) 48 = rsz P g := by
  by_cases hr : root P g
  · rw [rsz_t hr]
    unfold csz
    refine cnt_c 48 (fun p hp => ?_)
    have hgg : G g = g := by
      have h1 := (H g hg).2.2 hr.1
      have h2 := h1.2 g (Cn_r P g)
      have h3 := hr.2 _ h1.1
      omega
    cases hP : P p with
    | false =>
      rw [bo_f (fun hc => by rw [Cn_P hc hr.1] at hP; cases hP)]
      rfl
    | true =>
      by_cases e : G p = g
      · have h1 := ((H p hp).2.2 hP).1
        rw [e] at h1
        rw [decide_eq_true e, bo_t (Cn_y h1)]
        rfl
      · rw [decide_eq_false e, bo_f (fun hc => e (by rw [(((H g hg).2.2 hr.1).2 p hc).2, hgg]))]
        rfl
  · rw [rsz_f hr]
    refine cnt_z 48 (fun p hp => ?_)
    cases hP : P p with
    | false => rfl
    | true =>
      show decide (G p = g) = false
      refine decide_eq_false (fun e => hr ?_)
      have h1 := (H p hp).2.2 hP
      rw [e] at h1
      refine ⟨Cn_P h1.1 hP, fun q hq => ?_⟩
      exact (h1.2 q (Cn_t h1.1 hq)).1
/-- counting -/
theorem cnt_or {A B D : Nat → Bool} : ∀ n, (∀ i, i < n → (D i = true ↔ A i = true ∨ B i = true) ∧ ¬ (A i = true ∧ B i = true)) → cnt D n = cnt A n + cnt B n
  | 0, _ => rfl
  | n + 1, h => by
    have ih := cnt_or n (fun i hi => h i (by omega))
    have h9 := h n (by omega)
    cases hA : A n with
    | true =>
      have hD : D n = true := h9.1.mpr (Or.inl hA)
      have hB : B n = false := by
        cases hB : B n with
        | false => rfl
        | true => exact absurd ⟨hA, hB⟩ h9.2
      rw [cnt_st hA, cnt_st hD, cnt_sf hB, ih]
      omega
    | false =>
      cases hB : B n with
      | true =>
        have hD : D n = true := h9.1.mpr (Or.inr hB)
        rw [cnt_sf hA, cnt_st hD, cnt_st hB, ih]
        omega
      | false =>
        have hD : D n = false := by
          cases hD : D n with
          | false => rfl
          | true =>
            rcases h9.1.mp hD with e | e
            · rw [hA] at e; cases e
            · rw [hB] at e; cases e
        rw [cnt_sf hA, cnt_sf hD, cnt_sf hB, ih]
theorem cnt_lt {D : Nat → Bool} : ∀ n, (∃ b, b < n ∧ D b = false) → cnt D n < n
  | 0, ⟨b, hb, _⟩ => absurd hb (Nat.not_lt_zero _)
  | n + 1, ⟨b, hb, h⟩ => by
    by_cases e : b = n
    · subst e
      have := cnt_le D b
      rw [cnt_sf h]
      omega
    · have ih := cnt_lt n ⟨b, by omega, h⟩
      cases hD : D n with
      | true => rw [cnt_st hD]; omega
      | false => rw [cnt_sf hD]; omega
def ubb (D : Nat → Bool) (b : Nat) : Nat → Bool := fun q => if q = b then true else D q
theorem ubb_e (D : Nat → Bool) (b : Nat) : ubb D b b = true := if_pos rfl
theorem ubb_n {D : Nat → Bool} {b q : Nat} (h : q ≠ b) : ubb D b q = D q := if_neg h
theorem cnt_ub {D : Nat → Bool} {b : Nat} (h : D b = false) : ∀ n, cnt (ubb D b) n = if b < n then cnt D n + 1 else cnt D n
  | 0 => rfl
  | n + 1 => by
    have ih := cnt_ub h n
    by_cases e : n = b
    · subst e
      rw [cnt_st (ubb_e D n), cnt_sf h, ih, if_neg (Nat.lt_irrefl _), if_pos (Nat.lt_succ_self _)]
    · have e9 : ubb D b n = D n := ubb_n e
      by_cases g : b < n
      · rw [if_pos g] at ih
        rw [if_pos (by omega)]
        cases hD : D n with
        | true => rw [cnt_st (e9.trans hD), cnt_st hD, ih]
        | false => rw [cnt_sf (e9.trans hD), cnt_sf hD, ih]
      · rw [if_neg g] at ih
        rw [if_neg (by omega)]
        cases hD : D n with
        | true => rw [cnt_st (e9.trans hD), cnt_st hD, ih]
        | false => rw [cnt_sf (e9.trans hD), cnt_sf hD, ih]
theorem pM_246 : ∀ k, k ∈ pM → k ∉ [246, 300] := by decide
theorem fM_47 : ∀ k, k ∈ fM → k ≠ 47 := by decide
theorem fM_48 : ∀ k, k ∈ fM → k ≠ 48 := by decide
theorem fM_52 : ∀ k, k ∈ fM → k ≠ 52 := by decide
theorem fM_53 : ∀ k, k ∈ fM → k ≠ 53 := by decide
theorem R_q {ρ : Type} {M : Option ρ} {Q : ρ → Prop} (h : ∀ Q', Q' = Q → R M Q') : R M Q := h Q rfl
def smN (f : Nat → Nat) : Nat → Nat
  | 0 => 0
  | n + 1 => smN f n + f n
theorem smN_s (f : Nat → Nat) (n : Nat) : smN f (n + 1) = smN f n + f n := rfl
def upN (f : Nat → Nat) (i v : Nat) : Nat → Nat := fun q => if q = i then v else f q
theorem upN_e (f : Nat → Nat) (i v : Nat) : upN f i v i = v := if_pos rfl
theorem upN_n {f : Nat → Nat} {i v q : Nat} (h : q ≠ i) : upN f i v q = f q := if_neg h
theorem smN_up {f : Nat → Nat} {i v : Nat} : ∀ n, (i < n → smN (upN f i v) n + f i = smN f n + v) ∧ (n ≤ i → smN (upN f i v) n = smN f n)
  | 0 => ⟨fun h => by omega, fun _ => rfl⟩
  | n + 1 => by
    have ih := smN_up (f := f) (i := i) (v := v) n
    rw [smN_s, smN_s]
    by_cases e : n = i
    · subst e
      have := ih.2 (Nat.le_refl _)
      rw [upN_e]
      exact ⟨fun _ => by omega, fun h => by omega⟩
    · rw [upN_n e]
      refine ⟨fun h => ?_, fun h => ?_⟩
      · have := ih.1 (by omega)
        omega
      · have := ih.2 (by omega)
        omega
