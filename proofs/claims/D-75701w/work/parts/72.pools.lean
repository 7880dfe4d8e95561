/-! pools -/
set_option maxRecDepth 100000
def rim (p : Nat) : Bool := decide (p % 8 = 0 ∨ p % 8 = 7 ∨ p / 8 = 0 ∨ p / 8 = 5)
theorem rim_t : ∀ p : Fin 48, mX0_isRim (nI p.val) = some (bI (rim p.val)) ∧ mX5_isRim (nI p.val) = some (bI (rim p.val)) := by decide +kernel
theorem rim_n : ∀ p : Fin 48, ∀ w : Fin 4, rim p.val = false → nb p.val w.val = some ((nb p.val w.val).getD 0) := by decide +kernel
/-- water runs off from a place at a level -/
def Es (f : Nat → Nat) (v p : Nat) : Prop := ∀ T : Nat → Prop, (∀ a, a < 48 → rim a = true → f a < v → T a) → (∀ a b w, a < 48 → w < 4 → nb a w = some b → f b < v → T a → T b) → T p
theorem Es_r {f : Nat → Nat} {v a : Nat} (ha : a < 48) (hr : rim a = true) (hf : f a < v) : Es f v a := fun _ h1 _ => h1 a ha hr hf
theorem Es_s {f : Nat → Nat} {v a b w : Nat} (ha : a < 48) (hw : w < 4) (hn : nb a w = some b) (hf : f b < v) (h : Es f v a) : Es f v b := fun T h1 h2 => h2 a b w ha hw hn hf (h T h1 h2)
theorem Es_26 {f : Nat → Nat} (hb : ∀ q, q < 48 → f q ≤ 25) : ∀ n p, p < 48 → p % 8 = n → Es f 26 p
  | 0, p, hp, h => Es_r hp (decide_eq_true (Or.inl h)) (by have := hb p hp; omega)
  | n + 1, p, hp, h => by
    have ih := Es_26 hb n (p - 1) (by omega) (by omega)
    refine Es_s (a := p - 1) (w := 1) (by omega) (by decide) ?_ (by have := hb p hp; omega) ih
    unfold nb
    rw [if_neg (by decide), if_pos rfl, if_neg (by omega)]
    congr 1
    omega
def LVf (f lev : Nat → Nat) : Prop := ∀ p, p < 48 → (rim p = true → lev p = f p) ∧ f p ≤ lev p ∧ (lev p ≤ 25 ∨ lev p = 268435456) ∧ ∀ v, v ≤ 26 → lev p < v → Es f v p
def LVx (f lev : Nat → Nat) : Prop := ∀ p, p < 48 → lev p ≤ 25 ∧ f p ≤ lev p ∧ ∀ v, v ≤ 26 → (Es f v p ↔ lev p < v)
theorem LV_end {f lev : Nat → Nat} (hb : ∀ q, q < 48 → f q ≤ 25) (H : LVf f lev) (hF : ∀ p, p < 48 → rim p = false → ∀ w q, w < 4 → nb p w = some q → lev p ≤ max (f p) (lev q)) : LVx f lev := by
  have key : ∀ v p, p < 48 → Es f v p → lev p < v := fun v p hp hE => by
    have := hE (fun x => x < 48 ∧ lev x < v) (fun a ha hr hf => ⟨ha, by rw [(H a ha).1 hr]; exact hf⟩) (fun a b w ha hw hn hf ht => by
      have hb' := nb_lt ha hw hn
      refine ⟨hb', ?_⟩
      cases hr : rim b with
      | true => rw [(H b hb').1 hr]; exact hf
      | false =>
        have := hF b hb' hr (swy w) a (swy_lt hw) (nb_sym ha hw hn)
        have := ht.2
        omega)
    exact this.2
  intro p hp
  have h26 := key 26 p hp (Es_26 hb _ p hp rfl)
  exact ⟨by omega, (H p hp).2.1, fun v hv => ⟨key v p hp, (H p hp).2.2.2 v hv⟩⟩
def lvS (lev : Nat → Nat) : Nat := smN (fun p => min (lev p) 26) 48
theorem smN_c {f g : Nat → Nat} : ∀ n, (∀ i, i < n → f i = g i) → smN f n = smN g n
  | 0, _ => rfl
  | n + 1, h => by rw [smN_s, smN_s, smN_c n (fun i hi => h i (by omega)), h n (by omega)]
theorem smN_le {f : Nat → Nat} {B : Nat} (h : ∀ i, f i ≤ B) : ∀ n, smN f n ≤ B * n
  | 0 => Nat.le_refl _
  | n + 1 => by
    have := smN_le h n
    have := h n
    rw [smN_s, Nat.mul_add]
    omega
theorem lvS_up {lev : Nat → Nat} {p v : Nat} (hp : p < 48) (h1 : v ≤ 25) (h2 : v < lev p) : lvS (upN lev p v) < lvS lev := by
  unfold lvS
  have e : smN (fun q => min (upN lev p v q) 26) 48 = smN (upN (fun q => min (lev q) 26) p v) 48 := smN_c 48 (fun i _ => by
    by_cases e : i = p
    · show min (upN lev p v i) 26 = upN (fun q => min (lev q) 26) p v i
      rw [e, upN_e, upN_e]
      omega
    · show min (upN lev p v i) 26 = upN (fun q => min (lev q) 26) p v i
      rw [upN_n e, upN_n e])
  rw [e]
  have := (smN_up (f := fun q => min (lev q) 26) (i := p) (v := v) 48).1 hp
  omega
theorem LVf_up {f lev : Nat → Nat} (hb : ∀ q, q < 48 → f q ≤ 25) (H : LVf f lev) {p w q : Nat} (hp : p < 48) (hr : rim p = false) (hw : w < 4) (hn : nb p w = some q) (hl : max (f p) (lev q) < lev p) : LVf f (upN lev p (max (f p) (lev q))) ∧ max (f p) (lev q) ≤ 25 := by
  have hq := nb_lt hp hw hn
  have hlp := (H p hp).2.2.1
  have hlq := (H q hq).2.2.1
  have hfp := hb p hp
  have h25 : max (f p) (lev q) ≤ 25 := by omega
  refine ⟨fun a ha => ?_, h25⟩
  by_cases e : a = p
  · rw [e, upN_e]
    refine ⟨(fun h9 => by rw [hr] at h9; cases h9), by omega, Or.inl h25, fun v hv hlt => ?_⟩
    exact Es_s hq (swy_lt hw) (nb_sym hp hw hn) (by omega) ((H q hq).2.2.2 v hv (by omega))
  · rw [upN_n e]
    exact H a ha
theorem X_levels {h : Hp} {U L : Nat → Nat} (H : HX 40 h U L) {c : Nat} (hc : c < 2) : R (mX0_laysLevels (42 + c) h) (fun g => Ex [20] h g ∧ ∃ lev, LVx (hts U L c) lev ∧ ∀ p, p < 48 → g 20 p = nI (lev p)) := by
  have hb := hts_b (HU_of H) c
  have hh := fun q (hq : q < 48) => X_hts H hc hq
  generalize hts U L c = f at hb hh
  have hf : ∀ g, Ex [20] h g → ∀ q, q < 48 → g (42 + c) q = nI (f q) := fun g hE q hq => by
    have : 42 + c ∉ [20] := by simp; omega
    rw [hE _ this]
    exact hh q hq
  unfold mX0_laysLevels
  generalize hFF : (268435456 : Int32) = FF
  simp only [nm_q]
  subst hFF
  refine R_q ?_
  intro Q hQ
  refine fx_R2 48 (fun j x g => x = nI j ∧ Ex [20] h g ∧ ∀ p, p < j → g 20 p = nI (if rim p = true then f p else 268435456)) (by decide) ⟨rfl, Ex_r _ _, fun p hp => by omega⟩ ?_
  rintro j x g k hj ⟨rfl, hE, hz⟩ hk
  by_cases hj8 : j = 48
  · subst hj8
    rw [if_pos (show (48 : Int32) ≤ nI 48 by decide)]
    clear hk k
    have hs0 : lvS (fun p => if rim p = true then f p else 268435456) ≤ 1248 := smN_le (B := 26) (fun i => by omega) 48
    refine fx_R2 1249 (fun j mv g => ∃ lev, Ex [20] h g ∧ (∀ p, p < 48 → g 20 p = nI (lev p)) ∧ LVf f lev ∧ ((mv = 1 ∧ j + lvS lev ≤ 1248) ∨ (mv = 0 ∧ ∀ p, p < 48 → rim p = false → ∀ w q, w < 4 → nb p w = some q → lev p ≤ max (f p) (lev q)))) (by decide) ⟨fun p => if rim p = true then f p else 268435456, hE, hz, fun p hp => ?_, Or.inl ⟨rfl, by omega⟩⟩ ?_
    · have := hb p hp
      show (rim p = true → (if rim p = true then f p else 268435456) = f p) ∧ f p ≤ (if rim p = true then f p else 268435456) ∧ ((if rim p = true then f p else 268435456) ≤ 25 ∨ (if rim p = true then f p else 268435456) = 268435456) ∧ ∀ v, v ≤ 26 → (if rim p = true then f p else 268435456) < v → Es f v p
      cases hr : rim p with
      | true =>
        rw [if_pos rfl]
        exact ⟨fun _ => rfl, Nat.le_refl _, Or.inl this, fun v hv hl => Es_r hp hr hl⟩
      | false =>
        rw [if_neg Bool.false_ne_true]
        exact ⟨(fun h9 => by cases h9), by omega, Or.inr rfl, fun v hv hl => by omega⟩
    clear hE hz hs0
    rintro j mv g k hj ⟨lev, hE, hG, hL, hcs⟩ hk
    rcases hcs with ⟨rfl, hS⟩ | ⟨rfl, hF⟩
    · rw [i10]
      refine fx_R3 48 (fun i mv x g => x = nI i ∧ ∃ lv', Ex [20] h g ∧ (∀ p, p < 48 → g 20 p = nI (lv' p)) ∧ LVf f lv' ∧ ((mv = 1 ∧ lvS lv' < lvS lev) ∨ (mv = 0 ∧ lvS lv' = lvS lev ∧ ∀ p, p < i → rim p = false → ∀ w q, w < 4 → nb p w = some q → lv' p ≤ max (f p) (lv' q)))) (by decide) ⟨rfl, lev, hE, hG, hL, Or.inr ⟨rfl, rfl, fun p hp => by omega⟩⟩ ?_
      clear hE hG
      rintro i mv x g k2 hi ⟨rfl, lv', hE, hG, hL', hcs⟩ hk2
      by_cases hi8 : i = 48
      · subst hi8
        rw [if_pos (show (48 : Int32) ≤ nI 48 by decide)]
        rcases hcs with ⟨rfl, hlt⟩ | ⟨rfl, _, hF⟩
        · exact hk (j + 1) _ _ (by omega) (by omega) ⟨lv', hE, hG, hL', Or.inl ⟨rfl, by omega⟩⟩
        · exact hk (j + 1) _ _ (by omega) (by omega) ⟨lv', hE, hG, hL', Or.inr ⟨rfl, hF⟩⟩
      · have hi' : i < 48 := by omega
        rw [if_neg (nl48 hi')]
        refine fx_R3 4 (fun w mv x g => x = nI w ∧ (0 < w → rim i = false) ∧ ∃ lv', Ex [20] h g ∧ (∀ p, p < 48 → g 20 p = nI (lv' p)) ∧ LVf f lv' ∧ ((mv = 1 ∧ lvS lv' < lvS lev) ∨ (mv = 0 ∧ lvS lv' = lvS lev ∧ (∀ p, p < i → rim p = false → ∀ w q, w < 4 → nb p w = some q → lv' p ≤ max (f p) (lv' q)) ∧ ∀ u q, u < w → nb i u = some q → lv' i ≤ max (f i) (lv' q)))) (by decide) ⟨rfl, fun h9 => by omega, lv', hE, hG, hL', ?_⟩ ?_
        · rcases hcs with h9 | ⟨e1, e2, e3⟩
          · exact Or.inl h9
          · exact Or.inr ⟨e1, e2, e3, fun u q hu => by omega⟩
        clear hE hG hL' hcs lv'
        rintro w mv x g k3 hw ⟨rfl, hrw, lv', hE, hG, hL', hcs⟩ hk3
        have out : (rim i = false → w = 4) → R (k2 mv (nI (i + 1)) g) Q := fun hs => by
          refine hk2 (i + 1) _ _ _ (by omega) (by omega) ⟨rfl, lv', hE, hG, hL', ?_⟩
          rcases hcs with h9 | ⟨e1, e2, e3, e4⟩
          · exact Or.inl h9
          · refine Or.inr ⟨e1, e2, fun p hp hr u q hu hn => ?_⟩
            by_cases e : p = i
            · subst e
              have := hs hr
              subst this
              exact e4 u q hu hn
            · exact e3 p (by omega) hr u q hu hn
        by_cases hw4 : w = 4
        · rw [hw4, if_pos (show (4 : Int32) ≤ nI 4 by decide), nI_1]
          exact out (fun _ => hw4)
        · have hw' : w < 4 := by omega
          rw [if_neg (nl4 hw'), (rim_t ⟨i, hi'⟩).1, cl1_s]
          cases hr : rim i with
          | true =>
            rw [bI_t, i10, nI_1]
            exact out (fun h9 => by rw [hr] at h9; cases h9)
          | false =>
            have hn : nb i w = some ((nb i w).getD 0) := rim_n ⟨i, hi'⟩ ⟨w, hw'⟩ hr
            generalize (nb i w).getD 0 = q at hn
            have hq := nb_lt hi' hw' hn
            have l1 := (hL' i hi').2.2.1
            have l2 := (hL' q hq).2.2.1
            have b1 := hb i hi'
            rw [bI_f, i00, ck_s hi' (by decide), X_beside hi' hw', hn, cl1_s, show on1 (some q) = nI q from rfl, ck_s hq (by decide), ck_s hi' (by decide), ck_s hi' (by decide), nI_clamp (by omega), nI_clamp (by omega), hf g hE i hi', hG q hq, hG i hi', jmax_s (by omega) (by omega), nI_1]
            by_cases hlt : max (f i) (lv' q) < lv' i
            · rw [if_pos (nI_lt hlt (by omega))]
              obtain ⟨hL2, h25⟩ := LVf_up hb hL' hi' hr hw' hn hlt
              have hsm := lvS_up hi' h25 hlt
              refine hk3 (w + 1) _ _ _ (by omega) (by omega) ⟨rfl, fun _ => hr, upN lv' i (max (f i) (lv' q)), fun q hq => (Ex_u2 _ _ _ _ q hq).trans (hE q hq), fun p hp => ?_, hL2, Or.inl ⟨rfl, ?_⟩⟩
              · rw [u2_e]
                by_cases e : p = i
                · rw [e, upd_e, upN_e]
                · rw [upd_n e, upN_n e]
                  exact hG p hp
              · rcases hcs with ⟨_, h9⟩ | ⟨_, h9, _⟩ <;> omega
            · rw [if_neg (nI_nlt (by omega) (by omega))]
              refine hk3 (w + 1) _ _ _ (by omega) (by omega) ⟨rfl, fun _ => hr, lv', hE, hG, hL', ?_⟩
              rcases hcs with h9 | ⟨e1, e2, e3, e4⟩
              · exact Or.inl h9
              · refine Or.inr ⟨e1, e2, e3, fun u q' hu hn' => ?_⟩
                by_cases e : u = w
                · rw [e, hn] at hn'
                  cases hn'
                  omega
                · exact e4 u q' (by omega) hn'
    · rw [i00]
      rw [hQ]; exact R_some ⟨hE, lev, LV_end hb hL hF, hG⟩
  · have hj' : j < 48 := by omega
    have ext : ∀ v, v = nI (if rim j = true then f j else 268435456) → R (k (nI (j + 1)) (u2 g 20 j v)) Q := fun v hv => by
      refine hk (j + 1) _ _ (by omega) (by omega) ⟨rfl, fun q hq => (Ex_u2 _ _ _ _ q hq).trans (hE q hq), fun p hp => ?_⟩
      rw [u2_e]
      by_cases e : p = j
      · rw [e, upd_e, hv]
      · rw [upd_n e]
        exact hz p (by omega)
    rw [if_neg (nl48 hj'), (rim_t ⟨j, hj'⟩).1, cl1_s, ck_s hj' (by decide), nI_clamp (by omega), hf g hE j hj', nI_1]
    cases hr : rim j with
    | true =>
      rw [bI_t, i10]
      rw [hr, if_pos rfl] at ext
      rw [ck_s hj' (by decide), ck_s hj' (by decide)]
      exact ext _ rfl
    | false =>
      rw [bI_f, i00]
      rw [hr, if_neg Bool.false_ne_true] at ext
      exact ext _ rfl
def plS (f lev : Nat → Nat) (n : Nat) : Nat := smN (fun p => lev p - f p) n
def plC (f lev : Nat → Nat) (n : Nat) : Nat := cnt (fun p => decide (f p < lev p)) n
def plP (f lev : Nat → Nat) (w : Nat) : Int32 := if w = 0 then nI (plS f lev 48) else nI (plC f lev 48)
theorem X_pools {h : Hp} {U L : Nat → Nat} (H : HX 40 h U L) {c w : Nat} (hc : c < 2) (hw : w < 2) : R (mX0_pools h (nI c) (nI w)) (fun r => ∃ lev, LVx (hts U L c) lev ∧ r.1 = plP (hts U L c) lev w ∧ SX h r.2) := by
  have hb := hts_b (HU_of H) c
  have hh := fun q (hq : q < 48) => X_hts H hc hq
  unfold mX0_pools
  rw [X_isCast, nR_s hc (by omega), cl1_s, X_in _ 2 2 (by decide), nR_s hw (by omega)]
  simp only [nm_q, cl1_q, bI_t, i10_q]
  rw [ck_s hc (by decide), nI_clamp (by omega)]
  refine R_c1 (X_levels H hc) ?_
  rintro g ⟨hE, lev, hL, hG⟩
  generalize hts U L c = f at hb hh hL
  have hf : ∀ q, q < 48 → g (42 + c) q = nI (f q) := fun q hq => by
    have : 42 + c ∉ [20] := by simp; omega
    rw [hE _ this]
    exact hh q hq
  refine fx_R2 48 (fun j n x => x = nI j ∧ n = if w = 0 then nI (plS f lev j) else nI (plC f lev j)) (by decide) ⟨rfl, by split <;> rfl⟩ ?_
  rintro j n x k hj ⟨rfl, rfl⟩ hk
  by_cases hj8 : j = 48
  · subst hj8
    rw [if_pos (show (48 : Int32) ≤ nI 48 by decide)]
    exact R_some ⟨lev, hL, rfl, SX_e hE (by decide)⟩
  · have hj' : j < 48 := by omega
    have hl := hL j hj'
    have hbj := hb j hj'
    rw [if_neg (nl48 hj'), ck_s hj' (by decide), ck_s hc (by decide), ck_s hj' (by decide), nI_clamp (by omega), hG j hj', hf j hj', nI_subn hl.2.1, nI_1]
    rcases nI2 hw with e | e
    · subst e
      rw [if_pos rfl, if_pos (show nI 0 = (0 : Int32) from rfl), nI_add]
      exact hk (j + 1) _ _ (by omega) (by omega) ⟨rfl, by rw [if_pos rfl]; rfl⟩
    · subst e
      rw [if_neg (show ¬ nI 1 = (0 : Int32) by decide), if_neg (show ¬ (1 = 0) by decide)]
      by_cases g9 : f j < lev j
      · rw [if_neg (nI_nle (by omega) (by omega)), nI_1]
        exact hk (j + 1) _ _ (by omega) (by omega) ⟨rfl, by rw [if_neg (by decide)]; unfold plC; rw [cnt_st (P := fun p => decide (f p < lev p)) (decide_eq_true g9)]⟩
      · rw [show lev j - f j = 0 by omega, if_pos (show nI 0 ≤ (0 : Int32) by decide), Int32.add_zero]
        exact hk (j + 1) _ _ (by omega) (by omega) ⟨rfl, by rw [if_neg (by decide)]; unfold plC; rw [cnt_sf (P := fun p => decide (f p < lev p)) (decide_eq_false g9)]⟩
theorem M_stays {g : Hp} {P : Nat → Bool} {G : Nat → Nat} (hP : ∀ q, q < 48 → g 245 q = bI (P q)) (hG : ∀ q, q < 48 → g 246 q = nI (G q)) (hB : LBs P G) {p : Nat} (hp : p < 48) (hPp : P p = true) : R (mX5_staysIn g (nI (G p))) (fun r => r = bI (bo (∀ q, Cn P p q → rim q = false))) := by
  unfold mX5_staysIn
  simp only [nm_q]
  refine fx_R1 48 (fun j x => x = nI j ∧ ∀ q, q < j → Cn P p q → rim q = false) (by decide) ⟨rfl, fun q hq => by omega⟩ ?_
  rintro j x k hj ⟨rfl, hI⟩ hk
  by_cases hj8 : j = 48
  · subst hj8
    rw [if_pos (show (48 : Int32) ≤ nI 48 by decide), bz_1, bo_t (fun q hq => hI q (Cn_lt hq hp) hq)]
    exact R_some rfl
  · have hj' : j < 48 := by omega
    have g1 := (hB j hj').1
    have g2 := (hB p hp).1
    rw [if_neg (nl48 hj'), ck_s hj' (by decide), ck_s hj' (by decide), nI_clamp (by omega), hP j hj', hG j hj', (rim_t ⟨j, hj'⟩).2, cl1_s, nI_1]
    have same : (Cn P p j → rim j = false) → R (k (nI (j + 1))) (fun r => r = bI (bo (∀ q, Cn P p q → rim q = false))) := fun hs => by
      refine hk (j + 1) _ (by omega) (by omega) ⟨rfl, fun q hq hc => ?_⟩
      by_cases e : q = j
      · rw [e] at hc ⊢
        exact hs hc
      · exact hI q (by omega) hc
    cases hPj : P j with
    | false =>
      rw [bI_f, i00]
      exact same (fun hc => by rw [Cn_P hc hPp] at hPj; cases hPj)
    | true =>
      rw [bI_t, i10]
      by_cases e : G j = G p
      · have hcj : Cn P p j := by
          have h1 := ((hB p hp).2.2 hPp).1
          have h2 := ((hB j hj').2.2 hPj).1
          rw [e] at h2
          exact Cn_t h1 (Cn_y h2)
        rw [if_pos (by rw [e])]
        cases hr : rim j with
        | true =>
          rw [bI_t, i10, bz_0, bo_f (fun h9 => by rw [h9 j hcj] at hr; cases hr)]
          exact R_some rfl
        | false =>
          rw [bI_f, i00]
          exact same (fun _ => hr)
      · rw [if_neg (fun e9 => e ((nI_eq (by omega) (by omega)).mp e9))]
        refine same (fun hc => ?_)
        exact absurd (((hB p hp).2.2 hPp).2 j hc).2 e
theorem Es_Cn {f : Nat → Nat} {v p : Nat} (hp : p < 48) (hf : f p < v) : Es f v p ↔ ∃ q, Cn (fun x => decide (f x < v)) p q ∧ rim q = true := by
  constructor
  · intro h
    have h9 := h (fun x => x < 48 ∧ f x < v ∧ ∃ q, Cn (fun x => decide (f x < v)) x q ∧ rim q = true) (fun a ha hr hfa => ⟨ha, hfa, a, Cn_r _ a, hr⟩) (fun a b w ha hw hn hfb ht => by
      obtain ⟨_, hfa, q, hq, hr⟩ := ht
      have hb := nb_lt ha hw hn
      exact ⟨hb, hfb, q, Cn_t (Cn_1 (P := fun x => decide (f x < v)) hb (swy_lt hw) (nb_sym ha hw hn) (decide_eq_true hfb) (decide_eq_true hfa)) hq, hr⟩)
    exact h9.2.2
  · rintro ⟨q, hc, hr⟩
    have hq := Cn_lt hc hp
    have hfq : f q < v := of_decide_eq_true (Cn_P (P := fun x => decide (f x < v)) hc (decide_eq_true hf))
    have hc' := Cn_y hc
    exact hc' (fun x => Es f v x) (fun a b w ha hw hn pa pb ht => Es_s ha hw hn (of_decide_eq_true pb) ht) (Es_r hq hr hfq)
theorem plM_s {f lev : Nat → Nat} {v : Nat} : ∀ n, smN (fun p => min (v + 1) (lev p) - f p) n = smN (fun p => min v (lev p) - f p) n + cnt (fun p => decide (f p < v + 1 ∧ v + 1 ≤ lev p)) n
  | 0 => rfl
  | n + 1 => by
    have ih := plM_s (f := f) (lev := lev) (v := v) n
    rw [smN_s, smN_s, ih]
    by_cases c : f n < v + 1 ∧ v + 1 ≤ lev n
    · rw [cnt_st (P := fun p => decide (f p < v + 1 ∧ v + 1 ≤ lev p)) (decide_eq_true c)]
      omega
    · rw [cnt_sf (P := fun p => decide (f p < v + 1 ∧ v + 1 ≤ lev p)) (decide_eq_false c)]
      omega
theorem plC_s {f lev : Nat → Nat} {v : Nat} : ∀ n, cnt (fun p => decide (f p < min (v + 1) (lev p))) n = cnt (fun p => decide (f p < min v (lev p))) n + cnt (fun p => decide (f p = v ∧ v + 1 ≤ lev p)) n
  | 0 => rfl
  | n + 1 => by
    have ih := plC_s (f := f) (lev := lev) (v := v) n
    by_cases c : f n = v ∧ v + 1 ≤ lev n
    · rw [cnt_st (P := fun p => decide (f p < min (v + 1) (lev p))) (decide_eq_true (by omega)), cnt_sf (P := fun p => decide (f p < min v (lev p))) (decide_eq_false (by omega)), cnt_st (P := fun p => decide (f p = v ∧ v + 1 ≤ lev p)) (decide_eq_true c), ih]
      omega
    · rw [cnt_sf (P := fun p => decide (f p = v ∧ v + 1 ≤ lev p)) (decide_eq_false c)]
      by_cases d : f n < min v (lev n)
      · rw [cnt_st (P := fun p => decide (f p < min (v + 1) (lev p))) (decide_eq_true (by omega)), cnt_st (P := fun p => decide (f p < min v (lev p))) (decide_eq_true d), ih]
        omega
      · rw [cnt_sf (P := fun p => decide (f p < min (v + 1) (lev p))) (decide_eq_false (by omega)), cnt_sf (P := fun p => decide (f p < min v (lev p))) (decide_eq_false d), ih]
theorem M_pools {h : Hp} {U L : Nat → Nat} (H : HM h U L) {c w : Nat} (hc : c < 2) (hw : w < 2) {lev : Nat → Nat} (hL : LVx (hts U L c) lev) : R (mX5_pools h (nI c) (nI w)) (fun r => r.1 = plP (hts U L c) lev w ∧ SM h r.2) := by
  have hb := hts_b (HV_of H) c
  have hh : ∀ g, g 200 = h 200 → ∀ q, q < 48 → mX5_highOf g (nI c) (nI q) = some (nI (hts U L c q)) := fun g e q hq => M_hts (HM_c e H) hc hq
  generalize hts U L c = f at hb hh hL
  have hnE : ∀ (g : Hp), SM h g → g 200 = h 200 := fun g hs => hs.1 200 (by decide)
  unfold mX5_pools
  rw [M_isCast, nR_s hc (by omega), cl1_s, M_wi _ 1 2 (by decide), nR_s hw (by omega)]
  simp only [nm_q, cl1_q, bI_t, i10_q]
  refine R_q ?_
  intro Q hQ
  refine fx_R4 25 (fun j a b x g => x = nI (j + 1) ∧ a = nI (smN (fun p => min j (lev p) - f p) 48) ∧ b = nI (cnt (fun p => decide (f p < min j (lev p))) 48) ∧ SM h g) (by decide) ⟨rfl, ?_, ?_, SM_r h⟩ ?_
  · rw [smN_c (g := fun _ => 0) 48 (fun i _ => by show min 0 (lev i) - f i = 0; omega)]
    decide
  · rw [cnt_z 48 (fun i _ => decide_eq_false (by omega))]
    rfl
  rintro v a b x g k hv ⟨rfl, rfl, rfl, hS⟩ hk
  by_cases hv25 : v = 25
  · subst hv25
    rw [if_pos (show (25 : Int32) < nI (25 + 1) by decide)]
    have e1 : smN (fun p => min 25 (lev p) - f p) 48 = plS f lev 48 := smN_c 48 (fun i hi => by
      have := (hL i hi).1
      show min 25 (lev i) - f i = lev i - f i
      omega)
    have e2 : cnt (fun p => decide (f p < min 25 (lev p))) 48 = plC f lev 48 := cnt_c 48 (fun i hi => by
      have := (hL i hi).1
      show decide (f i < min 25 (lev i)) = decide (f i < lev i)
      rw [Nat.min_eq_right this])
    rw [e1, e2]
    rcases nI2 hw with e | e
    · subst e
      rw [if_pos (show nI 0 = (0 : Int32) from rfl)]
      rw [hQ]; exact R_some ⟨rfl, hS⟩
    · subst e
      rw [if_neg (show ¬ nI 1 = (0 : Int32) by decide)]
      rw [hQ]; exact R_some ⟨rfl, hS⟩
  · have hv' : v < 25 := by omega
    rw [if_neg (l_ngt (N := 25) (c := 25) rfl (by omega) (by decide))]
    refine fx_R2 48 (fun j x g' => x = nI j ∧ Ex [245] g g' ∧ ∀ q, q < j → g' 245 q = bI (decide (f q < v + 1))) (by decide) ⟨rfl, Ex_r _ _, fun q hq => by omega⟩ ?_
    rintro j x g' k2 hj ⟨rfl, hE, hI⟩ hk2
    by_cases hj8 : j = 48
    · subst hj8
      rw [if_pos (show (48 : Int32) ≤ nI 48 by decide)]
      clear hk2 k2
      refine R_c1 (M_gathers (P := fun q => decide (f q < v + 1)) hI) ?_
      rintro g2 ⟨G, hB, hG, _, _, hE2, ho⟩
      have hS2 : SM h g2 := SM_t hS (SM_t (SM_e hE (by decide)) ⟨fun k hk => hE2 k (pM_246 k hk), fun i hi => ho i (fM_47 i hi) (fM_48 i hi)⟩)
      have hI2 : ∀ q, q < 48 → g2 245 q = bI (decide (f q < v + 1)) := fun q hq => by
        rw [hE2 245 (by decide)]
        exact hI q hq
      refine fx_R3 48 (fun j a b x => x = nI j ∧ a = nI (smN (fun p => min v (lev p) - f p) 48 + cnt (fun p => decide (f p < v + 1 ∧ v + 1 ≤ lev p)) j) ∧ b = nI (cnt (fun p => decide (f p < min v (lev p))) 48 + cnt (fun p => decide (f p = v ∧ v + 1 ≤ lev p)) j)) (by decide) ⟨rfl, rfl, rfl⟩ ?_
      rintro j a b x k2 hj ⟨rfl, rfl, rfl⟩ hk2
      by_cases hj8 : j = 48
      · subst hj8
        rw [if_pos (show (48 : Int32) ≤ nI 48 by decide), nI_1]
        exact hk (v + 1) _ _ _ _ (by omega) (by omega) ⟨rfl, by rw [plM_s], by rw [plC_s], hS2⟩
      · have hj' : j < 48 := by omega
        have hbj := hb j hj'
        have hl := hL j hj'
        rw [if_neg (nl48 hj'), ck_s hj' (by decide), ck_s hj' (by decide), nI_clamp (by omega), hI2 j hj', hG j hj', nI_1]
        by_cases c1 : f j < v + 1
        · obtain ⟨r, e, hr⟩ := M_stays hI2 hG hB hj' (decide_eq_true c1)
          have hiff : (∀ q, Cn (fun q => decide (f q < v + 1)) j q → rim q = false) ↔ v + 1 ≤ lev j := by
            have h1 := Es_Cn (f := f) (v := v + 1) hj' c1
            have h2 := hl.2.2 (v + 1) (by omega)
            constructor
            · intro h9
              by_cases c : v + 1 ≤ lev j
              · exact c
              · exfalso
                obtain ⟨q, hq, hr⟩ := h1.mp (h2.mpr (by omega))
                rw [h9 q hq] at hr
                cases hr
            · intro h9 q hq
              cases hr : rim q with
              | false => rfl
              | true =>
                have := h2.mp (h1.mpr ⟨q, hq, hr⟩)
                omega
          rw [decide_eq_true c1, bI_t, i10, e, cl1_s, hr]
          by_cases c2 : v + 1 ≤ lev j
          · rw [bo_t (hiff.mpr c2), bI_t, i10, hh g2 (hnE g2 hS2) j hj', cl1_s, nI_1, show nI (v + 1) - 1 = nI v from nI_pred v]
            have e1 := cnt_st (P := fun p => decide (f p < v + 1 ∧ v + 1 ≤ lev p)) (n := j) (decide_eq_true ⟨c1, c2⟩)
            by_cases c3 : f j = v
            · rw [if_pos (by rw [c3]), nI_1]
              have e2 := cnt_st (P := fun p => decide (f p = v ∧ v + 1 ≤ lev p)) (n := j) (decide_eq_true ⟨c3, c2⟩)
              exact hk2 (j + 1) _ _ _ (by omega) (by omega) ⟨rfl, by rw [e1]; rfl, by rw [e2]; rfl⟩
            · rw [if_neg (fun e9 => c3 ((nI_eq (by omega) (by omega)).mp e9))]
              have e2 := cnt_sf (P := fun p => decide (f p = v ∧ v + 1 ≤ lev p)) (n := j) (decide_eq_false (fun h9 => c3 h9.1))
              exact hk2 (j + 1) _ _ _ (by omega) (by omega) ⟨rfl, by rw [e1]; rfl, by rw [e2]⟩
          · rw [bo_f (fun h9 => c2 (hiff.mp h9)), bI_f, i00]
            have e1 := cnt_sf (P := fun p => decide (f p < v + 1 ∧ v + 1 ≤ lev p)) (n := j) (decide_eq_false (fun h9 => c2 h9.2))
            have e2 := cnt_sf (P := fun p => decide (f p = v ∧ v + 1 ≤ lev p)) (n := j) (decide_eq_false (fun h9 => c2 h9.2))
            exact hk2 (j + 1) _ _ _ (by omega) (by omega) ⟨rfl, by rw [e1], by rw [e2]⟩
        · rw [decide_eq_false c1, bI_f, i00]
          have e1 := cnt_sf (P := fun p => decide (f p < v + 1 ∧ v + 1 ≤ lev p)) (n := j) (decide_eq_false (fun h9 => c1 h9.1))
          have e2 := cnt_sf (P := fun p => decide (f p = v ∧ v + 1 ≤ lev p)) (n := j) (decide_eq_false (fun h9 => by omega))
          exact hk2 (j + 1) _ _ _ (by omega) (by omega) ⟨rfl, by rw [e1], by rw [e2]⟩
    · have hj' : j < 48 := by omega
      have hbj := hb j hj'
      have e2 : g' 200 = h 200 := by
        rw [hE 200 (by decide)]
        exact hnE g hS
      have ext : ∀ b, b = decide (f j < v + 1) → R (k2 (nI (j + 1)) (u2 g' 245 j (bI b))) Q := fun b hbb => by
        refine hk2 (j + 1) _ _ (by omega) (by omega) ⟨rfl, fun q hq => (Ex_u2 _ _ _ _ q hq).trans (hE q hq), fun p hp => ?_⟩
        rw [u2_e]
        by_cases e : p = j
        · rw [e, upd_e, hbb]
        · rw [upd_n e]
          exact hI p (by omega)
      rw [if_neg (nl48 hj'), hh g' e2 j hj', cl1_s, nar_0, nar_1, nI_1]
      by_cases c1 : f j < v + 1
      · rw [if_neg (nI_ge c1 (by omega)), ck_s hj' (by decide), nI_clamp (by omega)]
        exact ext true (decide_eq_true c1).symm
      · rw [if_pos (nI_le (by omega) (by omega)), ck_s hj' (by decide), nI_clamp (by omega)]
        exact ext false (decide_eq_false c1).symm
theorem st_pools (LW : LWt) : St_pools (II LW) := by
  intro tt hx hm a0 a1 H
  obtain ⟨U, L, HU, HL⟩ := BM_HX H.1
  cases h1 : nR a0 2 with
  | false =>
    unfold mX0_pools mX5_pools
    rw [X_isCast, M_isCast, h1]
    exact ⟨-1, hx, hm, rfl, rfl, H⟩
  | true =>
    cases h2 : nR a1 2 with
    | false =>
      unfold mX0_pools mX5_pools
      rw [X_isCast, M_isCast, h1, X_in a1 2 2 (by decide), M_wi a1 1 2 (by decide), h2]
      exact ⟨-1, hx, hm, rfl, rfl, H⟩
    | true =>
      obtain ⟨c, hc, _, e⟩ := nR_of h1
      obtain ⟨w, hw, _, e2⟩ := nR_of h2
      subst e e2
      obtain ⟨⟨r, x⟩, p1, lev, q1, q2, q3⟩ := X_pools HU hc hw
      obtain ⟨⟨r', y⟩, p2, q4, q5⟩ := M_pools HL hc hw q1
      have e1 : r = plP (hts U L c) lev w := q2
      have e2 : r' = plP (hts U L c) lev w := q4
      subst e1 e2
      exact ⟨_, x, y, p1, p2, II_same q3 q5 H⟩
