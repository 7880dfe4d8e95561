/-! climb -/
set_option maxRecDepth 100000
/-- the highest climb from a place, by the ways below w; C is the climb of the places beside -/
def clw (f : Nat → Nat) (C : Nat → Nat) (p : Nat) : Nat → Nat
  | 0 => 0
  | w + 1 => match nb p w with
    | none => clw f C p w
    | some q => if f p < f q then max (clw f C p w) (C q) else clw f C p w
def clf (f : Nat → Nat) : Nat → Nat → Nat
  | 0, _ => 0
  | n + 1, p => clw f (clf f n) p 4 + 1
/-- climbs that fit: each is one more than the highest of a higher place beside -/
theorem clw_c {f C C' : Nat → Nat} {p : Nat} : ∀ w, w ≤ 4 → (∀ v q, v < 4 → nb p v = some q → f p < f q → C q = C' q) → clw f C p w = clw f C' p w
  | 0, _, _ => rfl
  | w + 1, hw, h => by
    have ih := clw_c w (by omega) h
    rw [clw, clw]
    cases hn : nb p w with
    | none => exact ih
    | some q =>
      show (if f p < f q then max (clw f C p w) (C q) else clw f C p w) = if f p < f q then max (clw f C' p w) (C' q) else clw f C' p w
      by_cases g : f p < f q
      · rw [if_pos g, if_pos g, ih, h w q (by omega) hn g]
      · rw [if_neg g, if_neg g, ih]
theorem clf_st {f : Nat → Nat} (hb : ∀ q, q < 48 → f q ≤ 25) : ∀ n m p, p < 48 → 26 ≤ n + f p → 26 ≤ m + f p → clf f n p = clf f m p
  | 0, m, p, hp, h1, _ => by have := hb p hp; omega
  | n + 1, 0, p, hp, _, h2 => by have := hb p hp; omega
  | n + 1, m + 1, p, hp, h1, h2 => by
    show clw f (clf f n) p 4 + 1 = clw f (clf f m) p 4 + 1
    rw [clw_c 4 (by omega) (fun v q hv hq hf => clf_st hb n m q (nb_lt hp hv hq) (by omega) (by omega))]
def cli (f : Nat → Nat) (p : Nat) : Nat := clf f 26 p
theorem cli_e {f : Nat → Nat} (hb : ∀ q, q < 48 → f q ≤ 25) {p : Nat} (hp : p < 48) : cli f p = clw f (cli f) p 4 + 1 := by
  unfold cli
  rw [clf_st hb 26 27 p hp (by omega) (by omega)]
  rfl
theorem clw_le {f C : Nat → Nat} {p B : Nat} (hB : ∀ v q, v < 4 → nb p v = some q → f p < f q → C q ≤ B) : ∀ w, w ≤ 4 → clw f C p w ≤ B
  | 0, _ => Nat.zero_le _
  | w + 1, hw => by
    have ih := clw_le hB w (by omega)
    rw [clw]
    cases hn : nb p w with
    | none => exact ih
    | some q =>
      show (if f p < f q then max (clw f C p w) (C q) else clw f C p w) ≤ B
      by_cases g : f p < f q
      · have := hB w q (by omega) hn g
        rw [if_pos g]
        omega
      · rw [if_neg g]
        exact ih
theorem clf_le {f : Nat → Nat} : ∀ n p, clf f n p ≤ n
  | 0, _ => Nat.le_refl _
  | n + 1, p => by
    have := clw_le (f := f) (C := clf f n) (p := p) (B := n) (fun v q _ _ _ => clf_le n q) 4 (by omega)
    show clw f (clf f n) p 4 + 1 ≤ n + 1
    omega
theorem cli_b {f : Nat → Nat} (hb : ∀ q, q < 48 → f q ≤ 25) {p : Nat} (hp : p < 48) : 1 ≤ cli f p ∧ cli f p ≤ 26 := by
  have h1 := cli_e hb hp
  have h2 := clf_le (f := f) 26 p
  unfold cli at *
  omega
/-- what is kept of climbs: nought or right -/
def CLs (f : Nat → Nat) (h : Hp) : Prop := ∀ p, p < 48 → h 19 p = 0 ∨ h 19 p = nI (cli f p)
theorem X_climbFrom {h0 : Hp} {U L : Nat → Nat} (H : HX 40 h0 U L) {c : Nat} (hc : c < 2) : ∀ d p h, p < 48 → 26 ≤ d + hts U L c p → Ex [19] h0 h → CLs (hts U L c) h → R (mX0_climbFrom d h (nI c) (nI p)) (fun r => r.1 = nI (cli (hts U L c) p) ∧ Ex [19] h0 r.2 ∧ CLs (hts U L c) r.2) := by
  have hb := hts_b (HU_of H) c
  have hh := fun q (hq : q < 48) => X_hts H hc hq
  generalize hts U L c = f at hb hh
  intro d
  induction d with
  | zero =>
    intro p h hp hd
    have := hb p hp
    omega
  | succ d ih =>
    intro p h hp hd hE hC
    have cb := cli_b hb hp
    unfold mX0_climbFrom
    rw [ck_s hp (by decide), nI_clamp (by omega), ck_s hp (by decide)]
    rcases hC p hp with e | e
    · rw [if_pos (by rw [e]; decide)]
      simp only [nm_q]
      refine fx_R3 4 (fun j m x g => x = nI j ∧ m = nI (clw f (cli f) p j + 1) ∧ Ex [19] h0 g ∧ CLs f g) (by decide) ⟨rfl, rfl, hE, hC⟩ ?_
      rintro j m x g k hj ⟨rfl, rfl, hEg, hCg⟩ hk
      by_cases hj4 : j = 4
      · subst hj4
        rw [if_pos (show (4 : Int32) ≤ nI 4 by decide), ck_s hp (by decide)]
        refine R_some ⟨by rw [cli_e hb hp], fun q hq => ?_, fun q hq => ?_⟩
        · exact (Ex_u2 _ _ _ _ q hq).trans (hEg q hq)
        · show u2 g 19 p _ 19 q = 0 ∨ u2 g 19 p _ 19 q = _
          rw [u2_e]
          by_cases e2 : q = p
          · rw [e2, upd_e, cli_e hb hp]
            exact Or.inr rfl
          · rw [upd_n e2]
            exact hCg q hq
      · have hj' : j < 4 := by omega
        rw [if_neg (nl4 hj'), X_beside hp hj', cl1_s, nI_1]
        cases hn : nb p j with
        | none =>
          rw [show on1 none = -1 from rfl, if_pos rfl]
          refine hk (j + 1) _ _ _ (by omega) (by omega) ⟨rfl, ?_, hEg, hCg⟩
          rw [clw, hn]
        | some q =>
          have hq := nb_lt hp hj' hn
          have e3 : ∀ q, q < 48 → g (42 + c) q = nI (f q) := fun q hq => by
            have : 42 + c ∉ [19] := by simp; omega
            rw [hEg _ this]
            exact hh q hq
          have b1 := hb p hp
          have b2 := hb q hq
          rw [show on1 (some q) = nI q from rfl, if_neg (ne_m1 (by omega)), ck_s hc (by decide), ck_s hq (by decide), ck_s hc (by decide), ck_s hp (by decide), nI_clamp (by omega), nI_clamp (by omega), e3 p hp, e3 q hq]
          have es : clw f (cli f) p (j + 1) = if f p < f q then max (clw f (cli f) p j) (cli f q) else clw f (cli f) p j := by rw [clw, hn]
          by_cases gg : f p < f q
          · rw [if_neg (nI_leN (by omega) (by omega) (by omega))]
            refine R_c2 (ih q g hq (by omega) hEg hCg) ?_
            rintro a b ⟨ea, h2, h3⟩
            have ea : a = nI (cli f q) := ea
            subst ea
            have cq := cli_b hb hq
            have cw := clw_le (f := f) (C := cli f) (p := p) (B := 26) (fun v q hv hq _ => (cli_b hb (nb_lt hp hv hq)).2) j (by omega)
            rw [show (1 : Int32) + nI (cli f q) = nI (1 + cli f q) from nI_add 1 _, jmax_s (by omega) (by omega)]
            refine hk (j + 1) _ _ _ (by omega) (by omega) ⟨rfl, ?_, h2, h3⟩
            rw [es, if_pos gg]
            congr 1
            omega
          · rw [if_pos (nI_le (by omega) (by omega))]
            refine hk (j + 1) _ _ _ (by omega) (by omega) ⟨rfl, ?_, hEg, hCg⟩
            rw [es, if_neg gg]
    · rw [if_neg (by rw [e]; exact nI_nle (by omega) (by omega))]
      exact R_some ⟨e, hE, hC⟩
def cbP (f : Nat → Nat) (w : Nat) : Int32 := if w = 0 then nI (cli f (amx (cli f) 47)) else nI (amx (cli f) 47)
theorem X_climb {h : Hp} {U L : Nat → Nat} (H : HX 40 h U L) {c w : Nat} (hc : c < 2) (hw : w < 2) : R (mX0_climb h (nI c) (nI w)) (fun r => r.1 = cbP (hts U L c) w ∧ SX h r.2) := by
  have key := X_climbFrom H hc 30
  have hb := hts_b (HU_of H) c
  generalize hts U L c = f at key hb
  unfold mX0_climb
  rw [X_isCast, nR_s hc (by omega), cl1_s, X_in _ 2 2 (by decide), nR_s hw (by omega)]
  simp only [nm_q, cl1_q, bI_t, i10_q]
  refine fx_R2 48 (fun j x g => x = nI j ∧ Ex [19] h g ∧ ∀ p, p < j → g 19 p = 0) (by decide) ⟨rfl, Ex_r _ _, fun p hp => by omega⟩ ?_
  rintro j x g k hj ⟨rfl, hE, hz⟩ hk
  by_cases hj8 : j = 48
  · subst hj8
    rw [if_pos (show (48 : Int32) ≤ nI 48 by decide)]
    clear hk k
    refine fx_R3 47 (fun j b x g => x = nI (j + 1) ∧ b = nI (amx (cli f) j) ∧ Ex [19] h g ∧ CLs f g) (by decide) ⟨rfl, rfl, hE, fun p hp => Or.inl (hz p hp)⟩ ?_
    rintro j b x g k hj ⟨rfl, rfl, hE, hC⟩ hk
    have ha := amx_le (cli f) j
    by_cases hj7 : j = 47
    · subst hj7
      rw [if_pos (show (48 : Int32) ≤ nI (47 + 1) by decide)]
      rcases nI2 hw with e | e
      · subst e
        rw [if_pos (show nI 0 = (0 : Int32) from rfl)]
        refine R_c2 (key _ g (by omega) (by omega) hE hC) ?_
        rintro a b ⟨h1, h2, _⟩
        exact R_some ⟨h1, SX_e h2 (by decide)⟩
      · subst e
        rw [if_neg (show ¬ nI 1 = (0 : Int32) by decide)]
        exact R_some ⟨rfl, SX_e hE (by decide)⟩
    · have hj' : j < 47 := by omega
      rw [if_neg (nl48 (by omega))]
      refine R_c2 (key (j + 1) g (by omega) (by omega) hE hC) ?_
      rintro r1 g1 ⟨e1, E1, C1⟩
      refine R_c2 (key _ g1 (show amx (cli f) j < 48 by omega) (by omega) E1 C1) ?_
      rintro r2 g2 ⟨e2, E2, C2⟩
      have e1 : r1 = nI (cli f (j + 1)) := e1
      have e2 : r2 = nI (cli f (amx (cli f) j)) := e2
      subst e1 e2
      have c1 := cli_b hb (show j + 1 < 48 by omega)
      have c2 := cli_b hb (show amx (cli f) j < 48 by omega)
      rw [nI_1]
      have es := amx_s (cli f) j
      by_cases gg : cli f (j + 1) ≤ cli f (amx (cli f) j)
      · rw [if_pos gg] at es
        rw [if_pos (nI_le gg (by omega))]
        exact hk (j + 1) _ _ _ (by omega) (by omega) ⟨rfl, by rw [es], E2, C2⟩
      · rw [if_neg gg] at es
        rw [if_neg (nI_leN (by omega) (by omega) gg)]
        exact hk (j + 1) _ _ _ (by omega) (by omega) ⟨rfl, by rw [es], E2, C2⟩
  · have hj' : j < 48 := by omega
    rw [if_neg (nl48 hj'), ck_s hj' (by decide), nI_clamp (by omega), nI_1]
    refine hk (j + 1) _ _ (by omega) (by omega) ⟨rfl, fun q hq => (Ex_u2 _ _ _ _ q hq).trans (hE q hq), fun p hp => ?_⟩
    rw [u2_e]
    by_cases e : p = j
    · rw [e, upd_e]
    · rw [upd_n e]
      exact hz p (by omega)
theorem M_climbFrom {h : Hp} {U L : Nat → Nat} (H : HM h U L) {c p : Nat} (hc : c < 2) (hp : p < 48) (hC : ∀ q, q < 48 → hts U L c p < hts U L c q → h 251 q = nI (cli (hts U L c) q)) : mX5_climbFrom h (nI c) (nI p) = some (nI (cli (hts U L c) p)) := by
  have hb := hts_b (HV_of H) c
  have hh := fun q (hq : q < 48) => M_hts H hc hq
  generalize hts U L c = f at hb hh hC
  have key : R (mX5_climbFrom h (nI c) (nI p)) (fun r => r = nI (cli f p)) := by
    unfold mX5_climbFrom
    simp only [nm_q]
    -- the ways come in another order: an upper bound that is reached
    refine fx_R2 4 (fun j m x => x = nI j ∧ ∃ v, m = nI v ∧ v ≤ clw f (cli f) p 4 ∧ ∀ i q, i < j → nb p (swy i) = some q → f p < f q → cli f q ≤ v) (by decide) ⟨rfl, 0, rfl, Nat.zero_le _, fun i q hi => by omega⟩ ?_
    rintro j m x k hj ⟨rfl, v, rfl, hv, hI⟩ hk
    have cw := clw_le (f := f) (C := cli f) (p := p) (B := 26) (fun v q hv hq _ => (cli_b hb (nb_lt hp hv hq)).2) 4 (by omega)
    by_cases hj4 : j = 4
    · subst hj4
      rw [if_pos (show (4 : Int32) ≤ nI 4 by decide), nI_1]
      have h2 := clw_le (f := f) (C := cli f) (p := p) (B := v) (fun w q hw hq hf => hI (swy w) q (swy_lt hw) (by rw [swy_2 hw]; exact hq) hf) 4 (by omega)
      refine R_some ?_
      rw [cli_e hb hp]
      congr 1
      omega
    · have hj' : j < 4 := by omega
      rw [if_neg (nl4 hj'), M_beside hp hj', cl1_s, nI_1]
      cases hn : nb p (swy j) with
      | none =>
        rw [show on1 none = -1 from rfl, if_pos rfl]
        refine hk (j + 1) _ _ (by omega) (by omega) ⟨rfl, v, rfl, hv, fun i q hi hq hf => ?_⟩
        by_cases e : i = j
        · rw [e, hn] at hq
          cases hq
        · exact hI i q (by omega) hq hf
      | some q =>
        have hq := nb_lt hp (swy_lt hj') hn
        have b1 := hb p hp
        have b2 := hb q hq
        rw [show on1 (some q) = nI q from rfl, if_neg (ne_m1 (by omega)), hh q hq, cl1_s, hh p hp, cl1_s]
        by_cases gg : f p < f q
        · have cq := cli_b hb hq
          rw [if_neg (nI_leN (by omega) (by omega) (by omega)), ck_s hq (by decide), nI_clamp (by omega), hC q hq gg, M_max (by omega) (by omega), cl1_s]
          have hup : cli f q ≤ clw f (cli f) p 4 := by
            have key : ∀ n, n ≤ 4 → swy j < n → cli f q ≤ clw f (cli f) p n := by
              intro n
              induction n with
              | zero => intro _ h; omega
              | succ n ihn =>
                intro hn1 hn2
                rw [clw]
                by_cases e : swy j = n
                · rw [← e, hn]
                  show _ ≤ if f p < f q then max (clw f (cli f) p (swy j)) (cli f q) else clw f (cli f) p (swy j)
                  rw [if_pos gg]
                  omega
                · have h9 := ihn (by omega) (by omega)
                  cases hn9 : nb p n with
                  | none => exact h9
                  | some q9 =>
                    show _ ≤ if f p < f q9 then max (clw f (cli f) p n) (cli f q9) else clw f (cli f) p n
                    split <;> omega
            exact key 4 (by omega) (swy_lt hj')
          refine hk (j + 1) _ _ (by omega) (by omega) ⟨rfl, max v (cli f q), rfl, by omega, fun i q' hi hq' hf => ?_⟩
          by_cases e : i = j
          · rw [e, hn] at hq'
            cases hq'
            omega
          · have := hI i q' (by omega) hq' hf
            omega
        · rw [if_pos (nI_le (by omega) (by omega))]
          refine hk (j + 1) _ _ (by omega) (by omega) ⟨rfl, v, rfl, hv, fun i q' hi hq' hf => ?_⟩
          by_cases e : i = j
          · rw [e, hn] at hq'
            cases hq'
            omega
          · exact hI i q' (by omega) hq' hf
  obtain ⟨r, e, hr⟩ := key
  rw [e, hr]
theorem M_climb {h : Hp} {U L : Nat → Nat} (H : HM h U L) {c w : Nat} (hc : c < 2) (hw : w < 2) : R (mX5_climb h (nI c) (nI w)) (fun r => r.1 = cbP (hts U L c) w ∧ SM h r.2) := by
  have hb := hts_b (HV_of H) c
  unfold mX5_climb
  rw [M_isCast, nR_s hc (by omega), cl1_s, M_wi _ 1 2 (by decide), nR_s hw (by omega)]
  simp only [nm_q, cl1_q, bI_t, i10_q]
  refine fx_R2 26 (fun j x g => x = iI (25 - (j : Int)) ∧ Ex [251] h g ∧ ∀ p, p < 48 → 25 < hts U L c p + j → g 251 p = nI (cli (hts U L c) p)) (by decide) ⟨rfl, Ex_r _ _, fun p hp h9 => by have := hb p hp; omega⟩ ?_
  rintro j x g k hj ⟨rfl, hE, hC⟩ hk
  by_cases hj6 : j = 26
  · subst hj6
    rw [if_pos (by decide)]
    clear hk k
    generalize hts U L c = f at hb hC
    have hC' : ∀ p, p < 48 → g 251 p = nI (cli f p) := fun p hp => hC p hp (by omega)
    refine fx_R2 47 (fun j b x => x = nI (j + 1) ∧ b = nI (amx (cli f) j)) (by decide) ⟨rfl, rfl⟩ ?_
    rintro j b x k hj ⟨rfl, rfl⟩ hk
    have ha := amx_le (cli f) j
    have c2 := cli_b hb (show amx (cli f) j < 48 by omega)
    by_cases hj7 : j = 47
    · subst hj7
      rw [if_pos (show (48 : Int32) ≤ nI (47 + 1) by decide), ck_s (show amx (cli f) 47 < 48 by omega) (by decide), nI_clamp (by omega), hC' _ (by omega)]
      rcases nI2 hw with e | e
      · subst e
        rw [if_pos (show nI 0 = (0 : Int32) from rfl)]
        exact R_some ⟨rfl, SM_e hE (by decide)⟩
      · subst e
        rw [if_neg (show ¬ nI 1 = (0 : Int32) by decide)]
        exact R_some ⟨rfl, SM_e hE (by decide)⟩
    · have hj' : j < 47 := by omega
      have c1 := cli_b hb (show j + 1 < 48 by omega)
      rw [if_neg (nl48 (by omega)), ck_s (show j + 1 < 48 by omega) (by decide), ck_s (show amx (cli f) j < 48 by omega) (by decide), nI_clamp (by omega), nI_clamp (by omega), hC' _ (by omega), hC' _ (by omega), nI_1]
      have es := amx_s (cli f) j
      by_cases gg : cli f (j + 1) ≤ cli f (amx (cli f) j)
      · rw [if_pos gg] at es
        rw [if_pos (nI_le gg (by omega))]
        exact hk (j + 1) _ _ (by omega) (by omega) ⟨rfl, by rw [es]⟩
      · rw [if_neg gg] at es
        rw [if_neg (nI_leN (by omega) (by omega) gg)]
        exact hk (j + 1) _ _ (by omega) (by omega) ⟨rfl, by rw [es]⟩
  · have hj' : j < 26 := by omega
    have ex : iI (25 - (j : Int)) = nI (25 - j) := by
      rw [iI_n]
      congr 1
      omega
    rw [ex, if_neg (nI_pos (by omega))]
    have ey : nI (25 - j) + (-1) = iI (25 - ((j + 1 : Nat) : Int)) := by
      rw [iI_n, show (-1 : Int32) = iI (-1) from rfl, iI_add]
      congr 1
      omega
    rw [ey]
    refine fx_R2 48 (fun i x g => x = nI i ∧ Ex [251] h g ∧ (∀ p, p < 48 → 25 < hts U L c p + j → g 251 p = nI (cli (hts U L c) p)) ∧ ∀ p, p < i → 25 < hts U L c p + (j + 1) → g 251 p = nI (cli (hts U L c) p)) (by decide) ⟨rfl, hE, hC, fun p hp => by omega⟩ ?_
    rintro i x g k2 hi ⟨rfl, hE, hC, hD⟩ hk2
    have Hg : HM g U L := Ex_HM hE (by decide) H
    by_cases hi8 : i = 48
    · subst hi8
      rw [if_pos (show (48 : Int32) ≤ nI 48 by decide)]
      exact hk (j + 1) _ _ (by omega) (by omega) ⟨rfl, hE, hD⟩
    · have hi' : i < 48 := by omega
      have b1 := hb i hi'
      rw [if_neg (nl48 hi'), M_hts Hg hc hi', cl1_s, nI_1]
      by_cases gg : hts U L c i = 25 - j
      · rw [if_pos (by rw [gg]), M_climbFrom Hg hc hi' (fun q hq h9 => hC q hq (by omega)), cl1_s, ck_s hi' (by decide), nI_clamp (by omega)]
        refine hk2 (i + 1) _ _ (by omega) (by omega) ⟨rfl, fun q hq => (Ex_u2 _ _ _ _ q hq).trans (hE q hq), fun p hp h9 => ?_, fun p hp h9 => ?_⟩
        · rw [u2_e]
          by_cases e : p = i
          · rw [e, upd_e]
          · rw [upd_n e]
            exact hC p hp h9
        · rw [u2_e]
          by_cases e : p = i
          · rw [e, upd_e]
          · rw [upd_n e]
            exact hD p (by omega) h9
      · rw [if_neg (fun e => gg ((nI_eq (by omega) (by omega)).mp e))]
        refine hk2 (i + 1) _ _ (by omega) (by omega) ⟨rfl, hE, hC, fun p hp h9 => ?_⟩
        by_cases e : p = i
        · subst e
          exact hC p hi' (by omega)
        · exact hD p (by omega) h9
theorem st_climb (LW : LWt) : St_climb (II LW) := by
  intro tt hx hm a0 a1 H
  obtain ⟨U, L, HU, HL⟩ := BM_HX H.1
  cases h1 : nR a0 2 with
  | false =>
    unfold mX0_climb mX5_climb
    rw [X_isCast, M_isCast, h1]
    exact ⟨-1, hx, hm, rfl, rfl, H⟩
  | true =>
    cases h2 : nR a1 2 with
    | false =>
      unfold mX0_climb mX5_climb
      rw [X_isCast, M_isCast, h1, X_in a1 2 2 (by decide), M_wi a1 1 2 (by decide), h2]
      exact ⟨-1, hx, hm, rfl, rfl, H⟩
    | true =>
      obtain ⟨c, hc, _, e⟩ := nR_of h1
      obtain ⟨w, hw, _, e2⟩ := nR_of h2
      subst e e2
      exact st_hh (fun a => a = cbP (hts U L c) w) (fun a => a = cbP (hts U L c) w) H (X_climb HU hc hw) (M_climb HL hc hw) (fun a b p q => p.trans q.symm)
