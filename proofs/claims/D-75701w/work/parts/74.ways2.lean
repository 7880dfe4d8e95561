/-! free, wayTo: the greatest opening on a way -/
set_option maxRecDepth 100000
theorem st_free (LW : LWt) : St_free (II LW) := by
  intro tt hx hm a0 H
  obtain ⟨U, L, HU, HL⟩ := BM_HX H.1
  cases h1 : nR a0 51 with
  | false =>
    unfold mX0_free mX5_free
    rw [X_isSum, M_isSum, h1]
    exact ⟨-1, hx, hm, rfl, rfl, H⟩
  | true =>
    obtain ⟨s, hs, _, e⟩ := nR_of h1
    subst e
    obtain ⟨⟨r, x⟩, p1, cm, d1, e1, _, E1⟩ := X_comes HU (st := s) (by omega)
    obtain ⟨⟨r', y⟩, p2, cm', d2, e2, _, _, E2⟩ := M_rounds HL (st := s) (lim := 50) (by omega) (by omega) (opn_le (HU_of HU) 31)
    have p2' : mX5_rounds hm 50 (nI s) = some (r', y) := p2
    have e1' : r = nI (cnt (isS cm) 63) := e1
    have e2' : r' = nI (cnt (isS cm) 63) := by
      have : r' = nI (cnt (isS cm') 63) := e2
      rw [this, cnt_c 63 (P := isS cm) (Q := isS cm') (fun i hi => by unfold isS; rw [DS_u d1 d2 hi])]
    unfold mX0_free mX5_free
    rw [X_isSum, M_isSum, h1, cl1_s, cl1_s, nm_s, nm_s, bI_t, i10, i10, p1, p2', cl2_s, cl2_s, e1', e2']
    exact ⟨_, x, y, rfl, rfl, II_same (SX_e E1 (by decide)) (SM_e E2 (by decide)) H⟩
/-- to be come to from rest with no opening above a limit -/
def Re (op : Nat → Nat) (lim g : Nat) : Prop := ∀ T : Nat → Prop, T 31 → (∀ a b, a < 63 → b < 63 → Ed op 50 lim a b → T a → T b) → T g
theorem Re_s {op : Nat → Nat} {lim a b : Nat} (ha : a < 63) (hb : b < 63) (hE : Ed op 50 lim a b) (h : Re op lim a) : Re op lim b := fun T h1 h2 => h2 a b ha hb hE (h T h1 h2)
theorem Re_DS {op : Nat → Nat} {lim : Nat} {cm : Nat → Option Nat} (H : DS (Ed op 50 lim) cm) : ∀ d g, g < 63 → cm g = some d → Re op lim g
  | d, g, hg, e => by
    by_cases e31 : g = 31
    · subst e31
      exact fun T h1 _ => h1
    · obtain ⟨g', d', hg', hE, e1, e2⟩ := H.2.2 g d hg e31 e
      have : d' < d := by omega
      exact Re_s hg' hg hE (Re_DS H d' g' hg' e1)
termination_by d => d
theorem DS_Re {op : Nat → Nat} {lim g : Nat} {cm : Nat → Option Nat} (H : DS (Ed op 50 lim) cm) (h : Re op lim g) : cm g ≠ none := by
  refine h (fun x => cm x ≠ none) (by rw [H.1]; exact fun h9 => by cases h9) (fun a b ha hb hE ht => ?_)
  cases e : cm a with
  | none => exact absurd e ht
  | some d =>
    obtain ⟨d', _, e9⟩ := H.2.1 a b d ha hb e hE
    rw [e9]
    exact fun h9 => by cases h9
def far31 (g : Nat) : Nat := (g % 9 - 4) + (4 - g % 9) + (g / 9 - 3) + (3 - g / 9)
theorem far31_t : ∀ g : Fin 63, g.val = 31 ∨ ∃ g' : Fin 63, nxt g'.val g.val = true ∧ far31 g'.val < far31 g.val := by decide +kernel
theorem Re_50 {op : Nat → Nat} (hop : ∀ g, op g ≤ 50) : ∀ n g, g < 63 → far31 g = n → Re op 50 g := by
  intro n
  induction n using Nat.strongRecOn with
  | _ n ih =>
    intro g hg e
    rcases far31_t ⟨g, hg⟩ with e31 | ⟨g', h1, h2⟩
    · have e31 : g = 31 := e31
      subst e31
      exact fun T h1 _ => h1
    · have h2' : far31 g'.val < far31 g := h2
      have := hop g
      exact Re_s g'.isLt hg ⟨h1, by omega, by omega⟩ (ih _ (by omega) g'.val g'.isLt rfl)
def HVf (op hi : Nat → Nat) : Prop := hi 31 = op 31 ∧ ∀ g, g < 63 → op g ≤ hi g ∧ op 31 ≤ hi g ∧ (hi g ≤ 50 ∨ hi g = 268435456) ∧ ∀ lim, lim ≤ 50 → hi g ≤ lim → Re op lim g
def HVx (op hi : Nat → Nat) : Prop := ∀ g, g < 63 → op g ≤ hi g ∧ op 31 ≤ hi g ∧ hi g ≤ 50 ∧ ∀ lim, lim ≤ 50 → op 31 ≤ lim → (Re op lim g ↔ hi g ≤ lim)
theorem HV_end {op hi : Nat → Nat} (hop : ∀ g, op g ≤ 50) (H : HVf op hi) (hF : ∀ g w b, g < 63 → w < 4 → sp g w = some b → hi b ≤ max (hi g) (op b)) : HVx op hi := by
  have key : ∀ lim g, op 31 ≤ lim → Re op lim g → hi g ≤ lim := fun lim g h31 hR => by
    refine hR (fun x => hi x ≤ lim) (by rw [H.1]; exact h31) (fun a b ha hb hE ht => ?_)
    obtain ⟨w, hw, e⟩ := nxt_w hE.1
    have := hF a w b ha hw e
    have := hE.2.2
    omega
  intro g hg
  have h50 := key 50 g (hop 31) (Re_50 hop _ g hg rfl)
  have h9 := H.2 g hg
  exact ⟨h9.1, h9.2.1, h50, fun lim hl h31 => ⟨key lim g h31, h9.2.2.2 lim hl⟩⟩
def hvS (hi : Nat → Nat) : Nat := smN (fun p => min (hi p) 51) 63
theorem hvS_up {hi : Nat → Nat} {p v : Nat} (hp : p < 63) (h1 : v ≤ 50) (h2 : v < hi p) : hvS (upN hi p v) < hvS hi := by
  unfold hvS
  have e : smN (fun q => min (upN hi p v q) 51) 63 = smN (upN (fun q => min (hi q) 51) p v) 63 := smN_c 63 (fun i _ => by
    by_cases e : i = p
    · show min (upN hi p v i) 51 = upN (fun q => min (hi q) 51) p v i
      rw [e, upN_e, upN_e]
      omega
    · show min (upN hi p v i) 51 = upN (fun q => min (hi q) 51) p v i
      rw [upN_n e, upN_n e])
  rw [e]
  have := (smN_up (f := fun q => min (hi q) 51) (i := p) (v := v) 63).1 hp
  omega
theorem HVf_up {op hi : Nat → Nat} (hop : ∀ g, op g ≤ 50) (H : HVf op hi) {g w b : Nat} (hg : g < 63) (hw : w < 4) (hn : sp g w = some b) (hl : max (hi g) (op b) < hi b) : HVf op (upN hi b (max (hi g) (op b))) ∧ max (hi g) (op b) ≤ 50 := by
  have hb := sp_lt hg hw hn
  have h1 := H.2 g hg
  have h2 := H.2 b hb
  have o1 := hop b
  have o2 := hop g
  have h50 : max (hi g) (op b) ≤ 50 := by omega
  have hb31 : b ≠ 31 := fun e => by
    rw [e, H.1] at hl
    omega
  refine ⟨⟨?_, fun a ha => ?_⟩, h50⟩
  · rw [upN_n (fun e => hb31 e.symm)]
    exact H.1
  · by_cases e : a = b
    · rw [e, upN_e]
      refine ⟨by omega, by omega, Or.inl h50, fun lim hlim hle => ?_⟩
      exact Re_s hg hb ⟨nxt_of hw hn, by omega, by omega⟩ (h1.2.2.2 lim hlim (by omega))
    · rw [upN_n e]
      exact H.2 a ha
theorem X_highest {h : Hp} {U L : Nat → Nat} (H : HX 40 h U L) : R (mX0_laysHighest h) (fun g => Ex [15] h g ∧ ∃ hi, HVx (opn U L) hi ∧ ∀ p, p < 63 → g 15 p = nI (hi p)) := by
  have hop := opn_le (HU_of H)
  have hX : ∀ g, Ex [15] h g → HX 40 g U L := fun g hE => Ex_HX hE (by decide) (by decide) H
  have hopn : ∀ g, Ex [15] h g → ∀ x, x < 63 → mX3_opening 40 g (nI x) = some (nI (opn U L x)) := fun g hE x hx => X_opn (hX g hE) hx
  generalize opn U L = op at hop hopn
  unfold mX0_laysHighest
  generalize hFF : (268435456 : Int32) = FF
  simp only [nm_q]
  subst hFF
  refine R_q ?_
  intro Q hQ
  refine fx_R2 63 (fun j x g => x = nI j ∧ Ex [15] h g ∧ ∀ p, p < j → g 15 p = nI (if p = 31 then op 31 else 268435456)) (by decide) ⟨rfl, Ex_r _ _, fun p hp => by omega⟩ ?_
  rintro j x g k hj ⟨rfl, hE, hz⟩ hk
  by_cases hj63 : j = 63
  · subst hj63
    rw [if_pos (show (63 : Int32) ≤ nI 63 by decide)]
    clear hk k
    have hs0 : hvS (fun p => if p = 31 then op 31 else 268435456) ≤ 3213 := smN_le (B := 51) (fun i => by omega) 63
    refine fx_R2 3214 (fun j mv g => ∃ hi, Ex [15] h g ∧ (∀ p, p < 63 → g 15 p = nI (hi p)) ∧ HVf op hi ∧ ((mv = 1 ∧ j + hvS hi ≤ 3213) ∨ (mv = 0 ∧ ∀ g w b, g < 63 → w < 4 → sp g w = some b → hi b ≤ max (hi g) (op b)))) (by decide) ⟨fun p => if p = 31 then op 31 else 268435456, hE, hz, ⟨rfl, fun p hp => ?_⟩, Or.inl ⟨rfl, by omega⟩⟩ ?_
    · have o1 := hop p
      have o2 := hop 31
      show op p ≤ (if p = 31 then op 31 else 268435456) ∧ op 31 ≤ (if p = 31 then op 31 else 268435456) ∧ ((if p = 31 then op 31 else 268435456) ≤ 50 ∨ (if p = 31 then op 31 else 268435456) = 268435456) ∧ ∀ lim, lim ≤ 50 → (if p = 31 then op 31 else 268435456) ≤ lim → Re op lim p
      by_cases e : p = 31
      · rw [if_pos e]
        refine ⟨by rw [e]; exact Nat.le_refl _, Nat.le_refl _, Or.inl o2, fun lim hl h9 => ?_⟩
        rw [e]
        exact fun T h1 _ => h1
      · rw [if_neg e]
        exact ⟨by omega, by omega, Or.inr rfl, fun lim hl h9 => by omega⟩
    clear hE hz hs0
    rintro j mv g k hj ⟨hi, hE, hG, hL, hcs⟩ hk
    rcases hcs with ⟨rfl, hS⟩ | ⟨rfl, hF⟩
    · rw [i10]
      refine fx_R3 63 (fun i mv x g => x = nI i ∧ ∃ hi', Ex [15] h g ∧ (∀ p, p < 63 → g 15 p = nI (hi' p)) ∧ HVf op hi' ∧ ((mv = 1 ∧ hvS hi' < hvS hi) ∨ (mv = 0 ∧ hvS hi' = hvS hi ∧ ∀ g w b, g < i → w < 4 → sp g w = some b → hi' b ≤ max (hi' g) (op b)))) (by decide) ⟨rfl, hi, hE, hG, hL, Or.inr ⟨rfl, rfl, fun g w b hg => by omega⟩⟩ ?_
      clear hE hG
      rintro i mv x g k2 hi9 ⟨rfl, hi', hE, hG, hL', hcs⟩ hk2
      by_cases hi63 : i = 63
      · subst hi63
        rw [if_pos (show (63 : Int32) ≤ nI 63 by decide)]
        rcases hcs with ⟨rfl, hlt⟩ | ⟨rfl, _, hF⟩
        · exact hk (j + 1) _ _ (by omega) (by omega) ⟨hi', hE, hG, hL', Or.inl ⟨rfl, by omega⟩⟩
        · exact hk (j + 1) _ _ (by omega) (by omega) ⟨hi', hE, hG, hL', Or.inr ⟨rfl, hF⟩⟩
      · have hi9' : i < 63 := by omega
        rw [if_neg (nl63 hi9')]
        refine fx_R3 4 (fun w mv x g => x = nI w ∧ ∃ hi', Ex [15] h g ∧ (∀ p, p < 63 → g 15 p = nI (hi' p)) ∧ HVf op hi' ∧ ((mv = 1 ∧ hvS hi' < hvS hi) ∨ (mv = 0 ∧ hvS hi' = hvS hi ∧ (∀ g w b, g < i → w < 4 → sp g w = some b → hi' b ≤ max (hi' g) (op b)) ∧ ∀ u b, u < w → sp i u = some b → hi' b ≤ max (hi' i) (op b)))) (by decide) ⟨rfl, hi', hE, hG, hL', ?_⟩ ?_
        · rcases hcs with h9 | ⟨e1, e2, e3⟩
          · exact Or.inl h9
          · exact Or.inr ⟨e1, e2, e3, fun u b hu => by omega⟩
        clear hE hG hL' hcs hi'
        rintro w mv x g k3 hw ⟨rfl, hi', hE, hG, hL', hcs⟩ hk3
        by_cases hw4 : w = 4
        · subst hw4
          rw [if_pos (show (4 : Int32) ≤ nI 4 by decide), nI_1]
          refine hk2 (i + 1) _ _ _ (by omega) (by omega) ⟨rfl, hi', hE, hG, hL', ?_⟩
          rcases hcs with h9 | ⟨e1, e2, e3, e4⟩
          · exact Or.inl h9
          · refine Or.inr ⟨e1, e2, fun g w b hg hw hn => ?_⟩
            by_cases e : g = i
            · subst e
              exact e4 w b hw hn
            · exact e3 g w b (by omega) hw hn
        · have hw' : w < 4 := by omega
          rw [if_neg (nl4 hw'), X_stepped hi9' hw', cl1_s, nI_1]
          have same : (∀ b, sp i w = some b → hi' b ≤ max (hi' i) (op b)) → R (k3 mv (nI (w + 1)) g) Q := fun hs => by
            refine hk3 (w + 1) _ _ _ (by omega) (by omega) ⟨rfl, hi', hE, hG, hL', ?_⟩
            rcases hcs with h9 | ⟨e1, e2, e3, e4⟩
            · exact Or.inl h9
            · refine Or.inr ⟨e1, e2, e3, fun u b hu hn' => ?_⟩
              by_cases e : u = w
              · rw [e] at hn'
                exact hs b hn'
              · exact e4 u b (by omega) hn'
          cases hn : sp i w with
          | none =>
            rw [show on1 none = -1 from rfl, if_pos rfl]
            exact same (fun b hb => by rw [hn] at hb; cases hb)
          | some b =>
            have hb := sp_lt hi9' hw' hn
            have l1 := (hL'.2 i hi9').2.2.1
            have l2 := (hL'.2 b hb).2.2.1
            have o1 := hop b
            rw [show on1 (some b) = nI b from rfl, if_neg (ne_m1 (by omega)), ck_s hi9' (by decide), hopn g hE b hb, cl1_s, ck_s hb (by decide), nI_clamp (by omega), nI_clamp (by omega), hG i hi9', hG b hb, jmax_s (by omega) (by omega)]
            by_cases hlt : max (hi' i) (op b) < hi' b
            · rw [if_pos (nI_lt hlt (by omega)), ck_s hi9' (by decide), cl1_s, ck_s hb (by decide), jmax_s (by omega) (by omega)]
              obtain ⟨hL2, h50⟩ := HVf_up hop hL' hi9' hw' hn hlt
              have hsm := hvS_up hb h50 hlt
              refine hk3 (w + 1) _ _ _ (by omega) (by omega) ⟨rfl, upN hi' b (max (hi' i) (op b)), fun q hq => (Ex_u2 _ _ _ _ q hq).trans (hE q hq), fun p hp => ?_, hL2, Or.inl ⟨rfl, ?_⟩⟩
              · rw [u2_e]
                by_cases e : p = b
                · rw [e, upd_e, upN_e]
                · rw [upd_n e, upN_n e]
                  exact hG p hp
              · rcases hcs with ⟨_, h9⟩ | ⟨_, h9, _⟩ <;> omega
            · rw [if_neg (nI_nlt (by omega) (by omega))]
              exact same (fun b' hb' => by rw [hn] at hb'; cases hb'; omega)
    · rw [i00]
      rw [hQ]; exact R_some ⟨hE, hi, HV_end hop hL hF, hG⟩
  · have hj' : j < 63 := by omega
    have ext : ∀ v, v = nI (if j = 31 then op 31 else 268435456) → R (k (nI (j + 1)) (u2 g 15 j v)) Q := fun v hv => by
      refine hk (j + 1) _ _ (by omega) (by omega) ⟨rfl, fun q hq => (Ex_u2 _ _ _ _ q hq).trans (hE q hq), fun p hp => ?_⟩
      rw [u2_e]
      by_cases e : p = j
      · rw [e, upd_e, hv]
      · rw [upd_n e]
        exact hz p (by omega)
    rw [if_neg (nl63 hj'), show mX3_opening 40 g 31 = some (nI (op 31)) from hopn g hE 31 (by decide), cl1_s, ck_s hj' (by decide), ck_s hj' (by decide), nI_clamp (by omega), nI_1]
    by_cases e : j = 31
    · rw [if_pos (by rw [e]; rfl)]
      exact ext _ (by rw [if_pos e])
    · rw [if_neg (fun e9 => e ((l_eq (N := 31) (c := 31) rfl (by decide) (by omega)).mp e9))]
      exact ext _ (by rw [if_neg e]; rfl)
theorem M_freest {h : Hp} {U L : Nat → Nat} (H : HM h U L) {g : Nat} (hg : g < 63) {hi : Nat → Nat} (hV : HVx (opn U L) hi) : R (mX5_freest h (nI g)) (fun r => r.1 = nI (hi g) ∧ Ex [243, 244] h r.2) := by
  have hop := opn_le (HV_of H)
  have hv := hV g hg
  unfold mX5_freest
  rw [M_lays H, cl1_s, ck_s hg (by decide), show mX5_glideOf 0 0 = some (nI 31) by decide, cl1_s, ck_s (show 31 < 63 by decide) (by decide), nI_clamp (by omega), nI_clamp (by decide), sN_k hg, sN_k (show 31 < 63 by decide)]
  have o1 := hop g
  have o2 := hop 31
  have hE0 : Ex [243, 244] h (sN h 243 (fun g => nI (opn U L g)) 63) := fun q hq => sN_n (fun e => hq (by rw [e]; simp))
  have H2 : HM (sN h 243 (fun g => nI (opn U L g)) 63) U L := HM_c (sN_n (by decide)) H
  generalize sN h 243 (fun g => nI (opn U L g)) 63 = h2 at hE0 H2
  rw [M_max (by omega) (by omega), cl1_s]
  simp only [nm_q]
  refine R_c2 (M_rounds H2 (st := 50) (lim := max (opn U L g) (opn U L 31)) (by omega) (by omega) (by omega)) ?_
  rintro r1 g1 ⟨cm, d1, _, G1, B1, E1⟩
  refine fx_R2 50 (fun j x g1 => ∃ lim, j ≤ lim ∧ x = nI lim ∧ lim ≤ hi g ∧ opn U L 31 ≤ lim ∧ ∃ cm, DS (Ed (opn U L) 50 lim) cm ∧ (∀ x, x < 63 → g1 244 x = on1 (cm x)) ∧ (∀ x d, x < 63 → cm x = some d → d < 1000) ∧ Ex [243, 244] h g1) (by decide) ⟨_, Nat.zero_le _, rfl, by omega, by omega, cm, d1, G1, B1, fun q hq => (E1 q hq).trans (hE0 q hq)⟩ ?_
  rintro j x g1 k hj ⟨lim, hjl, rfl, hl1, hl2, cm, d1, G1, B1, E1⟩ hk
  have hiff := hv.2.2.2 lim (by omega) hl2
  rw [ck_s hg (by decide), G1 g hg]
  cases e : cm g with
  | some d =>
    have := B1 g d hg e
    rw [show on1 (some d) = nI d from rfl, if_neg (ne_m1 (by omega))]
    have := hiff.mp (Re_DS d1 d g hg e)
    refine R_some ⟨?_, E1⟩
    show nI lim = nI (hi g)
    congr 1
    omega
  | none =>
    have hlt : lim < hi g := by
      by_cases c : hi g ≤ lim
      · exact absurd e (DS_Re d1 (hiff.mpr c))
      · omega
    rw [show on1 none = -1 from rfl, if_pos rfl, nI_1]
    have H3 : HM g1 U L := Ex_HM E1 (by decide) H
    refine R_c2 (M_rounds H3 (st := 50) (lim := lim + 1) (by omega) (by omega) (by omega)) ?_
    rintro r2 g2 ⟨cm2, d2, _, G2, B2, E2⟩
    exact hk (lim + 1) _ _ (by omega) (by omega) ⟨lim + 1, Nat.le_refl _, rfl, by omega, by omega, cm2, d2, G2, B2, fun q hq => (E2 q hq).trans (E1 q hq)⟩
theorem st_wayTo (LW : LWt) : St_wayTo (II LW) := by
  intro tt hx hm a0 a1 a2 a3 H
  obtain ⟨U, L, HU, HL⟩ := BM_HX H.1
  unfold mX0_wayTo mX5_wayTo
  rw [X_isGlide, M_isGlide, X_isSum, M_isSum, X_in a3 2 2 (by decide), M_wi a3 1 2 (by decide)]
  simp only [nm_q, cl1_q]
  cases h1 : gR a0 a1 with
  | false => exact ⟨-1, hx, hm, rfl, rfl, H⟩
  | true =>
    cases h2 : nR a2 51 with
    | false => exact ⟨-1, hx, hm, rfl, rfl, H⟩
    | true =>
      cases h3 : nR a3 2 with
      | false => exact ⟨-1, hx, hm, rfl, rfl, H⟩
      | true =>
        obtain ⟨g, hg, ea, eb, eX, eM⟩ := gR_of h1
        obtain ⟨s, hs, _, e2⟩ := nR_of h2
        obtain ⟨w, hw, _, e3⟩ := nR_of h3
        subst e2 e3
        simp only [bI_t, i10_q]
        rw [eX, eM]
        simp only [cl1_q]
        rcases nI2 hw with e | e
        · subst e
          rw [if_pos (show nI 0 = (0 : Int32) from rfl), if_pos (show nI 0 = (0 : Int32) from rfl)]
          obtain ⟨x, p1, E1, hi, hV, hG⟩ := X_highest HU
          obtain ⟨⟨r, y⟩, p2, q2, E2⟩ := M_freest HL hg hV
          have q2' : r = nI (hi g) := q2
          rw [p1, p2, cl1_s, cl2_s, ck_s hg (by decide), nI_clamp (by omega), hG g hg, q2']
          exact ⟨_, x, y, rfl, rfl, II_same (SX_e E1 (by decide)) (SM_e E2 (by decide)) H⟩
        · subst e
          rw [if_neg (show ¬ nI 1 = (0 : Int32) by decide), if_neg (show ¬ nI 1 = (0 : Int32) by decide)]
          obtain ⟨⟨r, x⟩, p1, cm, d1, _, G1, E1⟩ := X_comes HU (st := s) (by omega)
          obtain ⟨⟨r', y⟩, p2, cm', d2, _, G2, _, E2⟩ := M_rounds HL (st := s) (lim := 50) (by omega) (by omega) (opn_le (HU_of HU) 31)
          have p2' : mX5_rounds hm 50 (nI s) = some (r', y) := p2
          have G1' : x 13 g = on1 (cm g) := G1 g hg
          have G2' : y 244 g = on1 (cm g) := by
            rw [DS_u d1 d2 hg]
            exact G2 g hg
          rw [p1, p2', cl2_s, cl2_s, ck_s hg (by decide), ck_s hg (by decide), ck_s hg (by decide), ck_s hg (by decide), nI_clamp (by omega), G1', G2']
          generalize on1 (cm g) = v
          by_cases c : v = -1
          · rw [if_pos c, if_pos c]
            exact ⟨_, x, y, rfl, rfl, II_same (SX_e E1 (by decide)) (SM_e E2 (by decide)) H⟩
          · rw [if_neg c, if_neg c]
            exact ⟨_, x, y, rfl, rfl, II_same (SX_e E1 (by decide)) (SM_e E2 (by decide)) H⟩
