/-! free, wayTo -/
set_option maxRecDepth 100000
def sp (g w : Nat) : Option Nat := if w = 0 then (if g % 9 = 0 then none else some (g - 1)) else if w = 1 then (if g % 9 = 8 then none else some (g + 1)) else if w = 2 then (if g / 9 = 0 then none else some (g - 9)) else (if g / 9 = 6 then none else some (g + 9))
def nxt (g h : Nat) : Bool := decide (sp g 0 = some h ∨ sp g 1 = some h ∨ sp g 2 = some h ∨ sp g 3 = some h)
theorem sp_t : ∀ g : Fin 63, ∀ w : Fin 4, mX0_stepped (nI g.val) (nI w.val) = some (on1 (sp g.val w.val)) ∧ (sp g.val w.val).getD 0 < 63 := by decide +kernel
theorem nx_t : ∀ g h : Fin 63, mX5_isNext (nI g.val) (nI h.val) = some (bI (nxt g.val h.val)) := by decide +kernel
theorem X_stepped {g w : Nat} (hg : g < 63) (hw : w < 4) : mX0_stepped (nI g) (nI w) = some (on1 (sp g w)) := (sp_t ⟨g, hg⟩ ⟨w, hw⟩).1
theorem M_isNext {g h : Nat} (hg : g < 63) (hh : h < 63) : mX5_isNext (nI g) (nI h) = some (bI (nxt g h)) := nx_t ⟨g, hg⟩ ⟨h, hh⟩
theorem sp_lt {g w h : Nat} (hg : g < 63) (hw : w < 4) (e : sp g w = some h) : h < 63 := by
  have : (sp g w).getD 0 < 63 := (sp_t ⟨g, hg⟩ ⟨w, hw⟩).2
  rw [e] at this
  exact this
theorem nxt_of {g w h : Nat} (hw : w < 4) (e : sp g w = some h) : nxt g h = true := by
  have : w = 0 ∨ w = 1 ∨ w = 2 ∨ w = 3 := by omega
  unfold nxt
  rcases this with e2 | e2 | e2 | e2 <;> subst e2
  · exact decide_eq_true (Or.inl e)
  · exact decide_eq_true (Or.inr (Or.inl e))
  · exact decide_eq_true (Or.inr (Or.inr (Or.inl e)))
  · exact decide_eq_true (Or.inr (Or.inr (Or.inr e)))
theorem nxt_w {g h : Nat} (h1 : nxt g h = true) : ∃ w, w < 4 ∧ sp g w = some h := by
  rcases of_decide_eq_true h1 with e | e | e | e
  · exact ⟨0, by omega, e⟩
  · exact ⟨1, by omega, e⟩
  · exact ⟨2, by omega, e⟩
  · exact ⟨3, by omega, e⟩
/-- a step from a glide to one beside -/
def Ed (op : Nat → Nat) (st lim g h : Nat) : Prop := nxt g h = true ∧ op h ≤ op g + st ∧ op h ≤ lim
/-- how few steps: what fits -/
def DS (E : Nat → Nat → Prop) (cm : Nat → Option Nat) : Prop := cm 31 = some 0 ∧ (∀ g h d, g < 63 → h < 63 → cm g = some d → E g h → ∃ d', d' ≤ d + 1 ∧ cm h = some d') ∧ (∀ h d, h < 63 → h ≠ 31 → cm h = some d → ∃ g d', g < 63 ∧ E g h ∧ cm g = some d' ∧ d' + 1 = d)
theorem DS_le {E : Nat → Nat → Prop} {c1 c2 : Nat → Option Nat} (H1 : DS E c1) (H2 : DS E c2) : ∀ d h, h < 63 → c1 h = some d → ∃ d', d' ≤ d ∧ c2 h = some d' := by
  intro d
  induction d using Nat.strongRecOn with
  | _ d ih =>
    intro h hh e
    by_cases e31 : h = 31
    · subst e31
      exact ⟨0, Nat.zero_le _, H2.1⟩
    · obtain ⟨g, d', hg, hE, e1, e2⟩ := H1.2.2 h d hh e31 e
      obtain ⟨d2, hd2, e3⟩ := ih d' (by omega) g hg e1
      obtain ⟨d3, hd3, e4⟩ := H2.2.1 g h d2 hg hh e3 hE
      exact ⟨d3, by omega, e4⟩
theorem DS_u {E : Nat → Nat → Prop} {c1 c2 : Nat → Option Nat} (H1 : DS E c1) (H2 : DS E c2) {h : Nat} (hh : h < 63) : c1 h = c2 h := by
  cases e1 : c1 h with
  | none =>
    cases e2 : c2 h with
    | none => rfl
    | some d =>
      obtain ⟨d', _, e⟩ := DS_le H2 H1 d h hh e2
      rw [e1] at e
      cases e
  | some d =>
    obtain ⟨d', hd, e⟩ := DS_le H1 H2 d h hh e1
    obtain ⟨d2, hd2, e2⟩ := DS_le H2 H1 d' h hh e
    rw [e1] at e2
    cases e2
    rw [e]
    congr 1
    omega
def cm0 (x : Nat) : Option Nat := if x = 31 then some 0 else none
theorem cm0_e : cm0 31 = some 0 := rfl
theorem cm0_n {x : Nat} (h : x ≠ 31) : cm0 x = none := if_neg h
theorem cm0_d {x d : Nat} (h : cm0 x = some d) : x = 31 ∧ d = 0 := by
  by_cases e : x = 31
  · rw [e, cm0_e] at h
    cases h
    exact ⟨e, rfl⟩
  · rw [cm0_n e] at h
    cases h
def isS (cm : Nat → Option Nat) (g : Nat) : Bool := (cm g).isSome
def upO (cm : Nat → Option Nat) (i d : Nat) : Nat → Option Nat := fun q => if q = i then some d else cm q
theorem upO_e (cm : Nat → Option Nat) (i d : Nat) : upO cm i d i = some d := if_pos rfl
theorem upO_n {cm : Nat → Option Nat} {i d q : Nat} (h : q ≠ i) : upO cm i d q = cm q := if_neg h
theorem isS_up (cm : Nat → Option Nat) (i d : Nat) : isS (upO cm i d) = ubb (isS cm) i := by
  funext q
  unfold isS ubb
  by_cases e : q = i
  · rw [e, upO_e, if_pos rfl]
    rfl
  · rw [upO_n e, if_neg e]
theorem isS_f {cm : Nat → Option Nat} {g : Nat} (h : cm g = none) : isS cm g = false := by
  unfold isS
  rw [h]
  rfl
theorem on1_u {f : Nat → Int32} {cm : Nat → Option Nat} {i d : Nat} (hf : ∀ g, g < 63 → f g = on1 (cm g)) : ∀ g, g < 63 → upd f i (nI d) g = on1 (upO cm i d g) := fun g hg => by
  by_cases e : g = i
  · rw [e, upd_e, upO_e]
    rfl
  · rw [upd_n e, upO_n e]
    exact hf g hg
/-- the class's queue -/
def BQ (h0 : Hp) (op : Nat → Nat) (st k w m : Nat) (g : Hp) : Prop := ∃ (q : Nat → Nat) (cm : Nat → Option Nat), (∀ i, i < m → g 14 i = nI (q i) ∧ q i < 63) ∧ (∀ x, x < 63 → g 13 x = on1 (cm x) ∧ g 12 x = nI (op x) ∧ (∀ d, cm x = some d → d < 1000)) ∧ (∀ x, x < 63 → (isS cm x = true ↔ ∃ i, i < m ∧ q i = x)) ∧ m = cnt (isS cm) 63 ∧ cm 31 = some 0 ∧ (∀ i j a b, i ≤ j → j < m → cm (q i) = some a → cm (q j) = some b → a ≤ b) ∧ (∀ i a b, i < m → k < m → cm (q i) = some a → cm (q k) = some b → a ≤ b + 1) ∧ (∀ i v x d, i < m → (i < k ∨ (i = k ∧ v < w)) → v < 4 → sp (q i) v = some x → op x ≤ op (q i) + st → cm (q i) = some d → ∃ d', d' ≤ d + 1 ∧ cm x = some d') ∧ (∀ x d, x < 63 → x ≠ 31 → cm x = some d → ∃ y d', y < 63 ∧ Ed op st 50 y x ∧ cm y = some d' ∧ d' + 1 = d) ∧ Ex [12, 13, 14] h0 g ∧ (∀ i d, i < m → cm (q i) = some d → d ≤ i)
theorem X_comes {h : Hp} {U L : Nat → Nat} (H : HX 40 h U L) {st : Nat} (hst : st ≤ 50) : R (mX0_comes h (nI st)) (fun r => ∃ cm, DS (Ed (opn U L) st 50) cm ∧ r.1 = nI (cnt (isS cm) 63) ∧ (∀ x, x < 63 → r.2 13 x = on1 (cm x)) ∧ Ex [12, 13, 14] h r.2) := by
  have hop := opn_le (HU_of H)
  have hX : ∀ g, Ex [12, 13, 14] h g → HX 40 g U L := fun g hE => Ex_HX hE (by decide) (by decide) H
  have hopn : ∀ g, Ex [12, 13, 14] h g → ∀ x, x < 63 → mX3_opening 40 g (nI x) = some (nI (opn U L x)) := fun g hE x hx => X_opn (hX g hE) hx
  generalize opn U L = op at hop hopn
  unfold mX0_comes
  simp only [nm_q]
  refine R_q ?_
  intro Q hQ
  refine fx_R2 63 (fun j x g => x = nI j ∧ Ex [12, 13, 14] h g ∧ ∀ x, x < j → g 12 x = nI (op x) ∧ g 13 x = on1 (cm0 x)) (by decide) ⟨rfl, Ex_r _ _, fun x hx => by omega⟩ ?_
  rintro j x g k hj ⟨rfl, hE, hI⟩ hk
  by_cases hj63 : j = 63
  · subst hj63
    rw [if_pos (show (63 : Int32) ≤ nI 63 by decide)]
    clear hk k
    refine fx_R3 63 (fun j m x g => x = nI j ∧ ∃ m', m = nI m' ∧ j ≤ m' ∧ BQ h op st j 0 m' g) (by decide) ?_ ?_
    · refine ⟨rfl, 1, rfl, by omega, fun _ => 31, cm0, fun i hi => ⟨?_, (by decide : 31 < 63)⟩, fun x hx => ⟨?_, ?_, ?_⟩, fun x hx => ?_, ?_, rfl, ?_, ?_, ?_, ?_, ?_, ?_⟩
      · have e : i = 0 := by omega
        subst e
        rw [u2_e, upd_e]
        rfl
      · rw [u2_n (by decide)]
        exact (hI x hx).2
      · rw [u2_n (by decide)]
        exact (hI x hx).1
      · intro d hd
        have := (cm0_d hd).2
        omega
      · unfold isS
        by_cases e : x = 31
        · rw [e, cm0_e]
          exact ⟨fun _ => ⟨0, by omega, rfl⟩, fun _ => rfl⟩
        · rw [cm0_n e]
          exact ⟨(fun h9 => by cases h9), fun ⟨i, _, h9⟩ => absurd h9.symm e⟩
      · decide +kernel
      · intro i j a b _ _ ha hb
        have := (cm0_d ha).2
        omega
      · intro i a b _ _ ha hb
        have := (cm0_d ha).2
        omega
      · intro i v x d hi hc
        omega
      · intro x d hx hne hd
        exact absurd (cm0_d hd).1 hne
      · intro q hq
        rw [u2_n (fun e => hq (by rw [e]; simp))]
        exact hE q hq
      · intro i d _ hd
        have := (cm0_d hd).2
        omega
    clear hE hI
    rintro j x2 x g k hj ⟨rfl, m, rfl, hjm, hB⟩ hk
    have hm63 : m ≤ 63 := by
      obtain ⟨q, cm, _, _, _, h4, _⟩ := hB
      rw [h4]
      exact cnt_le _ _
    by_cases hjm2 : j = m
    · subst hjm2
      rw [if_pos (nI_le (Nat.le_refl _) (by omega))]
      obtain ⟨q, cm, h1, h2, h3, h4, h5, h6, h7, h8, h9, h10, h11⟩ := hB
      rw [hQ]; refine R_some ⟨cm, ⟨h5, fun a b d ha hb hd hE => ?_, h9⟩, by rw [← h4], fun x hx => (h2 x hx).1, h10⟩
      obtain ⟨i, hi, e⟩ := (h3 a ha).mp (by unfold isS; rw [hd]; rfl)
      obtain ⟨w, hw, e2⟩ := nxt_w hE.1
      subst e
      exact h8 i w b d hi (Or.inl hi) hw e2 hE.2.1 hd
    · rw [if_neg (nI_ge (by omega) (by omega))]
      refine fx_R3 4 (fun w m x g => x = nI w ∧ ∃ m', m = nI m' ∧ j < m' ∧ BQ h op st j w m' g) (by decide) ⟨rfl, m, rfl, by omega, hB⟩ ?_
      clear hB hm63 hjm2 hjm
      rintro w x2 x g k2 hw ⟨rfl, m, rfl, hjm, hB⟩ hk2
      obtain ⟨q, cm, h1, h2, h3, h4, h5, h6, h7, h8, h9, h10, h11⟩ := hB
      have hm63 : m ≤ 63 := by
        rw [h4]
        exact cnt_le _ _
      by_cases hw4 : w = 4
      · subst hw4
        rw [if_pos (show (4 : Int32) ≤ nI 4 by decide), nI_1]
        refine hk (j + 1) _ _ _ (by omega) (by omega) ⟨rfl, m, rfl, by omega, q, cm, h1, h2, h3, h4, h5, h6, fun i a b hi hk9 ha hb => ?_, fun i v x d hi hc hv => h8 i v x d hi (by omega) hv, h9, h10, h11⟩
        obtain ⟨c, hc⟩ : ∃ c, cm (q j) = some c := by
          have := (h3 (q j) (h1 j hjm).2).mpr ⟨j, hjm, rfl⟩
          unfold isS at this
          cases e : cm (q j) with
          | none => rw [e] at this; cases this
          | some c => exact ⟨c, rfl⟩
        have s1 := h7 i a c hi hjm ha hc
        have s2 := h6 j (j + 1) c b (by omega) hk9 hc hb
        omega
      · have hw' : w < 4 := by omega
        have hl := h1 j hjm
        obtain ⟨c, hc⟩ : ∃ c, cm (q j) = some c := by
          have := (h3 (q j) hl.2).mpr ⟨j, hjm, rfl⟩
          unfold isS at this
          cases e : cm (q j) with
          | none => rw [e] at this; cases this
          | some c => exact ⟨c, rfl⟩
        have hcj := h11 j c hjm hc
        rw [if_neg (nl4 hw'), ck_s (show j < 63 by omega) (by decide), nI_clamp (by omega), hl.1, X_stepped hl.2 hw', cl1_s, nI_1]
        have same : (∀ x, sp (q j) w = some x → op x ≤ op (q j) + st → ∃ d', d' ≤ c + 1 ∧ cm x = some d') → R (k2 (nI m) (nI (w + 1)) g) Q := fun hs => by
          refine hk2 (w + 1) _ _ _ (by omega) (by omega) ⟨rfl, m, rfl, hjm, q, cm, h1, h2, h3, h4, h5, h6, h7, fun i v x d hi hc9 hv hn ho hd => ?_, h9, h10, h11⟩
          by_cases e : i = j ∧ v = w
          · rw [e.1, e.2] at hn
            rw [e.1] at ho hd
            rw [hc] at hd
            cases hd
            exact hs x hn ho
          · exact h8 i v x d hi (by omega) hv hn ho hd
        cases hn : sp (q j) w with
        | none =>
          rw [show on1 none = -1 from rfl, if_pos rfl]
          exact same (fun b hb => by rw [hn] at hb; cases hb)
        | some b =>
          have hb := sp_lt hl.2 hw' hn
          have o1 := hop b
          have o2 := hop (q j)
          rw [show on1 (some b) = nI b from rfl, if_neg (ne_m1 (by omega)), ck_s hb (by decide), nI_clamp (by omega), (h2 b hb).1]
          cases hcb : cm b with
          | some d =>
            have hd9 := (h2 b hb).2.2 d hcb
            rw [show on1 (some d) = nI d from rfl, if_neg (ne_m1 (by omega))]
            refine same (fun b' hb' _ => ?_)
            rw [hn] at hb'
            cases hb'
            obtain ⟨i, hi, e⟩ := (h3 b hb).mp (by unfold isS; rw [hcb]; rfl)
            exact ⟨d, h7 i d c hi hjm (by rw [e]; exact hcb) hc, hcb⟩
          | none =>
            rw [show on1 none = -1 from rfl, if_pos rfl, ck_s hb (by decide), ck_s (show j < 63 by omega) (by decide), ck_s hl.2 (by decide), nI_clamp (by omega), (h2 b hb).2.1, (h2 _ hl.2).2.1, nI_sub]
            by_cases ho : op b ≤ op (q j) + st
            · have hm62 : m < 63 := by
                have := cnt_lt 63 ⟨b, hb, isS_f hcb⟩
                omega
              have hqb : ∀ i, i < m → q i ≠ b := fun i hi e => by
                have := (h3 b hb).mpr ⟨i, hi, e⟩
                rw [isS_f hcb] at this
                cases this
              have hcq : cm (q j) = some c := hc
              rw [if_pos (by rw [iI_n]; exact (iI_le (by omega) (by omega)).mpr (by omega)), ck_s (show j < 63 by omega) (by decide), ck_s hl.2 (by decide), ck_s hb (by decide), ck_s hm62 (by decide), nI_clamp (by omega), (h2 _ hl.2).1, hc, show on1 (some c) = nI c from rfl, nI_1, nI_1]
              refine hk2 (w + 1) _ _ _ (by omega) (by omega) ⟨rfl, m + 1, rfl, by omega, upN q m b, upO cm b (c + 1), fun i hi => ?_, fun x hx => ⟨?_, ?_, ?_⟩, fun x hx => ?_, ?_, ?_, ?_, ?_, ?_, ?_, ?_, ?_⟩
              · by_cases e : i = m
                · rw [e, upN_e, u2_e, upd_e]
                  exact ⟨rfl, hb⟩
                · rw [upN_n e, u2_e, upd_n e, u2_n (by decide)]
                  exact h1 i (by omega)
              · rw [u2_n (by decide), u2_e]
                exact on1_u (fun x hx => (h2 x hx).1) x hx
              · rw [u2_n (by decide), u2_n (by decide)]
                exact (h2 x hx).2.1
              · intro d hd
                by_cases e : x = b
                · rw [e, upO_e] at hd
                  cases hd
                  omega
                · rw [upO_n e] at hd
                  exact (h2 x hx).2.2 d hd
              · rw [isS_up]
                by_cases e : x = b
                · rw [e, ubb_e]
                  exact ⟨fun _ => ⟨m, by omega, upN_e _ _ _⟩, fun _ => rfl⟩
                · rw [ubb_n e, h3 x hx]
                  constructor
                  · rintro ⟨i, hi, e9⟩
                    exact ⟨i, by omega, by rw [upN_n (by omega)]; exact e9⟩
                  · rintro ⟨i, hi, e9⟩
                    by_cases e2 : i = m
                    · rw [e2, upN_e] at e9
                      exact absurd e9.symm e
                    · rw [upN_n e2] at e9
                      exact ⟨i, by omega, e9⟩
              · rw [isS_up, cnt_ub (isS_f hcb), if_pos hb, ← h4]
              · by_cases e : (31 : Nat) = b
                · rw [← e] at hcb
                  rw [h5] at hcb
                  cases hcb
                · rw [upO_n e]
                  exact h5
              · intro i i2 a b2 hii hi2 ha hb2
                by_cases e2 : i2 = m
                · rw [e2, upN_e, upO_e] at hb2
                  cases hb2
                  by_cases e1 : i = m
                  · rw [e1, upN_e, upO_e] at ha
                    cases ha
                    exact Nat.le_refl _
                  · rw [upN_n e1, upO_n (hqb i (by omega))] at ha
                    exact h7 i a c (by omega) hjm ha hc
                · have e1 : i ≠ m := by omega
                  rw [upN_n e1, upO_n (hqb i (by omega))] at ha
                  rw [upN_n e2, upO_n (hqb i2 (by omega))] at hb2
                  exact h6 i i2 a b2 hii (by omega) ha hb2
              · intro i a b2 hi _ ha hb2
                rw [upN_n (by omega), upO_n (hqb j hjm), hc] at hb2
                cases hb2
                by_cases e1 : i = m
                · rw [e1, upN_e, upO_e] at ha
                  cases ha
                  exact Nat.le_refl _
                · rw [upN_n e1, upO_n (hqb i (by omega))] at ha
                  exact h7 i a c (by omega) hjm ha hc
              · intro i v x d hi hc9 hv hs9 ho9 hd
                have e1 : i ≠ m := by omega
                rw [upN_n e1] at hs9 ho9 hd
                rw [upO_n (hqb i (by omega))] at hd
                by_cases ex : x = b
                · rw [ex, upO_e]
                  by_cases eij : i = j
                  · rw [eij, hc] at hd
                    cases hd
                    exact ⟨c + 1, Nat.le_refl _, rfl⟩
                  · obtain ⟨d', _, e9⟩ := h8 i v x d (by omega) (by omega) hv hs9 ho9 hd
                    rw [ex, hcb] at e9
                    cases e9
                · rw [upO_n ex]
                  by_cases e : i = j ∧ v = w
                  · rw [e.1, e.2, hn] at hs9
                    cases hs9
                    exact absurd rfl ex
                  · exact h8 i v x d (by omega) (by omega) hv hs9 ho9 hd
              · intro x d hx hne hd
                by_cases ex : x = b
                · rw [ex, upO_e] at hd
                  cases hd
                  refine ⟨q j, c, hl.2, ⟨by rw [ex]; exact nxt_of hw' hn, by rw [ex]; exact ho, by rw [ex]; exact o1⟩, ?_, rfl⟩
                  rw [upO_n (hqb j hjm)]
                  exact hc
                · rw [upO_n ex] at hd
                  obtain ⟨y, d', hy, hE9, e9, e8⟩ := h9 x d hx hne hd
                  refine ⟨y, d', hy, hE9, ?_, e8⟩
                  rw [upO_n (fun e => by rw [e, hcb] at e9; cases e9)]
                  exact e9
              · intro q9 hq9
                rw [u2_n (fun e => hq9 (by rw [e]; simp)), u2_n (fun e => hq9 (by rw [e]; simp))]
                exact h10 q9 hq9
              · intro i d hi hd
                by_cases e1 : i = m
                · rw [e1, upN_e, upO_e] at hd
                  cases hd
                  omega
                · rw [upN_n e1, upO_n (hqb i (by omega))] at hd
                  exact h11 i d (by omega) hd
            · rw [if_neg (by rw [iI_n]; exact fun e => by have := (iI_le (by omega) (by omega)).mp e; omega)]
              exact same (fun b' hb' ho' => by rw [hn] at hb'; cases hb'; exact absurd ho' ho)
  · have hj' : j < 63 := by omega
    have oj := hop j
    have ext : ∀ v, v = on1 (cm0 j) → R (k (nI (j + 1)) (u2 (u2 g 12 j (nI (op j))) 13 j v)) Q := fun v hv => by
      refine hk (j + 1) _ _ (by omega) (by omega) ⟨rfl, fun q hq => ?_, fun x hx => ?_⟩
      · rw [u2_n (fun e => hq (by rw [e]; simp)), u2_n (fun e => hq (by rw [e]; simp))]
        exact hE q hq
      · rw [u2_n (by decide), u2_e, u2_e, u2_n (show (13 : Nat) ≠ 12 by decide)]
        by_cases e : x = j
        · rw [e, upd_e, upd_e, hv]
          exact ⟨rfl, rfl⟩
        · rw [upd_n e, upd_n e]
          exact hI x (by omega)
    rw [if_neg (nl63 hj'), hopn g hE j hj', cl1_s, ck_s hj' (by decide), ck_s hj' (by decide), nI_clamp (by omega), nI_1]
    by_cases e : j = 31
    · rw [if_pos (by rw [e]; rfl)]
      exact ext 0 (by rw [e, cm0_e]; rfl)
    · rw [if_neg (fun e9 => e ((l_eq (N := 31) (c := 31) rfl (by decide) (by omega)).mp e9)), ck_s hj' (by decide)]
      exact ext (-1) (by rw [cm0_n e]; rfl)
theorem M_lays {h : Hp} {U L : Nat → Nat} (H : HM h U L) : mX5_laysOpenings h = some (sN h 243 (fun g => nI (opn U L g)) 63) := by
  unfold mX5_laysOpenings
  simp only [nm_q]
  refine fx_g2 (fun j => nI j) (fun j => sN h 243 (fun g => nI (opn U L g)) j) 63 rfl (sN_0 _ _ _) (by decide) (fun j hj k => ?_) (fun k => ?_)
  · have Hj : HM (sN h 243 (fun g => nI (opn U L g)) j) U L := HM_c (sN_n (by decide)) H
    rw [if_neg (nl63 hj), M_opnOf Hj hj, cl1_s, ck_s hj (by decide), nI_clamp (by omega), nI_1]
    rw [sN_s h 243 (fun g => nI (opn U L g)) j]
  · rw [if_pos (show (63 : Int32) ≤ nI 63 by decide)]
/-- the reference's rounds: what holds while the glides of r steps are gone through -/
def RI (op : Nat → Nat) (st lim r : Nat) (cm : Nat → Option Nat) : Prop := cm 31 = some 0 ∧ (∀ x d, x < 63 → cm x = some d → d ≤ r + 1) ∧ (∀ g h d, g < 63 → h < 63 → d < r → cm g = some d → Ed op st lim g h → ∃ d', d' ≤ d + 1 ∧ cm h = some d') ∧ (∀ h d, h < 63 → h ≠ 31 → cm h = some d → ∃ g d', g < 63 ∧ Ed op st lim g h ∧ cm g = some d' ∧ d' + 1 = d)
theorem RI_up {op : Nat → Nat} {st lim r : Nat} {cm : Nat → Option Nat} (H : RI op st lim r cm) {a b : Nat} (ha : a < 63) (hca : cm a = some r) (hb : b < 63) (hcb : cm b = none) (hE : Ed op st lim a b) : RI op st lim r (upO cm b (r + 1)) := by
  obtain ⟨h1, h2, h3, h4⟩ := H
  refine ⟨?_, fun x d hx hd => ?_, fun g h d hg hh hd9 hd hE9 => ?_, fun h d hh hne hd => ?_⟩
  · by_cases e : (31 : Nat) = b
    · rw [← e, h1] at hcb
      cases hcb
    · rw [upO_n e]
      exact h1
  · by_cases e : x = b
    · rw [e, upO_e] at hd
      cases hd
      exact Nat.le_refl _
    · rw [upO_n e] at hd
      exact h2 x d hx hd
  · by_cases e : g = b
    · rw [e, upO_e] at hd
      cases hd
      omega
    · rw [upO_n e] at hd
      obtain ⟨d', hd', e9⟩ := h3 g h d hg hh hd9 hd hE9
      by_cases e2 : h = b
      · rw [e2, hcb] at e9
        cases e9
      · exact ⟨d', hd', by rw [upO_n e2]; exact e9⟩
  · by_cases e : h = b
    · rw [e, upO_e] at hd
      cases hd
      refine ⟨a, r, ha, by rw [e]; exact hE, ?_, rfl⟩
      rw [upO_n (fun e9 => by rw [e9, hcb] at hca; cases hca)]
      exact hca
    · rw [upO_n e] at hd
      obtain ⟨g, d', hg, hE9, e9, e8⟩ := h4 h d hh hne hd
      refine ⟨g, d', hg, hE9, ?_, e8⟩
      rw [upO_n (fun e7 => by rw [e7, hcb] at e9; cases e9)]
      exact e9
theorem M_rounds {h : Hp} {U L : Nat → Nat} (H : HM h U L) {st lim : Nat} (hst : st ≤ 50) (hlim : lim ≤ 50) (h31 : opn U L 31 ≤ lim) : R (mX5_rounds h (nI lim) (nI st)) (fun r => ∃ cm, DS (Ed (opn U L) st lim) cm ∧ r.1 = nI (cnt (isS cm) 63) ∧ (∀ x, x < 63 → r.2 244 x = on1 (cm x)) ∧ (∀ x d, x < 63 → cm x = some d → d < 1000) ∧ Ex [243, 244] h r.2) := by
  have hop := opn_le (HV_of H)
  unfold mX5_rounds
  rw [M_lays H, cl1_s]
  have e243 : ∀ g, Ex [244] (sN h 243 (fun g => nI (opn U L g)) 63) g → ∀ x, x < 63 → g 243 x = nI (opn U L x) := fun g hE x hx => by
    rw [hE 243 (by decide)]
    exact sN_k hx
  have eEx : ∀ g, Ex [244] (sN h 243 (fun g => nI (opn U L g)) 63) g → Ex [243, 244] h g := fun g hE q hq => by
    rw [hE q (fun e => hq (by simp at e; rw [e]; simp))]
    exact sN_n (fun e => hq (by rw [e]; simp))
  generalize sN h 243 (fun g => nI (opn U L g)) 63 = h2 at e243 eEx
  generalize opn U L = op at hop h31 e243
  rw [show mX5_glideOf 0 0 = some (nI 31) by decide, cl1_s]
  simp only [nm_q]
  refine R_q ?_
  intro Q hQ
  refine fx_R2 63 (fun j x g => x = nI j ∧ g = sN h2 244 (fun _ => -1) j) (by decide) ⟨rfl, (sN_0 _ _ _).symm⟩ ?_
  rintro j x g k hj ⟨rfl, rfl⟩ hk
  by_cases hj63 : j = 63
  · subst hj63
    have hE0 := Ex_sN h2 244 (fun _ => -1) 63
    rw [if_pos (show (63 : Int32) ≤ nI 63 by decide), ck_s (show 31 < 63 by decide) (by decide), nI_clamp (by decide), e243 _ hE0 31 (by decide), if_pos (nI_le h31 (by omega)), ck_s (show 31 < 63 by decide) (by decide)]
    clear hk k
    refine fx_R4 64 (fun r n mo x g => x = nI r ∧ ∃ cm, n = nI (cnt (isS cm) 63) ∧ Ex [244] h2 g ∧ (∀ x, x < 63 → g 244 x = on1 (cm x)) ∧ cm 31 = some 0 ∧ (∀ x d, x < 63 → cm x = some d → d ≤ r) ∧ (∀ g h d, g < 63 → h < 63 → d < r → cm g = some d → Ed op st lim g h → ∃ d', d' ≤ d + 1 ∧ cm h = some d') ∧ (∀ h d, h < 63 → h ≠ 31 → cm h = some d → ∃ g d', g < 63 ∧ Ed op st lim g h ∧ cm g = some d' ∧ d' + 1 = d) ∧ ((mo = 1 ∧ r + 1 ≤ cnt (isS cm) 63) ∨ (mo = 0 ∧ r ≤ 63 ∧ ∀ x d, x < 63 → cm x = some d → d < r))) (by decide) ?_ ?_
    · refine ⟨rfl, cm0, ?_, fun q hq => ?_, fun x hx => ?_, rfl, fun x d _ hd => ?_, fun g h d _ _ hd => by omega, fun x d hx hne hd => ?_, Or.inl ⟨rfl, ?_⟩⟩
      · decide +kernel
      · exact (Ex_u2 _ _ _ _ q hq).trans (hE0 q hq)
      · rw [u2_e]
        by_cases e : x = 31
        · rw [e, upd_e, cm0_e]
          rfl
        · rw [upd_n e, cm0_n e]
          exact sN_k hx
      · have := (cm0_d hd).2
        omega
      · exact absurd (cm0_d hd).1 hne
      · decide +kernel
    rintro r n mo x g k hr ⟨rfl, cm, rfl, hE, hG, c1, c2, c3, c4, hmo⟩ hk
    rcases hmo with ⟨rfl, hcnt⟩ | ⟨rfl, hr63, hlt⟩
    · rw [i10]
      have hr62 : r ≤ 62 := by
        have := cnt_le (isS cm) 63
        omega
      refine fx_R4 63 (fun i n mo x g => x = nI i ∧ ∃ cm', n = nI (cnt (isS cm') 63) ∧ Ex [244] h2 g ∧ (∀ x, x < 63 → g 244 x = on1 (cm' x)) ∧ RI op st lim r cm' ∧ (∀ a b, a < i → b < 63 → cm' a = some r → Ed op st lim a b → cm' b ≠ none) ∧ ((mo = 1 ∧ r + 2 ≤ cnt (isS cm') 63) ∨ (mo = 0 ∧ r + 1 ≤ cnt (isS cm') 63 ∧ ∀ x d, x < 63 → cm' x = some d → d ≤ r))) (by decide) ⟨rfl, cm, rfl, hE, hG, ⟨c1, fun x d hx hd => by have := c2 x d hx hd; omega, c3, c4⟩, fun a b ha => by omega, Or.inr ⟨rfl, hcnt, c2⟩⟩ ?_
      clear hE hG c1 c2 c3 c4 hcnt cm
      rintro i n mo x g k2 hi ⟨rfl, cm, rfl, hE, hG, hRI, hdone, hmo⟩ hk2
      by_cases hi63 : i = 63
      · subst hi63
        rw [if_pos (show (63 : Int32) ≤ nI 63 by decide), nI_1]
        refine hk (r + 1) _ _ _ _ (by omega) (by omega) ⟨rfl, cm, rfl, hE, hG, hRI.1, hRI.2.1, fun a b d ha hb hd9 hd hE9 => ?_, hRI.2.2.2, ?_⟩
        · by_cases e : d = r
          · subst e
            have hne := hdone a b ha hb hd hE9
            cases hcb : cm b with
            | none => exact absurd hcb hne
            | some d' => exact ⟨d', hRI.2.1 b d' hb hcb, rfl⟩
          · exact hRI.2.2.1 a b d ha hb (by omega) hd hE9
        · rcases hmo with ⟨e, h9⟩ | ⟨e, _, h9⟩
          · exact Or.inl ⟨e, by omega⟩
          · exact Or.inr ⟨e, by omega, fun x d hx hd => by have := h9 x d hx hd; omega⟩
      · have hi' : i < 63 := by omega
        rw [if_neg (nl63 hi')]
        refine fx_R4 63 (fun j n mo x g => x = nI j ∧ ∃ cm', n = nI (cnt (isS cm') 63) ∧ Ex [244] h2 g ∧ (∀ x, x < 63 → g 244 x = on1 (cm' x)) ∧ RI op st lim r cm' ∧ (∀ a b, a < i → b < 63 → cm' a = some r → Ed op st lim a b → cm' b ≠ none) ∧ (∀ b, b < j → cm' i = some r → Ed op st lim i b → cm' b ≠ none) ∧ ((mo = 1 ∧ r + 2 ≤ cnt (isS cm') 63) ∨ (mo = 0 ∧ r + 1 ≤ cnt (isS cm') 63 ∧ ∀ x d, x < 63 → cm' x = some d → d ≤ r))) (by decide) ⟨rfl, cm, rfl, hE, hG, hRI, hdone, fun b hb => by omega, hmo⟩ ?_
        clear hE hG hRI hdone hmo cm
        rintro j n mo x g k3 hj ⟨rfl, cm, rfl, hE, hG, hRI, hdone, hnow, hmo⟩ hk3
        have out : (cm i = some r → j = 63) → R (k2 (nI (cnt (isS cm) 63)) mo (nI i + 1) g) Q := fun hs => by
          rw [nI_1]
          refine hk2 (i + 1) _ _ _ _ (by omega) (by omega) ⟨rfl, cm, rfl, hE, hG, hRI, fun a b ha hb hca hE9 => ?_, hmo⟩
          by_cases e : a = i
          · subst e
            exact hnow b (by rw [hs hca]; exact hb) hca hE9
          · exact hdone a b (by omega) hb hca hE9
        by_cases hj63 : j = 63
        · rw [hj63, if_pos (show (63 : Int32) ≤ nI 63 by decide)]
          exact out (fun _ => hj63)
        · have hj' : j < 63 := by omega
          rw [if_neg (nl63 hj'), ck_s hi' (by decide), nI_clamp (by omega), hG i hi']
          by_cases hci : cm i = some r
          · rw [hci, show on1 (some r) = nI r from rfl, if_pos rfl, ck_s hj' (by decide), nI_clamp (by omega), hG j hj', nI_1]
            have same : (Ed op st lim i j → cm j ≠ none) → R (k3 (nI (cnt (isS cm) 63)) mo (nI (j + 1)) g) Q := fun hs => by
              refine hk3 (j + 1) _ _ _ _ (by omega) (by omega) ⟨rfl, cm, rfl, hE, hG, hRI, hdone, fun b hb hca hE9 => ?_, hmo⟩
              by_cases e : b = j
              · subst e
                exact hs hE9
              · exact hnow b (by omega) hca hE9
            cases hcj : cm j with
            | some d =>
              have := hRI.2.1 j d hj' hcj
              rw [show on1 (some d) = nI d from rfl, if_neg (ne_m1 (by omega))]
              exact same (fun _ h9 => by rw [hcj] at h9; cases h9)
            | none =>
              have o1 := hop i
              have o2 := hop j
              rw [show on1 none = -1 from rfl, if_pos rfl, M_isNext hi' hj', cl1_s]
              cases hnx : nxt i j with
              | false =>
                rw [bI_f, i00]
                exact same (fun hE9 => by rw [hE9.1] at hnx; cases hnx)
              | true =>
                rw [bI_t, i10, ck_s hj' (by decide), e243 g hE j hj', e243 g hE i hi']
                by_cases g1 : op j ≤ lim
                · rw [if_neg (nI_nlt g1 (by omega)), ck_s hj' (by decide), ck_s hi' (by decide), nI_sub, iI_n st]
                  by_cases g2 : op j ≤ op i + st
                  · have hEd : Ed op st lim i j := ⟨hnx, g2, g1⟩
                    rw [if_neg (fun e => by have := (iI_lt (by omega) (by omega)).mp e; omega), ck_s hj' (by decide), nI_1]
                    have hcn := cnt_ub (isS_f hcj) 63
                    rw [if_pos hj', ← isS_up cm j (r + 1)] at hcn
                    refine hk3 (j + 1) _ _ _ _ (by omega) (by omega) ⟨rfl, upO cm j (r + 1), by rw [hcn], fun q hq => (Ex_u2 _ _ _ _ q hq).trans (hE q hq), fun x hx => ?_, RI_up hRI hi' hci hj' hcj hEd, fun a b ha hb hca hE9 => ?_, fun b hb hca hE9 => ?_, Or.inl ⟨rfl, ?_⟩⟩
                    · rw [u2_e, nI_1]
                      exact on1_u hG x hx
                    · by_cases e : b = j
                      · rw [e, upO_e]
                        exact fun h9 => by cases h9
                      · rw [upO_n e]
                        by_cases e2 : a = j
                        · rw [e2, upO_e] at hca
                          have := Option.some.inj hca
                          omega
                        · rw [upO_n e2] at hca
                          exact hdone a b ha hb hca hE9
                    · by_cases e : b = j
                      · rw [e, upO_e]
                        exact fun h9 => by cases h9
                      · rw [upO_n e]
                        exact hnow b (by omega) hci hE9
                    · rcases hmo with ⟨_, h9⟩ | ⟨_, h9, _⟩ <;> omega
                  · rw [if_pos ((iI_lt (by omega) (by omega)).mpr (by omega))]
                    exact same (fun hE9 => absurd hE9.2.1 g2)
                · rw [if_pos (nI_lt (by omega) (by omega))]
                  exact same (fun hE9 => absurd hE9.2.2 g1)
          · have hne : ¬ on1 (cm i) = nI r := by
              cases e : cm i with
              | none => exact fun h9 => ne_m1 (n := r) (by omega) h9.symm
              | some d =>
                have := hRI.2.1 i d hi' e
                intro h9
                have := (nI_eq (by omega) (by omega)).mp (show nI d = nI r from h9)
                rw [e, this] at hci
                exact hci rfl
            rw [if_neg hne]
            exact out (fun h9 => absurd h9 hci)
    · rw [i00]
      rw [hQ]; refine R_some ⟨cm, ⟨c1, fun a b d ha hb hd hE9 => c3 a b d ha hb (hlt a d ha hd) hd hE9, c4⟩, rfl, hG, fun x d hx hd => by have := c2 x d hx hd; omega, eEx g hE⟩
  · have hj' : j < 63 := by omega
    rw [if_neg (nl63 hj'), ck_s hj' (by decide), nI_clamp (by omega), nI_1, sN_s h2 244 (fun _ => -1) j]
    exact hk (j + 1) _ _ (by omega) (by omega) ⟨rfl, rfl⟩
