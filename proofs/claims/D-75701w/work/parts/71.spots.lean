/-! groups (the class), gathers (the reference); spots, pieces -/
set_option maxRecDepth 100000
/-- the state of a spot that is being taken -/
def BF (h0 : Hp) (P Gn : Nat → Bool) (p k w m : Nat) (g : Hp) : Prop := ∃ (ln : Nat → Nat) (D : Nat → Bool), (∀ i, i < m → g 17 i = nI (ln i) ∧ ln i < 48 ∧ Cn P p (ln i) ∧ Gn (ln i) = false) ∧ (∀ q, q < 48 → g 16 q = bI (D q)) ∧ (∀ q, q < 48 → (D q = true ↔ Gn q = true ∨ ∃ i, i < m ∧ ln i = q)) ∧ m + cnt Gn 48 = cnt D 48 ∧ (∃ i, i < m ∧ ln i = p) ∧ (∀ i v b, i < m → (i < k ∨ (i = k ∧ v < w)) → v < 4 → nb (ln i) v = some b → P b = true → D b = true) ∧ Ex [16, 17] h0 g
theorem BF_end {h0 : Hp} {P Gn : Nat → Bool} {p m : Nat} {g : Hp} (hp : p < 48) (hP : P p = true) (hGn : ∀ a b w, a < 48 → w < 4 → nb a w = some b → P a = true → P b = true → Gn a = true → Gn b = true) (H : BF h0 P Gn p m 0 m g) : m = csz P p ∧ (∀ q, q < 48 → g 16 q = bI (bo (Gn q = true ∨ Cn P p q))) ∧ Ex [16, 17] h0 g := by
  obtain ⟨ln, D, h1, h2, h3, h4, h5, h6, h7⟩ := H
  have hin : ∀ q, Cn P p q → ∃ i, i < m ∧ ln i = q := fun q hq => by
    refine hq (fun x => ∃ i, i < m ∧ ln i = x) (fun a b w ha hw hn pa pb ht => ?_) h5
    obtain ⟨i, hi, e⟩ := ht
    subst e
    have hD := h6 i w b hi (Or.inl hi) hw hn pb
    have hb := nb_lt ha hw hn
    rcases (h3 b hb).mp hD with hg | hg
    · have := hGn b (ln i) (swy w) hb (swy_lt hw) (nb_sym ha hw hn) pb pa hg
      rw [(h1 i hi).2.2.2] at this
      cases this
    · exact hg
  have hD : ∀ q, q < 48 → (D q = true ↔ Gn q = true ∨ Cn P p q) := fun q hq => by
    rw [h3 q hq]
    constructor
    · rintro (e | ⟨i, hi, e⟩)
      · exact Or.inl e
      · rw [← e]
        exact Or.inr (h1 i hi).2.2.1
    · rintro (e | e)
      · exact Or.inl e
      · exact Or.inr (hin q e)
  refine ⟨?_, fun q hq => ?_, h7⟩
  · have hc := cnt_or (A := Gn) (B := fun q => bo (Cn P p q)) (D := D) 48 (fun q hq => ⟨by rw [bo_i]; exact hD q hq, fun h9 => by
      obtain ⟨i, hi, e⟩ := hin q (bo_i.mp h9.2)
      have := (h1 i hi).2.2.2
      rw [e, h9.1] at this
      cases this⟩)
    unfold csz
    omega
  · rw [h2 q hq]
    congr 1
    cases hd : D q with
    | true => rw [bo_t ((hD q hq).mp hd)]
    | false => rw [bo_f (fun h9 => by rw [(hD q hq).mpr h9] at hd; cases hd)]
theorem X_takesSpot {h : Hp} {P Gn : Nat → Bool} {p : Nat} (hM : ∀ q, q < 48 → h 2 q = bI (P q)) (hg : ∀ q, q < 48 → h 16 q = bI (Gn q)) (hGn : ∀ a b w, a < 48 → w < 4 → nb a w = some b → P a = true → P b = true → Gn a = true → Gn b = true) (hp : p < 48) (hP : P p = true) (hpG : Gn p = false) : R (mX0_takesSpot h (nI p)) (fun r => r.1 = nI (csz P p) ∧ (∀ q, q < 48 → r.2 16 q = bI (bo (Gn q = true ∨ Cn P p q))) ∧ Ex [16, 17] h r.2) := by
  unfold mX0_takesSpot
  rw [nm_s, ck_s hp (by decide), nI_clamp (by omega), nar_1]
  simp only [nm_q]
  have hM' : ∀ g, Ex [16, 17] h g → ∀ q, q < 48 → g 2 q = bI (P q) := fun g hE q hq => by
    rw [hE 2 (by decide)]
    exact hM q hq
  refine fx_R3 48 (fun j m x g => x = nI j ∧ ∃ m', m = nI m' ∧ j ≤ m' ∧ BF h P Gn p j 0 m' g) (by decide) ?_ ?_
  · refine ⟨rfl, 1, rfl, by omega, fun _ => p, ubb Gn p, fun i hi => ⟨?_, hp, Cn_r P p, hpG⟩, fun q hq => ?_, fun q hq => ?_, ?_, ⟨0, by omega, rfl⟩, fun i v b hi hc => by omega, fun q hq => ?_⟩
    · have e : i = 0 := by omega
      subst e
      rw [u2_n (by decide), u2_e, upd_e]
    · rw [u2_e]
      by_cases e : q = p
      · rw [e, upd_e, ubb_e, bI_t]
      · rw [upd_n e, u2_n (by decide), ubb_n e]
        exact hg q hq
    · by_cases e : q = p
      · rw [e, ubb_e]
        exact ⟨fun _ => Or.inr ⟨0, by omega, rfl⟩, fun _ => rfl⟩
      · rw [ubb_n e]
        constructor
        · exact Or.inl
        · rintro (h9 | ⟨i, _, h9⟩)
          · exact h9
          · exact absurd h9.symm e
    · rw [cnt_ub hpG, if_pos hp]
      omega
    · rw [u2_n (fun e => hq (by rw [e]; simp)), u2_n (fun e => hq (by rw [e]; simp))]
  · rintro j x2 x g k hj ⟨rfl, m, rfl, hjm, hB⟩ hk
    have hm48 : m ≤ 48 := by
      obtain ⟨ln, D, _, _, _, h4, _⟩ := hB
      have := cnt_le D 48
      omega
    by_cases hjm2 : j = m
    · subst hjm2
      rw [if_pos (nI_le (Nat.le_refl _) (by omega))]
      have := BF_end hp hP hGn hB
      exact R_some ⟨by rw [this.1], this.2⟩
    · rw [if_neg (nI_ge (by omega) (by omega))]
      refine fx_R3 4 (fun w m x g => x = nI w ∧ ∃ m', m = nI m' ∧ j < m' ∧ BF h P Gn p j w m' g) (by decide) ⟨rfl, m, rfl, by omega, hB⟩ ?_
      clear hB hm48 hjm2 hjm
      rintro w x2 x g k2 hw ⟨rfl, m, rfl, hjm, hB⟩ hk2
      have hm48 : m ≤ 48 := by
        obtain ⟨ln, D, _, _, _, h4, _⟩ := hB
        have := cnt_le D 48
        omega
      by_cases hw4 : w = 4
      · subst hw4
        rw [if_pos (show (4 : Int32) ≤ nI 4 by decide), nI_1]
        refine hk (j + 1) _ _ _ (by omega) (by omega) ⟨rfl, m, rfl, by omega, ?_⟩
        obtain ⟨ln, D, h1, h2, h3, h4, h5, h6, h7⟩ := hB
        refine ⟨ln, D, h1, h2, h3, h4, h5, fun i v b hi hc hv hn pb => h6 i v b hi ?_ hv hn pb, h7⟩
        by_cases e : i = j
        · exact Or.inr ⟨e, hv⟩
        · exact Or.inl (by omega)
      · have hw' : w < 4 := by omega
        obtain ⟨ln, D, h1, h2, h3, h4, h5, h6, h7⟩ := hB
        have hl := h1 j hjm
        rw [if_neg (nl4 hw'), ck_s (show j < 48 by omega) (by decide), nI_clamp (by omega), hl.1, X_beside hl.2.1 hw', cl1_s, nI_1]
        have same : (∀ b, nb (ln j) w = some b → P b = true → D b = true) → R (k2 (nI m) (nI (w + 1)) g) (fun r => r.1 = nI (csz P p) ∧ (∀ q, q < 48 → r.2 16 q = bI (bo (Gn q = true ∨ Cn P p q))) ∧ Ex [16, 17] h r.2) := fun hs => by
          refine hk2 (w + 1) _ _ _ (by omega) (by omega) ⟨rfl, m, rfl, hjm, ln, D, h1, h2, h3, h4, h5, fun i v b hi hc hv hn pb => ?_, h7⟩
          by_cases e : i = j ∧ v = w
          · rw [e.1, e.2] at hn
            exact hs b hn pb
          · exact h6 i v b hi (by omega) hv hn pb
        cases hn : nb (ln j) w with
        | none =>
          rw [show on1 none = -1 from rfl, if_pos rfl]
          exact same (fun b hb => by rw [hn] at hb; cases hb)
        | some b =>
          have hb := nb_lt hl.2.1 hw' hn
          rw [show on1 (some b) = nI b from rfl, if_neg (ne_m1 (by omega)), ck_s hb (by decide), ck_s hb (by decide), ck_s hb (by decide), nI_clamp (by omega), h2 b hb, hM' g h7 b hb]
          cases hD : D b with
          | true =>
            rw [bI_t, i10]
            exact same (fun b' hb' _ => by rw [hn] at hb'; cases hb'; exact hD)
          | false =>
            rw [bI_f, i00]
            cases hPb : P b with
            | false =>
              rw [bI_f, i00]
              exact same (fun b' hb' pb => by rw [hn] at hb'; cases hb'; rw [hPb] at pb; cases pb)
            | true =>
              have hm47 : m < 48 := by
                have := cnt_lt 48 ⟨b, hb, hD⟩
                omega
              have hbG : Gn b = false := by
                cases h9 : Gn b with
                | false => rfl
                | true => rw [(h3 b hb).mpr (Or.inl h9)] at hD; cases hD
              have hnl : ∀ i, i < m → ln i ≠ b := fun i hi e => by
                rw [(h3 b hb).mpr (Or.inr ⟨i, hi, e⟩)] at hD
                cases hD
              rw [bI_t, i10, ck_s hm47 (by decide), nI_clamp (by omega), nI_1]
              refine hk2 (w + 1) _ _ _ (by omega) (by omega) ⟨rfl, m + 1, rfl, by omega, upN ln m b, ubb D b, fun i hi => ?_, fun q hq => ?_, fun q hq => ?_, ?_, ?_, fun i v b' hi hc hv hn' pb => ?_, fun q hq => ?_⟩
              · by_cases e : i = m
                · subst e
                  rw [upN_e, u2_e, upd_e]
                  exact ⟨rfl, hb, Cn_t hl.2.2.1 (Cn_1 hl.2.1 hw' hn (Cn_P hl.2.2.1 hP) hPb), hbG⟩
                · have h9 := h1 i (by omega)
                  rw [upN_n e, u2_e, upd_n e, u2_n (by decide)]
                  exact h9
              · rw [u2_n (by decide), u2_e]
                by_cases e : q = b
                · rw [e, upd_e, ubb_e, bI_t]
                · rw [upd_n e, ubb_n e]
                  exact h2 q hq
              · by_cases e : q = b
                · rw [e, ubb_e]
                  exact ⟨fun _ => Or.inr ⟨m, by omega, upN_e _ _ _⟩, fun _ => rfl⟩
                · rw [ubb_n e, h3 q hq]
                  constructor
                  · rintro (h9 | ⟨i, hi, h9⟩)
                    · exact Or.inl h9
                    · exact Or.inr ⟨i, by omega, by rw [upN_n (by omega)]; exact h9⟩
                  · rintro (h9 | ⟨i, hi, h9⟩)
                    · exact Or.inl h9
                    · by_cases e2 : i = m
                      · rw [e2, upN_e] at h9
                        exact absurd h9.symm e
                      · rw [upN_n e2] at h9
                        exact Or.inr ⟨i, by omega, h9⟩
              · rw [cnt_ub hD, if_pos hb]
                omega
              · obtain ⟨i, hi, e⟩ := h5
                exact ⟨i, by omega, by rw [upN_n (by omega)]; exact e⟩
              · by_cases e2 : i = m
                · omega
                · rw [upN_n e2] at hn'
                  by_cases e3 : b' = b
                  · rw [e3, ubb_e]
                  · rw [ubb_n e3]
                    by_cases e : i = j ∧ v = w
                    · rw [e.1, e.2, hn] at hn'
                      cases hn'
                      exact absurd rfl e3
                    · exact h6 i v b' (by omega) (by omega) hv hn' pb
              · rw [u2_n (fun e => hq (by rw [e]; simp)), u2_n (fun e => hq (by rw [e]; simp))]
                exact h7 q hq
noncomputable def grP (P : Nat → Bool) (w : Nat) : Int32 := if w = 0 then nI (gN P 48) else nI (gL P 48)
theorem X_groups {h : Hp} {P : Nat → Bool} (hM : ∀ q, q < 48 → h 2 q = bI (P q)) {w : Nat} (hw : w < 2) : R (mX0_groups h (nI w)) (fun r => r.1 = grP P w ∧ Ex [16, 17] h r.2) := by
  unfold mX0_groups
  simp only [nm_q]
  refine fx_R2 48 (fun j x g => x = nI j ∧ g = sN h 16 (fun _ => 0) j) (by decide) ⟨rfl, (sN_0 _ _ _).symm⟩ ?_
  rintro j x g k hj ⟨rfl, rfl⟩ hk
  by_cases hj8 : j = 48
  · subst hj8
    rw [if_pos (show (48 : Int32) ≤ nI 48 by decide)]
    clear hk k
    refine fx_R4 48 (fun j n l x g => x = nI j ∧ n = nI (gN P j) ∧ l = nI (gL P j) ∧ Ex [16, 17] h g ∧ ∀ q, q < 48 → g 16 q = bI (bo (∃ a, a < j ∧ P a = true ∧ Cn P a q))) (by decide) ⟨rfl, rfl, rfl, fun q hq => sN_n (fun e => hq (by rw [e]; simp)), fun q hq => ?_⟩ ?_
    · rw [sN_k hq, bo_f (fun ⟨a, ha, _⟩ => by omega)]
      rfl
    rintro j n l x g k hj ⟨rfl, rfl, rfl, hE, hD⟩ hk
    by_cases hj8 : j = 48
    · subst hj8
      rw [if_pos (show (48 : Int32) ≤ nI 48 by decide)]
      rcases nI2 hw with e | e
      · subst e
        rw [if_pos (show nI 0 = (0 : Int32) from rfl)]
        exact R_some ⟨rfl, hE⟩
      · subst e
        rw [if_neg (show ¬ nI 1 = (0 : Int32) by decide)]
        exact R_some ⟨rfl, hE⟩
    · have hj' : j < 48 := by omega
      have hM' : ∀ q, q < 48 → g 2 q = bI (P q) := fun q hq => by
        rw [hE 2 (by decide)]
        exact hM q hq
      rw [if_neg (nl48 hj'), ck_s hj' (by decide), ck_s hj' (by decide), nI_clamp (by omega), hM' j hj', hD j hj', nI_1]
      have same : ¬ root P j → (P j = true → ∃ a, a < j ∧ P a = true ∧ Cn P a j) → R (k (nI (gN P j)) (nI (gL P j)) (nI (j + 1)) g) (fun r => r.1 = grP P w ∧ Ex [16, 17] h r.2) := fun hr hs => by
        refine hk (j + 1) _ _ _ _ (by omega) (by omega) ⟨rfl, ?_, ?_, hE, fun q hq => ?_⟩
        · unfold gN
          rw [cnt_sf (P := fun p => bo (root P p)) (bo_f hr)]
        · rw [gL_s, rsz_f hr, Nat.max_eq_left (Nat.zero_le _)]
        · rw [hD q hq]
          congr 1
          refine bo_c ⟨fun ⟨a, h1, h2⟩ => ⟨a, by omega, h2⟩, fun ⟨a, h1, h2, h3⟩ => ?_⟩
          by_cases e : a = j
          · subst e
            obtain ⟨b, hb, hb2, hb3⟩ := hs h2
            exact ⟨b, hb, hb2, Cn_t hb3 h3⟩
          · exact ⟨a, by omega, h2, h3⟩
      cases hPj : P j with
      | false =>
        rw [bI_f, i00]
        exact same (fun hr => by rw [hr.1] at hPj; cases hPj) (fun h9 => by rw [hPj] at h9; cases h9)
      | true =>
        rw [bI_t, i10]
        by_cases hg : ∃ a, a < j ∧ P a = true ∧ Cn P a j
        · rw [bo_t hg, bI_t, i10]
          refine same (fun hr => ?_) (fun _ => hg)
          obtain ⟨a, h1, h2, h3⟩ := hg
          have := hr.2 a (Cn_y h3)
          omega
        · rw [bo_f hg, bI_f, i00]
          have hr : root P j := ⟨hPj, fun q hq => by
            by_cases c : q < j
            · exact absurd ⟨q, c, Cn_P hq hPj, Cn_y hq⟩ hg
            · omega⟩
          refine R_c2 (X_takesSpot (Gn := fun q => bo (∃ a, a < j ∧ P a = true ∧ Cn P a q)) hM' hD (fun a b w ha hw9 hn pa pb h9 => ?_) hj' hPj (bo_f hg)) ?_
          · obtain ⟨c, h1, h2, h3⟩ := bo_i.mp h9
            exact bo_t ⟨c, h1, h2, Cn_t h3 (Cn_1 ha hw9 hn pa pb)⟩
          · rintro r1 g1 ⟨e1, hD1, hE1⟩
            dsimp only at e1 hD1 hE1
            subst e1
            have hcs : csz P j ≤ 48 := cnt_le _ _
            have hgl := gL_le P j
            rw [jmax_s (by omega) (by omega), nI_1]
            refine hk (j + 1) _ _ _ _ (by omega) (by omega) ⟨rfl, ?_, ?_, fun q hq => (hE1 q hq).trans (hE q hq), fun q hq => ?_⟩
            · unfold gN
              rw [cnt_st (P := fun p => bo (root P p)) (bo_t hr)]
            · rw [gL_s, rsz_t hr]
            · rw [hD1 q hq]
              congr 1
              refine bo_c ⟨?_, fun ⟨a, h1, h2, h3⟩ => ?_⟩
              · rintro (h9 | h9)
                · obtain ⟨a, h1, h2⟩ := bo_i.mp h9
                  exact ⟨a, by omega, h2⟩
                · exact ⟨j, by omega, hPj, h9⟩
              · by_cases e : a = j
                · subst e
                  exact Or.inr h3
                · exact Or.inl (bo_t ⟨a, by omega, h2, h3⟩)
  · have hj' : j < 48 := by omega
    rw [if_neg (nl48 hj'), ck_s hj' (by decide), nI_clamp (by omega), nar_0, nI_1, sN_s h 16 (fun _ => 0) j]
    exact hk (j + 1) _ _ (by omega) (by omega) ⟨rfl, rfl⟩
/-! the reference -/
theorem M_lowB {h : Hp} {P : Nat → Bool} {G : Nat → Nat} (hP : ∀ q, q < 48 → h 245 q = bI (P q)) (hG : ∀ q, q < 48 → h 246 q = nI (G q) ∧ G q < 48) {p : Nat} (hp : p < 48) : R (mX5_lowestBeside h (nI p)) (fun r => ∃ v, r = nI v ∧ v ≤ G p ∧ (∀ w q, w < 4 → nb p w = some q → P q = true → v ≤ G q) ∧ (v = G p ∨ ∃ w q, w < 4 ∧ nb p w = some q ∧ P q = true ∧ v = G q)) := by
  unfold mX5_lowestBeside
  rw [ck_s hp (by decide), nI_clamp (by omega), (hG p hp).1]
  simp only [nm_q]
  have hgp := (hG p hp).2
  refine fx_R2 4 (fun j a x => x = nI j ∧ ∃ v, a = nI v ∧ v ≤ G p ∧ (∀ w q, w < j → nb p (swy w) = some q → P q = true → v ≤ G q) ∧ (v = G p ∨ ∃ w q, w < 4 ∧ nb p w = some q ∧ P q = true ∧ v = G q)) (by decide) ⟨rfl, G p, rfl, Nat.le_refl _, fun w q hw => by omega, Or.inl rfl⟩ ?_
  rintro j a x k hj ⟨rfl, v, rfl, hv, h1, h2⟩ hk
  by_cases hj4 : j = 4
  · subst hj4
    rw [if_pos (show (4 : Int32) ≤ nI 4 by decide)]
    exact R_some ⟨v, rfl, hv, fun w q hw hq => h1 (swy w) q (swy_lt hw) (by rw [swy_2 hw]; exact hq), h2⟩
  · have hj' : j < 4 := by omega
    rw [if_neg (nl4 hj'), M_beside hp hj', cl1_s, nI_1]
    have same : (∀ q, nb p (swy j) = some q → P q = true → v ≤ G q) → R (k (nI v) (nI (j + 1))) (fun r => ∃ v, r = nI v ∧ v ≤ G p ∧ (∀ w q, w < 4 → nb p w = some q → P q = true → v ≤ G q) ∧ (v = G p ∨ ∃ w q, w < 4 ∧ nb p w = some q ∧ P q = true ∧ v = G q)) := fun hs => by
      refine hk (j + 1) _ _ (by omega) (by omega) ⟨rfl, v, rfl, hv, fun w q hw hq pq => ?_, h2⟩
      by_cases e : w = j
      · rw [e] at hq
        exact hs q hq pq
      · exact h1 w q (by omega) hq pq
    cases hn : nb p (swy j) with
    | none =>
      rw [show on1 none = -1 from rfl, if_pos rfl]
      exact same (fun q hq => by rw [hn] at hq; cases hq)
    | some q =>
      have hq := nb_lt hp (swy_lt hj') hn
      have hgq := hG q hq
      rw [show on1 (some q) = nI q from rfl, if_neg (ne_m1 (by omega)), ck_s hq (by decide), ck_s hq (by decide), nI_clamp (by omega), hP q hq, hgq.1]
      cases hPq : P q with
      | false =>
        rw [bI_f, i00]
        exact same (fun q' hq' pq => by rw [hn] at hq'; cases hq'; rw [hPq] at pq; cases pq)
      | true =>
        rw [bI_t, i10, M_min (by omega) (by omega), cl1_s]
        refine hk (j + 1) _ _ (by omega) (by omega) ⟨rfl, min v (G q), rfl, by omega, fun w q' hw hq' pq => ?_, ?_⟩
        · by_cases e : w = j
          · rw [e, hn] at hq'
            cases hq'
            omega
          · have := h1 w q' (by omega) hq' pq
            omega
        · by_cases c : v ≤ G q
          · rw [Nat.min_eq_left c]
            exact h2
          · rw [Nat.min_eq_right (by omega)]
            exact Or.inr ⟨swy j, q, swy_lt hj', hn, hPq, rfl⟩
/-- labels on their way down -/
def LBw (P : Nat → Bool) (G : Nat → Nat) : Prop := ∀ p, p < 48 → G p ≤ p ∧ (P p = false → G p = p) ∧ (P p = true → Cn P p (G p))
theorem LBw_end {P : Nat → Bool} {G : Nat → Nat} (H : LBw P G) (hF : ∀ p, p < 48 → P p = true → ∀ w q, w < 4 → nb p w = some q → P q = true → G p ≤ G q) : LBs P G := fun p hp => by
  refine ⟨by have := (H p hp).1; omega, (H p hp).2.1, fun hP => ⟨(H p hp).2.2 hP, fun q hq => ?_⟩⟩
  have e : G q = G p := hq (fun x => G x = G p) (fun a b w ha hw hn pa pb ht => by
    have h1 := hF a ha pa w b hw hn pb
    have h2 := hF b (nb_lt ha hw hn) pb (swy w) a (swy_lt hw) (nb_sym ha hw hn) pa
    omega) rfl
  have := (H q (Cn_lt hq hp)).1
  exact ⟨by omega, e⟩
theorem M_gathers {h : Hp} {P : Nat → Bool} (hP : ∀ q, q < 48 → h 245 q = bI (P q)) : R (mX5_gathers h) (fun g => ∃ G, LBs P G ∧ (∀ q, q < 48 → g 246 q = nI (G q)) ∧ g 300 47 = nI (gN P 48) ∧ g 300 48 = nI (gL P 48) ∧ Ex [246, 300] h g ∧ ∀ i, i ≠ 47 → i ≠ 48 → g 300 i = h 300 i) := by
  have hPx : ∀ g, Ex [246] h g → ∀ q, q < 48 → g 245 q = bI (P q) := fun g hE q hq => by
    rw [hE 245 (by decide)]
    exact hP q hq
  unfold mX5_gathers
  refine R_q ?_
  intro Q hQ
  refine fx_R2 48 (fun j x g => x = nI j ∧ g = sN h 246 nI j) (by decide) ⟨rfl, (sN_0 _ _ _).symm⟩ ?_
  rintro j x g k hj ⟨rfl, rfl⟩ hk
  by_cases hj8 : j = 48
  · subst hj8
    rw [if_pos (show (48 : Int32) ≤ nI 48 by decide)]
    clear hk k
    refine fx_R2 1129 (fun j mv g => ∃ G, Ex [246] h g ∧ (∀ q, q < 48 → g 246 q = nI (G q)) ∧ LBw P G ∧ ((mv = 1 ∧ j + smN G 48 ≤ 1128) ∨ (mv = 0 ∧ ∀ p, p < 48 → P p = true → ∀ w q, w < 4 → nb p w = some q → P q = true → G p ≤ G q))) (by decide) ⟨fun p => p, Ex_sN _ _ _ _, fun q hq => sN_k hq, fun p hp => ⟨Nat.le_refl _, fun _ => rfl, fun _ => Cn_r P p⟩, Or.inl ⟨rfl, by show 0 + smN (fun p => p) 48 ≤ 1128; decide +kernel⟩⟩ ?_
    rintro j mv g k hj ⟨G, hE, hG, hL, hc⟩ hk
    rcases hc with ⟨rfl, hS⟩ | ⟨rfl, hF⟩
    · -- a round
      rw [i10]
      refine fx_R3 48 (fun i mv x g => x = nI i ∧ ∃ G', Ex [246] h g ∧ (∀ q, q < 48 → g 246 q = nI (G' q)) ∧ LBw P G' ∧ ((mv = 1 ∧ smN G' 48 < smN G 48) ∨ (mv = 0 ∧ smN G' 48 = smN G 48 ∧ ∀ p, p < i → P p = true → ∀ w q, w < 4 → nb p w = some q → P q = true → G' p ≤ G' q))) (by decide) ⟨rfl, G, hE, hG, hL, Or.inr ⟨rfl, rfl, fun p hp => by omega⟩⟩ ?_
      clear hE hG
      rintro i mv x g k2 hi ⟨rfl, G', hE, hG, hL', hc⟩ hk2
      by_cases hi8 : i = 48
      · subst hi8
        rw [if_pos (show (48 : Int32) ≤ nI 48 by decide)]
        rcases hc with ⟨rfl, hlt⟩ | ⟨rfl, _, hF⟩
        · exact hk (j + 1) _ _ (by omega) (by omega) ⟨G', hE, hG, hL', Or.inl ⟨rfl, by omega⟩⟩
        · exact hk (j + 1) _ _ (by omega) (by omega) ⟨G', hE, hG, hL', Or.inr ⟨rfl, hF⟩⟩
      · have hi' : i < 48 := by omega
        have hgi := (hL' i hi').1
        rw [if_neg (nl48 hi')]
        simp only [nm_q]
        rw [ck_s hi' (by decide), nI_clamp (by omega), hPx g hE i hi', nI_1]
        have same : (P i = true → ∀ w q, w < 4 → nb i w = some q → P q = true → G' i ≤ G' q) → R (k2 mv (nI (i + 1)) g) Q := fun hs => by
          refine hk2 (i + 1) _ _ _ (by omega) (by omega) ⟨rfl, G', hE, hG, hL', ?_⟩
          rcases hc with h9 | ⟨e, e2, hF⟩
          · exact Or.inl h9
          · refine Or.inr ⟨e, e2, fun p hp pp => ?_⟩
            by_cases e3 : p = i
            · rw [e3] at pp ⊢
              exact hs pp
            · exact hF p (by omega) pp
        cases hPi : P i with
        | false =>
          rw [bI_f, i00, ck_s hi' (by decide), hG i hi', if_pos (nI_le hgi (by omega))]
          exact same (fun h9 => by rw [hPi] at h9; cases h9)
        | true =>
          rw [bI_t, i10]
          refine R_c1 (M_lowB (hPx g hE) (fun q hq => ⟨hG q hq, by have := (hL' q hq).1; omega⟩) hi') ?_
          rintro a ⟨v, rfl, hv, hv1, hv2⟩
          rw [ck_s hi' (by decide), hG i hi']
          by_cases c : G' i ≤ v
          · rw [if_pos (nI_le c (by omega))]
            exact same (fun _ w q hw hq pq => by have := hv1 w q hw hq pq; omega)
          · rw [if_neg (nI_leN (by omega) (by omega) c), ck_s hi' (by decide)]
            have hsm := (smN_up (f := G') (i := i) (v := v) 48).1 hi'
            refine hk2 (i + 1) _ _ _ (by omega) (by omega) ⟨rfl, upN G' i v, fun q hq => (Ex_u2 _ _ _ _ q hq).trans (hE q hq), fun q hq => ?_, fun p hp => ?_, Or.inl ⟨rfl, ?_⟩⟩
            · rw [u2_e]
              by_cases e : q = i
              · rw [e, upd_e, upN_e]
              · rw [upd_n e, upN_n e]
                exact hG q hq
            · by_cases e : p = i
              · rw [e, upN_e]
                refine ⟨by omega, (fun h9 => by rw [hPi] at h9; cases h9), fun _ => ?_⟩
                rcases hv2 with h9 | ⟨w, q, hw, hq, pq, e9⟩
                · omega
                · rw [e9]
                  exact Cn_t (Cn_1 hi' hw hq hPi pq) ((hL' q (nb_lt hi' hw hq)).2.2 pq)
              · rw [upN_n e]
                exact hL' p hp
            · rcases hc with ⟨_, h9⟩ | ⟨_, h9, _⟩ <;> omega
    · -- behind the rounds
      rw [i00, nm_s, nm_s]
      clear hk k
      have hB := LBw_end hL hF
      refine fx_R2 48 (fun j x g' => x = nI j ∧ Ex [300] g g' ∧ g' 300 47 = nI (gN P j) ∧ g' 300 48 = nI (gL P j) ∧ ∀ i, i ≠ 47 → i ≠ 48 → g' 300 i = g 300 i) (by decide) ⟨rfl, fun q hq => ?_, ?_, ?_, fun i h1 h2 => ?_⟩ ?_
      · rw [u2_n (fun e => hq (by rw [e]; simp)), u2_n (fun e => hq (by rw [e]; simp))]
      · rw [u2_e, upd_n (by decide), u2_e, upd_e]
        rfl
      · rw [u2_e, upd_e]
        rfl
      · rw [u2_e, upd_n h2, u2_e, upd_n h1]
      rintro j x g' k hj ⟨rfl, hE', h47, h48, hoth⟩ hk
      by_cases hj8 : j = 48
      · subst hj8
        rw [if_pos (show (48 : Int32) ≤ nI 48 by decide)]
        rw [hQ]; refine R_some ⟨G, hB, fun q hq => ?_, h47, h48, fun q hq => ?_, fun i h1 h2 => ?_⟩
        · rw [hE' 246 (by decide)]
          exact hG q hq
        · rw [hE' q (fun e => hq (by simp at e; rw [e]; simp)), hE q (fun e => hq (by simp at e; rw [e]; simp))]
        · rw [hoth i h1 h2, hE 300 (by decide)]
      · have hj' : j < 48 := by omega
        rw [if_neg (nl48 hj')]
        have hsz := LBs_size hB hj'
        have hPg : ∀ q, q < 48 → g' 245 q = bI (P q) := fun q hq => by
          rw [hE' 245 (by decide)]
          exact hPx g hE q hq
        have hGg : ∀ q, q < 48 → g' 246 q = nI (G q) := fun q hq => by
          rw [hE' 246 (by decide)]
          exact hG q hq
        refine fx_R2 48 (fun i s x => x = nI i ∧ s = nI (cnt (fun p => P p && decide (G p = j)) i)) (by decide) ⟨rfl, rfl⟩ ?_
        rintro i s x k2 hi ⟨rfl, rfl⟩ hk2
        by_cases hi8 : i = 48
        · subst hi8
          have hrle := rsz_le P j
          have hgl := gL_le P j
          rw [if_pos (show (48 : Int32) ≤ nI 48 by decide), hsz]
          simp only [nm_q]
          by_cases hr : root P j
          · have hpos : 0 < rsz P j := by
              rw [rsz_t hr]
              exact csz_pos hj'
            rw [if_neg (nI_nle hpos (by omega)), u2_e, upd_n (by decide), h48, M_max (by omega) (by omega), cl1_s, nI_1]
            refine hk (j + 1) _ _ (by omega) (by omega) ⟨rfl, fun q hq => ?_, ?_, ?_, fun i h1 h2 => ?_⟩
            · rw [u2_n (fun e => hq (by rw [e]; simp)), u2_n (fun e => hq (by rw [e]; simp))]
              exact hE' q hq
            · rw [u2_e, upd_n (by decide), u2_e, upd_e, h47, nI_1]
              unfold gN
              rw [cnt_st (P := fun p => bo (root P p)) (bo_t hr)]
            · rw [u2_e, upd_e, gL_s]
            · rw [u2_e, upd_n h2, u2_e, upd_n h1]
              exact hoth i h1 h2
          · have hz : rsz P j = 0 := rsz_f hr
            rw [hz, if_pos (show nI 0 ≤ (0 : Int32) by decide), h48, M_max (by omega) (by omega), cl1_s, nI_1]
            refine hk (j + 1) _ _ (by omega) (by omega) ⟨rfl, fun q hq => ?_, ?_, ?_, fun i h1 h2 => ?_⟩
            · rw [u2_n (fun e => hq (by rw [e]; simp))]
              exact hE' q hq
            · rw [u2_e, upd_n (by decide), h47]
              unfold gN
              rw [cnt_sf (P := fun p => bo (root P p)) (bo_f hr)]
            · rw [u2_e, upd_e, gL_s, hz]
            · rw [u2_e, upd_n h2]
              exact hoth i h1 h2
        · have hi' : i < 48 := by omega
          have hgi := (hB i hi').1
          rw [if_neg (nl48 hi')]
          simp only [nm_q]
          rw [ck_s hi' (by decide), ck_s hi' (by decide), nI_clamp (by omega), hPg i hi', hGg i hi', nI_1]
          cases hPi : P i with
          | false =>
            rw [bI_f, i00]
            exact hk2 (i + 1) _ _ (by omega) (by omega) ⟨rfl, by rw [cnt_sf (P := fun p => P p && decide (G p = j)) (by rw [hPi]; rfl)]⟩
          | true =>
            rw [bI_t, i10]
            by_cases e : G i = j
            · rw [if_pos (by rw [e]), nI_1]
              exact hk2 (i + 1) _ _ (by omega) (by omega) ⟨rfl, by rw [cnt_st (P := fun p => P p && decide (G p = j)) (by rw [hPi, decide_eq_true e]; rfl)]⟩
            · rw [if_neg (fun e9 => e ((nI_eq (by omega) (by omega)).mp e9))]
              exact hk2 (i + 1) _ _ (by omega) (by omega) ⟨rfl, by rw [cnt_sf (P := fun p => P p && decide (G p = j)) (by rw [hPi, decide_eq_false e]; rfl)]⟩
  · have hj' : j < 48 := by omega
    rw [if_neg (nl48 hj'), ck_s hj' (by decide), nm_s, nI_clamp (by omega), nI_1, sN_s h 246 nI j]
    exact hk (j + 1) _ _ (by omega) (by omega) ⟨rfl, rfl⟩
theorem SM_f {h g : Hp} {l : List Nat} (hE : Ex (300 :: l) h g) (hl : ∀ k, k ∈ pM → k ∉ 300 :: l) (hf : ∀ i, i ∈ fM → g 300 i = h 300 i) : SM h g := ⟨fun k hk => hE k (hl k hk), hf⟩
/-- the end of spots and pieces of the reference -/
theorem M_grEnd {h g : Hp} {P : Nat → Bool} (hP : ∀ q, q < 48 → g 245 q = bI (P q)) (hS : SM h g) {w : Nat} (hw : w < 2) : R (cl1 (mX5_gathers g) fun h13 => if nI w = 0 then some (h13 300 47, h13) else some (h13 300 48, h13)) (fun r => r.1 = grP P w ∧ SM h r.2) := by
  refine R_c1 (M_gathers hP) ?_
  rintro g' ⟨G, _, _, h47, h48, hE, ho⟩
  have hS' : SM h g' := SM_t hS ⟨fun k hk => hE k (pM_246 k hk), fun i hi => ho i (fM_47 i hi) (fM_48 i hi)⟩
  rcases nI2 hw with e | e
  · subst e
    rw [if_pos (show nI 0 = (0 : Int32) from rfl)]
    exact R_some ⟨h47, hS'⟩
  · subst e
    rw [if_neg (show ¬ nI 1 = (0 : Int32) by decide)]
    exact R_some ⟨h48, hS'⟩
theorem st_spots (LW : LWt) : St_spots (II LW) := by
  intro tt hx hm a0 a1 a2 a3 H
  obtain ⟨U, L, HU, HL⟩ := BM_HX H.1
  cases h1 : gR a0 a1 with
  | false =>
    unfold mX0_spots mX5_spots
    rw [X_isGlide, M_isGlide, h1]
    exact ⟨-1, hx, hm, rfl, rfl, H⟩
  | true =>
    cases h2 : nR a2 51 with
    | false =>
      unfold mX0_spots mX5_spots
      rw [X_isGlide, M_isGlide, h1, X_isSum, M_isSum, h2]
      exact ⟨-1, hx, hm, rfl, rfl, H⟩
    | true =>
      cases h3 : nR a3 2 with
      | false =>
        unfold mX0_spots mX5_spots
        rw [X_isGlide, M_isGlide, h1, X_isSum, M_isSum, h2, X_in a3 2 2 (by decide), M_wi a3 1 2 (by decide), h3]
        exact ⟨-1, hx, hm, rfl, rfl, H⟩
      | true =>
        obtain ⟨g, hg, ea, eb, eX, eM⟩ := gR_of h1
        obtain ⟨pp, hpp, _, e2⟩ := nR_of h2
        obtain ⟨w, hw, _, e3⟩ := nR_of h3
        subst e2 e3
        refine st_hh (H := H) (P := fun a => a = grP (mk U L g pp) w) (P2 := fun a => a = grP (mk U L g pp) w) ?_ ?_ (fun a b p q => p.trans q.symm)
        · unfold mX0_spots
          rw [X_isGlide, h1, cl1_s, nm_s, bI_t, i10, X_isSum, h2, cl1_s, bI_t, i10, X_in _ 2 2 (by decide), h3, cl1_s, bI_t, i10, eX, cl1_s, X_marks HU (by decide) hg (by omega), cl2_s]
          refine R_c2 (X_groups (P := mk U L g pp) (fun q hq => sN_k hq) hw) ?_
          rintro r g1 ⟨e, hE⟩
          exact R_some ⟨e, SX_t (SX_e (Ex_sN _ _ _ _) (by decide)) (SX_e hE (by decide))⟩
        · unfold mX5_spots
          rw [M_isGlide, h1, cl1_s, nm_s, bI_t, i10, M_isSum, h2, cl1_s, bI_t, i10, M_wi _ 1 2 (by decide), h3, cl1_s, bI_t, i10, ea, eb, M_marks HL hg (by omega), cl2_s]
          refine fx_R2 48 (fun j x g1 => x = nI j ∧ Ex [242, 245] hm g1 ∧ (∀ q, q < 48 → g1 242 q = bI (mk U L g pp q)) ∧ ∀ q, q < j → g1 245 q = bI (mk U L g pp q)) (by decide) ⟨rfl, fun q hq => sN_n (fun e => hq (by rw [e]; simp)), fun q hq => sN_k hq, fun q hq => by omega⟩ ?_
          rintro j x g1 k hj ⟨rfl, hE, h4, h5⟩ hk
          by_cases hj8 : j = 48
          · subst hj8
            rw [if_pos (show (48 : Int32) ≤ nI 48 by decide)]
            simp only [nm_q]
            exact M_grEnd h5 (SM_e hE (by decide)) hw
          · have hj' : j < 48 := by omega
            rw [if_neg (nl48 hj'), ck_s hj' (by decide), ck_s hj' (by decide), nm_s, nI_clamp (by omega), h4 j hj', nar_bI, nI_1]
            refine hk (j + 1) _ _ (by omega) (by omega) ⟨rfl, fun q hq => ?_, fun q hq => ?_, fun q hq => ?_⟩
            · rw [u2_n (fun e => hq (by rw [e]; simp))]
              exact hE q hq
            · rw [u2_n (by decide)]
              exact h4 q hq
            · rw [u2_e]
              by_cases e : q = j
              · rw [e, upd_e]
              · rw [upd_n e]
                exact h5 q (by omega)
theorem st_pieces (LW : LWt) : St_pieces (II LW) := by
  intro tt hx hm a0 a1 a2 H
  obtain ⟨U, L, HU, HL⟩ := BM_HX H.1
  cases h1 : nR a0 2 with
  | false =>
    unfold mX0_pieces mX5_pieces
    rw [X_isCast, M_isCast, h1]
    exact ⟨-1, hx, hm, rfl, rfl, H⟩
  | true =>
    cases h2 : nR a1 26 with
    | false =>
      unfold mX0_pieces mX5_pieces
      rw [X_isCast, M_isCast, h1, X_wi a1 25 26 (by decide), M_wi a1 25 26 (by decide), h2]
      exact ⟨-1, hx, hm, rfl, rfl, H⟩
    | true =>
      cases h3 : nR a2 2 with
      | false =>
        unfold mX0_pieces mX5_pieces
        rw [X_isCast, M_isCast, h1, X_wi a1 25 26 (by decide), M_wi a1 25 26 (by decide), h2, X_in a2 2 2 (by decide), M_wi a2 1 2 (by decide), h3]
        exact ⟨-1, hx, hm, rfl, rfl, H⟩
      | true =>
        obtain ⟨c, hc, _, e1⟩ := nR_of h1
        obtain ⟨v, hv, _, e2⟩ := nR_of h2
        obtain ⟨w, hw, _, e3⟩ := nR_of h3
        subst e1 e2 e3
        have hb := hts_b (HU_of HU) c
        refine st_hh (H := H) (P := fun a => a = grP (fun p => decide (v ≤ hts U L c p)) w) (P2 := fun a => a = grP (fun p => decide (v ≤ hts U L c p)) w) ?_ ?_ (fun a b p q => p.trans q.symm)
        · unfold mX0_pieces
          rw [X_isCast, h1, cl1_s, nm_s, bI_t, i10, X_wi _ 25 26 (by decide), h2, cl1_s, bI_t, i10, X_in _ 2 2 (by decide), h3, cl1_s, bI_t, i10]
          refine fx_R2 48 (fun j x g1 => x = nI j ∧ g1 = sN hx 2 (fun p => bI (decide (v ≤ hts U L c p))) j) (by decide) ⟨rfl, (sN_0 _ _ _).symm⟩ ?_
          rintro j x g1 k hj ⟨rfl, rfl⟩ hk
          by_cases hj8 : j = 48
          · subst hj8
            rw [if_pos (show (48 : Int32) ≤ nI 48 by decide)]
            refine R_c2 (X_groups (P := fun p => decide (v ≤ hts U L c p)) (fun q hq => sN_k hq) hw) ?_
            rintro r g1 ⟨e, hE⟩
            exact R_some ⟨e, SX_t (SX_e (Ex_sN _ _ _ _) (by decide)) (SX_e hE (by decide))⟩
          · have hj' : j < 48 := by omega
            have := hb j hj'
            rw [if_neg (nl48 hj')]
            simp only [nm_q]
            rw [ck_s hc (by decide), ck_s hj' (by decide), ck_s hj' (by decide), nI_clamp (by omega), nI_clamp (by omega), sN_n (by omega), X_hts HU hc hj', nar_0, nar_1, nI_1]
            have es := sN_s hx 2 (fun p => bI (decide (v ≤ hts U L c p))) j
            by_cases g : v ≤ hts U L c j
            · rw [decide_eq_true g, bI_t] at es
              rw [if_neg (nI_nlt g (by omega)), ck_s hj' (by decide), es]
              exact hk (j + 1) _ _ (by omega) (by omega) ⟨rfl, rfl⟩
            · rw [decide_eq_false g, bI_f] at es
              rw [if_pos (nI_lt (by omega) (by omega)), es]
              exact hk (j + 1) _ _ (by omega) (by omega) ⟨rfl, rfl⟩
        · unfold mX5_pieces
          rw [M_isCast, h1, cl1_s, nm_s, bI_t, i10, M_wi _ 25 26 (by decide), h2, cl1_s, bI_t, i10, M_wi _ 1 2 (by decide), h3, cl1_s, bI_t, i10]
          refine fx_R2 48 (fun j x g1 => x = nI j ∧ g1 = sN hm 245 (fun p => bI (decide (v ≤ hts U L c p))) j) (by decide) ⟨rfl, (sN_0 _ _ _).symm⟩ ?_
          rintro j x g1 k hj ⟨rfl, rfl⟩ hk
          by_cases hj8 : j = 48
          · subst hj8
            rw [if_pos (show (48 : Int32) ≤ nI 48 by decide)]
            simp only [nm_q]
            exact M_grEnd (P := fun p => decide (v ≤ hts U L c p)) (fun q hq => sN_k hq) (SM_e (Ex_sN _ _ _ _) (by decide)) hw
          · have hj' : j < 48 := by omega
            have := hb j hj'
            have eh : hm 200 (48 * c + j) = nI (hts U L c j) := by
              rw [M_heightAt HL hc hj']
              unfold hts
              split <;> rfl
            rw [if_neg (nl48 hj')]
            simp only [nm_q]
            rw [mul48, ck_s (show 48 * c + j < 96 by omega) (by decide), nI_clamp (by omega), sN_n (by decide), eh, nar_0, nar_1, nI_1]
            have es := sN_s hm 245 (fun p => bI (decide (v ≤ hts U L c p))) j
            by_cases g : v ≤ hts U L c j
            · rw [decide_eq_true g, bI_t] at es
              rw [if_neg (nI_nlt g (by omega)), ck_s hj' (by decide), nI_clamp (by omega), es]
              exact hk (j + 1) _ _ (by omega) (by omega) ⟨rfl, rfl⟩
            · rw [decide_eq_false g, bI_f] at es
              rw [if_pos (nI_lt (by omega) (by omega)), ck_s hj' (by decide), nI_clamp (by omega), es]
              exact hk (j + 1) _ _ (by omega) (by omega) ⟨rfl, rfl⟩
