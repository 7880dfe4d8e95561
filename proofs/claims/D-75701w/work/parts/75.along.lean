/-! along -/
set_option maxRecDepth 100000
theorem fx_R7 {A1 A2 A3 A4 A5 A6 A7 ρ : Type} {F : (A1 → A2 → A3 → A4 → A5 → A6 → A7 → Option ρ) → A1 → A2 → A3 → A4 → A5 → A6 → A7 → Option ρ} {b : A1 → A2 → A3 → A4 → A5 → A6 → A7 → Option ρ} {a1 : A1} {a2 : A2} {a3 : A3} {a4 : A4} {a5 : A5} {a6 : A6} {a7 : A7} {Q : ρ → Prop} (n : Nat) (Inv : Nat → A1 → A2 → A3 → A4 → A5 → A6 → A7 → Prop) (hn : n < FU) (h0 : Inv 0 a1 a2 a3 a4 a5 a6 a7) (hs : ∀ j x1 x2 x3 x4 x5 x6 x7 (k : A1 → A2 → A3 → A4 → A5 → A6 → A7 → Option ρ), j ≤ n → Inv j x1 x2 x3 x4 x5 x6 x7 → (∀ j' y1 y2 y3 y4 y5 y6 y7, j < j' → j' ≤ n → Inv j' y1 y2 y3 y4 y5 y6 y7 → R (k y1 y2 y3 y4 y5 y6 y7) Q) → R (F k x1 x2 x3 x4 x5 x6 x7) Q) : R (fx FU b F a1 a2 a3 a4 a5 a6 a7) Q :=
  fx_Rg (σ := A1 × A2 × A3 × A4 × A5 × A6 × A7) (fun (k : A1 → A2 → A3 → A4 → A5 → A6 → A7 → Option ρ) s => k s.1 s.2.1 s.2.2.1 s.2.2.2.1 s.2.2.2.2.1 s.2.2.2.2.2.1 s.2.2.2.2.2.2) n (fun j s => Inv j s.1 s.2.1 s.2.2.1 s.2.2.2.1 s.2.2.2.2.1 s.2.2.2.2.2.1 s.2.2.2.2.2.2) hn (fun j s k h1 h2 h3 => hs j s.1 s.2.1 s.2.2.1 s.2.2.2.1 s.2.2.2.2.1 s.2.2.2.2.2.1 s.2.2.2.2.2.2 k h1 h2 (fun j' y1 y2 y3 y4 y5 y6 y7 g1 g2 g3 => h3 j' (y1, y2, y3, y4, y5, y6, y7) g1 g2 g3)) (s0 := (a1, a2, a3, a4, a5, a6, a7)) h0
theorem gd_t : ∀ g : Fin 63, (mX5_isGlide (sA g.val + 0) (sB g.val + 0) = some 1 ∧ sA g.val + 0 = sA g.val ∧ sB g.val + 0 = sB g.val) ∧ (if g.val % 9 = 0 then mX5_isGlide (sA g.val + -1) (sB g.val + 0) = some 0 else mX5_isGlide (sA g.val + -1) (sB g.val + 0) = some 1 ∧ sA g.val + -1 = sA (g.val - 1) ∧ sB g.val + 0 = sB (g.val - 1)) ∧ (if g.val % 9 = 8 then mX5_isGlide (sA g.val + 1) (sB g.val + 0) = some 0 else mX5_isGlide (sA g.val + 1) (sB g.val + 0) = some 1 ∧ sA g.val + 1 = sA (g.val + 1) ∧ sB g.val + 0 = sB (g.val + 1)) ∧ (if g.val / 9 = 0 then mX5_isGlide (sA g.val + 0) (sB g.val + -1) = some 0 else mX5_isGlide (sA g.val + 0) (sB g.val + -1) = some 1 ∧ sA g.val + 0 = sA (g.val - 9) ∧ sB g.val + -1 = sB (g.val - 9)) ∧ (if g.val / 9 = 6 then mX5_isGlide (sA g.val + 0) (sB g.val + 1) = some 0 else mX5_isGlide (sA g.val + 0) (sB g.val + 1) = some 1 ∧ sA g.val + 0 = sA (g.val + 9) ∧ sB g.val + 1 = sB (g.val + 9)) := by decide +kernel
/-- the reference stands in a glide -/
def Gl (h g : Hp) (x : Nat) : Prop := g 300 52 = sA x ∧ g 300 53 = sB x ∧ Ex [300] h g ∧ ∀ i, i ≠ 52 → i ≠ 53 → g 300 i = h 300 i
theorem Gl_set {h g : Hp} {x y : Nat} {a b : Int32} (H : Gl h g x) (ea : a = sA y) (eb : b = sB y) : Gl h (u2 (u2 g 300 52 a) 300 53 b) y := by
  obtain ⟨_, _, h3, h4⟩ := H
  refine ⟨?_, ?_, fun q hq => ?_, fun i h1 h2 => ?_⟩
  · rw [u2_e, upd_n (by decide), u2_e, upd_e, ea]
  · rw [u2_e, upd_e, eb]
  · rw [u2_n (fun e => hq (by rw [e]; simp)), u2_n (fun e => hq (by rw [e]; simp))]
    exact h3 q hq
  · rw [u2_e, upd_n h2, u2_e, upd_n h1]
    exact h4 i h1 h2
/-- the last lines of glides -/
theorem gl_end {h g : Hp} {x y : Nat} {s t v : Int32} (H : Gl h g x) (hv : mX5_isGlide (sA x + s) (sB x + t) = some v) (h0 : v = 0 → y = x) (h1 : v = 1 → sA x + s = sA y ∧ sB x + t = sB y) (h2 : v = 0 ∨ v = 1) : R (cl1 (mX5_isGlide (g 300 52 + s) (g 300 53 + t)) fun r6 => if r6 = 0 then some g else some (u2 (u2 g 300 52 (g 300 52 + s)) 300 53 (g 300 53 + t))) (fun g' => Gl h g' y) := by
  rw [H.1, H.2.1, hv, cl1_s]
  rcases h2 with e | e
  · rw [e, i00]
    refine R_some ?_
    rw [h0 e]
    exact H
  · rw [e, i10]
    exact R_some (Gl_set H (h1 e).1 (h1 e).2)
theorem M_glides {h g : Hp} {x : Nat} (hx : x < 63) (H : Gl h g x) (c : Int32) : R (mX5_glides g c) (fun g' => Gl h g' (stc x c)) := by
  have T := gd_t ⟨x, hx⟩
  have T0 : mX5_isGlide (sA x + 0) (sB x + 0) = some 1 ∧ sA x + 0 = sA x ∧ sB x + 0 = sB x := T.1
  have T1 : if x % 9 = 0 then mX5_isGlide (sA x + -1) (sB x + 0) = some 0 else mX5_isGlide (sA x + -1) (sB x + 0) = some 1 ∧ sA x + -1 = sA (x - 1) ∧ sB x + 0 = sB (x - 1) := T.2.1
  have T2 : if x % 9 = 8 then mX5_isGlide (sA x + 1) (sB x + 0) = some 0 else mX5_isGlide (sA x + 1) (sB x + 0) = some 1 ∧ sA x + 1 = sA (x + 1) ∧ sB x + 0 = sB (x + 1) := T.2.2.1
  have T3 : if x / 9 = 0 then mX5_isGlide (sA x + 0) (sB x + -1) = some 0 else mX5_isGlide (sA x + 0) (sB x + -1) = some 1 ∧ sA x + 0 = sA (x - 9) ∧ sB x + -1 = sB (x - 9) := T.2.2.2.1
  have T4 : if x / 9 = 6 then mX5_isGlide (sA x + 0) (sB x + 1) = some 0 else mX5_isGlide (sA x + 0) (sB x + 1) = some 1 ∧ sA x + 0 = sA (x + 9) ∧ sB x + 1 = sB (x + 9) := T.2.2.2.2
  clear T
  unfold mX5_glides stc
  simp only [nm_q]
  by_cases c1 : c = 46
  · subst c1
    rw [if_pos rfl, if_pos rfl, if_neg (by decide), if_neg (by decide), if_neg (by decide), if_neg (by decide)]
    have H0 : Gl h (u2 (u2 g 300 52 0) 300 53 0) 31 := Gl_set H (by decide) (by decide)
    exact gl_end (y := 31) H0 (show mX5_isGlide (sA 31 + 0) (sB 31 + 0) = some 1 by decide) (fun e => by cases e) (fun _ => ⟨by decide, by decide⟩) (Or.inr rfl)
  · rw [if_neg c1, if_neg c1]
    by_cases c2 : c = 108
    · subst c2
      rw [if_pos rfl, if_neg (by decide), if_neg (by decide), if_pos rfl]
      by_cases q : x % 9 = 0
      · rw [if_pos q] at T1 ⊢
        exact gl_end H T1 (fun _ => rfl) (fun e => by cases e) (Or.inl rfl)
      · rw [if_neg q] at T1 ⊢
        exact gl_end H T1.1 (fun e => by cases e) (fun _ => T1.2) (Or.inr rfl)
    · rw [if_neg c2, if_neg c2]
      by_cases c3 : c = 114
      · subst c3
        rw [if_pos rfl, if_neg (by decide), if_neg (by decide), if_pos rfl]
        by_cases q : x % 9 = 8
        · rw [if_pos q] at T2 ⊢
          exact gl_end H T2 (fun _ => rfl) (fun e => by cases e) (Or.inl rfl)
        · rw [if_neg q] at T2 ⊢
          exact gl_end H T2.1 (fun e => by cases e) (fun _ => T2.2) (Or.inr rfl)
      · rw [if_neg c3, if_neg c3]
        by_cases c4 : c = 102
        · subst c4
          rw [if_pos rfl, if_pos rfl]
          by_cases q : x / 9 = 0
          · rw [if_pos q] at T3 ⊢
            exact gl_end H T3 (fun _ => rfl) (fun e => by cases e) (Or.inl rfl)
          · rw [if_neg q] at T3 ⊢
            exact gl_end H T3.1 (fun e => by cases e) (fun _ => T3.2) (Or.inr rfl)
        · rw [if_neg c4, if_neg c4]
          by_cases c5 : c = 98
          · subst c5
            rw [if_pos rfl, if_pos rfl]
            by_cases q : x / 9 = 6
            · rw [if_pos q] at T4 ⊢
              exact gl_end H T4 (fun _ => rfl) (fun e => by cases e) (Or.inl rfl)
            · rw [if_neg q] at T4 ⊢
              exact gl_end H T4.1 (fun e => by cases e) (fun _ => T4.2) (Or.inr rfl)
          · rw [if_neg c5, if_neg c5]
            exact gl_end H T0.1 (fun e => by cases e) (fun _ => T0.2) (Or.inr rfl)
theorem M_glideAt {x : Nat} (hx : x < 63) : mX5_glideOf (sA x) (sB x) = some (nI x) := by
  have : ∀ x : Fin 63, mX5_glideOf (sA x.val) (sB x.val) = some (nI x.val) := by decide +kernel
  exact this ⟨x, hx⟩
/-- along the glides G 0 .. G n: greatest and least openings, stops, glides come by -/
def ama (f : Nat → Nat) : Nat → Nat
  | 0 => f 0
  | n + 1 => max (ama f n) (f (n + 1))
def ami (f : Nat → Nat) : Nat → Nat
  | 0 => f 0
  | n + 1 => min (ami f n) (f (n + 1))
def ast (f : Nat → Nat) (s : Nat) (n : Nat) : Nat := cnt (fun k => decide (f k + s < f (k + 1))) n
noncomputable def acb (G : Nat → Nat) (n : Nat) : Nat := cnt (fun g => bo (∃ i, i ≤ n ∧ G i = g)) 63
theorem ama_le {f : Nat → Nat} {B : Nat} (h : ∀ i, f i ≤ B) : ∀ n, ama f n ≤ B
  | 0 => h 0
  | n + 1 => by
    have := ama_le h n
    have := h (n + 1)
    rw [ama]
    omega
theorem ami_le {f : Nat → Nat} {B : Nat} (h : ∀ i, f i ≤ B) : ∀ n, ami f n ≤ B
  | 0 => h 0
  | n + 1 => by
    have := ami_le h n
    rw [ami]
    omega
noncomputable def alP (G op : Nat → Nat) (n s w : Nat) : Int32 := if w = 0 then nI n else if w = 1 then nI (ama (fun i => op (G i)) n) else if w = 2 then nI (ami (fun i => op (G i)) n) else if w = 3 then nI (ast (fun i => op (G i)) s n) else nI (acb G n)
theorem acb_s {G : Nat → Nat} {n : Nat} (hG : ∀ i, G i < 63) : acb G (n + 1) = if bo (∃ i, i ≤ n ∧ G i = G (n + 1)) = true then acb G n else acb G n + 1 := by
  unfold acb
  by_cases h : ∃ i, i ≤ n ∧ G i = G (n + 1)
  · rw [if_pos (bo_t h)]
    refine cnt_c 63 (fun g hg => bo_c ⟨fun ⟨i, hi, e⟩ => ?_, fun ⟨i, hi, e⟩ => ⟨i, by omega, e⟩⟩)
    by_cases e2 : i = n + 1
    · obtain ⟨i', hi', e'⟩ := h
      exact ⟨i', hi', by rw [e', ← e2]; exact e⟩
    · exact ⟨i, by omega, e⟩
  · rw [if_neg (fun h9 => h (bo_i.mp h9))]
    have := cnt_ub (D := fun g => bo (∃ i, i ≤ n ∧ G i = g)) (b := G (n + 1)) (bo_f h) 63
    rw [if_pos (hG _)] at this
    rw [← this]
    refine cnt_c 63 (fun g hg => ?_)
    unfold ubb
    by_cases e : g = G (n + 1)
    · rw [if_pos e]
      exact bo_t ⟨n + 1, Nat.le_refl _, e.symm⟩
    · rw [if_neg e]
      refine bo_c ⟨fun ⟨i, hi, e9⟩ => ⟨i, ?_, e9⟩, fun ⟨i, hi, e9⟩ => ⟨i, by omega, e9⟩⟩
      by_cases e2 : i = n + 1
      · rw [e2] at e9
        exact absurd e9.symm e
      · omega
theorem X_along {h : Hp} {U L : Nat → Nat} (H : HX 40 h U L) {G : Nat → Nat} {n s w : Nat} (hG : ∀ i, G i < 63) (h0 : G 0 = 31) (hn : n ≤ 48) (e4 : h 100 4 = nI n) (hp : ∀ k, k < n → h 3 k = nI (G (k + 1))) (hs : s ≤ 50) (hw : w < 5) : R (mX0_along h (nI s) (nI w)) (fun r => r = alP G (opn U L) n s w) := by
  have hop := opn_le (HU_of H)
  have hopn : ∀ x, x < 63 → mX3_opening 40 h (nI x) = some (nI (opn U L x)) := fun x hx => X_opn H hx
  generalize opn U L = op at hop hopn
  have hf : ∀ i, (fun i => op (G i)) i ≤ 50 := fun i => hop _
  unfold mX0_along alP
  rw [X_isSum, nR_s (by omega) (by omega), X_in _ 5 5 (by decide), nR_s hw (by omega)]
  simp only [nm_q, cl1_q, bI_t, i10_q]
  have hc : w = 0 ∨ w = 1 ∨ w = 2 ∨ w = 3 ∨ w = 4 := by omega
  rcases hc with e | e | e | e | e <;> subst e
  · rw [if_pos (show nI 0 = (0 : Int32) from rfl), e4]
    exact R_some rfl
  · rw [if_neg (show ¬ nI 1 = (0 : Int32) by decide), if_pos (show nI 1 ≤ (2 : Int32) by decide), show mX3_opening 40 h 31 = some (nI (op 31)) from hopn 31 (by decide), cl1_s]
    refine fx_R2 n (fun j a x => x = nI j ∧ a = nI (ama (fun i => op (G i)) j)) (by show n < 100000; omega) ⟨rfl, by rw [ama, h0]⟩ ?_
    rintro j a x k hj ⟨rfl, rfl⟩ hk
    rw [e4]
    by_cases hjn : j = n
    · subst hjn
      rw [if_pos (nI_le (Nat.le_refl _) (by omega))]
      exact R_some rfl
    · have := ama_le hf j
      have := hop (G (j + 1))
      rw [if_neg (nI_ge (by omega) (by omega)), if_pos (show nI 1 = (1 : Int32) from rfl), ck_s (show j < 48 by omega) (by decide), nI_clamp (by omega), hp j (by omega), hopn _ (hG _), cl1_s, jmax_s (by omega) (by omega), nI_1]
      exact hk (j + 1) _ _ (by omega) (by omega) ⟨rfl, rfl⟩
  · rw [if_neg (show ¬ nI 2 = (0 : Int32) by decide), if_pos (show nI 2 ≤ (2 : Int32) by decide), show mX3_opening 40 h 31 = some (nI (op 31)) from hopn 31 (by decide), cl1_s]
    refine fx_R2 n (fun j a x => x = nI j ∧ a = nI (ami (fun i => op (G i)) j)) (by show n < 100000; omega) ⟨rfl, by rw [ami, h0]⟩ ?_
    rintro j a x k hj ⟨rfl, rfl⟩ hk
    rw [e4]
    by_cases hjn : j = n
    · subst hjn
      rw [if_pos (nI_le (Nat.le_refl _) (by omega))]
      exact R_some rfl
    · have := ami_le hf j
      have := hop (G (j + 1))
      rw [if_neg (nI_ge (by omega) (by omega)), if_neg (show ¬ nI 2 = (1 : Int32) by decide), ck_s (show j < 48 by omega) (by decide), nI_clamp (by omega), hp j (by omega), hopn _ (hG _), cl1_s, jmin_s (by omega) (by omega), nI_1]
      exact hk (j + 1) _ _ (by omega) (by omega) ⟨rfl, rfl⟩
  · rw [if_neg (show ¬ nI 3 = (0 : Int32) by decide), if_neg (show ¬ nI 3 ≤ (2 : Int32) by decide), if_pos (show nI 3 = (3 : Int32) from rfl)]
    refine R_c1 (P := fun r => r = nI (ast (fun i => op (G i)) s n)) ?_ (fun a ha => by rw [ha]; exact R_some rfl)
    unfold mX0_stopped
    simp only [nm_q]
    refine fx_R3 n (fun j a b x => x = nI j ∧ b = nI (G j) ∧ a = nI (ast (fun i => op (G i)) s j)) (by show n < 100000; omega) ⟨rfl, by rw [h0]; rfl, rfl⟩ ?_
    rintro j a b x k hj ⟨rfl, rfl, rfl⟩ hk
    rw [e4]
    by_cases hjn : j = n
    · subst hjn
      rw [if_pos (nI_le (Nat.le_refl _) (by omega))]
      exact R_some rfl
    · have o1 := hop (G (j + 1))
      have o2 := hop (G j)
      rw [if_neg (nI_ge (by omega) (by omega)), ck_s (show j < 48 by omega) (by decide), nI_clamp (by omega), hp j (by omega), hopn _ (hG _), cl1_s, hopn _ (hG _), cl1_s, ck_s (show j < 48 by omega) (by decide), ck_s (show j < 48 by omega) (by decide), nI_sub, iI_n s, nI_1, nI_1, Int32.add_zero]
      by_cases c : op (G j) + s < op (G (j + 1))
      · rw [if_neg (fun e => by have := (iI_le (by omega) (by omega)).mp e; omega)]
        exact hk (j + 1) _ _ _ (by omega) (by omega) ⟨rfl, rfl, by unfold ast; rw [cnt_st (P := fun k => decide (op (G k) + s < op (G (k + 1)))) (decide_eq_true c)]⟩
      · rw [if_pos ((iI_le (by omega) (by omega)).mpr (by omega))]
        exact hk (j + 1) _ _ _ (by omega) (by omega) ⟨rfl, rfl, by unfold ast; rw [cnt_sf (P := fun k => decide (op (G k) + s < op (G (k + 1)))) (decide_eq_false c)]⟩
  · rw [if_neg (show ¬ nI 4 = (0 : Int32) by decide), if_neg (show ¬ nI 4 ≤ (2 : Int32) by decide), if_neg (show ¬ nI 4 = (3 : Int32) by decide)]
    refine R_c1 (P := fun r => r = nI (acb G n)) ?_ (fun a ha => by rw [ha]; exact R_some rfl)
    unfold mX0_unlikeGlides
    simp only [nm_q]
    refine fx_R2 63 (fun j a x => x = nI j ∧ a = nI (cnt (fun g => bo (∃ i, i ≤ n ∧ G i = g)) j)) (by decide) ⟨rfl, rfl⟩ ?_
    rintro j a x k hj ⟨rfl, rfl⟩ hk
    by_cases hj63 : j = 63
    · subst hj63
      rw [if_pos (show (63 : Int32) ≤ nI 63 by decide)]
      exact R_some rfl
    · have hj' : j < 63 := by omega
      have inner : ∀ b, b = bI (bo (∃ i, i ≤ 0 ∧ G i = j)) → R (fx FU (fun _ _ => none) (fun k25 (x3_4 : Int32) (x4_5 : Int32) => if h 100 4 ≤ x4_5 then (if x3_4 = 0 then k (nI (cnt (fun g => bo (∃ i, i ≤ n ∧ G i = g)) j) + 0) (nI j + 1) else k (nI (cnt (fun g => bo (∃ i, i ≤ n ∧ G i = g)) j) + 1) (nI j + 1)) else (if x3_4 = 0 then ck x4_5 48 (if h 3 x4_5.toNatClampNeg = nI j then k25 1 (x4_5 + 1) else k25 0 (x4_5 + 1)) else k25 1 (x4_5 + 1))) b 0) (fun r => r = nI (acb G n)) := fun b hb => by
        refine fx_R2 n (fun i b x => x = nI i ∧ b = bI (bo (∃ i', i' ≤ i ∧ G i' = j))) (by show n < 100000; omega) ⟨rfl, hb⟩ ?_
        rintro i b x k2 hi ⟨rfl, rfl⟩ hk2
        rw [e4, nI_1, nI_1, nI_1, Int32.add_zero]
        by_cases hin : i = n
        · subst hin
          rw [if_pos (nI_le (Nat.le_refl _) (by omega))]
          by_cases c : ∃ i', i' ≤ i ∧ G i' = j
          · rw [bo_t c, bI_t, i10]
            exact hk (j + 1) _ _ (by omega) (by omega) ⟨rfl, by rw [cnt_st (P := fun g => bo (∃ i', i' ≤ i ∧ G i' = g)) (bo_t c)]⟩
          · rw [bo_f c, bI_f, i00]
            exact hk (j + 1) _ _ (by omega) (by omega) ⟨rfl, by rw [cnt_sf (P := fun g => bo (∃ i', i' ≤ i ∧ G i' = g)) (bo_f c)]⟩
        · rw [if_neg (nI_ge (by omega) (by omega)), ck_s (show i < 48 by omega) (by decide), nI_clamp (by omega), hp i (by omega)]
          have hgi := hG (i + 1)
          by_cases c : ∃ i', i' ≤ i ∧ G i' = j
          · rw [bo_t c, bI_t, i10]
            obtain ⟨i', h1, h2⟩ := c
            exact hk2 (i + 1) _ _ (by omega) (by omega) ⟨rfl, by rw [bo_t ⟨i', by omega, h2⟩, bI_t]⟩
          · rw [bo_f c, bI_f, i00]
            by_cases d : G (i + 1) = j
            · rw [if_pos (by rw [d])]
              exact hk2 (i + 1) _ _ (by omega) (by omega) ⟨rfl, by rw [bo_t ⟨i + 1, Nat.le_refl _, d⟩, bI_t]⟩
            · rw [if_neg (fun e9 => d ((nI_eq (by omega) (by omega)).mp e9))]
              refine hk2 (i + 1) _ _ (by omega) (by omega) ⟨rfl, ?_⟩
              rw [bo_f, bI_f]
              rintro ⟨i', h1, h2⟩
              by_cases e9 : i' = i + 1
              · rw [e9] at h2
                exact d h2
              · exact c ⟨i', by omega, h2⟩
      rw [if_neg (nl63 hj')]
      by_cases c : j = 31
      · rw [if_pos (by rw [c]; rfl)]
        exact inner 1 (by rw [bo_t ⟨0, Nat.le_refl _, by rw [h0, c]⟩]; rfl)
      · rw [if_neg (fun e9 => c ((l_eq (N := 31) (c := 31) rfl (by decide) (by omega)).mp e9))]
        refine inner 0 ?_
        rw [bo_f]
        · rfl
        · rintro ⟨i, hi, e⟩
          have : i = 0 := by omega
          rw [this, h0] at e
          exact c e.symm
theorem M_along {h : Hp} {U L : Nat → Nat} (H : HM h U L) {n s w : Nat} (hn : n ≤ 48) (e39 : h 300 39 = nI n) (hs : s ≤ 50) (hw : w < 5) : R (mX5_along h (nI s) (nI w)) (fun r => r.1 = alP (gaf (h 234)) (opn U L) n s w ∧ SM h r.2) := by
  have hop := opn_le (HV_of H)
  have hG := gaf_lt (h 234)
  unfold mX5_along
  rw [M_isSum, nR_s (by omega) (by omega), cl1_s, nm_s, bI_t, i10, M_wi _ 4 5 (by decide), nR_s hw (by omega), cl1_s, bI_t, i10, M_lays H, cl1_s]
  have e243 : ∀ x, x < 63 → sN h 243 (fun g => nI (opn U L g)) 63 243 x = nI (opn U L x) := fun x hx => sN_k hx
  have hE0 : Ex [243] h (sN h 243 (fun g => nI (opn U L g)) 63) := Ex_sN _ _ _ _
  generalize sN h 243 (fun g => nI (opn U L g)) 63 = h2 at e243 hE0
  generalize opn U L = op at hop e243
  refine fx_R2 63 (fun j x g => x = nI j ∧ g = sN h2 254 (fun _ => 0) j) (by decide) ⟨rfl, (sN_0 _ _ _).symm⟩ ?_
  rintro j x g k hj ⟨rfl, rfl⟩ hk
  by_cases hj63 : j = 63
  · subst hj63
    rw [if_pos (show (63 : Int32) ≤ nI 63 by decide), nm_s, nm_s, show mX5_glideOf 0 0 = some (nI 31) by decide, cl1_s, ck_s (show 31 < 63 by decide) (by decide), nm_s, ck_s (show 31 < 63 by decide) (by decide), nm_s, ck_s (show 31 < 63 by decide) (by decide), nm_s, nI_clamp (by decide), nar_1]
    clear hk k
    have E1 := Ex_sN h2 254 (fun _ => 0) 63
    have z1 : ∀ q, q < 63 → sN h2 254 (fun _ => 0) 63 254 q = 0 := fun q hq => sN_k hq
    generalize sN h2 254 (fun _ => 0) 63 = h3 at E1 z1
    have e8 : u2 (u2 (u2 h3 300 52 0) 300 53 0) 254 31 1 243 31 = nI (op 31) := by
      rw [u2_n (by decide), u2_n (by decide), u2_n (by decide), E1 243 (by decide)]
      exact e243 31 (by decide)
    rw [e8]
    refine fx_R7 n (fun j a b c d e x g => x = nI j ∧ a = nI (gaf (h 234) j) ∧ b = nI (ama (fun i => op (gaf (h 234) i)) j) ∧ c = nI (ami (fun i => op (gaf (h 234) i)) j) ∧ d = nI (ast (fun i => op (gaf (h 234) i)) s j) ∧ e = nI (acb (gaf (h 234)) j) ∧ g 300 52 = sA (gaf (h 234) j) ∧ g 300 53 = sB (gaf (h 234) j) ∧ Ex [243, 254, 300] h g ∧ (∀ i, i ≠ 52 → i ≠ 53 → g 300 i = h 300 i) ∧ (∀ q, q < 63 → g 243 q = nI (op q)) ∧ ∀ q, q < 63 → g 254 q = bI (bo (∃ i, i ≤ j ∧ gaf (h 234) i = q))) (by show n < 100000; omega) ?_ ?_
    · refine ⟨rfl, rfl, rfl, rfl, rfl, ?_, ?_, ?_, fun q hq => ?_, fun i h1 h2 => ?_, fun q hq => ?_, fun q hq => ?_⟩
      · have : acb (gaf (h 234)) 0 = 1 := by
          unfold acb
          have e9 : cnt (fun g => bo (∃ i, i ≤ 0 ∧ gaf (h 234) i = g)) 63 = cnt (fun g => decide (g = 31)) 63 := cnt_c 63 (fun g hg => by
            by_cases c : g = 31
            · rw [decide_eq_true c, bo_t ⟨0, Nat.le_refl _, c.symm⟩]
            · rw [decide_eq_false c, bo_f]
              rintro ⟨i, hi, e⟩
              have : i = 0 := by omega
              rw [this] at e
              exact c e.symm)
          rw [e9]
          decide +kernel
        rw [this]
        rfl
      · rw [u2_n (by decide), u2_e, upd_n (by decide), u2_e, upd_e]
        exact (by decide : (0 : Int32) = sA 31)
      · rw [u2_n (by decide), u2_e, upd_e]
        exact (by decide : (0 : Int32) = sB 31)
      · have q1 : q ≠ 243 := fun e => hq (by rw [e]; simp)
        have q2 : q ≠ 254 := fun e => hq (by rw [e]; simp)
        have q3 : q ≠ 300 := fun e => hq (by rw [e]; simp)
        rw [u2_n q2, u2_n q3, u2_n q3, E1 q (by simpa using q2), hE0 q (by simpa using q1)]
      · rw [u2_n (by decide), u2_e, upd_n h2, u2_e, upd_n h1, E1 300 (by decide), hE0 300 (by decide)]
      · rw [u2_n (by decide), u2_n (by decide), u2_n (by decide), E1 243 (by decide)]
        exact e243 q hq
      · rw [u2_e]
        by_cases c : q = 31
        · rw [c, upd_e, bo_t ⟨0, Nat.le_refl _, rfl⟩]
          rfl
        · rw [upd_n c, u2_n (by decide), u2_n (by decide), z1 q hq, bo_f]
          · rfl
          · rintro ⟨i, hi, e⟩
            have : i = 0 := by omega
            rw [this] at e
            exact c e.symm
    rintro j a b c d e x g k hj ⟨rfl, rfl, rfl, rfl, rfl, rfl, g52, g53, hE, hoth, h243, h254⟩ hk
    have e39' : g 300 39 = nI n := by rw [hoth 39 (by decide) (by decide)]; exact e39
    rw [e39']
    by_cases hjn : j = n
    · subst hjn
      have hS : SM h g := SM_f (l := [243, 254]) (fun q hq => hE q (fun e => hq (by simp at e ⊢; omega))) (by decide) (fun i hi => hoth i (fM_52 i hi) (fM_53 i hi))
      rw [if_pos (nI_le (Nat.le_refl _) (by omega))]
      simp only [nm_q]
      have hc : w = 0 ∨ w = 1 ∨ w = 2 ∨ w = 3 ∨ w = 4 := by omega
      rcases hc with e | e | e | e | e <;> subst e
      · rw [if_pos (show nI 0 = (0 : Int32) from rfl)]
        exact R_some ⟨rfl, hS⟩
      · rw [if_neg (show ¬ nI 1 = (0 : Int32) by decide), if_pos (show nI 1 = (1 : Int32) from rfl)]
        exact R_some ⟨rfl, hS⟩
      · rw [if_neg (show ¬ nI 2 = (0 : Int32) by decide), if_neg (show ¬ nI 2 = (1 : Int32) by decide), if_pos (show nI 2 = (2 : Int32) from rfl)]
        exact R_some ⟨rfl, hS⟩
      · rw [if_neg (show ¬ nI 3 = (0 : Int32) by decide), if_neg (show ¬ nI 3 = (1 : Int32) by decide), if_neg (show ¬ nI 3 = (2 : Int32) by decide), if_pos (show nI 3 = (3 : Int32) from rfl)]
        exact R_some ⟨rfl, hS⟩
      · rw [if_neg (show ¬ nI 4 = (0 : Int32) by decide), if_neg (show ¬ nI 4 = (1 : Int32) by decide), if_neg (show ¬ nI 4 = (2 : Int32) by decide), if_neg (show ¬ nI 4 = (3 : Int32) by decide)]
        exact R_some ⟨rfl, hS⟩
    · have hjl : j < 48 := by omega
      rw [if_neg (nI_ge (by omega) (by omega)), ck_s hjl (by decide), nI_clamp (by omega), hE 234 (by decide)]
      refine R_c1 (M_glides (h := g) (hG j) ⟨g52, g53, Ex_r _ _, fun _ _ _ => rfl⟩ (h 234 j)) ?_
      rintro g1 ⟨k52, k53, kE, ko⟩
      simp only [nm_q]
      have es : stc (gaf (h 234) j) (h 234 j) = gaf (h 234) (j + 1) := rfl
      rw [es] at k52 k53
      have hgj := hG (j + 1)
      have hgj0 := hG j
      have o1 := hop (gaf (h 234) (j + 1))
      have o2 := hop (gaf (h 234) j)
      have hf : ∀ i, (fun i => op (gaf (h 234) i)) i ≤ 50 := fun i => hop _
      have m1 := ama_le hf j
      have m2 := ami_le hf j
      have k243 : ∀ q, q < 63 → g1 243 q = nI (op q) := fun q hq => by
        rw [kE 243 (by decide)]
        exact h243 q hq
      have k254 : ∀ q, q < 63 → g1 254 q = bI (bo (∃ i, i ≤ j ∧ gaf (h 234) i = q)) := fun q hq => by
        rw [kE 254 (by decide)]
        exact h254 q hq
      have es2 := acb_s (G := gaf (h 234)) (n := j) hG
      have c63 : (63 : Nat) < 2 ^ 31 := by decide
      have cl : (nI (gaf (h 234) (j + 1))).toNatClampNeg = gaf (h 234) (j + 1) := nI_clamp (by omega)
      have cl0 : (nI (gaf (h 234) j)).toNatClampNeg = gaf (h 234) j := nI_clamp (by omega)
      have kx := k243 _ hgj
      have kx0 := k243 _ hgj0
      have kb := k254 _ hgj
      have ku : ∀ v, u2 g1 254 (gaf (h 234) (j + 1)) v 243 = g1 243 := fun v => u2_n (by decide)
      have emx := M_max (a := ama (fun i => op (gaf (h 234) i)) j) (b := op (gaf (h 234) (j + 1))) (by omega) (by omega)
      have emn := M_min (a := ami (fun i => op (gaf (h 234) i)) j) (b := op (gaf (h 234) (j + 1))) (by omega) (by omega)
      rw [k52, k53, M_glideAt hgj, cl1_s]
      simp only [ck_s hgj c63, ck_s hgj0 c63, cl, cl0, ku, kx, kx0, kb, nar_1, emx, emn, cl1_q, nI_1]
      rw [nI_sub, iI_n s]
      have fin : ∀ d e, d = nI (ast (fun i => op (gaf (h 234) i)) s (j + 1)) → e = nI (acb (gaf (h 234)) (j + 1)) → R (k (nI (gaf (h 234) (j + 1))) (nI (max (ama (fun i => op (gaf (h 234) i)) j) (op (gaf (h 234) (j + 1))))) (nI (min (ami (fun i => op (gaf (h 234) i)) j) (op (gaf (h 234) (j + 1))))) d e (nI (j + 1)) (u2 g1 254 (gaf (h 234) (j + 1)) 1)) (fun r => r.1 = alP (gaf (h 234)) op n s w ∧ SM h r.2) := fun d e hd he => by
        refine hk (j + 1) _ _ _ _ _ _ _ (by omega) (by omega) ⟨rfl, rfl, rfl, rfl, hd, he, ?_, ?_, fun q hq => ?_, fun i h1 h2 => ?_, fun q hq => ?_, fun q hq => ?_⟩
        · rw [u2_n (by decide)]
          exact k52
        · rw [u2_n (by decide)]
          exact k53
        · rw [u2_n (fun e => hq (by rw [e]; simp)), kE q (fun e => hq (by simp at e; rw [e]; simp))]
          exact hE q hq
        · rw [u2_n (by decide), ko i h1 h2]
          exact hoth i h1 h2
        · rw [u2_n (by decide)]
          exact k243 q hq
        · rw [u2_e]
          by_cases c : q = gaf (h 234) (j + 1)
          · rw [c, upd_e, bo_t ⟨j + 1, Nat.le_refl _, rfl⟩]
            rfl
          · rw [upd_n c, k254 q hq]
            congr 1
            refine bo_c ⟨fun ⟨i, hi, e⟩ => ⟨i, by omega, e⟩, fun ⟨i, hi, e⟩ => ⟨i, ?_, e⟩⟩
            by_cases e9 : i = j + 1
            · rw [e9] at e
              exact absurd e.symm c
            · omega
      have hb1 : ∀ d, d = nI (ast (fun i => op (gaf (h 234) i)) s (j + 1)) → R (if bI (bo (∃ i, i ≤ j ∧ gaf (h 234) i = gaf (h 234) (j + 1))) = 0 then k (nI (gaf (h 234) (j + 1))) (nI (max (ama (fun i => op (gaf (h 234) i)) j) (op (gaf (h 234) (j + 1))))) (nI (min (ami (fun i => op (gaf (h 234) i)) j) (op (gaf (h 234) (j + 1))))) d (nI (acb (gaf (h 234)) j + 1)) (nI (j + 1)) (u2 g1 254 (gaf (h 234) (j + 1)) 1) else k (nI (gaf (h 234) (j + 1))) (nI (max (ama (fun i => op (gaf (h 234) i)) j) (op (gaf (h 234) (j + 1))))) (nI (min (ami (fun i => op (gaf (h 234) i)) j) (op (gaf (h 234) (j + 1))))) d (nI (acb (gaf (h 234)) j)) (nI (j + 1)) (u2 g1 254 (gaf (h 234) (j + 1)) 1)) (fun r => r.1 = alP (gaf (h 234)) op n s w ∧ SM h r.2) := fun d hd => by
        by_cases c : ∃ i, i ≤ j ∧ gaf (h 234) i = gaf (h 234) (j + 1)
        · rw [if_pos (bo_t c)] at es2
          rw [bo_t c, bI_t, i10]
          exact fin d _ hd (by rw [es2])
        · rw [if_neg (fun h9 => c (bo_i.mp h9))] at es2
          rw [bo_f c, bI_f, i00]
          exact fin d _ hd (by rw [es2])
      by_cases c : op (gaf (h 234) j) + s < op (gaf (h 234) (j + 1))
      · rw [if_neg (fun e => by have := (iI_le (by omega) (by omega)).mp e; omega)]
        exact hb1 _ (by unfold ast; rw [cnt_st (P := fun k => decide (op (gaf (h 234) k) + s < op (gaf (h 234) (k + 1)))) (decide_eq_true c)])
      · rw [if_pos ((iI_le (by omega) (by omega)).mpr (by omega))]
        exact hb1 _ (by unfold ast; rw [cnt_sf (P := fun k => decide (op (gaf (h 234) k) + s < op (gaf (h 234) (k + 1)))) (decide_eq_false c)])
  · have hj' : j < 63 := by omega
    rw [if_neg (nl63 hj'), ck_s hj' (by decide), nm_s, nI_clamp (by omega), nar_0, nI_1, sN_s h2 254 (fun _ => 0) j]
    exact hk (j + 1) _ _ (by omega) (by omega) ⟨rfl, rfl⟩
theorem st_along (LW : LWt) : St_along (II LW) := by
  intro tt hx hm a0 a1 H
  obtain ⟨U, L, HU, HL⟩ := BM_HX H.1
  obtain ⟨n, hn, e4, e39, hp⟩ := H.2.2.2.1
  cases h1 : nR a0 51 with
  | false =>
    unfold mX0_along mX5_along
    rw [X_isSum, M_isSum, h1]
    exact ⟨-1, hm, rfl, rfl, H⟩
  | true =>
    cases h2 : nR a1 5 with
    | false =>
      unfold mX0_along mX5_along
      rw [X_isSum, M_isSum, h1, X_in a1 5 5 (by decide), M_wi a1 4 5 (by decide), h2]
      exact ⟨-1, hm, rfl, rfl, H⟩
    | true =>
      obtain ⟨s, hs, _, e⟩ := nR_of h1
      obtain ⟨w, hw, _, e2⟩ := nR_of h2
      subst e e2
      exact st_0h (fun a => a = alP (gaf (hm 234)) (opn U L) n s w) (fun a => a = alP (gaf (hm 234)) (opn U L) n s w) H (X_along HU (gaf_lt (hm 234)) rfl hn e4 hp (by omega) hw) (M_along HL hn e39 (by omega) hw) (fun a b p q => p.trans q.symm)
