/-! belongs -/
set_option maxRecDepth 100000
theorem l_lec {N j : Nat} {c : Int32} (hc : nI N = c) (h : j ≤ N) (hN : N < 2 ^ 31) : nI j ≤ c := hc ▸ nI_le h hN
theorem l_nlec {N j : Nat} {c : Int32} (hc : nI N = c) (h : N < j) (hj : j < 2 ^ 31) : ¬ nI j ≤ c := hc ▸ nI_ge h hj
theorem mulK (K : Nat) (c p : Nat) : nI K * nI c + nI p = nI (K * c + p) := by
  rw [pk_mul, nI_add]
theorem mul8 (c p : Nat) : (8 : Int32) * nI c + nI p = nI (8 * c + p) := mulK 8 c p
theorem mul8' (c : Nat) : (8 : Int32) * nI c = nI (8 * c) := pk_mul 8 c
theorem nR_I {z : Int} {N : Nat} (hz : -2147483648 ≤ z ∧ z < 2147483648) : nR (iI z) N = decide (0 ≤ z ∧ z < (N : Int)) := by
  unfold nR
  rw [iI_toInt hz]
/-- most, sum, many of the places below t of a row, moved by mv -/
def gsv (u a : Nat → Nat) (mv : Int) : Nat → Nat × Nat × Nat
  | 0 => (0, 0, 0)
  | t + 1 => if 0 ≤ (t : Int) + mv ∧ (t : Int) + mv < 8 then (max (gsv u a mv t).1 (u ((t : Int) + mv).toNat + a t), (gsv u a mv t).2.1 + (u ((t : Int) + mv).toNat + a t), (gsv u a mv t).2.2 + 1) else gsv u a mv t
theorem gsv_t {u a : Nat → Nat} {mv : Int} {t : Nat} (h : 0 ≤ (t : Int) + mv ∧ (t : Int) + mv < 8) : gsv u a mv (t + 1) = (max (gsv u a mv t).1 (u ((t : Int) + mv).toNat + a t), (gsv u a mv t).2.1 + (u ((t : Int) + mv).toNat + a t), (gsv u a mv t).2.2 + 1) := by
  rw [gsv, if_pos h]
theorem gsv_f {u a : Nat → Nat} {mv : Int} {t : Nat} (h : ¬ (0 ≤ (t : Int) + mv ∧ (t : Int) + mv < 8)) : gsv u a mv (t + 1) = gsv u a mv t := by
  rw [gsv, if_neg h]
theorem gsv_b {u a : Nat → Nat} (hu : ∀ x, x < 8 → u x ≤ 25) (ha : ∀ x, x < 8 → a x ≤ 255) (mv : Int) : ∀ t, t ≤ 8 → (gsv u a mv t).1 ≤ 280 ∧ (gsv u a mv t).2.1 ≤ 280 * t ∧ (gsv u a mv t).2.2 ≤ t
  | 0, _ => ⟨Nat.zero_le _, Nat.zero_le _, Nat.le_refl _⟩
  | t + 1, ht => by
    have ih := gsv_b hu ha mv t (by omega)
    by_cases h : 0 ≤ (t : Int) + mv ∧ (t : Int) + mv < 8
    · have := hu ((t : Int) + mv).toNat (by omega)
      have := ha t (by omega)
      rw [gsv_t h]
      refine ⟨?_, ?_, ?_⟩
      · show max _ _ ≤ 280
        omega
      · show _ + _ ≤ _
        omega
      · show _ + 1 ≤ t + 1
        omega
    · rw [gsv_f h]
      omega
def gpv (u a : Nat → Nat) (mv : Int) : Int := (((gsv u a mv 8).2.2 * (gsv u a mv 8).1 : Nat) : Int) - ((gsv u a mv 8).2.1 : Nat)
theorem gpv_b {u a : Nat → Nat} (hu : ∀ x, x < 8 → u x ≤ 25) (ha : ∀ x, x < 8 → a x ≤ 255) (mv : Int) : -3000 ≤ gpv u a mv ∧ gpv u a mv ≤ 3000 := by
  have h := gsv_b hu ha mv 8 (by omega)
  unfold gpv
  have : (gsv u a mv 8).2.2 * (gsv u a mv 8).1 ≤ 8 * 280 := Nat.mul_le_mul h.2.2 h.1
  omega
def rwU (U : Nat → Nat) (y x : Nat) : Nat := U (8 * y + x)
def rwA (tp : Nat → Int32) (i t : Nat) : Nat := oct (tp (8 * i + t))
theorem M_gaps {h : Hp} {U L : Nat → Nat} (H : HM h U L) {i y : Nat} {mv : Int} (hi : i < 16) (hy : y < 6) (hmv : -2 ≤ mv ∧ mv ≤ 2) : mX5_gapsMoved h (nI i) (nI y) (iI mv) = some (iI (gpv (rwU U y) (rwA (h 205) i) mv)) := by
  have hU := HV_of H
  have hu : ∀ x, x < 8 → rwU U y x ≤ 25 := fun x hx => (hU _ (by omega)).1
  have ha : ∀ x, x < 8 → rwA (h 205) i x ≤ 255 := fun x hx => by have := oct_lt (h 205 (8 * i + x)); unfold rwA; omega
  have hb := gsv_b hu ha mv
  unfold mX5_gapsMoved gpv
  simp only [nm_q]
  refine fx_g4 (fun j => nI (gsv (rwU U y) (rwA (h 205) i) mv j).1) (fun j => nI (gsv (rwU U y) (rwA (h 205) i) mv j).2.1) (fun j => nI (gsv (rwU U y) (rwA (h 205) i) mv j).2.2) (fun j => nI j) 8 rfl rfl rfl rfl (by decide) (fun j hj k => ?_) (fun k => ?_)
  · have hbj := hb j (by omega)
    rw [if_neg (nl8 hj), iI_n j, iI_add, M_wi _ 7 8 (by decide), cl1_s, nR_I (by omega), ← iI_n]
    by_cases g : 0 ≤ (j : Int) + mv ∧ (j : Int) + mv < 8
    · have e1 : (8 : Int32) * nI y + nI j + iI mv = nI (8 * y + ((j : Int) + mv).toNat) := by
        rw [mul8, iI_n, iI_add, iI_n]
        congr 1
        omega
      have b1 := hu _ (show ((j : Int) + mv).toNat < 8 by omega)
      have b2 := ha j hj
      unfold rwU at b1
      unfold rwA at b2
      rw [decide_eq_true (by exact g), bI_t, i10, mul8, e1, M_oct (by omega), cl1_s, M_up H (by omega), cl1_s, nI_add, M_max (by omega) (by omega), cl1_s, nI_add, nI_1, nI_1, gsv_t g]
      unfold rwU rwA
      rw [Nat.add_comm (oct _) (U _)]
    · rw [decide_eq_false (by exact g), bI_f, i00, nI_1, gsv_f g]
  · rw [if_pos (show (8 : Int32) ≤ nI 8 by decide), pk_mul, nI_sub]
theorem X_gaps {h : Hp} {U L : Nat → Nat} (H : HX 40 h U L) {i y : Nat} {mv : Int} (hi : i < 16) (hy : y < 6) (hmv : -2 ≤ mv ∧ mv ≤ 2) : mX0_gapsOf h (nI i) (nI y) (iI mv) = some (iI (gpv (rwU U y) (rwA (h 8) i) mv)) := by
  have hU := HU_of H
  have hu : ∀ x, x < 8 → rwU U y x ≤ 25 := fun x hx => (hU _ (by omega)).1
  have ha : ∀ x, x < 8 → rwA (h 8) i x ≤ 255 := fun x hx => by have := oct_lt (h 8 (8 * i + x)); unfold rwA; omega
  have hb := gsv_b hu ha mv
  have hend : ∀ t : Nat, t ≤ 8 → (8 : Int) ≤ t + mv → gsv (rwU U y) (rwA (h 8) i) mv t = gsv (rwU U y) (rwA (h 8) i) mv 8 := by
    intro t ht h9
    have key : ∀ d : Nat, t + d ≤ 8 → gsv (rwU U y) (rwA (h 8) i) mv (t + d) = gsv (rwU U y) (rwA (h 8) i) mv t := by
      intro d
      induction d with
      | zero => intro _; rfl
      | succ d ih =>
        intro hd
        rw [← ih (by omega)]
        exact gsv_f (t := t + d) (by omega)
    have := key (8 - t) (by omega)
    rw [show t + (8 - t) = 8 by omega] at this
    exact this.symm
  unfold mX0_gapsOf
  simp only [nm_q]
  have key : ∀ (s : Nat → Nat × Nat × Nat), s = gsv (rwU U y) (rwA (h 8) i) mv → R (fx FU (fun _ _ _ _ => none) (fun k12 (x4_1 : Int32) (x5_2 : Int32) (x6_3 : Int32) (x7_4 : Int32) => if (8 : Int32) ≤ x7_4 then some (x6_3 * x4_1 - x5_2) else cl1 (mX0_in (x7_4 - iI mv) 8) fun r5 => if r5 = 0 then k12 x4_1 x5_2 x6_3 (x7_4 + 1) else ck (8 * nI y + x7_4) 48 (cl1 (mX0_fed h (8 * nI i + x7_4 - iI mv)) fun r12 => k12 (jmax x4_1 (h 43 (8 * nI y + x7_4).toNatClampNeg + r12)) (x5_2 + (h 43 (8 * nI y + x7_4).toNatClampNeg + r12)) (x6_3 + 1) (x7_4 + 1))) (0 : Int32) (0 : Int32) (0 : Int32) (0 : Int32)) (fun r => r = iI (gpv (rwU U y) (rwA (h 8) i) mv)) := by
    intro s hs
    refine fx_R4 8 (fun j a b c x => x = nI j ∧ a = nI (s (min 8 ((j : Int) - mv).toNat)).1 ∧ b = nI (s (min 8 ((j : Int) - mv).toNat)).2.1 ∧ c = nI (s (min 8 ((j : Int) - mv).toNat)).2.2) (by decide) ?_ ?_
    · have e0 : s (min 8 (((0 : Nat) : Int) - mv).toNat) = (0, 0, 0) := by
        have hz : ∀ t : Nat, t ≤ 2 → (t = 0 ∨ (t : Int) + mv ≤ 0) → s t = (0, 0, 0) := by
          intro t
          induction t with
          | zero => intro _ _; rw [hs]; rfl
          | succ t ih =>
            intro h1 h2
            rw [hs, gsv_f (by omega), ← hs]
            exact ih (by omega) (Or.inr (by omega))
        exact hz _ (by omega) (by omega)
      rw [e0]
      exact ⟨rfl, rfl, rfl, rfl⟩
    · rintro j a b c x k hj ⟨rfl, rfl, rfl, rfl⟩ hk
      by_cases hj8 : j = 8
      · subst hj8
        have e8 : s (min 8 (((8 : Nat) : Int) - mv).toNat) = s 8 := by
          by_cases c : mv < 0
          · rw [show min 8 (((8 : Nat) : Int) - mv).toNat = 8 by omega]
          · rw [hs]
            exact hend _ (by omega) (by omega)
        rw [if_pos (show (8 : Int32) ≤ nI 8 by decide), e8, pk_mul, nI_sub, hs]
        exact R_some rfl
      · have hj' : j < 8 := by omega
        rw [if_neg (nl8 hj'), iI_n j, iI_sub, X_in _ 8 8 (by decide), cl1_s, nR_I (by omega), ← iI_n]
        by_cases g : 0 ≤ (j : Int) - mv ∧ (j : Int) - mv < 8
        · obtain ⟨t, et⟩ : ∃ t : Nat, (j : Int) - mv = t := ⟨((j : Int) - mv).toNat, by omega⟩
          have e1 : (8 : Int32) * nI i + nI j - iI mv = nI (8 * i + t) := by
            rw [mul8, iI_n, iI_sub, iI_n]
            congr 1
            omega
          have ej : ((t : Int) + mv).toNat = j := by omega
          have e3 : min 8 ((j : Int) - mv).toNat = t := by omega
          have b1 := hu j hj'
          have b2 := ha t (by omega)
          have hbt := hb t (by omega)
          rw [← hs] at hbt
          have es := gsv_t (u := rwU U y) (a := rwA (h 8) i) (mv := mv) (t := t) (by omega)
          rw [ej, ← hs] at es
          unfold rwU at b1 es
          unfold rwA at b2 es
          rw [decide_eq_true (by exact g), bI_t, i10, e1, mul8, ck_s (show 8 * y + j < 48 by omega) (by decide), X_oct (by omega), cl1_s, nI_clamp (by omega), show h 43 (8 * y + j) = nI (U (8 * y + j)) from (H _ (by omega)).2.2.1, nI_add, e3, jmax_s (by omega) (by omega), nI_add, nI_1, nI_1]
          refine hk (j + 1) _ _ _ _ (by omega) (by omega) ⟨rfl, ?_, ?_, ?_⟩
          · rw [show min 8 (((j + 1 : Nat) : Int) - mv).toNat = t + 1 by omega, es]
          · rw [show min 8 (((j + 1 : Nat) : Int) - mv).toNat = t + 1 by omega, es]
          · rw [show min 8 (((j + 1 : Nat) : Int) - mv).toNat = t + 1 by omega, es]
        · rw [decide_eq_false (by exact g), bI_f, i00, nI_1]
          refine hk (j + 1) _ _ _ _ (by omega) (by omega) ⟨rfl, ?_, ?_, ?_⟩
          · rw [show min 8 (((j + 1 : Nat) : Int) - mv).toNat = min 8 ((j : Int) - mv).toNat by omega]
          · rw [show min 8 (((j + 1 : Nat) : Int) - mv).toNat = min 8 ((j : Int) - mv).toNat by omega]
          · rw [show min 8 (((j + 1 : Nat) : Int) - mv).toNat = min 8 ((j : Int) - mv).toNat by omega]
  obtain ⟨r, e, hr⟩ := key _ rfl
  rw [e, hr]
/-- the best row and the least gaps of the first k tries -/
def bl (G : Nat → Int → Int) (F : Int) : Nat → Nat × Int
  | 0 => (0, F)
  | k + 1 => if G (k / 5) ((k % 5 : Nat) - 2) < (bl G F k).2 then (k / 5, G (k / 5) ((k % 5 : Nat) - 2)) else bl G F k
theorem bl_s (G : Nat → Int → Int) (F : Int) (k : Nat) : bl G F (k + 1) = if G (k / 5) ((k % 5 : Nat) - 2) < (bl G F k).2 then (k / 5, G (k / 5) ((k % 5 : Nat) - 2)) else bl G F k := rfl
theorem bl_e {G : Nat → Int → Int} {F F' : Int} (h1 : G 0 (-2) < F) (h2 : G 0 (-2) < F') : ∀ k, bl G F (k + 1) = bl G F' (k + 1)
  | 0 => by
    rw [bl_s, bl_s]
    show (if G 0 (-2) < F then (0, G 0 (-2)) else _) = if G 0 (-2) < F' then (0, G 0 (-2)) else _
    rw [if_pos h1, if_pos h2]
  | k + 1 => by
    rw [bl_s, bl_s G F', bl_e h1 h2 k]
theorem bl_b {G : Nat → Int → Int} {F : Int} (hG : ∀ i mv, -3000 ≤ G i mv ∧ G i mv ≤ 3000) (hF : 3000 ≤ F ∧ F ≤ 268435456) : ∀ k, -3000 ≤ (bl G F k).2 ∧ (bl G F k).2 ≤ 268435456
  | 0 => by show -3000 ≤ F ∧ F ≤ 268435456; omega
  | k + 1 => by
    have := bl_b hG hF k
    have := hG (k / 5) ((k % 5 : Nat) - 2)
    rw [bl_s]
    split
    · show -3000 ≤ G _ _ ∧ G _ _ ≤ _
      omega
    · omega
def blP (G : Nat → Int → Int) (tp : Nat → Int32) (n w : Nat) (F : Int) (r : Int32) : Prop := ((∃ i, i < 8 * n ∧ 25 < oct (tp i)) ∧ r = -3) ∨ ((∀ i, i < 8 * n → oct (tp i) ≤ 25) ∧ r = if w = 0 then nI (bl G F (5 * n)).1 else iI (bl G F (5 * n)).2)
/-- one row's five tries, of either side -/
theorem tries_R {ρ : Type} {Q : ρ → Prop} {G : Nat → Int → Int} {F : Int} {i : Nat} (hG : ∀ i mv, -3000 ≤ G i mv ∧ G i mv ≤ 3000) (hF : 3000 ≤ F ∧ F ≤ 268435456) {B : (Int32 → Int32 → Int32 → Option ρ) → Int32 → Int32 → Int32 → Option ρ} {K : Int32 → Int32 → Option ρ} (hB1 : ∀ k b l, B k b l (iI 3) = K b l) (hB2 : ∀ k (b : Nat) (l mv : Int), -2 ≤ mv → mv ≤ 2 → -3000 ≤ l → l ≤ 268435456 → R (if G i mv < l then k (nI i) (iI (G i mv)) (iI (mv + 1)) else k (nI b) (iI l) (iI (mv + 1))) Q → R (B k (nI b) (iI l) (iI mv)) Q) (hK : R (K (nI (bl G F (5 * (i + 1))).1) (iI (bl G F (5 * (i + 1))).2)) Q) : R (fx FU (fun _ _ _ => none) B (nI (bl G F (5 * i)).1) (iI (bl G F (5 * i)).2) (-2 : Int32)) Q := by
  refine fx_R3 5 (fun j b l x => x = iI ((j : Int) - 2) ∧ b = nI (bl G F (5 * i + j)).1 ∧ l = iI (bl G F (5 * i + j)).2) (by decide) ⟨rfl, rfl, rfl⟩ ?_
  rintro j b l x k hj ⟨rfl, rfl, rfl⟩ hk
  have hb := bl_b hG hF (5 * i + j)
  by_cases h5 : j = 5
  · subst h5
    rw [show ((5 : Nat) : Int) - 2 = 3 from rfl, hB1]
    exact hK
  · refine hB2 k _ _ _ (by omega) (by omega) hb.1 hb.2 ?_
    have es := bl_s G F (5 * i + j)
    rw [show (5 * i + j) / 5 = i by omega, show (5 * i + j) % 5 = j by omega] at es
    rw [show (j : Int) - 2 + 1 = ((j + 1 : Nat) : Int) - 2 by omega]
    by_cases g : G i ((j : Nat) - 2) < (bl G F (5 * i + j)).2
    · rw [if_pos g] at es
      rw [if_pos g]
      exact hk (j + 1) _ _ _ (by omega) (by omega) ⟨rfl, by rw [show 5 * i + (j + 1) = 5 * i + j + 1 from rfl, es], by rw [show 5 * i + (j + 1) = 5 * i + j + 1 from rfl, es]⟩
    · rw [if_neg g] at es
      rw [if_neg g]
      exact hk (j + 1) _ _ _ (by omega) (by omega) ⟨rfl, by rw [show 5 * i + (j + 1) = 5 * i + j + 1 from rfl, es], by rw [show 5 * i + (j + 1) = 5 * i + j + 1 from rfl, es]⟩
theorem gpv_all {U : Nat → Nat} (hU : ∀ p, p < 48 → U p ≤ 25) (tp : Nat → Int32) {y : Nat} (hy : y < 6) (i : Nat) (mv : Int) : -3000 ≤ gpv (rwU U y) (rwA tp i) mv ∧ gpv (rwU U y) (rwA tp i) mv ≤ 3000 := gpv_b (fun x hx => hU _ (by omega)) (fun x hx => by have := oct_lt (tp (8 * i + x)); unfold rwA; omega) mv
theorem X_belongs {h : Hp} {U L : Nat → Nat} (H : HX 40 h U L) {n y w t : Nat} (hn : 1 ≤ n ∧ n ≤ 16 ∧ 8 * n ≤ t ∧ t ≤ 260) (ht : h 100 10 = nI t) (hy : y < 6) (hw : w < 2) : R (mX0_belongs h (nI n) (nI y) (nI w)) (fun r => blP (fun i mv => gpv (rwU U y) (rwA (h 8) i) mv) (h 8) n w 268435456 r.1 ∧ r.2 = u2 h 100 10 0) := by
  have hU := HU_of H
  have hG := gpv_all (fun p hp => (hU p hp).1) (h 8) hy
  have H3 : HX 40 (u2 h 100 10 0) U L := HX_c (u2_n (by decide)) (u2_n (by decide)) H
  have e0 : nI n - 1 = nI (n - 1) := nI_subn (b := 1) hn.1
  unfold mX0_belongs
  rw [X_wi1 (nI n) 16 16 (by decide), e0, nR_s (by omega) (by omega), X_in _ 6 6 (by decide), nR_s hy (by omega), X_in _ 2 2 (by decide), nR_s hw (by omega), ht, mul8']
  generalize hFF : (268435456 : Int32) = FF
  simp only [cl1_q, nm_q, bI_t, i10_q]
  subst hFF
  rw [if_pos (nI_le (by omega) (by omega))]
  refine fx_R1 (8 * n) (fun j x => x = nI j ∧ ∀ i, i < j → oct (h 8 i) ≤ 25) (by show 8 * n < 100000; omega) ⟨rfl, fun i hi => by omega⟩ ?_
  rintro j x k hj ⟨rfl, hoc⟩ hk
  by_cases hjn : 8 * n ≤ j
  · have ej : j = 8 * n := by omega
    subst ej
    rw [if_pos (nI_le (Nat.le_refl _) (by omega))]
    clear hk k
    refine fx_R3 n (fun j b l x => x = nI j ∧ b = nI (bl (fun i mv => gpv (rwU U y) (rwA (h 8) i) mv) 268435456 (5 * j)).1 ∧ l = iI (bl (fun i mv => gpv (rwU U y) (rwA (h 8) i) mv) 268435456 (5 * j)).2) (by show n < 100000; omega) ⟨rfl, rfl, rfl⟩ ?_
    rintro j b l x k hj ⟨rfl, rfl, rfl⟩ hk
    by_cases hjn2 : j = n
    · subst hjn2
      rw [if_pos (nI_le (Nat.le_refl _) (by omega))]
      rcases nI2 hw with e | e
      · subst e
        rw [if_pos (show nI 0 = (0 : Int32) from rfl)]
        exact R_some ⟨Or.inr ⟨hoc, rfl⟩, rfl⟩
      · subst e
        rw [if_neg (show ¬ nI 1 = (0 : Int32) by decide)]
        exact R_some ⟨Or.inr ⟨hoc, rfl⟩, rfl⟩
    · rw [if_neg (nI_ge (by omega) (by omega))]
      refine tries_R (G := fun i mv => gpv (rwU U y) (rwA (h 8) i) mv) (F := 268435456) (K := fun b l => k b l (nI j + 1)) hG (by omega) (fun k2 b l => ?_) (fun k2 b l mv h1 h2 h3 h4 hh => ?_) ?_
      · rw [if_pos (by decide)]
      · have := hG j mv
        rw [if_neg (show ¬ (2 : Int32) < iI mv from fun e => by have := (iI_lt (a := 2) (by omega) (by omega)).mp e; omega)]
        rw [X_gaps H3 (by omega) hy ⟨h1, h2⟩, cl1_s, cl1_s]
        show R (if iI (gpv (rwU U y) (rwA (h 8) j) mv) < iI l then k2 (nI j) (iI (gpv (rwU U y) (rwA (h 8) j) mv)) (iI mv + iI 1) else k2 (nI b) (iI l) (iI mv + iI 1)) _
        rw [iI_add]
        by_cases g : gpv (rwU U y) (rwA (h 8) j) mv < l
        · rw [if_pos ((iI_lt (by omega) (by omega)).mpr g)]
          rw [if_pos g] at hh
          exact hh
        · rw [if_neg (fun e => g ((iI_lt (by omega) (by omega)).mp e))]
          rw [if_neg g] at hh
          exact hh
      · exact hk (j + 1) _ _ _ (by omega) (by omega) ⟨nI_1 j, rfl, rfl⟩
  · have ho := oct_lt (h 8 j)
    rw [if_neg (nI_ge (by omega) (by omega)), X_oct (by omega), cl1_s]
    show R (if nI (oct (h 8 j)) ≤ 25 then _ else _) _
    by_cases g : oct (h 8 j) ≤ 25
    · rw [if_pos (l_lec (N := 25) (c := 25) rfl g (by decide)), nI_1]
      refine hk (j + 1) _ (by omega) (by omega) ⟨rfl, fun i hi => ?_⟩
      by_cases e : i = j
      · rw [e]; exact g
      · exact hoc i (by omega)
    · rw [if_neg (l_nlec (N := 25) (c := 25) rfl (by omega) (by omega))]
      exact R_some ⟨Or.inl ⟨⟨j, by omega, by omega⟩, rfl⟩, rfl⟩
theorem M_belongs {h : Hp} {U L : Nat → Nat} (H : HM h U L) {n y w t : Nat} (hn : 1 ≤ n ∧ n ≤ 16 ∧ 8 * n ≤ t ∧ t ≤ 260) (ht : h 300 6 = nI t) (hy : y < 6) (hw : w < 2) : R (mX5_belongs h (nI n) (nI y) (nI w)) (fun r => blP (fun i mv => gpv (rwU U y) (rwA (h 205) i) mv) (h 205) n w 1000000 r.1 ∧ r.2 = u2 h 300 6 0) := by
  have hU := HV_of H
  have hG := gpv_all (fun p hp => (hU p hp).1) (h 205) hy
  have e0 : nI n - 1 = nI (n - 1) := nI_subn (b := 1) hn.1
  unfold mX5_belongs
  rw [M_wi1 (nI n) 16 16 (by decide), e0, nR_s (by omega) (by omega), M_wi _ 5 6 (by decide), nR_s hy (by omega), M_wi _ 1 2 (by decide), nR_s hw (by omega), ht, mul8']
  generalize hFF : (1000000 : Int32) = FF
  simp only [cl1_q, nm_q, bI_t, i10_q]
  subst hFF
  rw [if_pos (nI_le (by omega) (by omega))]
  refine fx_R2 (8 * n) (fun j b x => x = nI j ∧ ((b = 1 ∧ ∀ i, i < j → oct (h 205 i) ≤ 25) ∨ (b = 0 ∧ ∃ i, i < j ∧ 25 < oct (h 205 i)))) (by show 8 * n < 100000; omega) ⟨rfl, Or.inl ⟨rfl, fun i hi => by omega⟩⟩ ?_
  rintro j b x k hj ⟨rfl, hI⟩ hk
  by_cases hjn : 8 * n ≤ j
  · have ej : j = 8 * n := by omega
    subst ej
    rw [if_pos (nI_le (Nat.le_refl _) (by omega))]
    clear hk k
    rcases hI with ⟨rfl, hoc⟩ | ⟨rfl, hex⟩
    · refine fx_R3 n (fun j b l x => x = nI j ∧ b = nI (bl (fun i mv => gpv (rwU U y) (rwA (h 205) i) mv) 1000000 (5 * j)).1 ∧ l = iI (bl (fun i mv => gpv (rwU U y) (rwA (h 205) i) mv) 1000000 (5 * j)).2) (by show n < 100000; omega) ⟨rfl, rfl, rfl⟩ ?_
      rintro j b l x k hj ⟨rfl, rfl, rfl⟩ hk
      by_cases hjn2 : j = n
      · subst hjn2
        rw [if_pos (nI_le (Nat.le_refl _) (by omega)), i10]
        rcases nI2 hw with e | e
        · subst e
          rw [if_pos (show nI 0 = (0 : Int32) from rfl)]
          exact R_some ⟨Or.inr ⟨hoc, rfl⟩, rfl⟩
        · subst e
          rw [if_neg (show ¬ nI 1 = (0 : Int32) by decide)]
          exact R_some ⟨Or.inr ⟨hoc, rfl⟩, rfl⟩
      · rw [if_neg (nI_ge (by omega) (by omega)), i10]
        refine tries_R (G := fun i mv => gpv (rwU U y) (rwA (h 205) i) mv) (F := 1000000) (K := fun b l => k b l (nI j + 1)) hG (by omega) (fun k2 b l => ?_) (fun k2 b l mv h1 h2 h3 h4 hh => ?_) ?_
        · rw [if_pos (by decide)]
        · have := hG j mv
          rw [if_neg (show ¬ (2 : Int32) < iI mv from fun e => by have := (iI_lt (a := 2) (by omega) (by omega)).mp e; omega)]
          rw [M_gaps H (by omega) hy ⟨h1, h2⟩, cl1_s]
          show R (if iI l ≤ iI (gpv (rwU U y) (rwA (h 205) j) mv) then cl1 (mX5_min (iI l) (iI (gpv (rwU U y) (rwA (h 205) j) mv))) (fun r20 => k2 (nI b) r20 (iI mv + iI 1)) else cl1 (mX5_min (iI l) (iI (gpv (rwU U y) (rwA (h 205) j) mv))) (fun r20 => k2 (nI j) r20 (iI mv + iI 1))) _
          rw [iI_add]
          unfold mX5_min
          simp only [nm_q]
          by_cases g : gpv (rwU U y) (rwA (h 205) j) mv < l
          · have g1 : ¬ iI l ≤ iI (gpv (rwU U y) (rwA (h 205) j) mv) := fun e => by have := (iI_le (by omega) (by omega)).mp e; omega
            have g2 : iI (gpv (rwU U y) (rwA (h 205) j) mv) ≤ iI l := (iI_le (by omega) (by omega)).mpr (by omega)
            rw [if_pos g] at hh
            rw [if_neg g1, if_pos g2, cl1_s]
            exact hh
          · have g1 : iI l ≤ iI (gpv (rwU U y) (rwA (h 205) j) mv) := (iI_le (by omega) (by omega)).mpr (by omega)
            rw [if_neg g] at hh
            rw [if_pos g1]
            by_cases g2 : iI (gpv (rwU U y) (rwA (h 205) j) mv) ≤ iI l
            · have := (iI_le (by omega) (by omega)).mp g2
              rw [if_pos g2, cl1_s, show gpv (rwU U y) (rwA (h 205) j) mv = l by omega]
              exact hh
            · rw [if_neg g2, cl1_s]
              exact hh
        · exact hk (j + 1) _ _ _ (by omega) (by omega) ⟨nI_1 j, rfl, rfl⟩
    · refine fx_R3 n (fun j b l x => True) (by show n < 100000; omega) trivial ?_
      rintro j b l x k hj - hk
      rw [i00, i00]
      split
      · exact R_some ⟨Or.inl ⟨hex, rfl⟩, rfl⟩
      · exact R_some ⟨Or.inl ⟨hex, rfl⟩, rfl⟩
  · have ho := oct_lt (h 205 j)
    rw [if_neg (nI_ge (by omega) (by omega)), nI_1]
    rcases hI with ⟨rfl, hoc⟩ | ⟨rfl, i, hi, hi2⟩
    · rw [i10, M_oct (by omega), cl1_s]
      by_cases g : oct (h 205 j) ≤ 25
      · rw [if_neg (l_ngt (N := 25) (c := 25) rfl g (by decide))]
        refine hk (j + 1) _ _ (by omega) (by omega) ⟨rfl, Or.inl ⟨rfl, fun i hi => ?_⟩⟩
        by_cases e : i = j
        · rw [e]; exact g
        · exact hoc i (by omega)
      · rw [if_pos (l_gt (N := 25) (c := 25) rfl (by omega) (by omega))]
        exact hk (j + 1) _ _ (by omega) (by omega) ⟨rfl, Or.inr ⟨rfl, j, by omega, by omega⟩⟩
    · rw [i00]
      exact hk (j + 1) _ _ (by omega) (by omega) ⟨rfl, Or.inr ⟨rfl, i, by omega, hi2⟩⟩
theorem blP_u {G G' : Nat → Int → Int} {tp tp' : Nat → Int32} {n w : Nat} {F F' : Int} {r r' : Int32} (hn : 1 ≤ n) (hG : ∀ i mv, i < n → G i mv = G' i mv) (htp : ∀ i, i < 8 * n → tp i = tp' i) (hb : G 0 (-2) < F ∧ G 0 (-2) < F') (h1 : blP G tp n w F r) (h2 : blP G' tp' n w F' r') : r = r' := by
  rcases h1 with ⟨⟨i, hi, a⟩, e⟩ | ⟨a, e⟩ <;> rcases h2 with ⟨⟨i', hi', a'⟩, e'⟩ | ⟨a', e'⟩
  · rw [e, e']
  · have := a' i hi
    rw [htp i hi] at a
    omega
  · have := a i' hi'
    rw [← htp i' hi'] at a'
    omega
  · have k1 : bl G F (5 * n) = bl G F' (5 * n) := by
      have := bl_e hb.1 hb.2 (5 * n - 1)
      rw [show 5 * n - 1 + 1 = 5 * n by omega] at this
      exact this
    have k2 : ∀ k, k ≤ 5 * n → bl G F' k = bl G' F' k := by
      intro k
      induction k with
      | zero => intro _; rfl
      | succ k ih =>
        intro hk
        rw [bl_s, bl_s, ih (by omega), hG _ _ (show k / 5 < n by omega)]
    rw [e, e', k1, k2 _ (Nat.le_refl _)]
theorem st_belongs (LW : LWt) : St_belongs (II LW) := by
  intro tt hx hm a0 a1 a2 H
  obtain ⟨U, L, HU, HL⟩ := BM_HX H.1
  obtain ⟨⟨t, ht, e1, e2⟩, H3⟩ := H.2.2.1
  cases h1 : nR (a0 - 1) 16 with
  | false =>
    unfold mX0_belongs mX5_belongs
    rw [X_wi1 a0 16 16 (by decide), M_wi1 a0 16 16 (by decide), h1]
    exact ⟨-1, hx, hm, rfl, rfl, H⟩
  | true =>
    cases h2 : nR a1 6 with
    | false =>
      unfold mX0_belongs mX5_belongs
      rw [X_wi1 a0 16 16 (by decide), M_wi1 a0 16 16 (by decide), h1, X_in a1 6 6 (by decide), M_wi a1 5 6 (by decide), h2]
      exact ⟨-1, hx, hm, rfl, rfl, H⟩
    | true =>
      cases h3 : nR a2 2 with
      | false =>
        unfold mX0_belongs mX5_belongs
        rw [X_wi1 a0 16 16 (by decide), M_wi1 a0 16 16 (by decide), h1, X_in a1 6 6 (by decide), M_wi a1 5 6 (by decide), h2, X_in a2 2 2 (by decide), M_wi a2 1 2 (by decide), h3]
        exact ⟨-1, hx, hm, rfl, rfl, H⟩
      | true =>
        obtain ⟨n0, hn0, _, e0'⟩ := nR_of h1
        have e0 : a0 = nI (n0 + 1) := sub1_of e0'
        clear e0'
        subst e0
        obtain ⟨y, hy, _, e⟩ := nR_of h2
        obtain ⟨w, hw, _, e3⟩ := nR_of h3
        subst e e3
        by_cases hnt : 8 * (n0 + 1) ≤ t
        · obtain ⟨⟨r, x⟩, p1, q1, s1⟩ := X_belongs HU (n := n0 + 1) ⟨by omega, by omega, hnt, ht⟩ e1 hy hw
          obtain ⟨⟨r', y'⟩, p2, q2, s2⟩ := M_belongs HL (n := n0 + 1) ⟨by omega, by omega, hnt, ht⟩ e2 hy hw
          have hU := HU_of HU
          have b0 := gpv_all (fun p hp => (hU p hp).1) (hx 8) hy 0 (-2)
          have ea : ∀ i, i < n0 + 1 → ∀ mv, gpv (rwU U y) (rwA (hx 8) i) mv = gpv (rwU U y) (rwA (hm 205) i) mv := fun i hi mv => by
            have k : ∀ t, t ≤ 8 → gsv (rwU U y) (rwA (hx 8) i) mv t = gsv (rwU U y) (rwA (hm 205) i) mv t := by
              intro t
              induction t with
              | zero => intro _; rfl
              | succ t ih =>
                intro ht
                have e9 : rwA (hx 8) i t = rwA (hm 205) i t := by
                  unfold rwA
                  rw [H3 _ (by omega)]
                rw [gsv, gsv, ih (by omega), e9]
            unfold gpv
            rw [k 8 (by omega)]
          have e : r = r' := blP_u (by omega) (fun i mv hi => ea i hi mv) (fun i hi => H3 i (by omega)) (by omega) q1 q2
          have s1' : x = u2 hx 100 10 0 := s1
          have s2' : y' = u2 hm 300 6 0 := s2
          subst e s1' s2'
          exact ⟨r, _, _, p1, p2, II_taped0 H⟩
        · unfold mX0_belongs mX5_belongs
          rw [X_wi1 _ 16 16 (by decide), M_wi1 _ 16 16 (by decide), h1, e1, e2, X_in _ 6 6 (by decide), M_wi _ 5 6 (by decide), h2, X_in _ 2 2 (by decide), M_wi _ 1 2 (by decide), h3, mul8']
          generalize (268435456 : Int32) = FF
          generalize (1000000 : Int32) = FF2
          simp only [nm_q, cl1_q, bI_t, i10_q]
          rw [if_neg (nI_leN (by omega) (by omega) hnt), if_neg (nI_leN (by omega) (by omega) hnt)]
          exact ⟨_, hx, hm, rfl, rfl, H⟩
