/-! lean, turnedOver -/
set_option maxRecDepth 100000
/-- the greatest of the first n (and of the first) -/
def mxs (s : Nat → Int) : Nat → Int
  | 0 => s 0
  | n + 1 => max (mxs s n) (s n)
theorem mxs_s (s : Nat → Int) (n : Nat) : mxs s (n + 1) = max (mxs s n) (s n) := rfl
theorem mxs_b {s : Nat → Int} (hs : ∀ p, p < 48 → -1000 ≤ s p ∧ s p ≤ 1000) : ∀ n, n ≤ 48 → -1000 ≤ mxs s n ∧ mxs s n ≤ 1000
  | 0, _ => hs 0 (by omega)
  | n + 1, hn => by
    have := mxs_b hs n (by omega)
    have := hs n (by omega)
    rw [mxs_s]
    omega
theorem mxs_ge {s : Nat → Int} : ∀ n p, p < n → s p ≤ mxs s n
  | 0, p, h => by omega
  | n + 1, p, h => by
    rw [mxs_s]
    by_cases e : p = n
    · subst e
      omega
    · have := mxs_ge (s := s) n p (by omega)
      omega
theorem cnt_z {P : Nat → Bool} : ∀ n, (∀ i, i < n → P i = false) → cnt P n = 0
  | 0, _ => rfl
  | n + 1, h => by
    rw [cnt, cnt_z n (fun i hi => h i (by omega)), h n (by omega)]
    rfl
theorem cnt_st {P : Nat → Bool} {n : Nat} (h : P n = true) : cnt P (n + 1) = cnt P n + 1 := by
  rw [cnt, h]
  rfl
theorem cnt_sf {P : Nat → Bool} {n : Nat} (h : P n = false) : cnt P (n + 1) = cnt P n := by
  rw [cnt, h]
  rfl
def eqc (s : Nat → Int) (m : Int) (n : Nat) : Nat := cnt (fun p => decide (s p = m)) n
theorem eqc_t {s : Nat → Int} {m : Int} {n : Nat} (h : s n = m) : eqc s m (n + 1) = eqc s m n + 1 := cnt_st (P := fun p => decide (s p = m)) (decide_eq_true h)
theorem eqc_f {s : Nat → Int} {m : Int} {n : Nat} (h : ¬ s n = m) : eqc s m (n + 1) = eqc s m n := cnt_sf (P := fun p => decide (s p = m)) (decide_eq_false h)
theorem eqc_z {s : Nat → Int} {m : Int} {n : Nat} (h : ∀ i, i < n → ¬ s i = m) : eqc s m n = 0 := cnt_z n (fun i hi => decide_eq_false (h i hi))
theorem X_greatest {h : Hp} {s : Nat → Int} (hs : ∀ p, p < 48 → -1000 ≤ s p ∧ s p ≤ 1000) (hh : ∀ p, p < 48 → h 18 p = iI (s p)) : mX0_greatestSum h = some (iI (mxs s 48)) := by
  unfold mX0_greatestSum
  simp only [nm_q]
  refine fx_g2 (fun j => iI (mxs s j)) (fun j => nI j) 48 (hh 0 (by omega)).symm rfl (by decide) (fun j hj k => ?_) (fun k => ?_)
  · have := mxs_b hs j (by omega)
    have := hs j hj
    rw [if_neg (nl48 hj), ck_s hj (by decide), nI_clamp (by omega), hh j hj, iI_jmax (by omega), nI_1, mxs_s]
  · rw [if_pos (show (48 : Int32) ≤ nI 48 by decide)]
theorem X_touching {h : Hp} {s : Nat → Int} (hs : ∀ p, p < 48 → -1000 ≤ s p ∧ s p ≤ 1000) (hh : ∀ p, p < 48 → h 18 p = iI (s p)) : mX0_touching h = some (nI (eqc s (mxs s 48) 48)) := by
  have hm := mxs_b hs 48 (by omega)
  unfold mX0_touching
  rw [X_greatest hs hh, cl1_s]
  generalize mxs s 48 = m at hm
  simp only [nm_q]
  refine fx_g2 (fun j => nI (eqc s m j)) (fun j => nI j) 48 rfl rfl (by decide) (fun j hj k => ?_) (fun k => ?_)
  · have := hs j hj
    rw [if_neg (nl48 hj), ck_s hj (by decide), nI_clamp (by omega), hh j hj, nI_1]
    by_cases e : s j = m
    · rw [if_pos ((iI_eq (by omega) (by omega)).mpr e), nI_1, eqc_t e]
    · rw [if_neg (fun q => e ((iI_eq (by omega) (by omega)).mp q)), Int32.add_zero, eqc_f e, nI_1]
  · rw [if_pos (show (48 : Int32) ≤ nI 48 by decide)]
def lsn (U L : Nat → Nat) (b : Int) (p : Nat) : Int := ((U p + L p : Nat) : Int) + b * ((p % 8 : Nat) : Int)
theorem lsn_b {U L : Nat → Nat} (hU : ∀ p, p < 48 → U p ≤ 25 ∧ L p ≤ 25) {b : Int} (hb : -3 ≤ b ∧ b ≤ 3) : ∀ p, p < 48 → -1000 ≤ lsn U L b p ∧ lsn U L b p ≤ 1000 := fun p hp => by
  have := hU p hp
  unfold lsn
  have h7 : p % 8 < 8 := Nat.mod_lt _ (by decide)
  generalize p % 8 = m at h7
  have hc : b = -3 ∨ b = -2 ∨ b = -1 ∨ b = 0 ∨ b = 1 ∨ b = 2 ∨ b = 3 := by omega
  rcases hc with e | e | e | e | e | e | e <;> subst e <;> omega
def tch (U L : Nat → Nat) (b : Int) : Nat := eqc (lsn U L b) (mxs (lsn U L b) 48) 48
theorem tch_le (U L : Nat → Nat) (b : Int) : tch U L b ≤ 48 := cnt_le _ _
theorem X_tby {h : Hp} {U L : Nat → Nat} (H : HX 40 h U L) {b : Int} (hb : -3 ≤ b ∧ b ≤ 3) : mX0_touchingBy h (iI b) = some (nI (tch U L b), sN h 18 (fun p => iI (lsn U L b p)) 48) := by
  have hU := HU_of H
  unfold mX0_touchingBy
  simp only [nm_q]
  refine fx_g2 (fun j => nI j) (fun j => sN h 18 (fun p => iI (lsn U L b p)) j) 48 rfl (sN_0 _ _ _) (by decide) (fun j hj k => ?_) (fun k => ?_)
  · have Hj : HX 40 (sN h 18 (fun p => iI (lsn U L b p)) j) U L := HX_c (sN_n (by decide)) (sN_n (by decide)) H
    rw [if_neg (nl48 hj), X_sumR Hj hj, cl1_s, ck_s hj (by decide), nI_clamp (by omega), show jrem (nI j) 8 = nI (j % 8) from jrem_s (d := 8) (by omega) (by decide) (by decide), iI_n (U j + L j), iI_n (j % 8), iI_mul, iI_add, nI_1]
    show k _ (u2 _ 18 j (iI (lsn U L b j))) = _
    rw [sN_s h 18 (fun p => iI (lsn U L b p)) j]
  · rw [if_pos (show (48 : Int32) ≤ nI 48 by decide), X_touching (lsn_b hU hb) (fun p hp => sN_k hp), cl1_s]
    rfl
theorem M_tl {h : Hp} {U L : Nat → Nat} (H : HM h U L) {b : Int} (hb : -3 ≤ b ∧ b ≤ 3) : mX5_touchLeaning h (iI b) = some (nI (tch U L b)) := by
  have hU := HV_of H
  have hs := lsn_b hU hb
  unfold tch
  generalize hsn : lsn U L b = s at hs
  have key : R (mX5_touchLeaning h (iI b)) (fun r => r = nI (eqc s (mxs s 48) 48)) := by
    unfold mX5_touchLeaning
    generalize hFF : (-1000000 : Int32) = FF
    simp only [nm_q]
    subst hFF
    refine fx_R3 48 (fun j m n x => x = nI j ∧ ((j = 0 ∧ m = iI (-1000000) ∧ n = nI 0) ∨ (0 < j ∧ m = iI (mxs s j) ∧ n = nI (eqc s (mxs s j) j)))) (by decide) ⟨rfl, Or.inl ⟨rfl, rfl, rfl⟩⟩ ?_
    rintro j m n x k hj ⟨rfl, hI⟩ hk
    by_cases hj8 : j = 48
    · subst hj8
      rcases hI with ⟨e, _⟩ | ⟨_, rfl, rfl⟩
      · cases e
      · rw [if_pos (show (48 : Int32) ≤ nI 48 by decide)]
        exact R_some rfl
    · have hj' : j < 48 := by omega
      have hsj := hs j hj'
      have hmj := mxs_b hs j (by omega)
      rw [if_neg (nl48 hj'), M_restAt H hj', cl1_s, show jrem (nI j) 8 = nI (j % 8) from jrem_s (d := 8) (by omega) (by decide) (by decide), iI_n (U j + L j), iI_n (j % 8), iI_mul, iI_add, nI_1]
      rw [show ((U j + L j : Nat) : Int) + b * ((j % 8 : Nat) : Int) = s j from by rw [← hsn]; rfl]
      rcases hI with ⟨rfl, rfl, rfl⟩ | ⟨h0, rfl, rfl⟩
      · have hmx : mX5_max (iI (-1000000)) (iI (s 0)) = some (iI (s 0)) := by
          unfold mX5_max
          simp only [nm_q]
          rw [if_pos ((iI_le (by omega) (by omega)).mpr (by omega))]
        rw [if_neg (fun q => by have := (iI_le (by omega) (by omega)).mp q; omega), hmx, cl1_s]
        refine hk 1 _ _ _ (by omega) (by omega) ⟨rfl, Or.inr ⟨by omega, ?_, ?_⟩⟩
        · show iI (s 0) = iI (max (s 0) (s 0))
          rw [Int.max_self]
        · show (1 : Int32) = nI (eqc s (max (s 0) (s 0)) 1)
          rw [Int.max_self, eqc_t rfl]
          rfl
      · have hmx : mX5_max (iI (mxs s j)) (iI (s j)) = some (iI (mxs s (j + 1))) := by
          unfold mX5_max
          simp only [nm_q]
          rw [mxs_s]
          by_cases c : mxs s j ≤ s j
          · rw [if_pos ((iI_le (by omega) (by omega)).mpr c), Int.max_eq_right c]
          · rw [if_neg (fun q => c ((iI_le (by omega) (by omega)).mp q)), Int.max_eq_left (by omega)]
        rw [hmx]
        by_cases c : s j ≤ mxs s j
        · have e1 : mxs s (j + 1) = mxs s j := by rw [mxs_s]; omega
          rw [if_pos ((iI_le (by omega) (by omega)).mpr c)]
          by_cases c2 : s j = mxs s j
          · rw [if_pos ((iI_eq (by omega) (by omega)).mpr c2), cl1_s, nI_1]
            exact hk (j + 1) _ _ _ (by omega) (by omega) ⟨rfl, Or.inr ⟨by omega, rfl, by rw [e1, eqc_t c2]⟩⟩
          · rw [if_neg (fun q => c2 ((iI_eq (by omega) (by omega)).mp q)), cl1_s]
            exact hk (j + 1) _ _ _ (by omega) (by omega) ⟨rfl, Or.inr ⟨by omega, rfl, by rw [e1, eqc_f c2]⟩⟩
        · have e1 : mxs s (j + 1) = s j := by rw [mxs_s]; omega
          rw [if_neg (fun q => c ((iI_le (by omega) (by omega)).mp q)), cl1_s]
          refine hk (j + 1) _ _ _ (by omega) (by omega) ⟨rfl, Or.inr ⟨by omega, rfl, ?_⟩⟩
          rw [e1, eqc_t rfl, eqc_z (fun i hi e => by have := mxs_ge (s := s) j i hi; omega)]
          rfl
  obtain ⟨r, e, hr⟩ := key
  rw [e, hr]
/-- the leans in their order, the best of the first -/
def bys (k : Nat) : Int := if k % 2 = 1 then -(((k + 1) / 2 : Nat) : Int) else ((k / 2 : Nat) : Int)
def bsl (T : Int → Nat) : Nat → Int
  | 0 => 0
  | j + 1 => if T (bys (j + 1)) ≤ T (bsl T j) then bsl T j else bys (j + 1)
theorem bsl_s (T : Int → Nat) (j : Nat) : bsl T (j + 1) = if T (bys (j + 1)) ≤ T (bsl T j) then bsl T j else bys (j + 1) := rfl
theorem bsl_b (T : Int → Nat) : ∀ j, j ≤ 6 → -3 ≤ bsl T j ∧ bsl T j ≤ 3
  | 0, _ => by show -3 ≤ (0 : Int) ∧ (0 : Int) ≤ 3; omega
  | j + 1, hj => by
    have := bsl_b T j (by omega)
    rw [bsl_s]
    split
    · exact this
    · unfold bys
      split <;> omega
def leP (T : Int → Nat) (w : Nat) : Int32 := if w = 0 then iI (bsl T 6 + 3) else nI (T (bsl T 6))
theorem X_lean {h : Hp} {U L : Nat → Nat} (H : HX 40 h U L) {w : Nat} (hw : w < 2) : R (mX0_lean h (nI w)) (fun r => r.1 = leP (tch U L) w ∧ SX h r.2) := by
  unfold mX0_lean
  rw [X_in _ 2 2 (by decide), nR_s hw (by omega), cl1_s, bI_t, i10]
  simp only [nm_q]
  refine fx_R3 3 (fun j b x g => x = nI (j + 1) ∧ b = iI (bsl (tch U L) (2 * j)) ∧ Ex [18] h g) (by decide) ⟨rfl, rfl, Ex_r _ _⟩ ?_
  rintro j b x g k hj ⟨rfl, rfl, hE⟩ hk
  have Hg : HX 40 g U L := Ex_HX hE (by decide) (by decide) H
  have hb := bsl_b (tch U L) (2 * j) (by omega)
  by_cases hj3 : j = 3
  · subst hj3
    rw [if_pos (show (3 : Int32) < nI (3 + 1) by decide)]
    rcases nI2 hw with e | e
    · subst e
      rw [if_pos (show nI 0 = (0 : Int32) from rfl), ilit3, iI_add]
      exact R_some ⟨rfl, SX_e hE (by decide)⟩
    · subst e
      rw [if_neg (show ¬ nI 1 = (0 : Int32) by decide), X_tby Hg hb, cl2_s]
      exact R_some ⟨rfl, SX_t (SX_e hE (by decide)) (SX_e (Ex_sN _ _ _ _) (by decide))⟩
  · have hj' : j < 3 := by omega
    rw [if_neg (l_ngt (N := 3) (c := 3) rfl (by omega) (by decide))]
    have ey1 : -nI (j + 1) = iI (bys (2 * j + 1)) := by
      have : j = 0 ∨ j = 1 ∨ j = 2 := by omega
      rcases this with e | e | e <;> subst e <;> decide
    have ey2 : nI (j + 1) = iI (bys (2 * j + 2)) := by
      have : j = 0 ∨ j = 1 ∨ j = 2 := by omega
      rcases this with e | e | e <;> subst e <;> decide
    have b1 : -3 ≤ bys (2 * j + 1) ∧ bys (2 * j + 1) ≤ 3 := by
      unfold bys
      split <;> omega
    have b2 : -3 ≤ bys (2 * j + 2) ∧ bys (2 * j + 2) ≤ 3 := by
      unfold bys
      split <;> omega
    have hb1 := bsl_b (tch U L) (2 * j + 1) (by omega)
    have t1 := tch_le U L (bys (2 * j + 1))
    have t2 := tch_le U L (bys (2 * j + 2))
    have t3 := tch_le U L (bsl (tch U L) (2 * j))
    have t4 := tch_le U L (bsl (tch U L) (2 * j + 1))
    have ex : nI (j + 1) + 1 = nI (j + 1 + 1) := nI_1 _
    rw [ey1, X_tby Hg b1, cl2_s]
    have H1 : HX 40 (sN g 18 (fun p => iI (lsn U L (bys (2 * j + 1)) p)) 48) U L := HX_c (sN_n (by decide)) (sN_n (by decide)) Hg
    have E1 := Ex_sN g 18 (fun p => iI (lsn U L (bys (2 * j + 1)) p)) 48
    generalize sN g 18 (fun p => iI (lsn U L (bys (2 * j + 1)) p)) 48 = g1 at H1 E1
    rw [X_tby H1 hb, cl2_s]
    have H2 : HX 40 (sN g1 18 (fun p => iI (lsn U L (bsl (tch U L) (2 * j)) p)) 48) U L := HX_c (sN_n (by decide)) (sN_n (by decide)) H1
    have E2 := Ex_sN g1 18 (fun p => iI (lsn U L (bsl (tch U L) (2 * j)) p)) 48
    generalize sN g1 18 (fun p => iI (lsn U L (bsl (tch U L) (2 * j)) p)) 48 = g2 at H2 E2
    have tail : R (cl2 (mX0_touchingBy g2 (nI (j + 1))) fun r19 h20 => cl2 (mX0_touchingBy h20 (iI (bsl (tch U L) (2 * j + 1)))) fun r22 h23 => if r19 ≤ r22 then k (iI (bsl (tch U L) (2 * j + 1))) (nI (j + 1) + 1) h23 else k (nI (j + 1)) (nI (j + 1) + 1) h23) (fun r => r.1 = leP (tch U L) w ∧ SX h r.2) := by
      rw [ex]
      rw [ey2, X_tby H2 b2, cl2_s]
      have H3 : HX 40 (sN g2 18 (fun p => iI (lsn U L (bys (2 * j + 2)) p)) 48) U L := HX_c (sN_n (by decide)) (sN_n (by decide)) H2
      have E3 := Ex_sN g2 18 (fun p => iI (lsn U L (bys (2 * j + 2)) p)) 48
      generalize sN g2 18 (fun p => iI (lsn U L (bys (2 * j + 2)) p)) 48 = g3 at H3 E3
      rw [X_tby H3 hb1, cl2_s]
      have E4 := Ex_sN g3 18 (fun p => iI (lsn U L (bsl (tch U L) (2 * j + 1)) p)) 48
      generalize sN g3 18 (fun p => iI (lsn U L (bsl (tch U L) (2 * j + 1)) p)) 48 = g4 at E4
      have EE : Ex [18] h g4 := fun q hq => (E4 q hq).trans ((E3 q hq).trans ((E2 q hq).trans ((E1 q hq).trans (hE q hq))))
      have es := bsl_s (tch U L) (2 * j + 1)
      rw [show 2 * j + 1 + 1 = 2 * j + 2 from rfl] at es
      by_cases c : tch U L (bys (2 * j + 2)) ≤ tch U L (bsl (tch U L) (2 * j + 1))
      · rw [if_pos (nI_le c (by omega))]
        rw [if_pos c] at es
        exact hk (j + 1) _ _ _ (by omega) (by omega) ⟨rfl, by rw [show 2 * (j + 1) = 2 * j + 2 by omega, es], EE⟩
      · rw [if_neg (nI_leN (by omega) (by omega) c)]
        rw [if_neg c] at es
        exact hk (j + 1) _ _ _ (by omega) (by omega) ⟨rfl, by rw [show 2 * (j + 1) = 2 * j + 2 by omega, es], EE⟩
    have es := bsl_s (tch U L) (2 * j)
    by_cases c : tch U L (bys (2 * j + 1)) ≤ tch U L (bsl (tch U L) (2 * j))
    · rw [if_pos (nI_le c (by omega))]
      rw [if_pos c] at es
      rw [es] at tail
      exact tail
    · rw [if_neg (nI_leN (by omega) (by omega) c)]
      rw [if_neg c] at es
      rw [es] at tail
      exact tail
theorem M_lean {h : Hp} {U L : Nat → Nat} (H : HM h U L) {w : Nat} (hw : w < 2) : R (mX5_lean h (nI w)) (fun r => r = leP (tch U L) w) := by
  unfold mX5_lean
  rw [M_wi _ 1 2 (by decide), nR_s hw (by omega), cl1_s, bI_t, i10]
  simp only [nm_q]
  refine fx_R2 6 (fun j b x => x = nI (j + 1) ∧ b = iI (bsl (tch U L) j)) (by decide) ⟨rfl, rfl⟩ ?_
  rintro j b x k hj ⟨rfl, rfl⟩ hk
  have hb := bsl_b (tch U L) j (by omega)
  by_cases hj6 : j = 6
  · subst hj6
    rw [if_pos (show (7 : Int32) ≤ nI (6 + 1) by decide)]
    rcases nI2 hw with e | e
    · subst e
      rw [if_pos (show nI 0 = (0 : Int32) from rfl), ilit3, iI_add]
      exact R_some rfl
    · subst e
      rw [if_neg (show ¬ nI 1 = (0 : Int32) by decide), M_tl H hb, cl1_s]
      exact R_some rfl
  · have hj' : j < 6 := by omega
    rw [if_neg (nl7 (by omega))]
    have b1 : -3 ≤ bys (j + 1) ∧ bys (j + 1) ≤ 3 := by
      unfold bys
      split <;> omega
    have t1 := tch_le U L (bys (j + 1))
    have t3 := tch_le U L (bsl (tch U L) j)
    have es := bsl_s (tch U L) j
    have fin : R (cl1 (mX5_touchLeaning h (iI (bys (j + 1)))) fun r10 => cl1 (mX5_touchLeaning h (iI (bsl (tch U L) j))) fun r12 => if r10 ≤ r12 then k (iI (bsl (tch U L) j)) (nI (j + 1) + 1) else k (iI (bys (j + 1))) (nI (j + 1) + 1)) (fun r => r = leP (tch U L) w) := by
      rw [M_tl H b1, cl1_s, M_tl H hb, cl1_s, nI_1]
      by_cases c : tch U L (bys (j + 1)) ≤ tch U L (bsl (tch U L) j)
      · rw [if_pos (nI_le c (by omega))]
        rw [if_pos c] at es
        exact hk (j + 1) _ _ (by omega) (by omega) ⟨rfl, by rw [es]⟩
      · rw [if_neg (nI_leN (by omega) (by omega) c)]
        rw [if_neg c] at es
        exact hk (j + 1) _ _ (by omega) (by omega) ⟨rfl, by rw [es]⟩
    have hc : j = 0 ∨ j = 1 ∨ j = 2 ∨ j = 3 ∨ j = 4 ∨ j = 5 := by omega
    rcases hc with e | e | e | e | e | e <;> subst e
    · rw [if_pos (by decide)]; exact fin
    · rw [if_neg (by decide)]; exact fin
    · rw [if_pos (by decide)]; exact fin
    · rw [if_neg (by decide)]; exact fin
    · rw [if_pos (by decide)]; exact fin
    · rw [if_neg (by decide)]; exact fin
theorem st_lean (LW : LWt) : St_lean (II LW) := by
  intro tt hx hm a0 H
  obtain ⟨U, L, HU, HL⟩ := BM_HX H.1
  cases h1 : nR a0 2 with
  | false =>
    unfold mX0_lean mX5_lean
    rw [X_in a0 2 2 (by decide), M_wi a0 1 2 (by decide), h1]
    exact ⟨-1, hx, rfl, rfl, H⟩
  | true =>
    obtain ⟨w, hw, _, e⟩ := nR_of h1
    subst e
    exact st_h0 (fun a => a = leP (tch U L) w) (fun a => a = leP (tch U L) w) H (X_lean HU hw) (M_lean HL hw) (fun a b p q => p.trans q.symm)
def mir (p : Nat) : Nat := 8 * (p / 8) + (7 - p % 8)
theorem mir_t : ∀ p : Fin 48, mX0_placeAt ((7 : Int32) - jrem (nI p.val) 8) (nI p.val / 8) = some (nI (mir p.val)) ∧ nI p.val - jrem (nI p.val) 8 + 7 - jrem (nI p.val) 8 = nI (mir p.val) ∧ mir p.val < 48 := by decide +kernel
def tvs (U L : Nat → Nat) (p : Nat) : Int := ((U p + L (mir p) : Nat) : Int)
def tvP (U L : Nat → Nat) (w : Nat) : Int32 := if w = 0 then iI (mxs (tvs U L) 48) else nI (eqc (tvs U L) (mxs (tvs U L) 48) 48)
theorem tvs_b {U L : Nat → Nat} (hU : ∀ p, p < 48 → U p ≤ 25 ∧ L p ≤ 25) : ∀ p, p < 48 → 0 ≤ tvs U L p ∧ tvs U L p ≤ 1000 := fun p hp => by
  have a := hU p hp
  have b := hU (mir p) (mir_t ⟨p, hp⟩).2.2
  unfold tvs
  omega
theorem X_turned {h : Hp} {U L : Nat → Nat} (H : HX 40 h U L) {w : Nat} (hw : w < 2) : R (mX0_turnedOver h (nI w)) (fun r => r.1 = tvP U L w ∧ SX h r.2) := by
  have hU := HU_of H
  have hs : ∀ p, p < 48 → -1000 ≤ tvs U L p ∧ tvs U L p ≤ 1000 := fun p hp => by have := tvs_b hU p hp; omega
  unfold mX0_turnedOver
  rw [X_in _ 2 2 (by decide), nR_s hw (by omega), cl1_s, bI_t, i10]
  simp only [nm_q]
  refine fx_R2 48 (fun j x g => x = nI j ∧ g = sN h 18 (fun p => iI (tvs U L p)) j) (by decide) ⟨rfl, (sN_0 _ _ _).symm⟩ ?_
  rintro j x g k hj ⟨rfl, rfl⟩ hk
  by_cases hj8 : j = 48
  · subst hj8
    rw [if_pos (show (48 : Int32) ≤ nI 48 by decide)]
    rcases nI2 hw with e | e
    · subst e
      rw [if_pos (show nI 0 = (0 : Int32) from rfl), X_greatest hs (fun p hp => sN_k hp), cl1_s]
      exact R_some ⟨rfl, SX_e (Ex_sN _ _ _ _) (by decide)⟩
    · subst e
      rw [if_neg (show ¬ nI 1 = (0 : Int32) by decide), X_touching hs (fun p hp => sN_k hp), cl1_s]
      exact R_some ⟨rfl, SX_e (Ex_sN _ _ _ _) (by decide)⟩
  · have hj' : j < 48 := by omega
    have hm := mir_t ⟨j, hj'⟩
    have hm3 : mir j < 48 := hm.2.2
    rw [if_neg (nl48 hj'), ck_s hj' (by decide), show mX0_placeAt ((7 : Int32) - jrem (nI j) 8) (nI j / 8) = some (nI (mir j)) from hm.1, cl1_s, ck_s hm3 (by decide), ck_s hj' (by decide), nI_clamp (by omega), nI_clamp (by omega), nI_1]
    have e : sN h 18 (fun p => iI (tvs U L p)) j 43 j + sN h 18 (fun p => iI (tvs U L p)) j 42 (mir j) = iI (tvs U L j) := by
      rw [sN_n (by decide), sN_n (by decide), show h 43 j = nI (U j) from (H j hj').2.2.1, show h 42 (mir j) = nI (L (mir j)) from (H _ hm3).2.2.2, nI_add, iI_n]
      rfl
    rw [e, sN_s h 18 (fun p => iI (tvs U L p)) j]
    exact hk (j + 1) _ _ (by omega) (by omega) ⟨rfl, rfl⟩
theorem M_turned {h : Hp} {U L : Nat → Nat} (H : HM h U L) {w : Nat} (hw : w < 2) : R (mX5_turnedOver h (nI w)) (fun r => r = tvP U L w) := by
  have hU := HV_of H
  have hs0 := tvs_b hU
  have hs : ∀ p, p < 48 → -1000 ≤ tvs U L p ∧ tvs U L p ≤ 1000 := fun p hp => by have := hs0 p hp; omega
  unfold mX5_turnedOver
  rw [M_wi _ 1 2 (by decide), nR_s hw (by omega), cl1_s, bI_t, i10]
  simp only [nm_q]
  unfold tvP
  have ev : ∀ p, p < 48 → nI (U p + L (mir p)) = iI (tvs U L p) := fun p hp => by rw [iI_n]; rfl
  generalize tvs U L = s at hs hs0 ev
  refine fx_R3 48 (fun j m n x => x = nI j ∧ ((j = 0 ∧ m = iI 0 ∧ n = nI 0) ∨ (0 < j ∧ m = iI (mxs s j) ∧ n = nI (eqc s (mxs s j) j) ∧ 0 < eqc s (mxs s j) j))) (by decide) ⟨rfl, Or.inl ⟨rfl, rfl, rfl⟩⟩ ?_
  rintro j m n x k hj ⟨rfl, hI⟩ hk
  by_cases hj8 : j = 48
  · subst hj8
    rcases hI with ⟨e, _⟩ | ⟨_, rfl, rfl, _⟩
    · cases e
    · rw [if_pos (show (48 : Int32) ≤ nI 48 by decide)]
      rcases nI2 hw with e | e
      · subst e
        rw [if_pos (show nI 0 = (0 : Int32) from rfl)]
        exact R_some rfl
      · subst e
        rw [if_neg (show ¬ nI 1 = (0 : Int32) by decide)]
        exact R_some rfl
  · have hj' : j < 48 := by omega
    have hm := mir_t ⟨j, hj'⟩
    have hm3 : mir j < 48 := hm.2.2
    have hsj := hs0 j hj'
    have hmj := mxs_b hs j (by omega)
    rw [if_neg (nl48 hj'), M_up H hj', cl1_s, show nI j - jrem (nI j) 8 + 7 - jrem (nI j) 8 = nI (mir j) from hm.2.1, M_lo H hm3, cl1_s, nI_add, ev j hj', nI_1]
    rcases hI with ⟨rfl, rfl, rfl⟩ | ⟨h0, rfl, rfl, hp⟩
    · have hmx : mX5_max (iI 0) (iI (s 0)) = some (iI (s 0)) := by
        unfold mX5_max
        simp only [nm_q]
        rw [if_pos ((iI_le (by omega) (by omega)).mpr (by omega))]
      have hk1 := hk 1 (iI (s 0)) (1 : Int32) (nI 1) (by omega) (by omega) ⟨rfl, Or.inr ⟨by omega, by show iI (s 0) = iI (max (s 0) (s 0)); rw [Int.max_self], by show (1 : Int32) = nI (eqc s (max (s 0) (s 0)) 1); rw [Int.max_self, eqc_t rfl]; rfl, by show 0 < eqc s (max (s 0) (s 0)) 1; rw [Int.max_self, eqc_t rfl]; omega⟩⟩
      rw [hmx, cl1_s, if_pos (show nI 0 = (0 : Int32) from rfl)]
      split <;> exact hk1
    · have hmx : mX5_max (iI (mxs s j)) (iI (s j)) = some (iI (mxs s (j + 1))) := by
        unfold mX5_max
        simp only [nm_q]
        rw [mxs_s]
        by_cases c : mxs s j ≤ s j
        · rw [if_pos ((iI_le (by omega) (by omega)).mpr c), Int.max_eq_right c]
        · rw [if_neg (fun q => c ((iI_le (by omega) (by omega)).mp q)), Int.max_eq_left (by omega)]
      have hle : eqc s (mxs s j) j ≤ j := cnt_le _ _
      rw [hmx, if_neg (nI_ne0 hp (by omega)), cl1_s, cl1_s, cl1_s]
      by_cases c : mxs s j < s j
      · have e1 : mxs s (j + 1) = s j := by rw [mxs_s]; omega
        rw [if_pos ((iI_lt (by omega) (by omega)).mpr c)]
        have e2 : eqc s (mxs s (j + 1)) (j + 1) = 1 := by
          rw [e1, eqc_t rfl, eqc_z (fun i hi e => by have := mxs_ge (s := s) j i hi; omega)]
        exact hk (j + 1) _ _ _ (by omega) (by omega) ⟨rfl, Or.inr ⟨by omega, rfl, by rw [e2]; rfl, by omega⟩⟩
      · have e1 : mxs s (j + 1) = mxs s j := by rw [mxs_s]; omega
        rw [if_neg (fun q => c ((iI_lt (by omega) (by omega)).mp q))]
        by_cases c2 : s j = mxs s j
        · rw [if_pos ((iI_eq (by omega) (by omega)).mpr c2), nI_1]
          exact hk (j + 1) _ _ _ (by omega) (by omega) ⟨rfl, Or.inr ⟨by omega, rfl, by rw [e1, eqc_t c2], by rw [e1, eqc_t c2]; omega⟩⟩
        · rw [if_neg (fun q => c2 ((iI_eq (by omega) (by omega)).mp q))]
          exact hk (j + 1) _ _ _ (by omega) (by omega) ⟨rfl, Or.inr ⟨by omega, rfl, by rw [e1, eqc_f c2], by rw [e1, eqc_f c2]; exact hp⟩⟩
theorem st_turnedOver (LW : LWt) : St_turnedOver (II LW) := by
  intro tt hx hm a0 H
  obtain ⟨U, L, HU, HL⟩ := BM_HX H.1
  cases h1 : nR a0 2 with
  | false =>
    unfold mX0_turnedOver mX5_turnedOver
    rw [X_in a0 2 2 (by decide), M_wi a0 1 2 (by decide), h1]
    exact ⟨-1, hx, rfl, rfl, H⟩
  | true =>
    obtain ⟨w, hw, _, e⟩ := nR_of h1
    subst e
    exact st_h0 (fun a => a = tvP U L w) (fun a => a = tvP U L w) H (X_turned HU hw) (M_turned HL hw) (fun a b p q => p.trans q.symm)
