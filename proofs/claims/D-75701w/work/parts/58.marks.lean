/-! signed numbers; marks, glide -/
set_option maxRecDepth 100000
abbrev iI (z : Int) : Int32 := Int32.ofInt z
theorem iI_n (n : Nat) : nI n = iI (n : Int) := (Int32.ofInt_eq_ofNat).symm
theorem iI_add (a b : Int) : iI a + iI b = iI (a + b) := (Int32.ofInt_add a b).symm
theorem iI_sub (a b : Int) : iI a - iI b = iI (a - b) := (Int32.ofInt_sub a b).symm
theorem iI_mul (a b : Int) : iI a * iI b = iI (a * b) := (Int32.ofInt_mul a b).symm
theorem iI_neg (a : Int) : - iI a = iI (-a) := (Int32.ofInt_neg a).symm
theorem iI_toInt {a : Int} (h : -2147483648 ≤ a ∧ a < 2147483648) : (iI a).toInt = a := Int32.toInt_ofInt_of_le h.1 h.2
theorem iI_lt {a b : Int} (ha : -2147483648 ≤ a ∧ a < 2147483648) (hb : -2147483648 ≤ b ∧ b < 2147483648) : iI a < iI b ↔ a < b := by rw [Int32.lt_iff_toInt_lt, iI_toInt ha, iI_toInt hb]
theorem iI_le {a b : Int} (ha : -2147483648 ≤ a ∧ a < 2147483648) (hb : -2147483648 ≤ b ∧ b < 2147483648) : iI a ≤ iI b ↔ a ≤ b := by rw [Int32.le_iff_toInt_le, iI_toInt ha, iI_toInt hb]
theorem iI_eq {a b : Int} (ha : -2147483648 ≤ a ∧ a < 2147483648) (hb : -2147483648 ≤ b ∧ b < 2147483648) : iI a = iI b ↔ a = b := by
  constructor
  · intro h
    have := congrArg Int32.toInt h
    rwa [iI_toInt ha, iI_toInt hb] at this
  · intro h
    rw [h]
theorem nI_sub (a b : Nat) : nI a - nI b = iI ((a : Int) - b) := by rw [iI_n, iI_n, iI_sub]
/-- what a paper marks in a glide -/
def mk (U L : Nat → Nat) (g pp p : Nat) : Bool := match fcg p g with
  | none => false
  | some q => decide (mxo U L g 48 ≤ U p + L q + pp)
theorem nar_bI (b : Bool) : vp_nar .boolean (bI b) = bI b := by cases b <;> rfl
theorem nar_0 : vp_nar .boolean (0 : Int32) = 0 := rfl
theorem nar_1 : vp_nar .boolean (1 : Int32) = 1 := rfl
theorem HU_of {b : Nat} {h : Hp} {U L : Nat → Nat} (H : HX b h U L) : ∀ p, p < 48 → U p ≤ 25 ∧ L p ≤ 25 := fun p hp => ⟨(H p hp).1, (H p hp).2.1⟩
theorem HV_of {h : Hp} {U L : Nat → Nat} (H : HM h U L) : ∀ p, p < 48 → U p ≤ 25 ∧ L p ≤ 25 := fun p hp => ⟨(H p hp).1, (H p hp).2.1⟩
theorem HM_c {h h' : Hp} {U L : Nat → Nat} (e : h' 200 = h 200) (H : HM h U L) : HM h' U L := fun p hp => by
  rw [e]
  exact H p hp
theorem X_marks {b : Nat} {h : Hp} {U L : Nat → Nat} (H : HX b h U L) (hb : 2 < b) {g pp : Nat} (hg : g < 63) (hpp : pp ≤ 50) : mX3_marks b h (nI g) (nI pp) = some (nI (cnt (mk U L g pp) 48), sN h 2 (fun p => bI (mk U L g pp p)) 48) := by
  have hU := HU_of H
  have ho := mxo_le (g := g) hU 48 (by omega)
  unfold mX3_marks
  rw [X_opening H hg, cl1_s]
  simp only [nm_s]
  refine fx_g3 (fun j => nI (cnt (mk U L g pp) j)) (fun j => nI j) (fun j => sN h 2 (fun p => bI (mk U L g pp p)) j) 48 rfl rfl (sN_0 _ _ _) (by decide) (fun j hj k => ?_) (fun k => ?_)
  · have Hj : HX b (sN h 2 (fun p => bI (mk U L g pp p)) j) U L := HX_c (sN_n (by omega)) (sN_n (by omega)) H
    have fin : ∀ v, bI (mk U L g pp j) = v → ck (nI j) 48 (ck (nI j) 48 (if u2 (sN h 2 (fun p => bI (mk U L g pp p)) j) 2 (nI j).toNatClampNeg (vp_nar .boolean v) 2 (nI j).toNatClampNeg = 0 then k (nI (cnt (mk U L g pp) j) + 0) (nI j + 1) (u2 (sN h 2 (fun p => bI (mk U L g pp p)) j) 2 (nI j).toNatClampNeg (vp_nar .boolean v)) else k (nI (cnt (mk U L g pp) j) + 1) (nI j + 1) (u2 (sN h 2 (fun p => bI (mk U L g pp p)) j) 2 (nI j).toNatClampNeg (vp_nar .boolean v)))) = k (nI (cnt (mk U L g pp) (j + 1))) (nI (j + 1)) (sN h 2 (fun p => bI (mk U L g pp p)) (j + 1)) := fun v hv => by
      rw [← hv, nar_bI, ck_s hj (by decide), ck_s hj (by decide), nI_clamp (by omega), nI_1, nI_1, u2_e, upd_e]
      rw [sN_s h 2 (fun p => bI (mk U L g pp p)) j, Int32.add_zero]
      cases hm : mk U L g pp j with
      | true => rw [bI_t, i10, show cnt (mk U L g pp) (j + 1) = cnt (mk U L g pp) j + 1 from by rw [cnt, hm]; rfl]
      | false => rw [bI_f, i00, show cnt (mk U L g pp) (j + 1) = cnt (mk U L g pp) j from by rw [cnt, hm]; rfl]
    rw [if_neg (nl48 hj), facing_s hj hg, cl1_s]
    cases hf : fcg j g with
    | none =>
      rw [show on1 none = -1 from rfl, if_pos rfl]
      exact fin 0 (by unfold mk; rw [hf]; rfl)
    | some q =>
      have hq := fcg_lt hf
      have h1 := hU j hj
      have h2 := hU q hq
      rw [show on1 (some q) = nI q from rfl, if_neg (ne_m1 (by omega)), X_sumAt Hj hj hg hf, cl1_s, nI_sub, iI_n (U j + L q)]
      by_cases hc : mxo U L g 48 ≤ U j + L q + pp
      · rw [if_neg (fun e => by have := (iI_lt (by omega) (by omega)).mp e; omega)]
        exact fin 1 (by unfold mk; rw [hf]; show bI (decide _) = 1; rw [decide_eq_true hc]; rfl)
      · rw [if_pos ((iI_lt (by omega) (by omega)).mpr (by omega))]
        exact fin 0 (by unfold mk; rw [hf]; show bI (decide _) = 0; rw [decide_eq_false hc]; rfl)
  · rw [if_pos (show (48 : Int32) ≤ nI 48 by decide)]
theorem M_max0 {a : Int} (ha : -2147483648 ≤ a ∧ a < 2147483648) : mX5_max 0 (iI a) = some (iI (max 0 a)) := by
  unfold mX5_max
  simp only [nm_s]
  by_cases h : 0 ≤ a
  · have hz : (0 : Int32) ≤ iI a := (iI_le (a := 0) (by omega) ha).mpr h
    rw [if_pos hz, Int.max_eq_right h]
  · have hz : ¬ (0 : Int32) ≤ iI a := fun e => h ((iI_le (a := 0) (by omega) ha).mp e)
    rw [if_neg hz, Int.max_eq_left (by omega)]
    rfl
theorem M_marks {h : Hp} {U L : Nat → Nat} (H : HM h U L) {g pp : Nat} (hg : g < 63) (hpp : pp ≤ 50) : mX5_marks h (sA g) (sB g) (nI pp) = some (nI (cnt (mk U L g pp) 48), sN h 242 (fun p => bI (mk U L g pp p)) 48) := by
  have hU := HV_of H
  have ho := mxo_le (g := g) hU 48 (by omega)
  unfold mX5_marks
  rw [M_opening H hg, cl1_s, nI_sub, M_max0 (by omega), cl1_s]
  simp only [nm_s]
  refine fx_g3 (fun j => nI (cnt (mk U L g pp) j)) (fun j => nI j) (fun j => sN h 242 (fun p => bI (mk U L g pp p)) j) 48 rfl rfl (sN_0 _ _ _) (by decide) (fun j hj k => ?_) (fun k => ?_)
  · have Hj : HM (sN h 242 (fun p => bI (mk U L g pp p)) j) U L := HM_c (sN_n (by omega)) H
    have fin : ∀ v, bI (mk U L g pp j) = v → ck (nI j) 48 (ck (nI j) 48 (if u2 (sN h 242 (fun p => bI (mk U L g pp p)) j) 242 (nI j).toNatClampNeg (vp_nar .boolean v) 242 (nI j).toNatClampNeg = 0 then k (nI (cnt (mk U L g pp) j)) (nI j + 1) (u2 (sN h 242 (fun p => bI (mk U L g pp p)) j) 242 (nI j).toNatClampNeg (vp_nar .boolean v)) else k (nI (cnt (mk U L g pp) j) + 1) (nI j + 1) (u2 (sN h 242 (fun p => bI (mk U L g pp p)) j) 242 (nI j).toNatClampNeg (vp_nar .boolean v)))) = k (nI (cnt (mk U L g pp) (j + 1))) (nI (j + 1)) (sN h 242 (fun p => bI (mk U L g pp p)) (j + 1)) := fun v hv => by
      rw [← hv, nar_bI, ck_s hj (by decide), ck_s hj (by decide), nI_clamp (by omega), nI_1, nI_1, u2_e, upd_e]
      rw [sN_s h 242 (fun p => bI (mk U L g pp p)) j]
      cases hm : mk U L g pp j with
      | true => rw [bI_t, i10, show cnt (mk U L g pp) (j + 1) = cnt (mk U L g pp) j + 1 from by rw [cnt, hm]; rfl]
      | false => rw [bI_f, i00, show cnt (mk U L g pp) (j + 1) = cnt (mk U L g pp) j from by rw [cnt, hm]; rfl]
    rw [if_neg (nl48 hj), M_sumAt Hj hj hg, cl1_s]
    cases hf : fcg j g with
    | none =>
      show (if iI (-1) < iI (max 0 (((mxo U L g 48 : Nat) : Int) - (pp : Int))) then _ else _) = _
      rw [if_pos ((iI_lt (by omega) (by omega)).mpr (by omega))]
      exact fin 0 (by unfold mk; rw [hf]; rfl)
    | some q =>
      have hq := fcg_lt hf
      have h1 := hU j hj
      have h2 := hU q hq
      show (if nI (U j + L q) < iI (max 0 (((mxo U L g 48 : Nat) : Int) - (pp : Int))) then _ else _) = _
      rw [iI_n (U j + L q)]
      by_cases hc : mxo U L g 48 ≤ U j + L q + pp
      · rw [if_neg (fun e => by have := (iI_lt (by omega) (by omega)).mp e; omega)]
        exact fin 1 (by unfold mk; rw [hf]; show bI (decide _) = 1; rw [decide_eq_true hc]; rfl)
      · rw [if_pos ((iI_lt (by omega) (by omega)).mpr (by omega))]
        exact fin 0 (by unfold mk; rw [hf]; show bI (decide _) = 0; rw [decide_eq_false hc]; rfl)
  · rw [if_pos (show (48 : Int32) ≤ nI 48 by decide)]
