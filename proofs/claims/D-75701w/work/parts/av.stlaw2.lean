/-! law: st_law -/
set_option maxRecDepth 100000
theorem X_lawN {h : Hp} {a0 : Int32} (hN : nR (a0 - 1) 240 = false ∨ ¬ a0 ≤ h 100 10) (l : Launch) (D : va_G) (dA : Nat → ClassId) (ad : Nat → Nat) (tt : (Nat → Option Nat) × (Nat → Option Nat) × va_W) : CTE l yX0_law cX0_law 4 (some .int) D dA 100 2300 4000 12000 (wX ad dA tt h) [.ref (ad 100), .int a0] (fun rv w' => rv = some (.int (-1)) ∧ w' = wX ad dA tt h) := by
  refine ct_openE (by decide) (Nat.le_of_ble_eq_true rfl) ?_
  intro Gj X _ hI _ _
  have hI := hI rfl
  refine (show TM Gj () (some ()) (wX ad dA tt h) 0 0 0 [(0, .ref (ad 100)), (1, .int a0)] [] from ?_) rfl
  have ew : mX0_within a0 1 240 = some (bI (nR (a0 - 1) 240)) := X_wi1 a0 240 240 (by decide)
  have hend : TM Gj () (some ()) (wX ad dA tt h) 0 0 19 [(0, .ref (ad 100)), (1, .int a0)] [] := by
    refine tm_iconst X (-1 : Int32) dX0_law_19 (by decide) ?_
    exact tm_widen (ce' := 4000) (sl' := 12000) X (by omega) (by omega) (fun _ => hI (-1) _ ⟨rfl, rfl⟩ 20 _ dX0_law_20)
  refine tm_iload_n X 1 dX0_law_0 rfl rfl ?_
  refine tm_iconst X (1 : Int32) dX0_law_1 (by decide) ?_
  refine tm_sipush X (240 : Int32) dX0_law_2 (by decide) ?_
  refine tm_callSi (As := [.int a0, .int (1 : Int32), .int (240 : Int32)]) (rest := []) X (ctX0_within l D dA a0 (1 : Int32) (240 : Int32) _ ew) (lw_S q317 q318 q117 q319) cyX0_within rfl ⟨(Nat.le_of_ble_eq_true rfl), (Nat.le_of_ble_eq_true rfl)⟩ (Nat.le_of_ble_eq_true rfl) dX0_law_5 ⟨Nat.le_of_ble_eq_true rfl, Nat.le_of_ble_eq_true rfl⟩ rfl ?_
  cases c : nR (a0 - 1) 240 with
  | false => exact tm_if_eqT X 19 rfl dX0_law_8 rfl hend
  | true =>
    have hN2 := hN.resolve_left (by rw [c]; decide)
    refine tm_if_eqF X 19 (by decide) dX0_law_8 rfl ?_
    refine tm_iload_n X 1 dX0_law_11 rfl rfl ?_
    refine tm_aload_n X 0 dX0_law_12 rfl rfl ?_
    refine tm_getI X (fiX_100_10 ad dA tt) in_X0 rfl (Nat.le_of_ble_eq_true rfl) q250 rfl dX0_law_13 ?_
    have kle := tm_ic_le (M1 := none) (M2 := some ()) (res := ()) X (x := a0) (y := h 100 10) (w := wX ad dA tt h) (ce := 0) (sl := 0) (lv := [(0, .ref (ad 100)), (1, .int a0)]) (st := []) 21 dX0_law_16 rfl tm_none hend
    rw [if_neg hN2] at kle
    exact kle
theorem st_law : St_law (II LWd) := by
  intro tt hx hm a0 H
  obtain ⟨⟨t, ht, e1, e2⟩, H3⟩ := H.2.2.1
  have hout : (nR (a0 - 1) 240 = false ∨ ¬ a0 ≤ nI t) → ∃ r hm', mX5_law hm a0 = some (r, hm') ∧ ∀ (l : Launch) (D : va_G) (dA : Nat → ClassId) (ad : Nat → Nat), ∃ fr lo mc ms : Nat, fr ≤ 4000 ∧ lo ≤ 90000 ∧ mc ≤ 4000 ∧ ms ≤ 12000 ∧ CTE l yX0_law cX0_law 4 (some .int) D dA fr lo mc ms (wX ad dA tt hx) [.ref (ad 100), .int a0] (fun rv w' => rv = some (.int r) ∧ ∃ (ad' : Nat → Nat) (tt' : TTy) (hx' : Hp), w' = wX ad' dA tt' hx' ∧ ad' 100 = ad 100 ∧ II LWd tt' hx' hm') := by
    intro hN
    refine ⟨-1, hm, ?_, fun l D dA ad => ⟨100, 2300, 4000, 12000, by omega, by omega, by omega, by omega, ?_⟩⟩
    · unfold mX5_law
      rw [M_wi1 a0 240 240 (by decide), cl1_s, nm_s]
      cases c : nR (a0 - 1) 240 with
      | false => rfl
      | true => rw [bI_t, i10, e2, if_neg (hN.resolve_left (by rw [c]; decide))]
    · exact cte_m (X_lawN (h := hx) (by rw [e1]; exact hN) l D dA ad tt) (fun rv w' hq => ⟨hq.1, ad, tt, hx, hq.2, rfl, H⟩)
  cases h1 : nR (a0 - 1) 240 with
  | false => exact hout (Or.inl h1)
  | true =>
    obtain ⟨n0, hn0, _, e0'⟩ := nR_of h1
    have e0 : a0 = nI (n0 + 1) := sub1_of e0'
    clear e0'
    subst e0
    by_cases hnt : n0 + 1 ≤ t
    · sorry
    · exact hout (Or.inr (nI_leN (by omega) (by omega) hnt))
