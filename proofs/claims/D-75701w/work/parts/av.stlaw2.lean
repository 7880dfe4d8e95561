/-! law: st_law -/
set_option maxRecDepth 100000
theorem X_lawN {h : Hp} {a0 : Int32} (hN : nR (a0 - 1) 240 = false ∨ ¬ a0 ≤ h 100 10) (l : Launch) (D : va_G) (dA : Nat → ClassId) (ad : Nat → Nat) (tt : (Nat → Option Nat) × (Nat → Option Nat) × va_W) : CTE l yX0_law cX0_law 4 (some .int) D dA 100 2300 4000 12000 (wX ad dA tt h) [.ref (ad 100), .int a0] (fun rv w' => rv = some (.int (-1)) ∧ w' = wX ad dA tt h) := by
  refine ct_openE (by decide) (Nat.le_of_ble_eq_true rfl) ?_
  intro Gj X _ hI _ _
  have hI := hI rfl
  refine (show TM Gj () (some ()) (wX ad dA tt h) 0 0 0 [(0, .ref (ad 100)), (1, .int a0)] [] from ?_) rfl
  have ew : mX0_within a0 1 240 = some (bI (nR (a0 - 1) 240)) := X_wi1 a0 240 240 (by decide)
  have hend : TM Gj () (some ()) (wX ad dA tt h) 0 0 19 [(0, .ref (ad 100)), (1, .int a0)] [] := by
    refine tm_iconst X (-1 : Int32) dX0_law_19 (by decide) ?_
    exact tm_widen (ce' := 4000) (sl' := 12000) X (by omega) (by omega) (fun _ => hI (-1) _ ⟨rfl, rfl⟩ 20 _ dX0_law_20)
  refine tm_iload_n X 1 dX0_law_0 rfl rfl ?_
  refine tm_iconst X (1 : Int32) dX0_law_1 (by decide) ?_
  refine tm_sipush X (240 : Int32) dX0_law_2 (by decide) ?_
  refine tm_callSi (As := [.int a0, .int (1 : Int32), .int (240 : Int32)]) (rest := []) X (ctX0_within l D dA a0 (1 : Int32) (240 : Int32) _ ew) (lw_S q317 q318 q117 q319) cyX0_within rfl ⟨(Nat.le_of_ble_eq_true rfl), (Nat.le_of_ble_eq_true rfl)⟩ (Nat.le_of_ble_eq_true rfl) dX0_law_5 ⟨Nat.le_of_ble_eq_true rfl, Nat.le_of_ble_eq_true rfl⟩ rfl ?_
  cases c : nR (a0 - 1) 240 with
  | false => exact tm_if_eqT X 19 rfl dX0_law_8 rfl hend
  | true =>
    have hN2 := hN.resolve_left (by rw [c]; decide)
    refine tm_if_eqF X 19 (by decide) dX0_law_8 rfl ?_
    refine tm_iload_n X 1 dX0_law_11 rfl rfl ?_
    refine tm_aload_n X 0 dX0_law_12 rfl rfl ?_
    refine tm_getI X (fiX_100_10 ad dA tt) in_X0 rfl (Nat.le_of_ble_eq_true rfl) q250 rfl dX0_law_13 ?_
    have kle := tm_ic_le (M1 := none) (M2 := some ()) (res := ()) X (x := a0) (y := h 100 10) (w := wX ad dA tt h) (ce := 0) (sl := 0) (lv := [(0, .ref (ad 100)), (1, .int a0)]) (st := []) 21 dX0_law_16 rfl tm_none hend
    rw [if_neg hN2] at kle
    exact kle
theorem cte_m {l : Launch} {y : MethodName} {cc : ByteArray} {nL : Nat} {ret : Option FieldType} {D : va_G} {dA : Nat → ClassId} {fr lo mc ms : Nat} {w : va_W} {av : List Value} {Post Post' : Option Value → va_W → Prop} (H : CTE l y cc nL ret D dA fr lo mc ms w av Post) (k : ∀ rv w', Post rv w' → Post' rv w') : CTE l y cc nL ret D dA fr lo mc ms w av Post' := by
  intro sz p e h1 h2 h3 s m args below h4 h5 h6 h7
  obtain ⟨n, o, a1, a2, a3, ⟨⟨rv, w', q1, q2⟩, q3⟩, a5⟩ := H sz p e h1 h2 h3 s m args below h4 h5 h6 h7
  exact ⟨n, o, a1, a2, a3, ⟨⟨rv, w', k rv w' q1, q2⟩, q3⟩, a5⟩
theorem II_law {tt tt' : TTy} {hx hx' hm hm' : Hp} (H : II LWd tt hx hm) (f1 : ∀ k, k ∈ [1, 3, 8, 40, 42, 43, 44, 60, 62, 63, 64] → hx' k = hx k) (f2 : hx' 100 = upd (hx 100) 10 0) (f3 : MFz hm hm') (hL : LWd tt' (hx' 70 3) (hx' 71) (hm' 300 15) (hm' 222) (hm' 223) (hm' 224) (hm' 225) (hm' 226)) : II LWd tt' hx' hm' := by
  obtain ⟨J1, J2, J3, J4, J5, J6⟩ := H
  obtain ⟨d1, d2, d3⟩ := f3
  refine ⟨?_, ?_, ⟨⟨0, by omega, by rw [f2, upd_e]; rfl, d3⟩, ?_⟩, ?_, ?_, hL⟩
  · exact BM_c J1 (f1 40 (by decide)) (f1 42 (by decide)) (f1 43 (by decide)) (f1 44 (by decide)) (d1 200 (by decide)) (d1 201 (by decide)) (d2 3 (by decide)) (d2 4 (by decide))
  · unfold IOff
    rw [f1 1 (by decide), d1 202 (by decide)]
    exact J2
  · rw [f1 8 (by decide), d1 205 (by decide)]
    exact J3.2
  · unfold IPath
    rw [f2, upd_n (by decide), d2 39 (by decide), f1 3 (by decide), d1 234 (by decide)]
    exact J4
  · unfold IKept
    rw [f2, upd_n (by decide), d2 56 (by decide), d1 255 (by decide)]
    rcases J5 with J5 | ⟨a, b, J5⟩
    · exact Or.inl J5
    · exact Or.inr ⟨a, b, BR_c (f1 60 (by decide)) (f1 62 (by decide)) (f1 63 (by decide)) (f1 64 (by decide)) J5⟩
theorem st_law : St_law (II LWd) := by
  intro tt hx hm a0 H
  obtain ⟨⟨t, ht, e1, e2⟩, H3⟩ := H.2.2.1
  have hout : (nR (a0 - 1) 240 = false ∨ ¬ a0 ≤ nI t) → ∃ r hm', mX5_law hm a0 = some (r, hm') ∧ ∀ (l : Launch) (D : va_G) (dA : Nat → ClassId) (ad : Nat → Nat), ∃ fr lo mc ms : Nat, fr ≤ 4000 ∧ lo ≤ 90000 ∧ mc ≤ 4000 ∧ ms ≤ 12000 ∧ CTE l yX0_law cX0_law 4 (some .int) D dA fr lo mc ms (wX ad dA tt hx) [.ref (ad 100), .int a0] (fun rv w' => rv = some (.int r) ∧ ∃ (ad' : Nat → Nat) (tt' : TTy) (hx' : Hp), w' = wX ad' dA tt' hx' ∧ ad' 100 = ad 100 ∧ II LWd tt' hx' hm') := by
    intro hN
    refine ⟨-1, hm, ?_, fun l D dA ad => ⟨100, 2300, 4000, 12000, by omega, by omega, by omega, by omega, ?_⟩⟩
    · unfold mX5_law
      rw [M_wi1 a0 240 240 (by decide), cl1_s, nm_s]
      cases c : nR (a0 - 1) 240 with
      | false => rfl
      | true => rw [bI_t, i10, e2, if_neg (hN.resolve_left (by rw [c]; decide))]
    · exact cte_m (X_lawN (h := hx) (by rw [e1]; exact hN) l D dA ad tt) (fun rv w' hq => ⟨hq.1, ad, tt, hx, hq.2, rfl, H⟩)
  cases h1 : nR (a0 - 1) 240 with
  | false => exact hout (Or.inl h1)
  | true =>
    obtain ⟨n0, hn0, _, e0'⟩ := nR_of h1
    have e0 : a0 = nI (n0 + 1) := sub1_of e0'
    clear e0'
    subst e0
    by_cases hnt : n0 + 1 ≤ t
    · have ec : ∀ i, hc (tM hm) (n0 + 1) i = hc (tX hx) (n0 + 1) i := fun i => by
        unfold hc
        by_cases c : i < n0 + 1
        · rw [if_pos c, if_pos c]
          unfold tM tX
          rw [H3 i (by omega)]
        · rw [if_neg c, if_neg c]
      obtain ⟨r, r1, r2, r3⟩ := X_law (h := hx) (n := n0 + 1) (by omega) (by omega) e1 hnt ht
      obtain ⟨⟨v, hm'⟩, p1, r', r1', F1, F2⟩ := M_law (h := hm) (n := n0 + 1) (by omega) (by omega) e2 hnt ht
      have er : r' = r := Hz_u (Hz_c ec r1') r1
      subst er
      refine ⟨v, hm', p1, fun l D dA ad => ⟨100, 2300, 4000, 12000, by omega, by omega, by omega, by omega, cte_m (r3 l D dA ad tt) ?_⟩⟩
      rintro rv w' ⟨v', hv, ad', tt', hx', ew, e100, eh, hq⟩
      dsimp only at F1 F2
      cases r' with
      | inl wq =>
        obtain ⟨w, q⟩ := wq
        obtain ⟨q1, q2, q3⟩ := hq
        obtain ⟨g1, g2, g3, g4, g5, g6, g7⟩ := F2
        subst q2
        refine ⟨by rw [hv, q1, g1], ad', tt', hx', ew, e100, II_law H (fun k hk => q3 k (by simp at hk ⊢; omega)) eh F1 ?_⟩
        rw [g2, g3, g4, g5, g6, g7, q3 70 (by decide), q3 71 (by decide)]
        exact H.2.2.2.2.2
      | inr KL =>
        obtain ⟨K, L⟩ := KL
        obtain ⟨q1, q2, q3, q4, q5, q6⟩ := hq
        obtain ⟨g1, g2⟩ := F2
        refine ⟨by rw [hv, q1, g1], ad', tt', hx', ew, e100, II_law H (fun k hk => q3 k (by simp at hk ⊢; omega)) eh F1 ?_⟩
        exact LWd_i q6 q4 q5 g2
    · exact hout (Or.inr (nI_leN (by omega) (by omega) hnt))
