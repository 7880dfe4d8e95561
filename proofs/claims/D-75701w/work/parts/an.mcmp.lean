/-! law: the reference's compared piece, and what lands -/
set_option maxRecDepth 100000
def WJ : List Nat → Prop
  | w :: w2 :: W => ((w / uN = 11 ∨ w / uN = 12) → w2 / uN ≠ 10) ∧ WJ (w2 :: W)
  | _ => True
def WI (W : List Nat) : Prop := WO W ∧ WJ W ∧ W.getLast? = some (13 * uN)
def HN (W : List Nat) : Prop := ∀ w W2, W = w :: W2 → w / uN ≠ 10
theorem WJ_t {w : Nat} {W : List Nat} (H : WJ (w :: W)) : WJ W := by
  cases W with
  | nil => trivial
  | cons w2 W => exact H.2
theorem WI_n {W : List Nat} (H : WI W) : W ≠ [] := fun e => by
  rw [e] at H
  cases H.2.2
theorem WI_t {w : Nat} {W : List Nat} (H : WI (w :: W)) (hn : W ≠ []) : WI W := by
  refine ⟨fun x hx => H.1 x (List.mem_cons_of_mem _ hx), WJ_t H.2.1, ?_⟩
  cases W with
  | nil => exact absurd rfl hn
  | cons w2 W => exact H.2.2
theorem WI_13 {w : Nat} {W : List Nat} (H : WI (w :: W)) (hw : w / uN ≠ 13) : WI W := by
  refine WI_t H (fun e => ?_)
  subst e
  have := H.2.2
  cases this
  exact hw rfl
theorem WI_p {w : Nat} {W : List Nat} (H : WI W) (h1 : 10 ≤ w / uN ∧ w / uN ≤ 13) (h2 : (w / uN = 11 ∨ w / uN = 12) → HN W) : WI (w :: W) := by
  refine ⟨fun x hx => ?_, ?_, ?_⟩
  · rcases List.mem_cons.mp hx with e | e
    · rw [e]; exact h1
    · exact H.1 x e
  · cases W with
    | nil => trivial
    | cons w2 W => exact ⟨fun hj => h2 hj w2 W rfl, H.2.1⟩
  · cases W with
    | nil => exact absurd rfl (WI_n H)
    | cons w2 W => exact H.2.2
abbrev Zu : Type := (Nat × Nat × Nat) × List (Nat × Nat × Nat × Nat)
section
variable {t : Nat → Nat} {n a o e x : Nat} {h : Hp} {W K : List Nat} {u : Zu}
theorem M_ends (hW : WI W) (T : MT h n a o e W K) : R (mX5_endsPiece h) (fun g => MFr h g ∧ ∃ o' W' K' y, Rn t n (5, a, o, [], K, (x, W, u)) (5, a, o', [], K', (y, W', u)) ∧ MT g n a o' e W' K' ∧ WI W' ∧ HN W') := by
  have hb0 := MV_b T.2
  unfold mX5_endsPiece
  refine fx_R1 300 (fun j g => MFr h g ∧ ∃ o' W' K' y, W'.length + j = W.length ∧ Rn t n (5, a, o, [], K, (x, W, u)) (5, a, o', [], K', (y, W', u)) ∧ MT g n a o' e W' K' ∧ WI W') (by decide) ⟨MFr_r h, o, W, K, x, rfl, Rn_r, T, hW⟩ ?_
  rintro j g k hj ⟨hF, o', W', K', y, hl, hR, ⟨T1, T2⟩, hI⟩ hk
  rw [M_top T1, cl1_s]
  have hb := MV_b T2
  cases W' with
  | nil => exact absurd rfl (WI_n hI)
  | cons w W2 =>
    have hw := hI.1 w (List.mem_cons_self ..)
    rw [show topv (w :: W2) = nI (w / uN) from rfl]
    by_cases c : w / uN = 10
    · rw [if_pos (by rw [c]; rfl)]
      obtain ⟨h', e1, e2, e3⟩ := M_notes T1 (op := 10) (v := 0) (by decide) (by omega)
      rw [show mX5_notes g 10 0 = _ from e1, cl1_s, nm_s, nm_s]
      have e4 := MS_pop e2
      obtain ⟨v1, v2⟩ := MV_cl (z := uN * 10 + 0) T2 (by unfold pdB; exact decide_eq_true (by omega))
      have ho : onB w = true := by unfold onB; exact decide_eq_true (by omega)
      have v3 := v2 ho
      rw [ho, if_pos rfl] at v1
      rw [e4.2.1, show nI o' - 1 = nI (o' - 1) from nI_subn (b := 1) v3]
      rw [List.length_cons] at hl
      refine hk (j + 1) _ (by omega) (by omega) ⟨MFr_u (MFr_u (MFr_t hF e3) (by decide)) (by decide), o' - 1, W2, K' ++ [10 * uN], 1, by omega, Rn_t hR (Rn_s ?_), ⟨MS_opn e4 (by have := T1.2.2.1; omega), v1⟩, WI_13 hI (by omega)⟩
      show zB t n a o' K' (y, w :: W2, u) = _
      unfold zB
      dsimp only
      rw [if_pos c]
    · rw [if_neg (fun e9 => c ((l_eq (N := 10) (c := 10) rfl (by decide) (by omega)).mp e9))]
      exact R_some ⟨hF, o', w :: W2, K', y, hR, ⟨T1, T2⟩, hI, fun w9 W9 e9 => by cases e9; exact c⟩
theorem MS_set {w z9 : Nat} (S : MS h n a o (w :: W) K) {p : Nat} (hp : p < K.length) (hz : z9 < 20 * uN) : MS (u2 (u2 h 216 p (nI z9)) 300 13 (u2 h 216 p (nI z9) 300 13 - 1)) n a o W (K.set p z9) := by
  refine MS_pop (h := u2 h 216 p (nI z9)) (w := w) ?_
  obtain ⟨S1, S2, S3, S4, S5, S6, S7, S8⟩ := S
  refine ⟨⟨by rw [u2_n (by decide)]; exact S1.1, by rw [u2_n (by decide)]; exact S1.2.1, S1.2.2⟩, by rw [u2_n (by decide)]; exact S2, S3, by rw [u2_n (by decide)]; exact S4, fun i z e => by rw [u2_n (by decide)]; exact S5 i z e, by rw [u2_n (by decide), List.length_set]; exact S6, fun i z e => ?_, S8.1, by rw [List.length_set]; exact S8.2⟩
  rw [u2_e]
  by_cases c : i = p
  · subst c
    rw [List.getElem?_set_self hp] at e
    cases e
    rw [upd_e]
    exact ⟨rfl, hz⟩
  · rw [List.getElem?_set_ne (fun e9 => c e9.symm)] at e
    rw [upd_n c]
    exact S7 i z e
theorem MV_set {w : Nat} (H : MV n a o e (w :: W) K) (hw : w / uN = 11 ∨ w / uN = 12) : MV n a o e W (K.set (w % uN) (w / uN * uN + K.length)) := by
  have hb := MV_b H
  have hp : pdB w = false := by unfold pdB; exact decide_eq_false (by omega)
  have ho : onB w = false := by unfold onB; exact decide_eq_false (by omega)
  obtain ⟨z0, z1, z2⟩ := H.2.2.2.2.2 w (List.mem_cons_self ..) hw
  obtain ⟨v1, -⟩ := MV_tl H hp
  rw [ho] at v1
  obtain ⟨H0, H1, H2, H3, H4, H5⟩ := v1
  refine ⟨H0, H1, H2, by rw [List.length_set]; exact H3, H4, fun w2 hw2 hj => ?_⟩
  obtain ⟨y0, y1, y2⟩ := H5 w2 hw2 hj
  by_cases c : w2 % uN = w % uN
  · refine ⟨w / uN * uN + K.length, ?_, ?_⟩
    · rw [c, List.getElem?_set_self (List.getElem?_eq_some_iff.mp z1).1]
    · rw [c, z1] at y1
      cases y1
      rw [← y2, z2, Nat.add_comm, Nat.add_mul_div_right _ _ (show 0 < uN by decide), Nat.div_eq_of_lt (by unfold uN; omega), Nat.zero_add]
  · exact ⟨y0, by rw [List.getElem?_set_ne (fun e9 => c e9.symm)]; exact y1, y2⟩
theorem M_lands {x1 : Int32} (hc9 : hc t n a = 38 ∨ hc t n a = 124 ∨ hc t n a = 41) (hx : x1 = bI (decide (hc t n a ≠ 38))) (hW : WI W) (hN : HN W) (T : MT h n a o e W K) : R (mX5_lands h x1) (fun g => MFr h g ∧ ∃ W' K' y, Rn t n (5, a, o, [], K, (x, W, u)) (5, a, o, [], K', (y, W', u)) ∧ MT g n a o e W' K' ∧ WI W' ∧ HN W' ∧ ∀ w W2, W' = w :: W2 → w / uN ≠ 11 ∧ (hc t n a ≠ 38 → w / uN ≠ 12)) := by
  have hb0 := MV_b T.2
  unfold mX5_lands
  refine fx_R1 300 (fun j g => MFr h g ∧ ∃ W' K' y, W'.length + j = W.length ∧ Rn t n (5, a, o, [], K, (x, W, u)) (5, a, o, [], K', (y, W', u)) ∧ MT g n a o e W' K' ∧ WI W' ∧ HN W') (by decide) ⟨MFr_r h, W, K, x, rfl, Rn_r, T, hW, hN⟩ ?_
  rintro j g k hj ⟨hF, W', K', y, hl, hR, ⟨T1, T2⟩, hI, hH⟩ hk
  have hT := M_top T1
  have hb := MV_b T2
  cases W' with
  | nil => exact absurd rfl (WI_n hI)
  | cons w W2 =>
    have hw := hI.1 w (List.mem_cons_self ..)
    have h10 := hH w W2 rfl
    rw [show topv (w :: W2) = nI (w / uN) from rfl] at hT
    simp only [hT, cl1_q]
    have hpop : (w / uN = 11 ∨ w / uN = 12 ∧ hc t n a ≠ 38) → R (nm (g 300 13 - 1) (fun v4 => ck v4 260 (nm (jrem (g 217 v4.toNatClampNeg) 1048576) (fun v5 => ck v5 260 (ck v5 260 (nm (u2 g 216 v5.toNatClampNeg (1048576 * (g 216 v5.toNatClampNeg / 1048576) + g 300 12)) (fun h6 => nm (u2 h6 300 13 (h6 300 13 - 1)) (fun h7 => k h7)))))))) (fun g => MFr h g ∧ ∃ W' K' y, Rn t n (5, a, o, [], K, (x, W, u)) (5, a, o, [], K', (y, W', u)) ∧ MT g n a o e W' K' ∧ WI W' ∧ HN W' ∧ ∀ w W2, W' = w :: W2 → w / uN ≠ 11 ∧ (hc t n a ≠ 38 → w / uN ≠ 12)) := by
      intro hp
      obtain ⟨z0, z1, z2⟩ := T2.2.2.2.2.2 w (List.mem_cons_self ..) (by omega)
      obtain ⟨k1, k2⟩ := T1.2.2.2.2.2.2.1 _ _ z1
      have zl := (List.getElem?_eq_some_iff.mp z1).1
      have hl2 := T1.2.2.2.1
      rw [List.length_cons] at hl hl2 hb
      obtain ⟨e1, e2⟩ := T1.2.2.2.2.1 W2.length w (by rw [List.reverse_cons, List.getElem?_append_right (by simp), List.length_reverse, Nat.sub_self]; rfl)
      have ejr : jrem (nI w) 1048576 = nI (w % uN) := pk_rem (by unfold uN at e2; omega) (by decide) (by decide)
      have edv : nI z0 / 1048576 = nI (w / uN) := by
        rw [show (1048576 : Int32) = nI 1048576 from rfl, pk_div (by unfold uN at k2; omega) (by decide) (by decide)]
        show nI (z0 / uN) = _
        rw [z2]
      rw [nm_s, hl2, nI_pred, ck_s (by omega) (by decide), nI_clamp (by omega), e1, ejr, nm_s, ck_s (by omega) (by decide), ck_s (by omega) (by decide), nI_clamp (by omega), k1, edv, T1.2.2.2.2.2.1, nm_s, nm_s, show (1048576 : Int32) * nI (w / uN) + nI K'.length = nI (w / uN * uN + K'.length) by
        rw [show (1048576 : Int32) = nI uN from rfl, nI_ml, nI_add, Nat.mul_comm]]
      have s1 := MS_set T1 (p := w % uN) (z9 := w / uN * uN + K'.length) zl (by unfold uN at *; omega)
      refine hk (j + 1) _ (by omega) (by omega) ⟨MFr_u (MFr_v hF (Or.inl rfl)) (by decide), W2, _, 1, by omega, Rn_t hR (Rn_s ?_), ⟨s1, MV_set T2 (by omega)⟩, WI_13 hI (by omega), ?_⟩
      · show zB t n a o K' (y, w :: W2, u) = _
        unfold zB
        dsimp only
        rw [if_neg h10]
        by_cases c : w / uN = 11
        · rw [if_pos ⟨c, hc9⟩, c]
        · rw [if_neg (fun e9 => c e9.1), if_pos ⟨by omega, by omega⟩, show w / uN = 12 by omega]
      · intro w3 W3 e9
        subst e9
        exact hI.2.1.1 (by omega)
    rw [nm_s]
    by_cases c : w / uN = 11
    · rw [if_pos (by rw [c]; rfl)]
      exact hpop (Or.inl c)
    · rw [if_neg (fun e9 => c ((l_eq (N := 11) (c := 11) rfl (by decide) (by omega)).mp e9)), nm_s]
      by_cases c2 : hc t n a = 38
      · rw [if_pos (by rw [hx, decide_eq_false (by omega)]; rfl)]
        exact R_some ⟨hF, w :: W2, K', y, hR, ⟨T1, T2⟩, hI, hH, fun w9 W9 e9 => by cases e9; exact ⟨c, fun h => absurd c2 h⟩⟩
      · rw [if_neg (by rw [hx, decide_eq_true (by omega)]; decide)]
        by_cases c3 : w / uN = 12
        · rw [if_pos (by rw [c3]; rfl)]
          exact hpop (Or.inr ⟨c3, c2⟩)
        · rw [if_neg (fun e9 => c3 ((l_eq (N := 12) (c := 12) rfl (by decide) (by omega)).mp e9))]
          exact R_some ⟨hF, w :: W2, K', y, hR, ⟨T1, T2⟩, hI, hH, fun w9 W9 e9 => by cases e9; exact ⟨c, fun _ => c3⟩⟩
theorem M_jumps {k : Nat} (hk : k = 11 ∨ k = 12) (ha : a < n) (T : MT h n a o 0 W K) : ∃ g, mX5_jumps h (nI k) = some g ∧ MFr h g ∧ MT g n (a + 1) o 0 ((k * uN + K.length) :: W) (K ++ [k * uN]) := by
  obtain ⟨T1, T2⟩ := T
  have hb := MV_b T2
  have p1 := MS_push T1 (w := k * uN + K.length) (by unfold uN; omega) (by omega)
  obtain ⟨h', e1, e2, e3⟩ := M_notes p1 (op := k) (v := 0) (by unfold uN; omega) (by omega)
  refine ⟨u2 h' 300 7 (nI (a + 1)), ?_, MFr_u (MFr_t (MFr_u (MFr_v (MFr_r h) (Or.inr rfl)) (by decide)) e3) (by decide), ?_, ?_⟩
  · unfold mX5_jumps
    rw [T1.2.2.2.1, ck_s (by omega) (by decide), nI_clamp (by omega), nm_s, nm_s, T1.2.2.2.2.2.1, show (1048576 : Int32) * nI k + nI K.length = nI (k * uN + K.length) by
        rw [show (1048576 : Int32) = nI uN from rfl, nI_ml, nI_add, Nat.mul_comm]]
    rw [show mX5_notes _ (nI k) 0 = _ from e1, cl1_s, nm_s, e2.1.2.1, nI_1]
  · rw [show uN * k + 0 = k * uN from Nat.mul_comm ..] at e2
    exact MS_pos e2 (by omega)
  · have d1 : (k * uN + K.length) / uN = k := by
      rw [Nat.add_comm, Nat.add_mul_div_right _ _ (show 0 < uN by decide), Nat.div_eq_of_lt (by unfold uN; omega), Nat.zero_add]
    have d2 : (k * uN + K.length) % uN = K.length := by
      rw [Nat.add_comm, Nat.add_mul_mod_self_right, Nat.mod_eq_of_lt (by unfold uN; omega)]
    obtain ⟨H0, H1, H2, H3, H4, H5⟩ := T2
    have hp : pdB (k * uN + K.length) = false := by unfold pdB; rw [d1]; exact decide_eq_false (by omega)
    have ho : onB (k * uN + K.length) = false := by unfold onB; rw [d1]; exact decide_eq_false (by omega)
    refine ⟨H0, by omega, by rw [List.length_cons]; omega, ?_, ?_, fun w hw hj => ?_⟩
    · rw [List.countP_cons, hp, List.length_append]
      simp
      omega
    · rw [List.countP_cons, ho, H4]
      rfl
    · rcases List.mem_cons.mp hw with e9 | e9
      · rw [e9, d1, d2]
        exact ⟨k * uN, by rw [List.getElem?_append_right (Nat.le_refl _), Nat.sub_self]; rfl, Nat.mul_div_cancel k (by decide)⟩
      · exact JW_k H5 w e9 hj
theorem cmS_b (c : Nat) : cmS c = 0 ∨ (7 ≤ cmS c ∧ cmS c ≤ 9 ∧ 0 < c) := by
  unfold cmS
  repeat' split
  all_goals omega
theorem M_compared (et : tM h = t) (hW : WI W) (T : MT h n a o 0 W K) : R (mX5_readsCompared h) (MO t n (1, a, o, [], K, (1, W, u)) h (fun g s' => ∃ a' o' W' K' y, s' = (5, a', o', [], K', (y, W', u)) ∧ a < a' ∧ MT g n a' o' 0 W' K' ∧ WI W' ∧ HN W')) := by
  have ht : ∀ i, t i < 256 := fun i => by rw [← et]; exact oct_lt _
  unfold mX5_readsCompared
  refine MO_c (M_sum (q := (1, W, u)) et hW.1 T) (MFr_r h) Rn_r (fun b => rfl) ?_
  rintro b s' hF - hR ⟨a1, K1, rfl, ha1, T1, T2⟩
  rw [if_neg (by decide)]
  have eg : tM b = t := tM_F hF et
  have hh := M_here T1.1
  rw [eg] at hh
  have hb := MV_b T2
  simp only [hh, cl1_q]
  refine R_let (fun v => v = if cmS (hc t n a1) = 0 then -1 else nI (cmS (hc t n a1))) ?_ ?_
  · intro v hv
    rcases cmS_b (hc t n a1) with c0 | ⟨c1, c2, c3⟩
    · rw [hv, if_pos c0, if_pos rfl]
      refine MO_w (a := a1) 1 rfl T1.1.2.1 hF (Rn_H hR ?_) (fun b => rfl)
      show zE t n a1 o K1 (1, W, u) = _
      unfold zE
      dsimp only
      rw [if_neg (by decide), if_pos rfl, if_pos c0]
    · have hin := hc_in (t := t) (n := n) (i := a1) c3
      generalize hcm : cmS (hc t n a1) = cm at *
      rw [hv, if_neg (show ¬ cm = 0 by omega), if_neg (fun e9 => by
        have := congrArg Int32.toInt e9
        rw [nI_toInt (by omega)] at this
        simp at this), nm_s, T1.1.2.1, nI_1]
      have p1 := MS_pos T1 (a' := a1 + 1) (by omega)
      have hF1 := MFr_u (i := 7) (v := nI (a1 + 1)) hF (by decide)
      have p2 : MV n (a1 + 1) o 1 W K1 := by
        obtain ⟨H0, H1, H2, H3, H4, H5⟩ := T2
        exact ⟨H0, by omega, by omega, by omega, H4, H5⟩
      refine MO_c (M_sum (q := (cm, W, u)) (tM_F hF1 et) hW.1 ⟨p1, p2⟩) hF1 (Rn_t hR (Rn_s ?_)) (fun b => rfl) ?_
      · show zE t n a1 o K1 (1, W, u) = _
        unfold zE
        dsimp only
        rw [if_neg (by decide), if_pos rfl, hcm, if_neg (by omega)]
      · rintro b2 s' hF2 - hR2 ⟨a2, K2, rfl, ha2, T3, T4⟩
        rw [if_neg (by decide)]
        have hb4 := MV_b T4
        obtain ⟨h', e1, e2, e3⟩ := M_notes T3 (op := cm) (v := 0) (by unfold uN; omega) (by omega)
        rw [show mX5_notes b2 (nI cm) 0 = _ from e1, cl1_s]
        have p3 : MV n a2 o 0 W (K2 ++ [uN * cm + 0]) := by
          obtain ⟨H0, H1, H2, H3, H4, H5⟩ := T4
          exact ⟨H0, H1, H2, by rw [List.length_append]; simp; omega, H4, JW_k H5⟩
        refine R_c1 (M_ends (t := t) (x := cm) (u := u) hW ⟨e2, p3⟩) (fun g hg => ?_)
        obtain ⟨g1, o', W', K', y, g2, g3, g4, g5⟩ := hg
        rw [bz_1]
        refine R_some ⟨MFr_t hF2 (MFr_t e3 g1), Or.inr ⟨rfl, _, Rn_t hR2 (Rn_t (Rn_s ?_) g2), a2, o', W', K', y, rfl, by omega, g3, g4, g5⟩⟩
        show zE t n a2 o K2 (cm, W, u) = _
        unfold zE
        dsimp only
        rw [if_neg (by omega), if_neg (by omega)]
        rfl
  · intro kk hkk
    unfold cmS at hkk
    by_cases c1 : hc t n a1 = 60
    · rw [if_pos ((M_is t (c := 60) (C := 60) rfl (by decide) (by decide) ht).mpr c1)]
      exact hkk 7 (by rw [if_pos c1]; rfl)
    · rw [if_neg (fun e9 => c1 ((M_is t (c := 60) (C := 60) rfl (by decide) (by decide) ht).mp e9))]
      by_cases c2 : hc t n a1 = 62
      · rw [if_pos ((M_is t (c := 62) (C := 62) rfl (by decide) (by decide) ht).mpr c2)]
        exact hkk 8 (by rw [if_neg c1, if_pos c2]; rfl)
      · rw [if_neg (fun e9 => c2 ((M_is t (c := 62) (C := 62) rfl (by decide) (by decide) ht).mp e9))]
        by_cases c3 : hc t n a1 = 61
        · rw [if_pos ((M_is t (c := 61) (C := 61) rfl (by decide) (by decide) ht).mpr c3)]
          exact hkk 9 (by rw [if_neg c1, if_neg c2, if_pos c3]; rfl)
        · rw [if_neg (fun e9 => c3 ((M_is t (c := 61) (C := 61) rfl (by decide) (by decide) ht).mp e9))]
          exact hkk (-1) (by rw [if_neg c1, if_neg c2, if_neg c3]; rfl)
end
