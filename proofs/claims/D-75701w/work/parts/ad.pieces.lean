/-! Reader: pieces -/
set_option maxRecDepth 100000
theorem some_root {R : va_W} {de : Nat} {z : Nat × Nat × VF} {first : Nat} : ∀ L0 : SmT, ChS R de (some z.1) L0 → hd1 L0 (some z.1) = some first → first = z.1 ∨ ∃ fs, (first, .inr (9, fs)) ∈ R
  | [], _, h => Or.inl (by cases h; rfl)
  | y :: L, hC, h => by
    cases h
    exact Or.inr ⟨_, hC.1⟩
theorem set_mid {α : Type} (A B : List α) (x y : α) (i : Nat) (hi : i = A.length) : (A ++ x :: B).set i y = A ++ y :: B := by
  subst hi
  rw [List.set_append_right _ _ (Nat.le_refl _), Nat.sub_self]
  rfl
/-- the chain so far and its value -/
def SmC (R : va_W) (de d : Nat) (first : Nat) (L0 : SmT) (z : Nat × Nat × VF) (G : VF) : Prop := ChS R de (some z.1) L0 ∧ hd1 L0 (some z.1) = some first ∧ L0.length ≤ 1000 ∧ ∃ z0 L1, L0 ++ [z] = z0 :: L1 ∧ G = fS de z0.2.2 L1 ∧ ∀ y, y ∈ z0 :: L1 → CDn d R y.2.1 y.2.2
theorem SmC_1 {R : va_W} {de d b y : Nat} {G : VF} (h : CDn d R y G) : SmC R de d b [] (b, y, G) G := ⟨trivial, rfl, by simp, (b, y, G), [], rfl, rfl, fun w hw => by
  rw [List.mem_singleton] at hw
  rw [hw]
  exact h⟩
theorem SmC_a {R P2 : va_W} {de d first b y : Nat} {L0 : SmT} {z : Nat × Nat × VF} {G G2 : VF} (hl : L0.length ≤ 900) (H : SmC R de d first L0 z G) (h : CDn d P2 y G2) : SmC ((z.1, .inr (9, [.ref z.2.1, .int (nI de), .ref b])) :: (P2 ++ R)) de d first (L0 ++ [z]) (b, y, G2) (jF (nI de) G G2) := by
  obtain ⟨h1, h2, h3, z0, L1, h4, h5, h6⟩ := H
  have s1 : Sub R ((z.1, .inr (9, [.ref z.2.1, .int (nI de), .ref b])) :: (P2 ++ R)) := fun w hw => List.mem_cons_of_mem _ (List.mem_append_right _ hw)
  have s2 : Sub P2 ((z.1, .inr (9, [.ref z.2.1, .int (nI de), .ref b])) :: (P2 ++ R)) := fun w hw => List.mem_cons_of_mem _ (List.mem_append_left _ hw)
  refine ⟨ChS_a (nx := some b) (List.mem_cons_self ..) L0 (ChS_m s1 L0 h1), by rw [hd1_a]; exact h2, by rw [List.length_append]; simp; omega, z0, L1 ++ [(b, y, G2)], by rw [h4]; rfl, by rw [fS_a, ← h5], fun w hw => ?_⟩
  rcases List.mem_cons.mp hw with hw | hw
  · exact CDn_m (h6 w (by rw [hw]; exact List.mem_cons_self ..)) (Nat.le_refl _) s1
  · rcases List.mem_append.mp hw with hw | hw
    · exact CDn_m (h6 w (List.mem_cons_of_mem _ hw)) (Nat.le_refl _) s1
    · rw [List.mem_singleton] at hw
      rw [hw]
      exact CDn_m h (Nat.le_refl _) s2
theorem SmC_e {R : va_W} {de d first : Nat} (hde : de = 0 ∨ de = 1) {L0 : SmT} {z : Nat × Nat × VF} {G : VF} (H : SmC R de d first L0 z G) : CDn (d + 1) ((z.1, .inr (9, [.ref z.2.1, .int (nI de), .null])) :: R) first G ∧ ∃ fs, (first, .inr (9, fs)) ∈ ((z.1, (.inr (9, [.ref z.2.1, .int (nI de), .null]) : va_E)) :: R) := by
  obtain ⟨h1, h2, h3, z0, L1, h4, h5, h6⟩ := H
  have s1 : Sub R ((z.1, (.inr (9, [.ref z.2.1, .int (nI de), .null]) : va_E)) :: R) := fun w hw => List.mem_cons_of_mem _ hw
  have hCh := ChS_a (nx := none) (P := (z.1, (.inr (9, [.ref z.2.1, .int (nI de), .null]) : va_E)) :: R) (List.mem_cons_self ..) L0 (ChS_m s1 L0 h1)
  have hfi : some first = some z0.1 := by
    rw [← h2, ← hd1_a L0 z none, h4]
    rfl
  cases hfi
  rw [h4] at hCh
  have hlen : L1.length = L0.length := by
    have := congrArg List.length h4
    simp at this
    omega
  refine ⟨?_, _, hCh.1⟩
  rw [h5]
  exact CDn_some hde (by omega) hCh (fun w hw => CDn_m (h6 w hw) (Nat.le_refl _) s1)
theorem SmC_r {R : va_W} {de d first : Nat} {L0 : SmT} {z : Nat × Nat × VF} {G : VF} (H : SmC R de d first L0 z G) : first = z.1 ∨ ∃ fs, (first, .inr (9, fs)) ∈ R := some_root L0 H.1 H.2.1
theorem piecesL {o : Nat} (ho : o ≤ 6) (HF : PieT o) : ∀ (m : Nat) (t : Nat → Nat) (n a a1 : Nat) (K W : List Nat) (v : Zv) (s0 : Zs) (C1 : List Nat) (G1 : VF), (∀ i, t i < 256) → n ≤ 240 → n - a1 < m → a < a1 → a1 ≤ n → K.length ≤ a → (∃ w W', W = w :: W' ∧ (w / uN = 12 ∨ w / uN = 13)) → (∃ g1, Rn t n s0 (5, a1, o, [], K ++ C1, (g1, W, v))) → Sg C1 K.length G1 → C1.length + a ≤ a1 → ∃ a' f p C G e, GS t n s0 a o K W v a' f p C G e ∧ a1 ≤ e ∧ ∀ (h1 : Hp), RS h1 n a1 o 0 0 → tX h1 = t → ∀ (l : Launch) (D : va_G) (dA : Nat → ClassId) (ad ac : Nat → Nat) (tt : (Nat → Option Nat) × (Nat → Option Nat) × va_W) (sc : (Nat → Option Nat) × (Nat → Option Nat)) (Gj : Gty) (mc ms : Nat) (X : IsG Gj l cX6_pieces 3 "HighSpots$Reader" D dA (41 + 3 * (6 - o)) (1130 + 120 * (6 - o)) mc ms) (h0 : Hp) (hE : Ex [90] h0 h1) (hR : ∀ (v : Value) (w' : va_W), (v = .null ∨ ∃ a, v = .ref a) → RPost ad ac dA tt sc (QS h0 n o a' f p (2 + 2 * (6 - o)) G) (some v) w' → RTa Gj cX6_pieces w' mc ms v) (R : va_W) (first : Nat) (L0 : SmT) (z : Nat × Nat × VF) (hC : SmC R 0 (1 + 2 * (6 - o)) first L0 z G1) (hl : L0.length ≤ a1) (ce sl : Nat) (hb : ce + 4 * (e - a1) ≤ mc ∧ sl + 12 * (e - a1) ≤ ms), TM Gj () (some ()) (wXP ad ac dA tt sc ((z.1, .inr (9, [.ref z.2.1, .int (nI 0), .null])) :: R) h1) ce sl 15 [(2, .ref z.1), (1, .ref first), (0, .ref (ac 90))] [] := by
  intro m
  induction m with
  | zero => intro t n a a1 K W v s0 C1 G1 _ _ hm; omega
  | succ m IH =>
    intro t n a a1 K W v s0 C1 G1 ht hn hm haa ha hK hW hrun hC1 hl1
    have h256 := hc_lt ht n a1
    obtain ⟨w, W', rfl, hw⟩ := hW
    obtain ⟨g1, hrun⟩ := hrun
    by_cases go : hc t n a1 = 38
    · have han : a1 < n := hc_in (t := t) (by omega)
      have ez : zS t n (5, a1, o, [], K ++ C1, (g1, w :: W', v)) = .inr (4, a1 + 1, o, [], K ++ C1 ++ [11 * uN], (1, (11 * uN + (K ++ C1).length) :: w :: W', v)) := by
        show zB t n a1 o (K ++ C1) (g1, w :: W', v) = _
        unfold zB
        dsimp only
        rw [if_neg (by omega), if_neg (by omega), if_neg (by omega), if_neg (by omega), if_pos go]
      have run1 := Rn_t hrun (Rn_s ez)
      obtain ⟨a2, f2, p2, C2, G2, e2, hG, hCX⟩ := HF t n (a1 + 1) (K ++ C1 ++ [11 * uN]) 1 ((11 * uN + (K ++ C1).length) :: w :: W') v ht hn (by omega) (by simp only [List.length_append, List.length_cons, List.length_nil]; omega)
      have e2n : a1 + 1 < e2 := by
        rcases hG with ⟨g1, g2, g3, g4, g5, g6, g7, gl⟩ | ⟨g1, g2, g3, g4⟩
        · omega
        · omega
      have body : ∀ (h1 : Hp), RS h1 n a1 o 0 0 → tX h1 = t → ∀ (l : Launch) (D : va_G) (dA : Nat → ClassId) (ad ac : Nat → Nat) (tt : (Nat → Option Nat) × (Nat → Option Nat) × va_W) (sc : (Nat → Option Nat) × (Nat → Option Nat)) (Gj : Gty) (mc ms : Nat) (X : IsG Gj l cX6_pieces 3 "HighSpots$Reader" D dA (41 + 3 * (6 - o)) (1130 + 120 * (6 - o)) mc ms) (R : va_W) (first : Nat) (z : Nat × Nat × VF) (ce sl : Nat) (hb : ce + 1 + (4 * (e2 - (a1 + 1)) - 3) ≤ mc ∧ sl + 3 + (12 * (e2 - (a1 + 1)) - 9) ≤ ms), (∀ h2 P2 x b, QC (yA h1) n o a2 f2 p2 (1 + 2 * (6 - o)) G2 h2 P2 x → TM Gj () (some ()) (wXP ad ac dA tt sc ((b, .inr (9, [va_rf x, .int (nI 0), .null])) :: (z.1, .inr (9, [.ref z.2.1, .int (nI 0), .ref b])) :: (P2 ++ R)) h2) (ce + 1 + (4 * (e2 - (a1 + 1)) - 3)) (sl + 3 + (12 * (e2 - (a1 + 1)) - 9)) 15 [(2, .ref b), (1, .ref first), (0, .ref (ac 90))] []) → TM Gj () (some ()) (wXP ad ac dA tt sc ((z.1, .inr (9, [.ref z.2.1, .int (nI 0), .null])) :: R) h1) ce sl 15 [(2, .ref z.1), (1, .ref first), (0, .ref (ac 90))] [] := by
        intro h1 R1 et l D dA ad ac tt sc Gj mc ms X R first z ce sl hb k
        subst et
        have R2 : RS (yA h1) n (a1 + 1) o 0 0 := RS_A R1 (by omega)
        refine tm_aload_n X 2 dX6_pieces_15 rfl rfl ?_
        refine tm_risGood X (Y_good R1) ⟨by omega, by omega⟩ (Nat.le_of_ble_eq_true rfl) dX6_pieces_16 ⟨by omega, by omega⟩ ?_
        refine tm_if_eqF X 65 (by decide) dX6_pieces_19 rfl ?_
        refine tm_aload_n X 2 dX6_pieces_22 rfl rfl ?_
        refine tm_rhere X (Y_here R1) ⟨by omega, by omega⟩ (Nat.le_of_ble_eq_true rfl) dX6_pieces_23 ⟨by omega, by omega⟩ ?_
        refine tm_bipush X (38 : Int32) dX6_pieces_26 (by decide) ?_
        refine tm_ic_neF X 65 (by rw [go]; rfl) dX6_pieces_28 rfl ?_
        refine tm_aload_n X 2 dX6_pieces_31 rfl rfl ?_
        refine tm_dup X dX6_pieces_32 rfl ?_
        refine tm_rat X dX6_pieces_33 ?_
        refine tm_iconst X (1 : Int32) dX6_pieces_36 (by decide) ?_
        refine tm_iadd X dX6_pieces_37 ?_
        refine tm_rputat X dX6_pieces_38 ?_
        refine tm_aload_n X 0 dX6_pieces_41 rfl rfl ?_
        refine tm_newSome X ⟨by omega, by omega⟩ dX6_pieces_42 (fun b => ?_)
        refine tm_dup X dX6_pieces_45 rfl ?_
        refine tm_aload_n X 2 dX6_pieces_46 rfl rfl ?_
        refine tm_rpiece X (hCX (yA h1) R2 rfl l D dA ad ac tt sc) ⟨by omega, by omega⟩ (Nat.le_of_ble_eq_true rfl) dX6_pieces_47 ⟨by omega, by omega⟩ ?_
        intro h2 P2 x hQ
        rw [← List.append_assoc]
        refine tm_iconst X (nI 0) dX6_pieces_50 (by decide) ?_
        refine tm_initSome X ⟨by omega, by omega⟩ (Nat.le_of_ble_eq_true rfl) dX6_pieces_51 ⟨by omega, by omega⟩ ?_
        refine tm_wP X (P' := (z.1, .inr (9, [.ref z.2.1, .int (nI 0), .null])) :: (b, .inr (9, [va_rf x, .int (nI 0), .null])) :: (P2 ++ R)) (perm_1 _ _ _ _) ?_
        refine tm_putSome X dX6_pieces_54 ?_
        refine tm_aload_n X 0 dX6_pieces_57 rfl rfl ?_
        refine tm_getSome X dX6_pieces_58 ?_
        refine tm_astore_n X [(2, .ref b), (1, .ref first), (0, .ref (ac 90))] dX6_pieces_61 rfl (Nat.le_of_ble_eq_true rfl) rfl ?_
        refine tm_goto X 15 dX6_pieces_62 rfl ?_
        refine tm_wP X (List.Perm.swap _ _ _) ?_
        exact k h2 P2 x b hQ
      rcases hG with ⟨g1, g2, ⟨g', g3⟩, g4, g5, g6, g7, gl⟩ | ⟨g1, g2, g3, g4⟩
      · subst g1 g2
        have run2 := Rn_t run1 g3
        have hlen : (K ++ C1).length = K.length + C1.length := List.length_append ..
        have hkk : (K ++ C1 ++ [11 * uN] ++ C2).length = K.length + C1.length + 1 + C2.length := by simp only [List.length_append, List.length_cons, List.length_nil]
        have hun : K.length + C1.length + 1 + C2.length < uN := by
          unfold uN
          omega
        have d1 : (11 * uN + (K ++ C1).length) / uN = 11 := by
          rw [hlen]
          unfold uN at hun ⊢
          omega
        have d2 : (11 * uN + (K ++ C1).length) % uN = (K ++ C1).length := by
          rw [hlen]
          unfold uN at hun ⊢
          omega
        have gl2 : C2.length + (a1 + 1) ≤ a2 := gl
        by_cases cl : hc t n a2 = 38 ∨ hc t n a2 = 124 ∨ hc t n a2 = 41
        · have ez2 : zS t n (5, a2, o, [], K ++ C1 ++ [11 * uN] ++ C2, (g', (11 * uN + (K ++ C1).length) :: w :: W', v)) = .inr (5, a2, o, [], K ++ (C1 ++ (11 * uN + (K.length + C1.length + 1 + C2.length)) :: C2), (1, w :: W', v)) := by
            show zB t n a2 o (K ++ C1 ++ [11 * uN] ++ C2) (g', (11 * uN + (K ++ C1).length) :: w :: W', v) = _
            unfold zB
            dsimp only
            rw [d1, d2, if_neg (by decide), if_pos ⟨rfl, cl⟩, hkk]
            congr 6
            rw [show K ++ C1 ++ [11 * uN] ++ C2 = (K ++ C1) ++ (11 * uN) :: C2 by simp, set_mid _ _ _ _ _ rfl]
            simp
          have hS2 : Sg C2 (K.length + C1.length + 1) G2 := by
            have := g4
            simp only [List.length_append, List.length_cons, List.length_nil] at this
            exact this
          obtain ⟨a', f, p, C, G, e, hg, he, hwk⟩ := IH t n a a2 K (w :: W') v s0 (C1 ++ (11 * uN + (K.length + C1.length + 1 + C2.length)) :: C2) (jF (nI 0) G1 G2) ht hn (by omega) (by omega) g6 hK ⟨w, W', rfl, hw⟩ ⟨1, Rn_t run2 (Rn_s ez2)⟩ (Sg_jmp (Or.inl ⟨rfl, rfl⟩) hun hC1 hS2) (by simp only [List.length_append, List.length_cons]; omega)
          refine ⟨a', f, p, C, G, e, hg, by omega, ?_⟩
          intro h1 R1 et l D dA ad ac tt sc Gj mc ms X h0 hE hR R first L0 z hC hl ce sl hb
          refine body h1 R1 et l D dA ad ac tt sc Gj mc ms X R first z ce sl ⟨by omega, by omega⟩ (fun h2 P2 x b hQ => ?_)
          obtain ⟨q1, q2, q3⟩ := hQ
          obtain ⟨y, rfl, hy⟩ := q3 rfl
          have E2 : Ex [90] h1 h2 := Ex_tt (Ex_yA (Ex_r _ h1)) q1
          exact hwk h2 q2 (by rw [tX_9 E2 et]) l D dA ad ac tt sc Gj mc ms X h0 (Ex_tt hE E2) hR _ first (L0 ++ [z]) (b, y, G2) (SmC_a (by omega) hC hy) (by rw [List.length_append]; simp; omega) _ _ ⟨by omega, by omega⟩
        · have ez2 : zS t n (5, a2, o, [], K ++ C1 ++ [11 * uN] ++ C2, (g', (11 * uN + (K ++ C1).length) :: w :: W', v)) = .inl (.inl (1, a2)) := by
            show zB t n a2 o (K ++ C1 ++ [11 * uN] ++ C2) (g', (11 * uN + (K ++ C1).length) :: w :: W', v) = _
            unfold zB
            dsimp only
            rw [d1, if_neg (by decide), if_neg (fun e => cl e.2), if_neg (by omega), if_neg (by omega), if_neg (by omega), if_neg (by omega)]
          refine ⟨a2, 0, 0, [], jF (nI 0) G1 G2, a2, Or.inl ⟨rfl, rfl, by omega, g6, rfl, Or.inr ⟨run2 _ (Hz_s ez2), by omega, by omega, by omega⟩⟩, by omega, ?_⟩
          intro h1 R1 et l D dA ad ac tt sc Gj mc ms X h0 hE hR R first L0 z hC hl ce sl hb
          refine body h1 R1 et l D dA ad ac tt sc Gj mc ms X R first z ce sl ⟨by omega, by omega⟩ (fun h2 P2 x b hQ => ?_)
          obtain ⟨q1, q2, q3⟩ := hQ
          obtain ⟨y, rfl, hy⟩ := q3 rfl
          have E2 : Ex [90] h1 h2 := Ex_tt (Ex_yA (Ex_r _ h1)) q1
          have hh := Y_here q2
          rw [tX_9 E2 et] at hh
          have k256 := hc_lt ht n a2
          have fin := SmC_e (Or.inl rfl) (SmC_a (b := b) (by omega) hC hy)
          refine tm_aload_n X 2 dX6_pieces_15 rfl rfl ?_
          refine tm_risGood X (Y_good q2) ⟨by omega, by omega⟩ (Nat.le_of_ble_eq_true rfl) dX6_pieces_16 ⟨by omega, by omega⟩ ?_
          refine tm_if_eqF X 65 (by decide) dX6_pieces_19 rfl ?_
          refine tm_aload_n X 2 dX6_pieces_22 rfl rfl ?_
          refine tm_rhere X (hh) ⟨by omega, by omega⟩ (Nat.le_of_ble_eq_true rfl) dX6_pieces_23 ⟨by omega, by omega⟩ ?_
          refine tm_bipush X (38 : Int32) dX6_pieces_26 (by decide) ?_
          refine tm_ic_neT X 65 (fun e => cl (Or.inl ((l_eq (N := 38) (c := 38) rfl (by decide) (by omega)).mp e))) dX6_pieces_28 rfl ?_
          refine tm_aload_n X 1 dX6_pieces_65 rfl rfl ?_
          exact tm_rret1 X hR ⟨Ex_tt hE E2, q2, fun _ => ⟨first, rfl, CDn_m fin.1 (by omega) (fun _ h => h)⟩, fun y hy => by cases hy; exact fin.2⟩ dX6_pieces_66 ⟨by omega, by omega⟩
      · subst g3
        refine ⟨a2, f2, p2, [], fun _ => none, n + 9, Or.inr ⟨g1, run1 _ g2, rfl, g4⟩, by omega, ?_⟩
        intro h1 R1 et l D dA ad ac tt sc Gj mc ms X h0 hE hR R first L0 z hC hl ce sl hb
        refine body h1 R1 et l D dA ad ac tt sc Gj mc ms X R first z ce sl ⟨by omega, by omega⟩ (fun h2 P2 x b hQ => ?_)
        obtain ⟨q1, q2, q3⟩ := hQ
        have E2 : Ex [90] h1 h2 := Ex_tt (Ex_yA (Ex_r _ h1)) q1
        refine tm_aload_n X 2 dX6_pieces_15 rfl rfl ?_
        refine tm_risGood X (Y_ill q2 g1) ⟨by omega, by omega⟩ (Nat.le_of_ble_eq_true rfl) dX6_pieces_16 ⟨by omega, by omega⟩ ?_
        refine tm_if_eqT X 65 (rfl) dX6_pieces_19 rfl ?_
        refine tm_aload_n X 1 dX6_pieces_65 rfl rfl ?_
        refine tm_rret1 X hR ⟨Ex_tt hE E2, q2, fun e => by omega, fun y hy => ?_⟩ dX6_pieces_66 ⟨by omega, by omega⟩
        cases hy
        rcases SmC_r hC with e9 | ⟨fs, e9⟩
        · exact ⟨_, by rw [e9]; exact List.mem_cons_of_mem _ (List.mem_cons_self ..)⟩
        · exact ⟨fs, List.mem_cons_of_mem _ (List.mem_cons_of_mem _ (List.mem_append_right _ e9))⟩
    · -- the loop ends
      have walk : ∀ (h1 : Hp), RS h1 n a1 o 0 0 → tX h1 = t → ∀ (l : Launch) (D : va_G) (dA : Nat → ClassId) (ad ac : Nat → Nat) (tt : (Nat → Option Nat) × (Nat → Option Nat) × va_W) (sc : (Nat → Option Nat) × (Nat → Option Nat)) (Gj : Gty) (mc ms : Nat) (X : IsG Gj l cX6_pieces 3 "HighSpots$Reader" D dA (41 + 3 * (6 - o)) (1130 + 120 * (6 - o)) mc ms) (h0 : Hp) (hE : Ex [90] h0 h1) (hR : ∀ (v : Value) (w' : va_W), (v = .null ∨ ∃ a, v = .ref a) → RPost ad ac dA tt sc (QS h0 n o a1 0 0 (2 + 2 * (6 - o)) G1) (some v) w' → RTa Gj cX6_pieces w' mc ms v) (R : va_W) (first : Nat) (L0 : SmT) (z : Nat × Nat × VF) (hC : SmC R 0 (1 + 2 * (6 - o)) first L0 z G1) (hl : L0.length ≤ a1) (ce sl : Nat) (hb : ce + 4 * (a1 - a1) ≤ mc ∧ sl + 12 * (a1 - a1) ≤ ms), TM Gj () (some ()) (wXP ad ac dA tt sc ((z.1, .inr (9, [.ref z.2.1, .int (nI 0), .null])) :: R) h1) ce sl 15 [(2, .ref z.1), (1, .ref first), (0, .ref (ac 90))] [] := by
        intro h1 R1 et l D dA ad ac tt sc Gj mc ms X h0 hE hR R first L0 z hC hl ce sl hb
        subst et
        have fin := SmC_e (Or.inl rfl) hC
        refine tm_aload_n X 2 dX6_pieces_15 rfl rfl ?_
        refine tm_risGood X (Y_good R1) ⟨by omega, by omega⟩ (Nat.le_of_ble_eq_true rfl) dX6_pieces_16 ⟨by omega, by omega⟩ ?_
        refine tm_if_eqF X 65 (by decide) dX6_pieces_19 rfl ?_
        refine tm_aload_n X 2 dX6_pieces_22 rfl rfl ?_
        refine tm_rhere X (Y_here R1) ⟨by omega, by omega⟩ (Nat.le_of_ble_eq_true rfl) dX6_pieces_23 ⟨by omega, by omega⟩ ?_
        refine tm_bipush X (38 : Int32) dX6_pieces_26 (by decide) ?_
        refine tm_ic_neT X 65 (fun e => go ((l_eq (N := 38) (c := 38) rfl (by decide) (by omega)).mp e)) dX6_pieces_28 rfl ?_
        refine tm_aload_n X 1 dX6_pieces_65 rfl rfl ?_
        exact tm_rret1 X hR ⟨hE, R1, fun _ => ⟨first, rfl, CDn_m fin.1 (by omega) (fun _ h => h)⟩, fun y hy => by cases hy; exact fin.2⟩ dX6_pieces_66 ⟨by omega, by omega⟩
      by_cases cl : hc t n a1 = 124 ∨ hc t n a1 = 41
      · exact ⟨a1, 0, 0, C1, G1, a1, Or.inl ⟨rfl, rfl, haa, ha, rfl, Or.inl ⟨⟨g1, hrun⟩, hC1, hl1, cl⟩⟩, Nat.le_refl _, walk⟩
      · have ez2 : zS t n (5, a1, o, [], K ++ C1, (g1, w :: W', v)) = .inl (.inl (1, a1)) := by
          show zB t n a1 o (K ++ C1) (g1, w :: W', v) = _
          unfold zB
          dsimp only
          rw [if_neg (by omega), if_neg (by omega), if_neg (by omega), if_neg (by omega), if_neg (by omega), if_neg (by omega)]
        exact ⟨a1, 0, 0, [], G1, a1, Or.inl ⟨rfl, rfl, haa, ha, rfl, Or.inr ⟨hrun _ (Hz_s ez2), by omega, by omega, by omega⟩⟩, Nat.le_refl _, walk⟩
theorem PcsT_o {o : Nat} (ho : o ≤ 6) (HF : PieT o) : PcsT o := by
  intro t n a K g W v ht hn ha hK hW
  obtain ⟨a1, f1, p1, C1, G1, e1, hG, hCX⟩ := HF t n a K g W v ht hn ha hK
  have head : ∀ (h : Hp), RS h n a o 0 0 → tX h = t → ∀ (l : Launch) (D : va_G) (dA : Nat → ClassId) (ad ac : Nat → Nat) (tt : (Nat → Option Nat) × (Nat → Option Nat) × va_W) (sc : (Nat → Option Nat) × (Nat → Option Nat)) (Gj : Gty) (mc ms : Nat) (X : IsG Gj l cX6_pieces 3 "HighSpots$Reader" D dA (41 + 3 * (6 - o)) (1130 + 120 * (6 - o)) mc ms) (hb : 1 + (4 * (e1 - a) - 3) ≤ mc ∧ 3 + (12 * (e1 - a) - 9) ≤ ms), (∀ h2 P2 x b, QC h n o a1 f1 p1 (1 + 2 * (6 - o)) G1 h2 P2 x → TM Gj () (some ()) (wXP ad ac dA tt sc ((b, .inr (9, [va_rf x, .int (nI 0), .null])) :: P2) h2) (1 + (4 * (e1 - a) - 3)) (3 + (12 * (e1 - a) - 9)) 15 [(2, .ref b), (1, .ref b), (0, .ref (ac 90))] []) → TM Gj () (some ()) (wXR ad ac dA tt sc h) 0 0 0 [(0, .ref (ac 90))] [] := by
    intro h R0 et l D dA ad ac tt sc Gj mc ms X hb k
    refine tm_w0 X ?_
    refine tm_newSome X ⟨by omega, by omega⟩ dX6_pieces_0 (fun b => ?_)
    refine tm_dup X dX6_pieces_3 rfl ?_
    refine tm_aload_n X 0 dX6_pieces_4 rfl rfl ?_
    refine tm_rpiece X (hCX h R0 et l D dA ad ac tt sc) ⟨by omega, by omega⟩ (Nat.le_of_ble_eq_true rfl) dX6_pieces_5 ⟨by omega, by omega⟩ ?_
    intro h2 P2 x hQ
    rw [← List.append_assoc, List.append_nil]
    refine tm_iconst X (nI 0) dX6_pieces_8 (by decide) ?_
    refine tm_initSome X ⟨by omega, by omega⟩ (Nat.le_of_ble_eq_true rfl) dX6_pieces_9 ⟨by omega, by omega⟩ ?_
    refine tm_astore_n X [(1, .ref b), (0, .ref (ac 90))] dX6_pieces_12 rfl (Nat.le_of_ble_eq_true rfl) rfl ?_
    refine tm_aload_n X 0 dX6_pieces_13 rfl rfl ?_
    refine tm_astore_n X [(2, .ref b), (1, .ref b), (0, .ref (ac 90))] dX6_pieces_14 rfl (Nat.le_of_ble_eq_true rfl) rfl ?_
    refine tm_wP X (P' := (b, .inr (9, [va_rf x, .int (nI 0), .null])) :: P2) (List.perm_append_comm.trans (List.Perm.refl _)) ?_
    have := k h2 P2 x b hQ
    simpa only [Nat.zero_add] using this
  rcases hG with ⟨g1, g2, g3, g4, g5, g6, g7, gl⟩ | ⟨g1, g2, g3, g4⟩
  · subst g1 g2
    obtain ⟨a', f, p, C, G, e, hg, he, hw⟩ := piecesL ho HF (n + 1) t n a a1 K W v (4, a, o, [], K, (g, W, v)) C1 G1 ht hn (by omega) g5 g6 hK hW g3 g4 gl
    refine ⟨a', f, p, C, G, e, hg, ?_⟩
    intro h R0 et l D dA ad ac tt sc
    refine ct_openE (by decide) (Nat.le_of_ble_eq_true rfl) ?_
    intro Gj X _ _ _ hR
    have hR := hR ⟨_, rfl⟩
    refine (show TM Gj () (some ()) (wXR ad ac dA tt sc h) 0 0 0 [(0, .ref (ac 90))] [] from ?_) rfl
    refine head h R0 et l D dA ad ac tt sc Gj _ _ X ⟨by omega, by omega⟩ (fun h2 P2 x b hQ => ?_)
    obtain ⟨q1, q2, q3⟩ := hQ
    obtain ⟨y, rfl, hy⟩ := q3 rfl
    exact hw h2 q2 (by rw [tX_9 q1 et]) l D dA ad ac tt sc Gj _ _ X h q1 hR P2 b [] (b, y, G1) (SmC_1 hy) (by simp) _ _ ⟨by omega, by omega⟩
  · subst g3
    refine ⟨a1, f1, p1, [], fun _ => none, n + 9, Or.inr ⟨g1, g2, rfl, g4⟩, ?_⟩
    intro h R0 et l D dA ad ac tt sc
    refine ct_openE (by decide) (Nat.le_of_ble_eq_true rfl) ?_
    intro Gj X _ _ _ hR
    have hR := hR ⟨_, rfl⟩
    refine (show TM Gj () (some ()) (wXR ad ac dA tt sc h) 0 0 0 [(0, .ref (ac 90))] [] from ?_) rfl
    refine head h R0 et l D dA ad ac tt sc Gj _ _ X ⟨by omega, by omega⟩ (fun h2 P2 x b hQ => ?_)
    obtain ⟨q1, q2, q3⟩ := hQ
    refine tm_aload_n X 2 dX6_pieces_15 rfl rfl ?_
    refine tm_risGood X (Y_ill q2 g1) ⟨by omega, by omega⟩ (Nat.le_of_ble_eq_true rfl) dX6_pieces_16 ⟨by omega, by omega⟩ ?_
    refine tm_if_eqT X 65 (rfl) dX6_pieces_19 rfl ?_
    refine tm_aload_n X 1 dX6_pieces_65 rfl rfl ?_
    exact tm_rret1 X hR ⟨q1, q2, fun e => by omega, fun y hy => by cases hy; exact ⟨_, List.mem_cons_self ..⟩⟩ dX6_pieces_66 ⟨by omega, by omega⟩
