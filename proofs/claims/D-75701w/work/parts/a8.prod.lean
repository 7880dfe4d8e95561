/-! Reader: a product -/
set_option maxRecDepth 100000
theorem perm_1 {α : Type} (A R : List α) (x y : α) : ((A ++ x :: R) ++ [y]).Perm (x :: y :: (A ++ R)) :=
  List.perm_append_comm.trans ((List.Perm.cons y List.perm_middle).trans (List.Perm.swap _ _ _))
theorem rows_root {R : va_W} {z : Nat × Nat × Nat × VF} {first : Nat} : ∀ L0 : RwT, ChR R (some z.1) L0 → hd1 L0 (some z.1) = some first → first = z.1 ∨ ∃ fs, (first, .inr (6, fs)) ∈ R
  | [], _, h => Or.inl (by cases h; rfl)
  | y :: L, hC, h => by
    cases h
    exact Or.inr ⟨_, hC.1⟩
def GLp (t : Nat → Nat) (n a1 o : Nat) (S K : List Nat) (q : Zq) (C1 : List Nat) (a' f p : Nat) (C : List Nat) (F : VF) (e : Nat) : Prop := (f = 0 ∧ p = 0 ∧ Rn t n (2, a1, o, S, K ++ C1, q) (2, a', o, S, K ++ C, q) ∧ (∀ b, Sg C b F) ∧ a1 ≤ a' ∧ a' ≤ n ∧ e = a' ∧ C.length + a1 ≤ C1.length + a' ∧ sgn (hc t n a') < 4) ∨ (0 < f ∧ Hz t n (2, a1, o, S, K ++ C1, q) (.inl (f, p)) ∧ e = n + 8 ∧ a' ≤ n + 1)
theorem productL {o : Nat} (ho : o ≤ 6) (HF : FacT o) : ∀ (m : Nat) (t : Nat → Nat) (n a1 : Nat) (S K : List Nat) (q : Zq) (C1 : List Nat) (F1 : VF), (∀ i, t i < 256) → n ≤ 240 → n - a1 < m → a1 ≤ n → (∀ s S', S = s :: S' → ¬ (4 ≤ s ∧ s < 7)) → (∀ b, Sg C1 b F1) → ∃ a' f p C F e, GLp t n a1 o S K q C1 a' f p C F e ∧ ∀ (h1 : Hp), RS h1 n a1 o 0 0 → tX h1 = t → ∀ (l : Launch) (D : va_G) (dA : Nat → ClassId) (ad ac : Nat → Nat) (tt : (Nat → Option Nat) × (Nat → Option Nat) × va_W) (sc : (Nat → Option Nat) × (Nat → Option Nat)) (G : Gty) (mc ms : Nat) (X : IsG G l cX6_product 4 "HighSpots$Reader" D dA (11 + 3 * (6 - o)) (330 + 100 * (6 - o)) mc ms) (h0 : Hp) (hE : Ex [90] h0 h1) (hR : ∀ (v : Value) (w' : va_W), (v = .null ∨ ∃ a, v = .ref a) → RPost ad ac dA tt sc (QR h0 n o a' f p (1 + 1 + 2 * (6 - o)) F) (some v) w' → RTa G cX6_product w' mc ms v) (R : va_W) (first : Nat) (L0 : RwT) (z : Nat × Nat × Nat × VF) (hC : ChR R (some z.1) L0) (hf : hd1 L0 (some z.1) = some first) (hl : L0.length ≤ a1) (z0 : Nat × Nat × Nat × VF) (L1 : RwT) (hL : L0 ++ [z] = z0 :: L1) (hF1 : F1 = fR z0.2.2.2 L1) (hz0 : SDn (1 + 2 * (6 - o)) R z0.2.2.1 z0.2.2.2) (hz1 : ∀ y, y ∈ L1 → sgn y.2.1 ≠ 0 ∧ SDn (1 + 2 * (6 - o)) R y.2.2.1 y.2.2.2) (ce sl : Nat) (hb : ce + 4 * (e - a1) ≤ mc ∧ sl + 12 * (e - a1) ≤ ms), TM G () (some ()) (wXP ad ac dA tt sc ((z.1, .inr (6, [.int (nI z.2.1), .ref z.2.2.1, .null])) :: R) h1) ce sl 15 [(2, .ref z.1), (1, .ref first), (0, .ref (ac 90))] [] := by
  intro m
  induction m with
  | zero => intro t n a1 S K q C1 F1 _ _ hm; omega
  | succ m IH =>
    intro t n a1 S K q C1 F1 ht hn hm ha hS hC1
    have h256 := hc_lt ht n a1
    by_cases go : 4 ≤ sgn (hc t n a1)
    · have hcs : hc t n a1 = 42 ∨ hc t n a1 = 47 ∨ hc t n a1 = 37 := by
        unfold sgn at go
        repeat' split at go
        all_goals omega
      have sb : 2 ≤ sgn (hc t n a1) ∧ sgn (hc t n a1) ≤ 6 := by
        rcases hcs with e9 | e9 | e9 <;> rw [e9] <;> decide
      have han : a1 < n := hc_in (t := t) (by omega)
      have ez : zS t n (2, a1, o, S, K ++ C1, q) = .inr (1, a1 + 1, o, sgn (hc t n a1) :: S, K ++ C1, q) := by
        show zA t n a1 o S (K ++ C1) q = _
        unfold zA
        cases S with
        | nil =>
          dsimp only
          rw [if_pos (by omega)]
        | cons s S' =>
          have := hS s S' rfl
          dsimp only
          rw [if_neg (by omega), if_pos (by omega)]
      obtain ⟨a2, f2, p2, C2, F2, e2, hG, hCX⟩ := HF t n (a1 + 1) (sgn (hc t n a1) :: S) (K ++ C1) q ht hn (by omega)
      have e2n : a1 + 1 < e2 := by
        rcases hG with ⟨g1, g2, g3, g4, g5, g6, g7, gl, g8⟩ | ⟨g1, g2, g3, g4⟩
        · omega
        · omega
      -- the walk through one round
      have body : ∀ (h1 : Hp), RS h1 n a1 o 0 0 → tX h1 = t → ∀ (l : Launch) (D : va_G) (dA : Nat → ClassId) (ad ac : Nat → Nat) (tt : (Nat → Option Nat) × (Nat → Option Nat) × va_W) (sc : (Nat → Option Nat) × (Nat → Option Nat)) (G : Gty) (mc ms : Nat) (X : IsG G l cX6_product 4 "HighSpots$Reader" D dA (11 + 3 * (6 - o)) (330 + 100 * (6 - o)) mc ms) (R : va_W) (first : Nat) (z : Nat × Nat × Nat × VF) (ce sl : Nat) (hb : ce + 1 + (4 * (e2 - (a1 + 1)) - 3) ≤ mc ∧ sl + 3 + (12 * (e2 - (a1 + 1)) - 9) ≤ ms), (∀ h2 P2 x b, QF (yA h1) n o a2 f2 p2 (1 + 2 * (6 - o)) F2 h2 P2 x → TM G () (some ()) (wXP ad ac dA tt sc ((b, .inr (6, [.int (nI (hc t n a1)), va_rf x, .null])) :: (z.1, .inr (6, [.int (nI z.2.1), .ref z.2.2.1, .ref b])) :: (P2 ++ R)) h2) (ce + 1 + (4 * (e2 - (a1 + 1)) - 3)) (sl + 3 + (12 * (e2 - (a1 + 1)) - 9)) 15 [(2, .ref b), (1, .ref first), (0, .ref (ac 90))] []) → TM G () (some ()) (wXP ad ac dA tt sc ((z.1, .inr (6, [.int (nI z.2.1), .ref z.2.2.1, .null])) :: R) h1) ce sl 15 [(2, .ref z.1), (1, .ref first), (0, .ref (ac 90))] [] := by
        intro h1 R1 et l D dA ad ac tt sc G mc ms X R first z ce sl hb k
        subst et
        have R2 : RS (yA h1) n (a1 + 1) o 0 0 := RS_A R1 (by omega)
        refine tm_aload_n X 2 dX6_product_15 rfl rfl ?_
        refine tm_risGood X (Y_good R1) ⟨by omega, by omega⟩ (Nat.le_of_ble_eq_true rfl) dX6_product_16 ⟨by omega, by omega⟩ ?_
        refine tm_if_eqF X 88 (by decide) dX6_product_19 rfl ?_
        have at49 : TM G () (some ()) (wXP ad ac dA tt sc ((z.1, .inr (6, [.int (nI z.2.1), .ref z.2.2.1, .null])) :: R) h1) ce sl 49 [(2, .ref z.1), (1, .ref first), (0, .ref (ac 90))] [] := by
          refine tm_aload_n X 2 dX6_product_49 rfl rfl ?_
          refine tm_rhere X (Y_here R1) ⟨by omega, by omega⟩ (Nat.le_of_ble_eq_true rfl) dX6_product_50 ⟨by omega, by omega⟩ ?_
          refine tm_istore_n X [(3, .int (nI (hc (tX h1) n a1))), (2, .ref z.1), (1, .ref first), (0, .ref (ac 90))] dX6_product_53 rfl (Nat.le_of_ble_eq_true rfl) rfl ?_
          refine tm_aload_n X 3 dX6_product_54 rfl rfl ?_
          refine tm_dup X dX6_product_55 rfl ?_
          refine tm_rat X dX6_product_56 ?_
          refine tm_iconst X (1 : Int32) dX6_product_59 (by decide) ?_
          refine tm_iadd X dX6_product_60 ?_
          refine tm_rputat X dX6_product_61 ?_
          refine tm_aload_n X 1 dX6_product_64 rfl rfl ?_
          refine tm_newRow X ⟨by omega, by omega⟩ dX6_product_65 (fun b => ?_)
          refine tm_dup X dX6_product_68 rfl ?_
          refine tm_iload_n X 0 dX6_product_69 rfl rfl ?_
          refine tm_aload_n X 3 dX6_product_70 rfl rfl ?_
          refine tm_rfactor X (hCX (yA h1) R2 rfl l D dA ad ac tt sc) ⟨by omega, by omega⟩ (Nat.le_of_ble_eq_true rfl) dX6_product_71 ⟨by omega, by omega⟩ ?_
          intro h2 P2 x hQ
          rw [← List.append_assoc]
          refine tm_initRow X ⟨by omega, by omega⟩ (Nat.le_of_ble_eq_true rfl) dX6_product_74 ⟨by omega, by omega⟩ ?_
          refine tm_wP X (P' := (z.1, .inr (6, [.int (nI z.2.1), .ref z.2.2.1, .null])) :: (b, .inr (6, [.int (nI (hc (tX h1) n a1)), va_rf x, .null])) :: (P2 ++ R)) (perm_1 _ _ _ _) ?_
          refine tm_putRow X dX6_product_77 ?_
          refine tm_aload_n X 1 dX6_product_80 rfl rfl ?_
          refine tm_getRow X dX6_product_81 ?_
          refine tm_astore_n X [(2, .ref b), (3, .int (nI (hc (tX h1) n a1))), (1, .ref first), (0, .ref (ac 90))] dX6_product_84 rfl (Nat.le_of_ble_eq_true rfl) rfl ?_
          refine tm_goto X 15 dX6_product_85 rfl ?_
          refine tm_lv X [0, 2, 3] rfl ?_
          refine tm_wP X (List.Perm.swap _ _ _) ?_
          exact k h2 P2 x b hQ
        rcases hcs with e9 | e9 | e9
        · refine tm_aload_n X 2 dX6_product_22 rfl rfl ?_
          refine tm_rhere X (Y_here R1) ⟨by omega, by omega⟩ (Nat.le_of_ble_eq_true rfl) dX6_product_23 ⟨by omega, by omega⟩ ?_
          refine tm_bipush X (42 : Int32) dX6_product_26 (by decide) ?_
          refine tm_ic_eqT X 49 (by rw [e9]; rfl) dX6_product_28 rfl ?_
          exact at49
        · refine tm_aload_n X 2 dX6_product_22 rfl rfl ?_
          refine tm_rhere X (Y_here R1) ⟨by omega, by omega⟩ (Nat.le_of_ble_eq_true rfl) dX6_product_23 ⟨by omega, by omega⟩ ?_
          refine tm_bipush X (42 : Int32) dX6_product_26 (by decide) ?_
          refine tm_ic_eqF X 49 (by rw [e9]; decide) dX6_product_28 rfl ?_
          refine tm_aload_n X 2 dX6_product_31 rfl rfl ?_
          refine tm_rhere X (Y_here R1) ⟨by omega, by omega⟩ (Nat.le_of_ble_eq_true rfl) dX6_product_32 ⟨by omega, by omega⟩ ?_
          refine tm_bipush X (47 : Int32) dX6_product_35 (by decide) ?_
          refine tm_ic_eqT X 49 (by rw [e9]; rfl) dX6_product_37 rfl ?_
          exact at49
        · refine tm_aload_n X 2 dX6_product_22 rfl rfl ?_
          refine tm_rhere X (Y_here R1) ⟨by omega, by omega⟩ (Nat.le_of_ble_eq_true rfl) dX6_product_23 ⟨by omega, by omega⟩ ?_
          refine tm_bipush X (42 : Int32) dX6_product_26 (by decide) ?_
          refine tm_ic_eqF X 49 (by rw [e9]; decide) dX6_product_28 rfl ?_
          refine tm_aload_n X 2 dX6_product_31 rfl rfl ?_
          refine tm_rhere X (Y_here R1) ⟨by omega, by omega⟩ (Nat.le_of_ble_eq_true rfl) dX6_product_32 ⟨by omega, by omega⟩ ?_
          refine tm_bipush X (47 : Int32) dX6_product_35 (by decide) ?_
          refine tm_ic_eqF X 49 (by rw [e9]; decide) dX6_product_37 rfl ?_
          refine tm_aload_n X 2 dX6_product_40 rfl rfl ?_
          refine tm_rhere X (Y_here R1) ⟨by omega, by omega⟩ (Nat.le_of_ble_eq_true rfl) dX6_product_41 ⟨by omega, by omega⟩ ?_
          refine tm_bipush X (37 : Int32) dX6_product_44 (by decide) ?_
          refine tm_ic_neF X 88 (by rw [e9]; rfl) dX6_product_46 rfl ?_
          exact at49
      rcases hG with ⟨g1, g2, g3, g4, g5, g6, g7, gl, g8⟩ | ⟨g1, g2, g3, g4⟩
      · subst g1 g2
        have ez2 : zS t n (2, a2, o, sgn (hc t n a1) :: S, K ++ C1 ++ C2, q) = .inr (2, a2, o, S, K ++ C1 ++ C2 ++ [uN * sgn (hc t n a1)], q) := by
          show zA t n a2 o (sgn (hc t n a1) :: S) (K ++ C1 ++ C2) q = _
          unfold zA
          dsimp only
          rw [if_pos ⟨by omega, Or.inl go⟩]
        have run := Rn_t (Rn_s ez) (Rn_t g3 (Rn_s ez2))
        have ea : K ++ C1 ++ C2 ++ [uN * sgn (hc t n a1)] = K ++ (C1 ++ C2 ++ [uN * sgn (hc t n a1)]) := by simp only [List.append_assoc]
        rw [ea] at run
        obtain ⟨a', f, p, C, F, e, hg, hw⟩ := IH t n a2 S K q _ (bF (sgn (hc t n a1)) F1 F2) ht hn (by omega) g6 hS (fun b => Sg_bin ⟨by omega, by omega⟩ (hC1 b) (g4 _))
        have hea : a2 ≤ e := by
          rcases hg with ⟨j1, j2, j3, j4, j5, j6, j7, jl, j8⟩ | ⟨j1, j2, j3, j4⟩
          · omega
          · omega
        refine ⟨a', f, p, C, F, e, ?_, ?_⟩
        · rcases hg with ⟨j1, j2, j3, j4, j5, j6, j7, jl, j8⟩ | ⟨j1, j2, j3, j4⟩
          · refine Or.inl ⟨j1, j2, Rn_t run j3, j4, by omega, j6, j7, ?_, j8⟩
            simp only [List.length_append, List.length_cons, List.length_nil] at jl
            omega
          · exact Or.inr ⟨j1, run _ j2, j3, j4⟩
        · intro h1 R1 et l D dA ad ac tt sc G mc ms X h0 hE hR R first L0 z hC hf hl z0 L1 hL hF1 hz0 hz1 ce sl hb
          refine body h1 R1 et l D dA ad ac tt sc G mc ms X R first z ce sl ⟨by omega, by omega⟩ (fun h2 P2 x b hQ => ?_)
          obtain ⟨q1, q2, q3⟩ := hQ
          obtain ⟨y, rfl, hy⟩ := q3 rfl
          have E2 : Ex [90] h1 h2 := Ex_tt (Ex_yA (Ex_r _ h1)) q1
          have s1 : Sub R ((z.1, .inr (6, [.int (nI z.2.1), .ref z.2.2.1, .ref b])) :: (P2 ++ R)) := fun w hw => List.mem_cons_of_mem _ (List.mem_append_right _ hw)
          have s2 : Sub P2 ((z.1, .inr (6, [.int (nI z.2.1), .ref z.2.2.1, .ref b])) :: (P2 ++ R)) := fun w hw => List.mem_cons_of_mem _ (List.mem_append_left _ hw)
          refine hw h2 q2 (by rw [tX_9 E2 et]) l D dA ad ac tt sc G mc ms X h0 (Ex_tt hE E2) hR ((z.1, .inr (6, [.int (nI z.2.1), .ref z.2.2.1, .ref b])) :: (P2 ++ R)) first (L0 ++ [z]) (b, hc t n a1, y, F2) (ChR_a (nx := some b) (List.mem_cons_self ..) L0 (ChR_m s1 L0 hC)) (by rw [hd1_a]; exact hf) (by rw [List.length_append]; simp; omega) z0 (L1 ++ [(b, hc t n a1, y, F2)]) (by rw [hL]; rfl) (by rw [fR_a, ← hF1]) (SDn_m hz0 (Nat.le_refl _) s1) ?_ _ _ ⟨by omega, by omega⟩
          intro w hw
          rcases List.mem_append.mp hw with hw | hw
          · exact ⟨(hz1 w hw).1, SDn_m (hz1 w hw).2 (Nat.le_refl _) s1⟩
          · rw [List.mem_singleton] at hw
            subst hw
            exact ⟨by show sgn (hc t n a1) ≠ 0; omega, SDn_m hy (Nat.le_refl _) s2⟩
      · subst g3
        refine ⟨a2, f2, p2, [], fun _ => none, n + 8, Or.inr ⟨g1, Rn_s ez _ g2, rfl, g4⟩, ?_⟩
        intro h1 R1 et l D dA ad ac tt sc G mc ms X h0 hE hR R first L0 z hC hf hl z0 L1 hL hF1 hz0 hz1 ce sl hb
        refine body h1 R1 et l D dA ad ac tt sc G mc ms X R first z ce sl ⟨by omega, by omega⟩ (fun h2 P2 x b hQ => ?_)
        obtain ⟨q1, q2, q3⟩ := hQ
        have E2 : Ex [90] h1 h2 := Ex_tt (Ex_yA (Ex_r _ h1)) q1
        refine tm_aload_n X 2 dX6_product_15 rfl rfl ?_
        refine tm_risGood X (Y_ill q2 g1) ⟨by omega, by omega⟩ (Nat.le_of_ble_eq_true rfl) dX6_product_16 ⟨by omega, by omega⟩ ?_
        refine tm_if_eqT X 88 (rfl) dX6_product_19 rfl ?_
        refine tm_aload_n X 1 dX6_product_88 rfl rfl ?_
        refine tm_rret1 X hR ⟨Ex_tt hE E2, q2, fun e => by omega, ?_⟩ dX6_product_89 ⟨by omega, by omega⟩
        rcases rows_root L0 hC hf with e9 | ⟨fs, e9⟩
        · exact ⟨first, _, rfl, by rw [e9]; exact List.mem_cons_of_mem _ (List.mem_cons_self ..)⟩
        · exact ⟨first, fs, rfl, List.mem_cons_of_mem _ (List.mem_cons_of_mem _ (List.mem_append_right _ e9))⟩
    · refine ⟨a1, 0, 0, C1, F1, a1, Or.inl ⟨rfl, rfl, Rn_r, hC1, Nat.le_refl _, ha, rfl, by omega, by omega⟩, ?_⟩
      intro h1 R1 et l D dA ad ac tt sc G mc ms X h0 hE hR R first L0 z hC hf hl z0 L1 hL hF1 hz0 hz1 ce sl hb
      subst et
      have hcs : ¬ (hc (tX h1) n a1 = 42 ∨ hc (tX h1) n a1 = 47 ∨ hc (tX h1) n a1 = 37) := by
        intro e9
        rcases e9 with e9 | e9 | e9 <;> rw [e9] at go <;> exact absurd go (by decide)
      refine tm_aload_n X 2 dX6_product_15 rfl rfl ?_
      refine tm_risGood X (Y_good R1) ⟨by omega, by omega⟩ (Nat.le_of_ble_eq_true rfl) dX6_product_16 ⟨by omega, by omega⟩ ?_
      refine tm_if_eqF X 88 (by decide) dX6_product_19 rfl ?_
      refine tm_aload_n X 2 dX6_product_22 rfl rfl ?_
      refine tm_rhere X (Y_here R1) ⟨by omega, by omega⟩ (Nat.le_of_ble_eq_true rfl) dX6_product_23 ⟨by omega, by omega⟩ ?_
      refine tm_bipush X (42 : Int32) dX6_product_26 (by decide) ?_
      refine tm_ic_eqF X 49 (fun e => hcs (by have := (l_eq (N := 42) (c := 42) rfl (by decide) (by omega)).mp e; omega)) dX6_product_28 rfl ?_
      refine tm_aload_n X 2 dX6_product_31 rfl rfl ?_
      refine tm_rhere X (Y_here R1) ⟨by omega, by omega⟩ (Nat.le_of_ble_eq_true rfl) dX6_product_32 ⟨by omega, by omega⟩ ?_
      refine tm_bipush X (47 : Int32) dX6_product_35 (by decide) ?_
      refine tm_ic_eqF X 49 (fun e => hcs (by have := (l_eq (N := 47) (c := 47) rfl (by decide) (by omega)).mp e; omega)) dX6_product_37 rfl ?_
      refine tm_aload_n X 2 dX6_product_40 rfl rfl ?_
      refine tm_rhere X (Y_here R1) ⟨by omega, by omega⟩ (Nat.le_of_ble_eq_true rfl) dX6_product_41 ⟨by omega, by omega⟩ ?_
      refine tm_bipush X (37 : Int32) dX6_product_44 (by decide) ?_
      refine tm_ic_neT X 88 (fun e => hcs (by have := (l_eq (N := 37) (c := 37) rfl (by decide) (by omega)).mp e; omega)) dX6_product_46 rfl ?_
      refine tm_aload_n X 1 dX6_product_88 rfl rfl ?_
      refine tm_rret1 X hR ?_ dX6_product_89 ⟨by omega, by omega⟩
      have hm : (z.1, (.inr (6, [.int (nI z.2.1), .ref z.2.2.1, .null]) : va_E)) ∈ ((z.1, (.inr (6, [.int (nI z.2.1), .ref z.2.2.1, .null]) : va_E)) :: R) := List.mem_cons_self ..
      have s1 : Sub R ((z.1, (.inr (6, [.int (nI z.2.1), .ref z.2.2.1, .null]) : va_E)) :: R) := fun w hw => List.mem_cons_of_mem _ hw
      have hCh := ChR_a (nx := none) hm L0 (ChR_m s1 L0 hC)
      have hfi : some first = some z0.1 := by
        rw [← hf, ← hd1_a L0 z none, hL]
        rfl
      cases hfi
      rw [hL] at hCh
      have hlen : L1.length = L0.length := by
        have := congrArg List.length hL
        simp at this
        omega
      refine ⟨hE, R1, fun _ => ⟨z0.1, rfl, ?_⟩, z0.1, _, rfl, hCh.1⟩
      rw [hF1]
      have := SDn_rows (d := 1 + 2 * (6 - o)) (z := z0) (L := L1) (by omega) hCh (SDn_m hz0 (Nat.le_refl _) s1) (fun w hw => ⟨(hz1 w hw).1, SDn_m (hz1 w hw).2 (Nat.le_refl _) s1⟩)
      exact SDn_m this (by omega) (fun _ h => h)
def ProT (o : Nat) : Prop := ∀ (t : Nat → Nat) (n a : Nat) (S K : List Nat) (q : Zq), (∀ i, t i < 256) → n ≤ 240 → a ≤ n → (∀ s S', S = s :: S' → ¬ (4 ≤ s ∧ s < 7)) → ∃ a' f p C F e, GG t n a o S K q (fun a' => sgn (hc t n a') < 4) a' f p C F e ∧ ∀ h, RS h n a o 0 0 → tX h = t → ∀ (l : Launch) (D : va_G) (dA : Nat → ClassId) (ad ac : Nat → Nat) (tt : (Nat → Option Nat) × (Nat → Option Nat) × va_W) (sc : (Nat → Option Nat) × (Nat → Option Nat)), CX_product l D dA (11 + 3 * (6 - o)) (330 + 100 * (6 - o)) (4 * (e - a) - 2) (12 * (e - a) - 6) ad ac tt sc h (QR h n o a' f p (2 + 2 * (6 - o)) F)
theorem ProT_o {o : Nat} (ho : o ≤ 6) (HF : FacT o) : ProT o := by
  intro t n a S K q ht hn ha hS
  obtain ⟨a1, f1, p1, C1, F1, e1, hG, hCX⟩ := HF t n a S K q ht hn ha
  -- up to the loop
  have head : ∀ (h : Hp), RS h n a o 0 0 → tX h = t → ∀ (l : Launch) (D : va_G) (dA : Nat → ClassId) (ad ac : Nat → Nat) (tt : (Nat → Option Nat) × (Nat → Option Nat) × va_W) (sc : (Nat → Option Nat) × (Nat → Option Nat)) (G : Gty) (mc ms : Nat) (X : IsG G l cX6_product 4 "HighSpots$Reader" D dA (11 + 3 * (6 - o)) (330 + 100 * (6 - o)) mc ms) (hb : 1 + (4 * (e1 - a) - 3) ≤ mc ∧ 3 + (12 * (e1 - a) - 9) ≤ ms), (∀ h2 P2 x b, QF h n o a1 f1 p1 (1 + 2 * (6 - o)) F1 h2 P2 x → TM G () (some ()) (wXP ad ac dA tt sc ((b, .inr (6, [.int (nI 0), va_rf x, .null])) :: P2) h2) (1 + (4 * (e1 - a) - 3)) (3 + (12 * (e1 - a) - 9)) 15 [(2, .ref b), (1, .ref b), (0, .ref (ac 90))] []) → TM G () (some ()) (wXR ad ac dA tt sc h) 0 0 0 [(0, .ref (ac 90))] [] := by
    intro h R0 et l D dA ad ac tt sc G mc ms X hb k
    refine tm_w0 X ?_
    refine tm_newRow X ⟨by omega, by omega⟩ dX6_product_0 (fun b => ?_)
    refine tm_dup X dX6_product_3 rfl ?_
    refine tm_iconst X (nI 0) dX6_product_4 (by decide) ?_
    refine tm_aload_n X 0 dX6_product_5 rfl rfl ?_
    refine tm_rfactor X (hCX h R0 et l D dA ad ac tt sc) ⟨by omega, by omega⟩ (Nat.le_of_ble_eq_true rfl) dX6_product_6 ⟨by omega, by omega⟩ ?_
    intro h2 P2 x hQ
    rw [← List.append_assoc, List.append_nil]
    refine tm_initRow X ⟨by omega, by omega⟩ (Nat.le_of_ble_eq_true rfl) dX6_product_9 ⟨by omega, by omega⟩ ?_
    refine tm_astore_n X [(1, .ref b), (0, .ref (ac 90))] dX6_product_12 rfl (Nat.le_of_ble_eq_true rfl) rfl ?_
    refine tm_aload_n X 0 dX6_product_13 rfl rfl ?_
    refine tm_astore_n X [(2, .ref b), (1, .ref b), (0, .ref (ac 90))] dX6_product_14 rfl (Nat.le_of_ble_eq_true rfl) rfl ?_
    refine tm_wP X (P' := (b, .inr (6, [.int (nI 0), va_rf x, .null])) :: P2) (List.perm_append_comm.trans (List.Perm.refl _)) ?_
    have := k h2 P2 x b hQ
    simpa only [Nat.zero_add] using this
  rcases hG with ⟨g1, g2, g3, g4, g5, g6, g7, gl, g8⟩ | ⟨g1, g2, g3, g4⟩
  · subst g1 g2
    obtain ⟨a', f, p, C, F, e, hg, hw⟩ := productL ho HF (n + 1) t n a1 S K q C1 F1 ht hn (by omega) g6 hS g4
    have hea : a1 ≤ e := by
      rcases hg with ⟨j1, j2, j3, j4, j5, j6, j7, jl, j8⟩ | ⟨j1, j2, j3, j4⟩
      · omega
      · omega
    refine ⟨a', f, p, C, F, e, ?_, ?_⟩
    · rcases hg with ⟨j1, j2, j3, j4, j5, j6, j7, jl, j8⟩ | ⟨j1, j2, j3, j4⟩
      · exact Or.inl ⟨j1, j2, Rn_t g3 j3, j4, by omega, j6, j7, by omega, j8⟩
      · exact Or.inr ⟨j1, g3 _ j2, j3, j4⟩
    · intro h R0 et l D dA ad ac tt sc
      refine ct_openE (by decide) (Nat.le_of_ble_eq_true rfl) ?_
      intro G X _ _ _ hR
      have hR := hR ⟨_, rfl⟩
      refine (show TM G () (some ()) (wXR ad ac dA tt sc h) 0 0 0 [(0, .ref (ac 90))] [] from ?_) rfl
      refine head h R0 et l D dA ad ac tt sc G _ _ X ⟨by omega, by omega⟩ (fun h2 P2 x b hQ => ?_)
      obtain ⟨q1, q2, q3⟩ := hQ
      obtain ⟨y, rfl, hy⟩ := q3 rfl
      exact hw h2 q2 (by rw [tX_9 q1 et]) l D dA ad ac tt sc G _ _ X h q1 hR P2 b [] (b, 0, y, F1) trivial rfl (by simp) (b, 0, y, F1) [] rfl rfl hy (fun w hw => by cases hw) _ _ ⟨by omega, by omega⟩
  · subst g3
    refine ⟨a1, f1, p1, [], fun _ => none, n + 8, Or.inr ⟨g1, g2, rfl, g4⟩, ?_⟩
    intro h R0 et l D dA ad ac tt sc
    refine ct_openE (by decide) (Nat.le_of_ble_eq_true rfl) ?_
    intro G X _ _ _ hR
    have hR := hR ⟨_, rfl⟩
    refine (show TM G () (some ()) (wXR ad ac dA tt sc h) 0 0 0 [(0, .ref (ac 90))] [] from ?_) rfl
    refine head h R0 et l D dA ad ac tt sc G _ _ X ⟨by omega, by omega⟩ (fun h2 P2 x b hQ => ?_)
    obtain ⟨q1, q2, q3⟩ := hQ
    refine tm_aload_n X 2 dX6_product_15 rfl rfl ?_
    refine tm_risGood X (Y_ill q2 g1) ⟨by omega, by omega⟩ (Nat.le_of_ble_eq_true rfl) dX6_product_16 ⟨by omega, by omega⟩ ?_
    refine tm_if_eqT X 88 (rfl) dX6_product_19 rfl ?_
    refine tm_aload_n X 1 dX6_product_88 rfl rfl ?_
    exact tm_rret1 X hR ⟨q1, q2, fun e => by omega, b, _, rfl, List.mem_cons_self ..⟩ dX6_product_89 ⟨by omega, by omega⟩
