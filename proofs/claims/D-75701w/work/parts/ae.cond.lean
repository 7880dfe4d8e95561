/-! Reader: a condition -/
set_option maxRecDepth 100000
section
variable {n o : Nat}
/-- the end of a condition, bad already -/
theorem con_ill {h1 : Hp} {a1 f p : Nat} (ho : o ≤ 6) (R1 : RS h1 n a1 (o + 1) f p) (hf : 0 < f) (l : Launch) (D : va_G) (dA : Nat → ClassId) (ad ac : Nat → Nat) (tt : (Nat → Option Nat) × (Nat → Option Nat) × va_W) (sc : (Nat → Option Nat) × (Nat → Option Nat)) (Gj : Gty) (mc ms : Nat) (X : IsG Gj l cX6_condition 3 "HighSpots$Reader" D dA (39 + 3 * (6 - o)) (1040 + 120 * (6 - o)) mc ms) {Q : Hp → va_W → Option Nat → Prop} (hR : ∀ (v : Value) (w' : va_W), (v = .null ∨ ∃ a, v = .ref a) → RPost ad ac dA tt sc (Q) (some v) w' → RTa Gj cX6_condition w' mc ms v) {P : va_W} {x2 x1 : Option Nat} (hQ : Q (yD h1) P x1) (ce sl : Nat) (hb : ce ≤ mc ∧ sl ≤ ms) : TM Gj () (some ()) (wXP ad ac dA tt sc P h1) ce sl 30 [(2, va_rf x2), (1, va_rf x1), (0, .ref (ac 90))] [] := by
  refine tm_aload_n X 2 dX6_condition_30 rfl rfl ?_
  refine tm_risGood X (Y_ill R1 hf) ⟨by omega, by omega⟩ (Nat.le_of_ble_eq_true rfl) dX6_condition_31 ⟨by omega, by omega⟩ ?_
  refine tm_if_eqT X 80 (rfl) dX6_condition_34 rfl ?_
  refine tm_aload_n X 2 dX6_condition_80 rfl rfl ?_
  refine tm_risGood X (Y_ill R1 hf) ⟨by omega, by omega⟩ (Nat.le_of_ble_eq_true rfl) dX6_condition_81 ⟨by omega, by omega⟩ ?_
  refine tm_if_eqT X 93 (rfl) dX6_condition_84 rfl ?_
  refine tm_aload_n X 2 dX6_condition_93 rfl rfl ?_
  refine tm_dup X dX6_condition_94 rfl ?_
  refine tm_ropen X dX6_condition_95 ?_
  refine tm_iconst X (1 : Int32) dX6_condition_98 (by decide) ?_
  refine tm_isub X dX6_condition_99 ?_
  refine tm_rputopen X dX6_condition_100 ?_
  refine tm_aload_nq X 1 dX6_condition_103 rfl rfl ?_
  exact tm_rret X hR hQ dX6_condition_104 hb
/-- the end of a good one: the bracket must be there -/
theorem con_end {h1 : Hp} {a1 : Nat} (ho : o ≤ 6) (R1 : RS h1 n a1 (o + 1) 0 0) (hc9 : hc (tX h1) n a1 ≠ 124) (l : Launch) (D : va_G) (dA : Nat → ClassId) (ad ac : Nat → Nat) (tt : (Nat → Option Nat) × (Nat → Option Nat) × va_W) (sc : (Nat → Option Nat) × (Nat → Option Nat)) (Gj : Gty) (mc ms : Nat) (X : IsG Gj l cX6_condition 3 "HighSpots$Reader" D dA (39 + 3 * (6 - o)) (1040 + 120 * (6 - o)) mc ms) {Q : Hp → va_W → Option Nat → Prop} (hR : ∀ (v : Value) (w' : va_W), (v = .null ∨ ∃ a, v = .ref a) → RPost ad ac dA tt sc (Q) (some v) w' → RTa Gj cX6_condition w' mc ms v) {P : va_W} {last first : Nat} (hQ : Q (yD (yA (if hc (tX h1) n a1 = 41 then h1 else yF h1 1 a1))) P (some first)) (ce sl : Nat) (hb : ce ≤ mc ∧ sl ≤ ms) : TM Gj () (some ()) (wXP ad ac dA tt sc P h1) ce sl 30 [(2, .ref last), (1, .ref first), (0, .ref (ac 90))] [] := by
  have h256 := hc_lt (t := tX h1) (fun i => oct_lt _) n a1
  refine tm_aload_n X 2 dX6_condition_30 rfl rfl ?_
  refine tm_risGood X (Y_good R1) ⟨by omega, by omega⟩ (Nat.le_of_ble_eq_true rfl) dX6_condition_31 ⟨by omega, by omega⟩ ?_
  refine tm_if_eqF X 80 (by decide) dX6_condition_34 rfl ?_
  refine tm_aload_n X 2 dX6_condition_37 rfl rfl ?_
  refine tm_rhere X (Y_here R1) ⟨by omega, by omega⟩ (Nat.le_of_ble_eq_true rfl) dX6_condition_38 ⟨by omega, by omega⟩ ?_
  refine tm_bipush X (124 : Int32) dX6_condition_41 (by decide) ?_
  refine tm_ic_neT X 80 (fun e => hc9 ((l_eq (N := 124) (c := 124) rfl (by decide) (by omega)).mp e)) dX6_condition_43 rfl ?_
  refine tm_aload_n X 2 dX6_condition_80 rfl rfl ?_
  refine tm_risGood X (Y_good R1) ⟨by omega, by omega⟩ (Nat.le_of_ble_eq_true rfl) dX6_condition_81 ⟨by omega, by omega⟩ ?_
  refine tm_if_eqF X 93 (by decide) dX6_condition_84 rfl ?_
  refine tm_aload_n X 2 dX6_condition_87 rfl rfl ?_
  refine tm_bipush X (41 : Int32) dX6_condition_88 (by decide) ?_
  refine tm_rmust X (Y_must R1 (c := 41) (by decide)) ⟨by omega, by omega⟩ (Nat.le_of_ble_eq_true rfl) dX6_condition_90 ⟨by omega, by omega⟩ ?_
  refine tm_aload_n X 2 dX6_condition_93 rfl rfl ?_
  refine tm_dup X dX6_condition_94 rfl ?_
  refine tm_ropen X dX6_condition_95 ?_
  refine tm_iconst X (1 : Int32) dX6_condition_98 (by decide) ?_
  refine tm_isub X dX6_condition_99 ?_
  refine tm_rputopen X dX6_condition_100 ?_
  refine tm_aload_n X 1 dX6_condition_103 rfl rfl ?_
  exact tm_rret1 X hR hQ dX6_condition_104 hb
end
theorem condL {o : Nat} (ho : o < 6) (HF : PcsT (o + 1)) : ∀ (m : Nat) (t : Nat → Nat) (n a a1 : Nat) (K W : List Nat) (v : Zv) (s0 : Zs) (C1 : List Nat) (G1 : VF), (∀ i, t i < 256) → n ≤ 240 → n - a1 < m → a + 1 < a1 → a1 ≤ n → K.length ≤ a → (∃ g1, Rn t n s0 (5, a1, o + 1, [], K ++ C1, (g1, 13 * uN :: W, v))) → (hc t n a1 = 124 ∨ hc t n a1 = 41) → Sg C1 K.length G1 → C1.length + (a + 1) ≤ a1 → ∃ a' f p C G e, GC t n s0 a o K W v a' f p C G e ∧ a1 ≤ e ∧ ∀ (h1 : Hp), RS h1 n a1 (o + 1) 0 0 → tX h1 = t → ∀ (l : Launch) (D : va_G) (dA : Nat → ClassId) (ad ac : Nat → Nat) (tt : (Nat → Option Nat) × (Nat → Option Nat) × va_W) (sc : (Nat → Option Nat) × (Nat → Option Nat)) (Gj : Gty) (mc ms : Nat) (X : IsG Gj l cX6_condition 3 "HighSpots$Reader" D dA (39 + 3 * (6 - o)) (1040 + 120 * (6 - o)) mc ms) (h0 : Hp) (hE : Ex [90] h0 h1) (hR : ∀ (v : Value) (w' : va_W), (v = .null ∨ ∃ a, v = .ref a) → RPost ad ac dA tt sc (QS h0 n o a' f p (1 + 2 * (6 - o)) G) (some v) w' → RTa Gj cX6_condition w' mc ms v) (R : va_W) (first : Nat) (L0 : SmT) (z : Nat × Nat × VF) (hC : SmC R 1 (2 * (6 - o)) first L0 z G1) (hl : L0.length ≤ a1) (ce sl : Nat) (hb : ce + 4 * (e - a1) ≤ mc ∧ sl + 12 * (e - a1) ≤ ms), TM Gj () (some ()) (wXP ad ac dA tt sc ((z.1, .inr (9, [.ref z.2.1, .int (nI 1), .null])) :: R) h1) ce sl 30 [(2, .ref z.1), (1, .ref first), (0, .ref (ac 90))] [] := by
  intro m
  induction m with
  | zero => intro t n a a1 K W v s0 C1 G1 _ _ hm; omega
  | succ m IH =>
    intro t n a a1 K W v s0 C1 G1 ht hn hm haa ha hK hrun hch hC1 hl1
    have h256 := hc_lt ht n a1
    obtain ⟨g1, hrun⟩ := hrun
    have han : a1 < n := hc_in (t := t) (by omega)
    have w13 : 13 * uN / uN = 13 := rfl
    by_cases go : hc t n a1 = 124
    · have ez : zS t n (5, a1, o + 1, [], K ++ C1, (g1, 13 * uN :: W, v)) = .inr (4, a1 + 1, o + 1, [], K ++ C1 ++ [12 * uN], (1, (12 * uN + (K ++ C1).length) :: 13 * uN :: W, v)) := by
        show zB t n a1 (o + 1) (K ++ C1) (g1, 13 * uN :: W, v) = _
        unfold zB
        dsimp only
        rw [w13, if_neg (by decide), if_neg (fun e => absurd e.1 (by decide)), if_neg (fun e => absurd e.1 (by decide)), if_neg (by omega), if_neg (by omega), if_pos go]
      have run1 := Rn_t hrun (Rn_s ez)
      have hlen : (K ++ C1).length = K.length + C1.length := List.length_append ..
      have hk1 : K.length + C1.length < 100000 := by omega
      have d1 : (12 * uN + (K ++ C1).length) / uN = 12 := by
        rw [hlen]
        unfold uN
        omega
      have d2 : (12 * uN + (K ++ C1).length) % uN = (K ++ C1).length := by
        rw [hlen]
        unfold uN
        omega
      obtain ⟨a2, f2, p2, C2, G2, e2, hG, hCX⟩ := HF t n (a1 + 1) (K ++ C1 ++ [12 * uN]) 1 ((12 * uN + (K ++ C1).length) :: 13 * uN :: W) v ht hn (by omega) (by simp only [List.length_append, List.length_cons, List.length_nil]; omega) ⟨_, _, rfl, Or.inl d1⟩
      have e2n : a1 + 1 < e2 := by
        rcases hG with ⟨g1, g2, g3, g4, g5, g6⟩ | ⟨g1, g2, g3, g4⟩
        · omega
        · omega
      have body : ∀ (h1 : Hp), RS h1 n a1 (o + 1) 0 0 → tX h1 = t → ∀ (l : Launch) (D : va_G) (dA : Nat → ClassId) (ad ac : Nat → Nat) (tt : (Nat → Option Nat) × (Nat → Option Nat) × va_W) (sc : (Nat → Option Nat) × (Nat → Option Nat)) (Gj : Gty) (mc ms : Nat) (X : IsG Gj l cX6_condition 3 "HighSpots$Reader" D dA (39 + 3 * (6 - o)) (1040 + 120 * (6 - o)) mc ms) (R : va_W) (first : Nat) (z : Nat × Nat × VF) (ce sl : Nat) (hb : ce + 1 + (4 * (e2 - (a1 + 1)) - 2) ≤ mc ∧ sl + 3 + (12 * (e2 - (a1 + 1)) - 6) ≤ ms), (∀ h2 P2 x b, QS (yA h1) n (o + 1) a2 f2 p2 (2 + 2 * (6 - (o + 1))) G2 h2 P2 x → TM Gj () (some ()) (wXP ad ac dA tt sc ((b, .inr (9, [va_rf x, .int (nI 1), .null])) :: (z.1, .inr (9, [.ref z.2.1, .int (nI 1), .ref b])) :: (P2 ++ R)) h2) (ce + 1 + (4 * (e2 - (a1 + 1)) - 2)) (sl + 3 + (12 * (e2 - (a1 + 1)) - 6)) 30 [(2, .ref b), (1, .ref first), (0, .ref (ac 90))] []) → TM Gj () (some ()) (wXP ad ac dA tt sc ((z.1, .inr (9, [.ref z.2.1, .int (nI 1), .null])) :: R) h1) ce sl 30 [(2, .ref z.1), (1, .ref first), (0, .ref (ac 90))] [] := by
        intro h1 R1 et l D dA ad ac tt sc Gj mc ms X R first z ce sl hb k
        subst et
        have R2 : RS (yA h1) n (a1 + 1) (o + 1) 0 0 := RS_A R1 (by omega)
        refine tm_aload_n X 2 dX6_condition_30 rfl rfl ?_
        refine tm_risGood X (Y_good R1) ⟨by omega, by omega⟩ (Nat.le_of_ble_eq_true rfl) dX6_condition_31 ⟨by omega, by omega⟩ ?_
        refine tm_if_eqF X 80 (by decide) dX6_condition_34 rfl ?_
        refine tm_aload_n X 2 dX6_condition_37 rfl rfl ?_
        refine tm_rhere X (Y_here R1) ⟨by omega, by omega⟩ (Nat.le_of_ble_eq_true rfl) dX6_condition_38 ⟨by omega, by omega⟩ ?_
        refine tm_bipush X (124 : Int32) dX6_condition_41 (by decide) ?_
        refine tm_ic_neF X 80 (by rw [go]; rfl) dX6_condition_43 rfl ?_
        refine tm_aload_n X 2 dX6_condition_46 rfl rfl ?_
        refine tm_dup X dX6_condition_47 rfl ?_
        refine tm_rat X dX6_condition_48 ?_
        refine tm_iconst X (1 : Int32) dX6_condition_51 (by decide) ?_
        refine tm_iadd X dX6_condition_52 ?_
        refine tm_rputat X dX6_condition_53 ?_
        refine tm_aload_n X 0 dX6_condition_56 rfl rfl ?_
        refine tm_newSome X ⟨by omega, by omega⟩ dX6_condition_57 (fun b => ?_)
        refine tm_dup X dX6_condition_60 rfl ?_
        refine tm_aload_n X 2 dX6_condition_61 rfl rfl ?_
        refine tm_rpieces X (hCX (yA h1) R2 rfl l D dA ad ac tt sc) ⟨by omega, by omega⟩ (Nat.le_of_ble_eq_true rfl) dX6_condition_62 ⟨by omega, by omega⟩ ?_
        intro h2 P2 x hQ
        rw [← List.append_assoc]
        refine tm_iconst X (nI 1) dX6_condition_65 (by decide) ?_
        refine tm_initSome X ⟨by omega, by omega⟩ (Nat.le_of_ble_eq_true rfl) dX6_condition_66 ⟨by omega, by omega⟩ ?_
        refine tm_wP X (P' := (z.1, .inr (9, [.ref z.2.1, .int (nI 1), .null])) :: (b, .inr (9, [va_rf x, .int (nI 1), .null])) :: (P2 ++ R)) (perm_1 _ _ _ _) ?_
        refine tm_putSome X dX6_condition_69 ?_
        refine tm_aload_n X 0 dX6_condition_72 rfl rfl ?_
        refine tm_getSome X dX6_condition_73 ?_
        refine tm_astore_n X [(2, .ref b), (1, .ref first), (0, .ref (ac 90))] dX6_condition_76 rfl (Nat.le_of_ble_eq_true rfl) rfl ?_
        refine tm_goto X 30 dX6_condition_77 rfl ?_
        refine tm_wP X (List.Perm.swap _ _ _) ?_
        exact k h2 P2 x b hQ
      rcases hG with ⟨g1, g2, g3, g4, g5, g6⟩ | ⟨g1, g2, g3, g4⟩
      · subst g1 g2
        rcases g6 with ⟨⟨g', k3⟩, k4, kl, k8⟩ | ⟨k1, k2, k3, k4⟩
        · have run2 := Rn_t run1 k3
          have hkk : (K ++ C1 ++ [12 * uN] ++ C2).length = K.length + C1.length + 1 + C2.length := by simp only [List.length_append, List.length_cons, List.length_nil]
          have hun : K.length + C1.length + 1 + C2.length < uN := by
            unfold uN
            omega
          have ez2 : zS t n (5, a2, o + 1, [], K ++ C1 ++ [12 * uN] ++ C2, (g', (12 * uN + (K ++ C1).length) :: 13 * uN :: W, v)) = .inr (5, a2, o + 1, [], K ++ (C1 ++ (12 * uN + (K.length + C1.length + 1 + C2.length)) :: C2), (1, 13 * uN :: W, v)) := by
            show zB t n a2 (o + 1) (K ++ C1 ++ [12 * uN] ++ C2) (g', (12 * uN + (K ++ C1).length) :: 13 * uN :: W, v) = _
            unfold zB
            dsimp only
            rw [d1, d2, if_neg (by decide), if_neg (fun e => absurd e.1 (by decide)), if_pos ⟨rfl, k8⟩, hkk]
            congr 6
            rw [show K ++ C1 ++ [12 * uN] ++ C2 = (K ++ C1) ++ (12 * uN) :: C2 by simp, set_mid _ _ _ _ _ rfl]
            simp
          have hS2 : Sg C2 (K.length + C1.length + 1) G2 := by
            have := k4
            simp only [List.length_append, List.length_cons, List.length_nil] at this
            exact this
          obtain ⟨a', f, p, C, G, e, hg, he, hwk⟩ := IH t n a a2 K W v s0 (C1 ++ (12 * uN + (K.length + C1.length + 1 + C2.length)) :: C2) (jF (nI 1) G1 G2) ht hn (by omega) (by omega) g4 hK ⟨1, Rn_t run2 (Rn_s ez2)⟩ k8 (Sg_jmp (Or.inr ⟨rfl, rfl⟩) hun hC1 hS2) (by simp only [List.length_append, List.length_cons]; omega)
          refine ⟨a', f, p, C, G, e, hg, by omega, ?_⟩
          intro h1 R1 et l D dA ad ac tt sc Gj mc ms X h0 hE hR R first L0 z hC hl ce sl hb
          refine body h1 R1 et l D dA ad ac tt sc Gj mc ms X R first z ce sl ⟨by omega, by omega⟩ (fun h2 P2 x b hQ => ?_)
          obtain ⟨q1, q2, q3, _⟩ := hQ
          obtain ⟨y, rfl, hy⟩ := q3 rfl
          have E2 : Ex [90] h1 h2 := Ex_tt (Ex_yA (Ex_r _ h1)) q1
          exact hwk h2 q2 (by rw [tX_9 E2 et]) l D dA ad ac tt sc Gj mc ms X h0 (Ex_tt hE E2) hR _ first (L0 ++ [z]) (b, y, G2) (SmC_a (by omega) hC (CDn_m hy (by omega) (fun _ h => h))) (by rw [List.length_append]; simp; omega) _ _ ⟨by omega, by omega⟩
        · refine ⟨a2 + 1, 1, a2, [], fun _ => none, n + 9, GC_b (by decide) (run1 _ k1) (by omega), by omega, ?_⟩
          intro h1 R1 et l D dA ad ac tt sc Gj mc ms X h0 hE hR R first L0 z hC hl ce sl hb
          refine body h1 R1 et l D dA ad ac tt sc Gj mc ms X R first z ce sl ⟨by omega, by omega⟩ (fun h2 P2 x b hQ => ?_)
          obtain ⟨q1, q2, q3, _⟩ := hQ
          obtain ⟨y, rfl, hy⟩ := q3 rfl
          have E2 : Ex [90] h1 h2 := Ex_tt (Ex_yA (Ex_r _ h1)) q1
          have et2 := tX_9 E2 et
          have fin := SmC_e (Or.inr rfl) (SmC_a (b := b) (by omega) hC (CDn_m hy (show _ ≤ 2 * (6 - o) by omega) (fun _ h => h)))
          refine con_end (a1 := a2) (by omega) q2 (by rw [et2]; exact k3) l D dA ad ac tt sc Gj mc ms X hR ?_ _ _ ⟨by omega, by omega⟩
          rw [et2, if_neg k4]
          exact ⟨Ex_tt hE (Ex_yD (Ex_yA (Ex_yF E2))), RS_D (RS_A (RS_F q2 (by decide)) (by omega)), (fun e => by cases e), fun y hy => by cases hy; exact fin.2⟩
      · subst g3
        refine ⟨a2, f2, p2, [], fun _ => none, n + 9, GC_b g1 (run1 _ g2) g4, by omega, ?_⟩
        intro h1 R1 et l D dA ad ac tt sc Gj mc ms X h0 hE hR R first L0 z hC hl ce sl hb
        refine body h1 R1 et l D dA ad ac tt sc Gj mc ms X R first z ce sl ⟨by omega, by omega⟩ (fun h2 P2 x b hQ => ?_)
        obtain ⟨q1, q2, q3, _⟩ := hQ
        have E2 : Ex [90] h1 h2 := Ex_tt (Ex_yA (Ex_r _ h1)) q1
        refine con_ill (x2 := some b) (x1 := some first) (by omega) q2 g1 l D dA ad ac tt sc Gj mc ms X hR ⟨Ex_tt hE (Ex_yD E2), RS_D q2, fun e => by omega, fun y hy => ?_⟩ _ _ ⟨by omega, by omega⟩
        cases hy
        rcases SmC_r hC with e9 | ⟨fs, e9⟩
        · exact ⟨_, by rw [e9]; exact List.mem_cons_of_mem _ (List.mem_cons_self ..)⟩
        · exact ⟨fs, List.mem_cons_of_mem _ (List.mem_cons_of_mem _ (List.mem_append_right _ e9))⟩
    · have c41 : hc t n a1 = 41 := by omega
      have ez2 : zS t n (5, a1, o + 1, [], K ++ C1, (g1, 13 * uN :: W, v)) = .inr (5, a1 + 1, o, [], K ++ C1, (1, W, v)) := by
        show zB t n a1 (o + 1) (K ++ C1) (g1, 13 * uN :: W, v) = _
        unfold zB
        dsimp only
        rw [w13, if_neg (by decide), if_neg (fun e => absurd e.1 (by decide)), if_neg (fun e => absurd e.1 (by decide)), if_pos c41]
        rfl
      refine ⟨a1 + 1, 0, 0, C1, G1, a1 + 1, Or.inl ⟨rfl, rfl, ⟨1, Rn_t hrun (Rn_s ez2)⟩, hC1, by omega, by omega, rfl, by omega⟩, by omega, ?_⟩
      intro h1 R1 et l D dA ad ac tt sc Gj mc ms X h0 hE hR R first L0 z hC hl ce sl hb
      subst et
      have fin := SmC_e (Or.inr rfl) hC
      refine con_end (by omega) R1 go l D dA ad ac tt sc Gj mc ms X hR ?_ _ _ ⟨by omega, by omega⟩
      rw [if_pos c41]
      exact ⟨Ex_tt hE (Ex_yD (Ex_yA (Ex_r _ _))), RS_D (RS_A R1 (by omega)), fun _ => ⟨first, rfl, CDn_m fin.1 (by omega) (fun _ h => h)⟩, fun y hy => by cases hy; exact fin.2⟩
theorem ConT_o {o : Nat} (ho : o ≤ 6) (HF : o < 6 → PcsT (o + 1)) : ConT o := by
  intro t n a K W v s0 ht hn ha hK hc40 h6 hne
  have han : a < n := hc_in (t := t) (by omega)
  by_cases c6 : o = 6
  · subst c6
    refine ⟨a + 1, 5, a, [], fun _ => none, n + 9, GC_b (by decide) (h6 rfl) (by omega), ?_⟩
    intro h R0 et l D dA ad ac tt sc
    subst et
    refine ct_openE (by decide) (Nat.le_of_ble_eq_true rfl) ?_
    intro Gj X _ _ _ hR
    have hR := hR ⟨_, rfl⟩
    refine (show TM Gj () (some ()) (wXR ad ac dA tt sc h) 0 0 0 [(0, .ref (ac 90))] [] from ?_) rfl
    refine tm_w0 X ?_
    have S2 : RS (yA (yO (yF h 5 a))) n (a + 1) 7 5 a := RS_A (RS_O (RS_F R0 (by decide)) (by decide)) (by omega)
    have eo := Y_opens R0
    rw [if_pos rfl] at eo
    refine tm_aload_n X 0 dX6_condition_0 rfl rfl ?_
    refine tm_ropens X (eo) ⟨by omega, by omega⟩ (Nat.le_of_ble_eq_true rfl) dX6_condition_1 ⟨by omega, by omega⟩ ?_
    refine tm_aload_n X 0 dX6_condition_4 rfl rfl ?_
    refine tm_risGood X (Y_ill S2 (by decide)) ⟨by omega, by omega⟩ (Nat.le_of_ble_eq_true rfl) dX6_condition_5 ⟨by omega, by omega⟩ ?_
    refine tm_if_eqT X 26 (rfl) dX6_condition_8 rfl ?_
    refine tm_anull X dX6_condition_26 ?_
    refine tm_astore_nq X [(1, va_rf none), (0, .ref (ac 90))] dX6_condition_27 rfl (Nat.le_of_ble_eq_true rfl) rfl ?_
    refine tm_aload_nq X 0 dX6_condition_28 rfl rfl ?_
    refine tm_astore_nq X [(2, va_rf none), (1, va_rf none), (0, .ref (ac 90))] dX6_condition_29 rfl (Nat.le_of_ble_eq_true rfl) rfl ?_
    exact con_ill (o := 6) (x2 := none) (x1 := none) (by omega) S2 (by decide) l D dA ad ac tt sc Gj _ _ X hR ⟨Ex_yD (Ex_yA (Ex_yO (Ex_yF (Ex_r _ _)))), RS_D S2, (fun e => by cases e), fun y hy => by cases hy⟩ _ _ ⟨by omega, by omega⟩
  · have ho6 : o < 6 := by omega
    have run0 := hne c6
    obtain ⟨a1, f1, p1, C1, G1, e1, hG, hCX⟩ := HF ho6 t n (a + 1) K 1 (13 * uN :: W) v ht hn (by omega) (by omega) ⟨_, _, rfl, Or.inr rfl⟩
    have head : ∀ (h : Hp), RS h n a o 0 0 → tX h = t → ∀ (l : Launch) (D : va_G) (dA : Nat → ClassId) (ad ac : Nat → Nat) (tt : (Nat → Option Nat) × (Nat → Option Nat) × va_W) (sc : (Nat → Option Nat) × (Nat → Option Nat)) (Gj : Gty) (mc ms : Nat) (X : IsG Gj l cX6_condition 3 "HighSpots$Reader" D dA (39 + 3 * (6 - o)) (1040 + 120 * (6 - o)) mc ms) (hb : 1 + (4 * (e1 - (a + 1)) - 2) ≤ mc ∧ 3 + (12 * (e1 - (a + 1)) - 6) ≤ ms), (∀ h2 P2 x b, QS (yA (yO h)) n (o + 1) a1 f1 p1 (2 + 2 * (6 - (o + 1))) G1 h2 P2 x → TM Gj () (some ()) (wXP ad ac dA tt sc ((b, .inr (9, [va_rf x, .int (nI 1), .null])) :: P2) h2) (1 + (4 * (e1 - (a + 1)) - 2)) (3 + (12 * (e1 - (a + 1)) - 6)) 30 [(2, .ref b), (1, .ref b), (0, .ref (ac 90))] []) → TM Gj () (some ()) (wXR ad ac dA tt sc h) 0 0 0 [(0, .ref (ac 90))] [] := by
      intro h R0 et l D dA ad ac tt sc Gj mc ms X hb k
      have eo := Y_opens R0
      rw [if_neg c6] at eo
      have S2 : RS (yA (yO h)) n (a + 1) (o + 1) 0 0 := RS_A (RS_O R0 (by omega)) (by omega)
      refine tm_w0 X ?_
      refine tm_aload_n X 0 dX6_condition_0 rfl rfl ?_
      refine tm_ropens X (eo) ⟨by omega, by omega⟩ (Nat.le_of_ble_eq_true rfl) dX6_condition_1 ⟨by omega, by omega⟩ ?_
      refine tm_aload_n X 0 dX6_condition_4 rfl rfl ?_
      refine tm_risGood X (Y_good S2) ⟨by omega, by omega⟩ (Nat.le_of_ble_eq_true rfl) dX6_condition_5 ⟨by omega, by omega⟩ ?_
      refine tm_if_eqF X 26 (by decide) dX6_condition_8 rfl ?_
      refine tm_newSome X ⟨by omega, by omega⟩ dX6_condition_11 (fun b => ?_)
      refine tm_dup X dX6_condition_14 rfl ?_
      refine tm_aload_n X 0 dX6_condition_15 rfl rfl ?_
      refine tm_rpieces X (hCX (yA (yO h)) S2 et l D dA ad ac tt sc) ⟨by omega, by omega⟩ (Nat.le_of_ble_eq_true rfl) dX6_condition_16 ⟨by omega, by omega⟩ ?_
      intro h2 P2 x hQ
      rw [← List.append_assoc, List.append_nil]
      refine tm_iconst X (nI 1) dX6_condition_19 (by decide) ?_
      refine tm_initSome X ⟨by omega, by omega⟩ (Nat.le_of_ble_eq_true rfl) dX6_condition_20 ⟨by omega, by omega⟩ ?_
      refine tm_goto X 27 dX6_condition_23 rfl ?_
      refine tm_astore_n X [(1, .ref b), (0, .ref (ac 90))] dX6_condition_27 rfl (Nat.le_of_ble_eq_true rfl) rfl ?_
      refine tm_aload_n X 0 dX6_condition_28 rfl rfl ?_
      refine tm_astore_n X [(2, .ref b), (1, .ref b), (0, .ref (ac 90))] dX6_condition_29 rfl (Nat.le_of_ble_eq_true rfl) rfl ?_
      refine tm_wP X (P' := (b, .inr (9, [va_rf x, .int (nI 1), .null])) :: P2) (List.perm_append_comm.trans (List.Perm.refl _)) ?_
      have := k h2 P2 x b hQ
      simpa only [Nat.zero_add] using this
    rcases hG with ⟨g1, g2, g3, g4, g5, g6⟩ | ⟨g1, g2, g3, g4⟩
    · subst g1 g2
      rcases g6 with ⟨⟨g', k3⟩, k4, kl, k8⟩ | ⟨k1, k2, k3, k4⟩
      · obtain ⟨a', f, p, C, G, e, hg, he, hw⟩ := condL ho6 (HF ho6) (n + 1) t n a a1 K W v s0 C1 G1 ht hn (by omega) g3 g4 hK ⟨g', Rn_t run0 k3⟩ k8 k4 kl
        refine ⟨a', f, p, C, G, e, hg, ?_⟩
        intro h R0 et l D dA ad ac tt sc
        refine ct_openE (by decide) (Nat.le_of_ble_eq_true rfl) ?_
        intro Gj X _ _ _ hR
        have hR := hR ⟨_, rfl⟩
        refine (show TM Gj () (some ()) (wXR ad ac dA tt sc h) 0 0 0 [(0, .ref (ac 90))] [] from ?_) rfl
        refine head h R0 et l D dA ad ac tt sc Gj _ _ X ⟨by omega, by omega⟩ (fun h2 P2 x b hQ => ?_)
        obtain ⟨q1, q2, q3, _⟩ := hQ
        obtain ⟨y, rfl, hy⟩ := q3 rfl
        have E2 : Ex [90] h h2 := Ex_tt (Ex_yA (Ex_yO (Ex_r _ h))) q1
        exact hw h2 q2 (by rw [tX_9 E2 et]) l D dA ad ac tt sc Gj _ _ X h E2 hR P2 b [] (b, y, G1) (SmC_1 (CDn_m hy (by omega) (fun _ h => h))) (by simp) _ _ ⟨by omega, by omega⟩
      · refine ⟨a1 + 1, 1, a1, [], fun _ => none, n + 9, GC_b (by decide) (run0 _ k1) (by omega), ?_⟩
        intro h R0 et l D dA ad ac tt sc
        refine ct_openE (by decide) (Nat.le_of_ble_eq_true rfl) ?_
        intro Gj X _ _ _ hR
        have hR := hR ⟨_, rfl⟩
        refine (show TM Gj () (some ()) (wXR ad ac dA tt sc h) 0 0 0 [(0, .ref (ac 90))] [] from ?_) rfl
        refine head h R0 et l D dA ad ac tt sc Gj _ _ X ⟨by omega, by omega⟩ (fun h2 P2 x b hQ => ?_)
        obtain ⟨q1, q2, q3, _⟩ := hQ
        have E2 : Ex [90] h h2 := Ex_tt (Ex_yA (Ex_yO (Ex_r _ h))) q1
        have et2 := tX_9 E2 et
        refine con_end (by omega) q2 (by rw [et2]; exact k3) l D dA ad ac tt sc Gj _ _ X hR ?_ _ _ ⟨by omega, by omega⟩
        rw [et2, if_neg k4]
        exact ⟨Ex_yD (Ex_yA (Ex_yF E2)), RS_D (RS_A (RS_F q2 (by decide)) (by omega)), (fun e => by cases e), fun y hy => by cases hy; exact ⟨_, List.mem_cons_self ..⟩⟩
    · subst g3
      refine ⟨a1, f1, p1, [], fun _ => none, n + 9, GC_b g1 (run0 _ g2) g4, ?_⟩
      intro h R0 et l D dA ad ac tt sc
      refine ct_openE (by decide) (Nat.le_of_ble_eq_true rfl) ?_
      intro Gj X _ _ _ hR
      have hR := hR ⟨_, rfl⟩
      refine (show TM Gj () (some ()) (wXR ad ac dA tt sc h) 0 0 0 [(0, .ref (ac 90))] [] from ?_) rfl
      refine head h R0 et l D dA ad ac tt sc Gj _ _ X ⟨by omega, by omega⟩ (fun h2 P2 x b hQ => ?_)
      obtain ⟨q1, q2, q3, _⟩ := hQ
      have E2 : Ex [90] h h2 := Ex_tt (Ex_yA (Ex_yO (Ex_r _ h))) q1
      exact con_ill (x2 := some b) (x1 := some b) (by omega) q2 g1 l D dA ad ac tt sc Gj _ _ X hR ⟨Ex_yD E2, RS_D q2, fun e => by omega, fun y hy => by cases hy; exact ⟨_, List.mem_cons_self ..⟩⟩ _ _ ⟨by omega, by omega⟩
theorem con_all : ∀ d o, o + d = 6 → ConT o ∧ PieT o ∧ PcsT o
  | 0, o, h => by
    have ho : o = 6 := by omega
    subst ho
    have c := ConT_o (o := 6) (by decide) (fun h => absurd h (by decide))
    have p := PieT_o (o := 6) (by decide) (fun h => absurd h (by decide)) c
    exact ⟨c, p, PcsT_o (by decide) p⟩
  | d + 1, o, h => by
    have ih := con_all d (o + 1) (by omega)
    have c := ConT_o (o := o) (by omega) (fun _ => ih.2.2)
    have p := PieT_o (o := o) (by omega) (fun _ => ih.2.1) c
    exact ⟨c, p, PcsT_o (by omega) p⟩
theorem con_ok {o : Nat} (ho : o ≤ 6) : ConT o := (con_all (6 - o) o (by omega)).1
