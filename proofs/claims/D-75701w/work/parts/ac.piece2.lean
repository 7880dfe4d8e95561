/-! Reader: a piece, whole -/
set_option maxRecDepth 100000
theorem GC_b {t : Nat → Nat} {n : Nat} {s0 : Zs} {a o : Nat} {K W : List Nat} {v : Zv} {a' f p : Nat} {C : List Nat} {G : VF} (hf : 0 < f) (hz : Hz t n s0 (.inl (f, p))) (ha : a' ≤ n + 2) : GC t n s0 a o K W v a' f p C G (n + 9) := Or.inr ⟨hf, hz, rfl, ha⟩
theorem PieT_o {o : Nat} (ho : o ≤ 6) (IH : o < 6 → PieT (o + 1)) (HC : ConT o) : PieT o := by
  intro t n a K g W v ht hn ha hK
  have h256 := hc_lt ht n a
  by_cases c33 : hc t n a = 33
  · have han : a < n := hc_in (t := t) (by omega)
    by_cases c6 : o = 6
    · subst c6
      have ez : zS t n (4, a, 6, [], K, (g, W, v)) = .inl (.inl (5, a)) := by
        show zP t n a 6 K (g, W, v) = _
        unfold zP
        rw [if_pos c33, if_pos rfl]
      refine ⟨a + 1, 5, a, [], fun _ => none, n + 9, GC_b (by decide) (Hz_s ez) (by omega), ?_⟩
      intro h R0 et l D dA ad ac tt sc
      subst et
      exact pie_6 R0 ha c33 l D dA ad ac tt sc _ _ _ _ ⟨by omega, by omega, by omega, by omega⟩ (fun P y => ⟨Ex_yD (Ex_yA (Ex_yO (Ex_yF (Ex_r _ _)))), RS_D (RS_A (RS_O (RS_F R0 (by decide)) (by decide)) (by omega)), fun e => by cases e⟩)
    · have ez : zS t n (4, a, o, [], K, (g, W, v)) = .inr (4, a + 1, o + 1, [], K, (1, 10 * uN :: W, v)) := by
        show zP t n a o K (g, W, v) = _
        unfold zP
        rw [if_pos c33, if_neg c6]
      obtain ⟨a1, f1, p1, C, G, e, hG, hC⟩ := IH (by omega) t n (a + 1) K 1 (10 * uN :: W) v ht hn (by omega) (by omega)
      rcases hG with ⟨g1, g2, ⟨g', g3⟩, g4, g5, g6, g7, gl⟩ | ⟨g1, g2, g3, g4⟩
      · subst g1 g2
        have ez2 : zS t n (5, a1, o + 1, [], K ++ C, (g', 10 * uN :: W, v)) = .inr (5, a1, o, [], K ++ C ++ [10 * uN], (1, W, v)) := by
          show zB t n a1 (o + 1) (K ++ C) (g', 10 * uN :: W, v) = _
          unfold zB
          dsimp only
          rw [if_pos (show 10 * uN / uN = 10 from rfl)]
          rfl
        have run := Rn_t (Rn_s ez) (Rn_t g3 (Rn_s ez2))
        rw [List.append_assoc] at run
        refine ⟨a1, 0, 0, C ++ [10 * uN], nF G, a1, Or.inl ⟨rfl, rfl, ⟨1, run⟩, Sg_not g4, by omega, g6, rfl, ?_⟩, ?_⟩
        · rw [List.length_append, show ([10 * uN] : List Nat).length = 1 from rfl]
          omega
        · intro h R0 et l D dA ad ac tt sc
          subst et
          refine pie_n R0 han (by omega) c33 l D dA ad ac tt sc _ _ _ _ _ _ _ _ ⟨by omega, by omega, by omega, by omega, by omega, by omega⟩ (hC (yA (yO h)) (RS_A (RS_O R0 (by omega)) (by omega)) rfl l D dA ad ac tt sc) (fun h3 P x y E3 q2 q3 => ?_)
          obtain ⟨z, rfl, hz⟩ := q3 rfl
          refine ⟨Ex_yD E3, RS_D q2, fun _ => ⟨y, rfl, ?_⟩⟩
          have hz' : CDn (1 + 2 * (6 - (o + 1))) (P ++ [(y, .inr (10, [va_rf (some z)]))]) z G := CDn_m hz (Nat.le_refl _) (fun w hw => List.mem_append_left _ hw)
          exact CDn_m (CDn_not (x := y) (List.mem_append_right _ (List.mem_singleton.mpr rfl)) hz') (by omega) (fun _ h => h)
      · subst g3
        refine ⟨a1, f1, p1, [], fun _ => none, n + 9, GC_b g1 (Rn_s ez _ g2) g4, ?_⟩
        intro h R0 et l D dA ad ac tt sc
        subst et
        exact pie_n R0 han (by omega) c33 l D dA ad ac tt sc _ _ _ _ _ _ _ _ ⟨by omega, by omega, by omega, by omega, by omega, by omega⟩ (hC (yA (yO h)) (RS_A (RS_O R0 (by omega)) (by omega)) rfl l D dA ad ac tt sc) (fun h3 P x y E3 q2 q3 => ⟨Ex_yD E3, RS_D q2, fun e => by omega⟩)
  · by_cases c40 : hc t n a = 40
    · obtain ⟨a1, f1, p1, C, G, e, hG, hC⟩ := HC t n a K W v (4, a, o, [], K, (g, W, v)) ht hn ha hK c40 (fun e => by
        subst e
        refine Hz_s ?_
        show zP t n a 6 K (g, W, v) = _
        unfold zP
        rw [if_neg c33, if_pos c40, if_pos rfl]) (fun e => by
        refine Rn_s ?_
        show zP t n a o K (g, W, v) = _
        unfold zP
        rw [if_neg c33, if_pos c40, if_neg e])
      refine ⟨a1, f1, p1, C, G, e, hG, ?_⟩
      intro h R0 et l D dA ad ac tt sc
      subst et
      exact pie_c R0 c40 l D dA ad ac tt sc _ _ _ _ _ _ ⟨by omega, by omega, by omega, by omega⟩ (hC h R0 rfl l D dA ad ac tt sc) (fun h3 P x hq => ⟨hq.1, hq.2.1, hq.2.2.1⟩)
    · have ez : zS t n (4, a, o, [], K, (g, W, v)) = .inr (1, a, o, [], K, (1, W, v)) := by
        show zP t n a o K (g, W, v) = _
        unfold zP
        rw [if_neg c33, if_neg c40]
      obtain ⟨a1, f1, p1, C1, F1, e1, hG, hC⟩ := sum_ok ho t n a [] K (1, W, v) ht hn ha (fun s S' e => by cases e)
      rcases hG with ⟨g1, g2, g3, g4, g5, g6, g7, gl, g8⟩ | ⟨g1, g2, g3, g4⟩
      · subst g1 g2
        have ez2 : zS t n (2, a1, o, [], K ++ C1, (1, W, v)) = .inr (6, a1, o, [], K ++ C1, (1, W, v)) := by
          show zA t n a1 o [] (K ++ C1) (1, W, v) = _
          unfold zA
          dsimp only
          rw [if_neg (by omega)]
        have run := Rn_t (Rn_s ez) (Rn_t g3 (Rn_s ez2))
        by_cases cm : cmS (hc t n a1) = 0
        · have ez3 : zS t n (6, a1, o, [], K ++ C1, (1, W, v)) = .inl (.inl (1, a1)) := by
            show zE t n a1 o (K ++ C1) (1, W, v) = _
            unfold zE
            dsimp only
            rw [if_neg (by decide), if_pos rfl, if_pos cm]
          refine ⟨a1 + 1, 1, a1, [], fun _ => none, n + 9, GC_b (by decide) (run _ (Hz_s ez3)) (by omega), ?_⟩
          intro h R0 et l D dA ad ac tt sc
          subst et
          exact pie_s R0 c33 c40 l D dA ad ac tt sc _ _ _ _ _ _ _ _ 0 0 ⟨by omega, by omega, by omega, by omega, by omega, by omega⟩ (a2 := 0) (f2 := 0) (p2 := 0) (d2 := 0) (F2 := fun _ => none) (by omega) (hC h R0 rfl l D dA ad ac tt sc) (fun _ _ e => absurd cm e) (fun _ => rfl) (fun _ _ _ _ _ e => by omega) (fun h3 P y E3 q2 _ _ => ⟨Ex_yA (Ex_yF E3), RS_A (RS_F q2 (by decide)) (by omega), fun e => by cases e⟩) (fun _ _ _ _ _ _ _ _ _ e => absurd cm e)
        · have cc := cm_c cm
          have han1 : a1 < n := hc_in (t := t) (by omega)
          have c7 : 7 ≤ cmS (hc t n a1) ∧ cmS (hc t n a1) ≤ 9 := by
            rcases cc with e | e | e <;> rw [e] <;> decide
          have ez3 : zS t n (6, a1, o, [], K ++ C1, (1, W, v)) = .inr (1, a1 + 1, o, [], K ++ C1, (cmS (hc t n a1), W, v)) := by
            show zE t n a1 o (K ++ C1) (1, W, v) = _
            unfold zE
            dsimp only
            rw [if_neg (by decide), if_pos rfl, if_neg cm]
          have run2 := Rn_t run (Rn_s ez3)
          obtain ⟨a2, f2, p2, C2, F2, e2, hG2, hC2⟩ := sum_ok ho t n (a1 + 1) [] (K ++ C1) (cmS (hc t n a1), W, v) ht hn (by omega) (fun s S' e => by cases e)
          rcases hG2 with ⟨k1, k2, k3, k4, k5, k6, k7, kl, k8⟩ | ⟨k1, k2, k3, k4⟩
          · subst k1 k2
            have ez4 : zS t n (2, a2, o, [], K ++ C1 ++ C2, (cmS (hc t n a1), W, v)) = .inr (6, a2, o, [], K ++ C1 ++ C2, (cmS (hc t n a1), W, v)) := by
              show zA t n a2 o [] (K ++ C1 ++ C2) (cmS (hc t n a1), W, v) = _
              unfold zA
              dsimp only
              rw [if_neg (by omega)]
            have ez5 : zS t n (6, a2, o, [], K ++ C1 ++ C2, (cmS (hc t n a1), W, v)) = .inr (5, a2, o, [], K ++ C1 ++ C2 ++ [uN * cmS (hc t n a1)], (cmS (hc t n a1), W, v)) := by
              show zE t n a2 o (K ++ C1 ++ C2) (cmS (hc t n a1), W, v) = _
              unfold zE
              dsimp only
              rw [if_neg (by omega), if_neg (by omega)]
            have run3 := Rn_t run2 (Rn_t k3 (Rn_t (Rn_s ez4) (Rn_s ez5)))
            have ea : K ++ C1 ++ C2 ++ [uN * cmS (hc t n a1)] = K ++ (C1 ++ C2 ++ [uN * cmS (hc t n a1)]) := by simp only [List.append_assoc]
            rw [ea] at run3
            refine ⟨a2, 0, 0, C1 ++ C2 ++ [uN * cmS (hc t n a1)], bF (cmS (hc t n a1)) F1 F2, a2, Or.inl ⟨rfl, rfl, ⟨_, run3⟩, Sg_bin ⟨by omega, by omega⟩ (g4 _) (k4 _), by omega, k6, rfl, ?_⟩, ?_⟩
            · simp only [List.length_append, List.length_cons, List.length_nil]
              omega
            · intro h R0 et l D dA ad ac tt sc
              subst et
              refine pie_s R0 c33 c40 l D dA ad ac tt sc _ _ _ _ _ _ _ _ _ _ ⟨by omega, by omega, by omega, by omega, by omega, by omega⟩ (by omega) (hC h R0 rfl l D dA ad ac tt sc) (fun _ _ _ h1 E1 r1 => hC2 h1 r1 (tX_9 E1 rfl) l D dA ad ac tt sc) (fun _ => rfl) (fun _ _ _ _ _ e => by omega) (fun _ _ _ _ _ _ e => absurd e cm) (fun h3 P P2 x x2 y E3 q2 _ _ s1 s2 => ⟨E3, q2, fun _ => ⟨y, rfl, ?_⟩⟩)
              refine CDn_m (CDn_cmp cm (List.mem_append_right _ (List.mem_singleton.mpr rfl)) (SDn_m s1 (by omega) (fun w hw => List.mem_append_left _ (List.mem_append_right _ hw))) (SDn_m (s2 rfl) (by omega) (fun w hw => List.mem_append_left _ (List.mem_append_left _ hw)))) (by omega) (fun _ h => h)
          · subst k3
            refine ⟨a2, f2, p2, [], fun _ => none, n + 9, GC_b k1 (run2 _ k2) (by omega), ?_⟩
            intro h R0 et l D dA ad ac tt sc
            subst et
            exact pie_s R0 c33 c40 l D dA ad ac tt sc _ _ _ _ _ _ _ _ _ _ ⟨by omega, by omega, by omega, by omega, by omega, by omega⟩ (by omega) (hC h R0 rfl l D dA ad ac tt sc) (fun _ _ _ h1 E1 r1 => hC2 h1 r1 (tX_9 E1 rfl) l D dA ad ac tt sc) (fun _ => rfl) (fun _ _ _ _ _ e => by omega) (fun _ _ _ _ _ _ e => absurd e cm) (fun h3 P P2 x x2 y E3 q2 _ _ s1 s2 => ⟨E3, q2, fun e => by omega⟩)
      · subst g3
        refine ⟨a1 + 1, f1, p1, [], fun _ => none, n + 9, GC_b g1 (Rn_s ez _ g2) (by omega), ?_⟩
        intro h R0 et l D dA ad ac tt sc
        subst et
        exact pie_s R0 c33 c40 l D dA ad ac tt sc _ _ _ _ _ _ _ _ 0 0 ⟨by omega, by omega, by omega, by omega, by omega, by omega⟩ (a2 := 0) (f2 := 0) (p2 := 0) (d2 := 0) (F2 := fun _ => none) (by omega) (hC h R0 rfl l D dA ad ac tt sc) (fun e => by omega) (fun e => by omega) (fun h3 P y E3 q2 _ => ⟨Ex_yA E3, RS_A q2 (by omega), fun e => by omega⟩) (fun _ _ _ _ _ e => by omega) (fun _ _ _ _ _ _ _ _ e => by omega)
