/-! Reader: a clause, whole -/
set_option maxRecDepth 100000
theorem Ex_3 {a b : Hp} (h : Ex [90] a b) : Ex [90, 91, 92] a b := fun k hk => h k (fun e => hk (by simp at e; rw [e]; simp))
theorem Ex_tl {a b : Hp} {j : Nat} {c : Int32} (h : Ex [90, 91, 92] a b) : Ex [90, 91, 92] a (tl b j c) := fun k hk => by
  unfold tl
  rw [u2_n (fun e => hk (by rw [e]; simp)), u2_n (fun e => hk (by rw [e]; simp))]
  exact h k hk
theorem RS_tl {h : Hp} {n a o f p j : Nat} {c : Int32} (S : RS h n a o f p) : RS (tl h j c) n a o f p := S
theorem tX_3 {a b : Hp} {t : Nat → Nat} (e : Ex [90, 91, 92] a b) (h : tX a = t) : tX b = t := by
  rw [← h]
  funext i
  unfold tX
  rw [e 8 (by decide)]
/-- behind the sum of a clause -/
def MidT (t : Nat → Nat) (n a1 : Nat) (K1 : List Nat) (u : Nat × Nat × Nat) (L : List (Nat × Nat × Nat × Nat)) : Prop := ∃ a' f p C2 G e, ((f = 0 ∧ p = 0 ∧ Rn t n (3, a1, 0, [], K1, (0, [], u, L)) (7, a', 0, [], K1 ++ C2, (0, [], u, L ++ [(u.1, u.2.1, u.2.2, (K1 ++ C2).length)])) ∧ Sg C2 K1.length G ∧ a1 < a' ∧ a' ≤ n ∧ C2.length + a1 ≤ a' ∧ e = a') ∨ (0 < f ∧ Hz t n (3, a1, 0, [], K1, (0, [], u, L)) (.inl (f, p)) ∧ e = n + 9)) ∧ ∀ (h1 : Hp) (j : Nat), RS h1 n a1 0 0 0 → tX h1 = t → h1 91 3 = nI j → j < 16 → ∀ (l : Launch) (D : va_G) (dA : Nat → ClassId) (ad ac : Nat → Nat) (tt : (Nat → Option Nat) × (Nat → Option Nat) × va_W) (sc : (Nat → Option Nat) × (Nat → Option Nat)) (Gj : Gty) (mc ms : Nat) (X : IsG Gj l cX6_clause 4 "HighSpots$Reader" D dA 70 2000 mc ms) (Q : Hp → va_W → (Nat → Option Nat) × (Nat → Option Nat) → Prop) (hV : ∀ w', CPost ad ac dA tt Q none w' → RTv Gj cX6_clause w' mc ms) (P : va_W) (x2 : Option Nat) (c : Int32) (h2 : ∀ y, x2 = some y → ∃ fs, (y, .inr (6, fs)) ∈ P) (hQb : 0 < f → ∀ h' P' sc', Ex [90, 91, 92] h1 h' → (∃ o', RS h' n a' o' f p) → Q h' P' sc') (hQg : f = 0 → ∀ h' P3 y, Ex [90, 91, 92] h1 h' → RS h' n a' 0 0 0 → h' 91 3 = nI (j + 1) → h' 92 = upd (h1 92) j c → CDn 20 P3 y G → Q h' (P3 ++ P) (va_up sc.1 j x2, va_up sc.2 j (some y))) (ce sl : Nat) (hb : ce + 4 * (e - a1) ≤ mc ∧ sl + 12 * (e - a1) ≤ ms), TM Gj () (some ()) (wXP ad ac dA tt sc P h1) ce sl 88 [(1, .int c), (0, .ref (ac 90))] [va_rf x2]
theorem mid_ok {t : Nat → Nat} {n a1 : Nat} {K1 : List Nat} {u : Nat × Nat × Nat} {L : List (Nat × Nat × Nat × Nat)} (ht : ∀ i, t i < 256) (hn : n ≤ 240) (ha : a1 ≤ n) (hK : K1.length ≤ a1) : MidT t n a1 K1 u L := by
  by_cases c40 : hc t n a1 = 40
  · have ez : zS t n (3, a1, 0, [], K1, (0, [], u, L)) = .inr (4, a1 + 1, 1, [], K1, (1, [13 * uN], (u, L))) := by
      show zC t n a1 K1 (0, [], u, L) = _
      unfold zC
      rw [if_pos c40]
    obtain ⟨a', f, p, C2, G, e, hG, hC⟩ := con_ok (o := 0) (by decide) t n a1 K1 [] (u, L) (3, a1, 0, [], K1, (0, [], u, L)) ht hn ha hK c40 (fun e => by cases e) (fun _ => Rn_s ez)
    have fin : ∀ (h1 : Hp) (j : Nat), RS h1 n a1 0 0 0 → tX h1 = t → h1 91 3 = nI j → j < 16 → ∀ (l : Launch) (D : va_G) (dA : Nat → ClassId) (ad ac : Nat → Nat) (tt : (Nat → Option Nat) × (Nat → Option Nat) × va_W) (sc : (Nat → Option Nat) × (Nat → Option Nat)) (Gj : Gty) (mc ms : Nat) (X : IsG Gj l cX6_clause 4 "HighSpots$Reader" D dA 70 2000 mc ms) (Q : Hp → va_W → (Nat → Option Nat) × (Nat → Option Nat) → Prop) (hV : ∀ w', CPost ad ac dA tt Q none w' → RTv Gj cX6_clause w' mc ms) (P : va_W) (x2 : Option Nat) (c : Int32) (h2 : ∀ y, x2 = some y → ∃ fs, (y, .inr (6, fs)) ∈ P) (hQb : 0 < f → ∀ h' P' sc', Ex [90, 91, 92] h1 h' → (∃ o', RS h' n a' o' f p) → Q h' P' sc') (hQg : f = 0 → ∀ h' P3 y, Ex [90, 91, 92] h1 h' → RS h' n a' 0 f p → h' 91 3 = nI (j + 1) → h' 92 = upd (h1 92) j c → CDn 20 P3 y G → Q h' (P3 ++ P) (va_up sc.1 j x2, va_up sc.2 j (some y))) (ce sl : Nat) (hb : ce + 4 * (e - a1) ≤ mc ∧ sl + 12 * (e - a1) ≤ ms), TM Gj () (some ()) (wXP ad ac dA tt sc P h1) ce sl 88 [(1, .int c), (0, .ref (ac 90))] [va_rf x2] := by
      intro h1 j R1 et hm hj l D dA ad ac tt sc Gj mc ms X Q hV P x2 c h2 hQb hQg ce sl hb
      refine cl_mid R1 (by omega) hj hm l D dA ad ac tt sc Gj mc ms X hV h2 (fun _ _ => hC h1 R1 et l D dA ad ac tt sc) (fun e => absurd e (by decide)) (fun _ e => absurd (by rw [et]; exact c40) e) ?_ ⟨by decide, by decide⟩ ce sl ⟨by omega, by omega⟩
      rintro _ h3 P3 x3 ⟨q1, q2, q3, q4⟩
      refine ⟨by rw [q1 91 (by decide)]; exact hm, q4, ?_⟩
      by_cases cf : f = 0
      · obtain ⟨y, rfl, hy⟩ := q3 cf
        refine hQg cf _ P3 y (Ex_tl (Ex_3 q1)) (RS_tl q2) ?_ ?_ (CDn_m hy (by decide) (fun _ h => h))
        · unfold tl
          rw [u2_e, upd_e]
        · unfold tl
          rw [u2_n (by decide), u2_e, q1 92 (by decide)]
      · exact hQb (by omega) _ _ _ (Ex_tl (Ex_3 q1)) ⟨0, RS_tl q2⟩
    rcases hG with ⟨g1, g2, ⟨g', g3⟩, g4, g5, g6, g7, gl⟩ | ⟨g1, g2, g3, g4⟩
    · subst g1 g2
      have ez2 : zS t n (5, a', 0, [], K1 ++ C2, (g', [], (u, L))) = .inr (7, a', 0, [], K1 ++ C2, (0, [], u, L ++ [(u.1, u.2.1, u.2.2, (K1 ++ C2).length)])) := rfl
      exact ⟨a', 0, 0, C2, G, e, Or.inl ⟨rfl, rfl, Rn_t g3 (Rn_s ez2), g4, g5, g6, gl, g7⟩, fin⟩
    · exact ⟨a', f, p, [], G, e, Or.inr ⟨g1, g2, g3⟩, fun h1 j R1 et hm hj l D dA ad ac tt sc Gj mc ms X Q hV P x2 c h2 hQb hQg ce sl hb => fin h1 j R1 et hm hj l D dA ad ac tt sc Gj mc ms X Q hV P x2 c h2 hQb (fun e => by omega) ce sl hb⟩
  · have ez : zS t n (3, a1, 0, [], K1, (0, [], u, L)) = .inl (.inl (1, a1)) := by
      show zC t n a1 K1 (0, [], u, L) = _
      unfold zC
      rw [if_neg c40]
    refine ⟨a1, 1, a1, [], fun _ => none, n + 9, Or.inr ⟨by decide, Hz_s ez, rfl⟩, ?_⟩
    intro h1 j R1 et hm hj l D dA ad ac tt sc Gj mc ms X Q hV P x2 c h2 hQb hQg ce sl hb
    exact cl_mid (fr1 := 0) (lo1 := 0) (mc1 := 0) (ms1 := 0) (Q1 := fun _ _ _ => False) R1 (by omega) hj hm l D dA ad ac tt sc Gj mc ms X hV h2 (fun _ e => absurd (by rw [← et]; exact e) c40) (fun e => absurd e (by decide)) (fun _ _ sc' => hQb (by decide) _ _ _ (Ex_tl (Ex_3 (Ex_yF (Ex_r _ _)))) ⟨0, RS_tl (RS_F R1 (by decide))⟩) (fun _ _ _ _ h => h.elim) ⟨by decide, by decide⟩ ce sl ⟨by omega, by omega⟩
def GK (t : Nat → Nat) (n : Nat) (s0 : Zs) (a : Nat) (K : List Nat) (L : List (Nat × Nat × Nat × Nat)) (a' f p : Nat) (C1 C2 : List Nat) (F G : VF) (e : Nat) : Prop := (f = 0 ∧ p = 0 ∧ ruL (hc t n a) ∧ L.length < 16 ∧ (∃ u', Rn t n s0 (7, a', 0, [], K ++ (C1 ++ C2), (0, [], u', L ++ [(hc t n a, K.length, K.length + C1.length, K.length + C1.length + C2.length)]))) ∧ (hc t n a ≠ 120 → Sg C1 K.length F) ∧ Sg C2 (K.length + C1.length) G ∧ a < a' ∧ a' ≤ n ∧ C1.length + C2.length + a ≤ a' ∧ e = a') ∨ (0 < f ∧ Hz t n s0 (.inl (f, p)) ∧ e = n + 9)
def QK (h : Hp) (sc : (Nat → Option Nat) × (Nat → Option Nat)) (n c j a' f p : Nat) (F G : VF) : Hp → va_W → (Nat → Option Nat) × (Nat → Option Nat) → Prop := fun h' P sc' => Ex [90, 91, 92] h h' ∧ (∃ o', RS h' n a' o' f p) ∧ (f = 0 → h' 91 3 = nI (j + 1) ∧ h' 92 = upd (h 92) j (nI c) ∧ (∃ y, sc'.2 = va_up sc.2 j (some y) ∧ CDn 20 P y G) ∧ ((c = 120 ∧ sc'.1 = va_up sc.1 j none) ∨ (c ≠ 120 ∧ ∃ x fs, sc'.1 = va_up sc.1 j (some x) ∧ SDn 20 P x F ∧ (x, .inr (6, fs)) ∈ P)))
theorem cl_ok {t : Nat → Nat} {n a o0 g : Nat} {S0 K W : List Nat} {u : Nat × Nat × Nat} {L : List (Nat × Nat × Nat × Nat)} (ht : ∀ i, t i < 256) (hn : n ≤ 240) (ha : a ≤ n) (hK : K.length ≤ a) (hL : L.length ≤ 16) : ∃ a' f p C1 C2 F G e, GK t n (0, a, o0, S0, K, (g, W, u, L)) a K L a' f p C1 C2 F G e ∧ ∀ (h : Hp) (o : Nat), RS h n a o 0 0 → tX h = t → h 91 3 = nI L.length → ∀ (l : Launch) (D : va_G) (dA : Nat → ClassId) (ad ac : Nat → Nat) (tt : (Nat → Option Nat) × (Nat → Option Nat) × va_W) (sc : (Nat → Option Nat) × (Nat → Option Nat)), CTE l yX6_clause cX6_clause 4 none D dA 70 2000 (4 * (e - a)) (12 * (e - a)) (wXR ad ac dA tt sc h) [.ref (ac 90)] (CPost ad ac dA tt (QK h sc n (hc t n a) L.length a' f p F G)) := by
  have h256 := hc_lt ht n a
  have open9 : ∀ (h : Hp) (l : Launch) (D : va_G) (dA : Nat → ClassId) (ad ac : Nat → Nat) (tt : (Nat → Option Nat) × (Nat → Option Nat) × va_W) (sc : (Nat → Option Nat) × (Nat → Option Nat)) (e : Nat) (Q : Hp → va_W → (Nat → Option Nat) × (Nat → Option Nat) → Prop), (∀ (Gj : Gty) (X : IsG Gj l cX6_clause 4 "HighSpots$Reader" D dA 70 2000 (4 * (e - a)) (12 * (e - a))) (hV : ∀ w', CPost ad ac dA tt Q none w' → RTv Gj cX6_clause w' (4 * (e - a)) (12 * (e - a))), TM Gj () (some ()) (wXP ad ac dA tt sc [] h) 0 0 0 [(0, .ref (ac 90))] []) → CTE l yX6_clause cX6_clause 4 none D dA 70 2000 (4 * (e - a)) (12 * (e - a)) (wXR ad ac dA tt sc h) [.ref (ac 90)] (CPost ad ac dA tt Q) := by
    intro h l D dA ad ac tt sc e Q k
    refine ct_openE (by decide) (Nat.le_of_ble_eq_true rfl) ?_
    intro Gj X _ _ hV _
    refine (show TM Gj () (some ()) (wXR ad ac dA tt sc h) 0 0 0 [(0, .ref (ac 90))] [] from ?_) rfl
    exact tm_w0 X (k Gj X (hV rfl))
  by_cases cr : ruL (hc t n a)
  · by_cases c16 : L.length = 16
    · have ez : zS t n (0, a, o0, S0, K, (g, W, u, L)) = .inl (.inl (4, a)) := by
        show z0 t n a K (g, W, u, L) = _
        unfold z0
        dsimp only
        rw [if_pos (show hc t n a = 118 ∨ hc t n a = 121 ∨ hc t n a = 120 from cr), if_pos c16]
      refine ⟨a, 4, a, [], [], fun _ => none, fun _ => none, n + 9, Or.inr ⟨by decide, Hz_s ez, rfl⟩, ?_⟩
      intro h o R0 et hm l D dA ad ac tt sc
      subst et
      refine open9 h l D dA ad ac tt sc (n + 9) _ (fun Gj X hV => ?_)
      exact cl_head R0 ha hL hm l D dA ad ac tt sc Gj _ _ X hV (fun e => absurd cr e) (fun _ _ => ⟨Ex_3 (Ex_yF (Ex_r _ _)), ⟨o, RS_F R0 (by decide)⟩, fun e => by cases e⟩) (fun _ e => by omega)
    · have han : a < n := hc_in (t := t) (by unfold ruL at cr; omega)
      by_cases cx : hc t n a = 120
      · have ez : zS t n (0, a, o0, S0, K, (g, W, u, L)) = .inr (3, a + 1, 0, [], K, (0, [], (120, K.length, K.length), L)) := by
          show z0 t n a K (g, W, u, L) = _
          unfold z0
          dsimp only
          rw [if_pos (show hc t n a = 118 ∨ hc t n a = 121 ∨ hc t n a = 120 from cr), if_neg c16, if_pos cx]
        obtain ⟨a', f, p, C2, G, e, hG, hw⟩ := mid_ok (u := (120, K.length, K.length)) (L := L) ht hn (show a + 1 ≤ n by omega) (show K.length ≤ a + 1 by omega)
        have hee : a + 1 ≤ e := by
          rcases hG with ⟨g1, g2, g3, g4, g5, g6, gl, g7⟩ | ⟨g1, g2, g3⟩ <;> omega
        refine ⟨a', f, p, [], C2, fun _ => none, G, e, ?_, ?_⟩
        · rcases hG with ⟨g1, g2, g3, g4, g5, g6, gl, g7⟩ | ⟨g1, g2, g3⟩
          · refine Or.inl ⟨g1, g2, cr, by omega, ⟨(120, K.length, K.length), ?_⟩, fun e => absurd cx e, by rw [List.length_nil, Nat.add_zero]; exact g4, by omega, g6, by rw [List.length_nil]; omega, g7⟩
            have := Rn_t (Rn_s ez) g3
            rw [List.length_append] at this
            rw [cx]
            exact this
          · exact Or.inr ⟨g1, Rn_s ez _ g2, g3⟩
        · intro h o R0 et hm l D dA ad ac tt sc
          have et0 := et
          subst et
          refine open9 h l D dA ad ac tt sc e _ (fun Gj X hV => ?_)
          refine cl_head R0 ha hL hm l D dA ad ac tt sc Gj _ _ X hV (fun e => absurd cr e) (fun _ e => absurd e c16) (fun _ hj => ?_)
          have R2 : RS (u2 (yA h) 90 3 0) n (a + 1) 0 0 0 := by
            have r := RS_A R0 (by omega)
            obtain ⟨e0, e1, e2, e3, e4, hr⟩ := r
            refine ⟨?_, ?_, ?_, ?_, ?_, hr.1, hr.2.1, by omega, by omega⟩
            · rw [u2_e, upd_n (by decide)]; exact e0
            · rw [u2_e, upd_n (by decide)]; exact e1
            · rw [u2_e, upd_e]; rfl
            · rw [u2_e, upd_n (by decide)]; exact e3
            · rw [u2_e, upd_n (by decide)]; exact e4
          have E2 : Ex [90, 91, 92] h (u2 (yA h) 90 3 0) := Ex_3 (Ex_u90 (Ex_yA (Ex_r _ _)))
          refine tm_iload_n X 0 dX6_clause_74 rfl rfl ?_
          refine tm_bipush X (120 : Int32) dX6_clause_75 (by decide) ?_
          refine tm_ic_neF X 84 (by rw [cx]; rfl) dX6_clause_77 rfl ?_
          refine tm_anull X dX6_clause_80 ?_
          refine tm_goto X 88 dX6_clause_81 rfl ?_
          refine hw _ L.length R2 rfl hm hj l D dA ad ac tt sc Gj _ _ X _ hV [] none (nI (hc (tX h) n a)) (fun y hy => by cases hy) (fun hf h' P' sc' E' R' => ⟨Ex_tt E2 E', R', fun e => by omega⟩) (fun hf h' P3 y E' R' k1 k2 k3 => ⟨Ex_tt E2 E', ⟨0, by rw [hf]; rcases hG with ⟨g1, g2, g3, g4, g5, g6, gl, g7⟩ | ⟨g1, g2, g3⟩ <;> first | (rw [g2]; exact R') | omega⟩, fun _ => ⟨k1, k2, ⟨y, rfl, CDn_m k3 (by decide) (fun w hw => List.mem_append_left _ hw)⟩, Or.inl ⟨cx, rfl⟩⟩⟩) _ _ ⟨by omega, by omega⟩
      · have ez : zS t n (0, a, o0, S0, K, (g, W, u, L)) = .inr (1, a + 1, 0, [], K, (0, [], (hc t n a, K.length, 0), L)) := by
          show z0 t n a K (g, W, u, L) = _
          unfold z0
          dsimp only
          rw [if_pos (show hc t n a = 118 ∨ hc t n a = 121 ∨ hc t n a = 120 from cr), if_neg c16, if_neg cx]
        obtain ⟨a1, f1, p1, C1, F, e1, hG1, hC1⟩ := sum_ok (o := 0) (by decide) t n (a + 1) [] K (0, [], (hc t n a, K.length, 0), L) ht hn (by omega) (fun s S' e => by cases e)
        have R2 : ∀ (h : Hp) (o : Nat), RS h n a o 0 0 → RS (u2 (yA h) 90 3 0) n (a + 1) 0 0 0 := fun h o R0 => by
          have r := RS_A R0 (by omega)
          obtain ⟨e0, e1, e2, e3, e4, hr⟩ := r
          refine ⟨?_, ?_, ?_, ?_, ?_, hr.1, hr.2.1, by omega, by omega⟩
          · rw [u2_e, upd_n (by decide)]; exact e0
          · rw [u2_e, upd_n (by decide)]; exact e1
          · rw [u2_e, upd_e]; rfl
          · rw [u2_e, upd_n (by decide)]; exact e3
          · rw [u2_e, upd_n (by decide)]; exact e4
        rcases hG1 with ⟨g1, g2, g3, g4, g5, g6, g7, gl, g8⟩ | ⟨g1, g2, g3, g4⟩
        · subst g1 g2
          have ez2 : zS t n (2, a1, 0, [], K ++ C1, (0, [], (hc t n a, K.length, 0), L)) = .inr (6, a1, 0, [], K ++ C1, (0, [], (hc t n a, K.length, 0), L)) := by
            show zA t n a1 0 [] (K ++ C1) _ = _
            unfold zA
            dsimp only
            rw [if_neg (by omega)]
          have ez3 : zS t n (6, a1, 0, [], K ++ C1, (0, [], (hc t n a, K.length, 0), L)) = .inr (3, a1, 0, [], K ++ C1, (0, [], (hc t n a, K.length, (K ++ C1).length), L)) := rfl
          have run := Rn_t (Rn_s ez) (Rn_t g3 (Rn_t (Rn_s ez2) (Rn_s ez3)))
          obtain ⟨a', f, p, C2, G, e, hG, hw⟩ := mid_ok (u := (hc t n a, K.length, (K ++ C1).length)) (L := L) (K1 := K ++ C1) ht hn g6 (by rw [List.length_append]; omega)
          have hee : a1 ≤ e := by
            rcases hG with ⟨g1, g2, g3, g4, g5, g6, gl, g7⟩ | ⟨g1, g2, g3⟩ <;> omega
          refine ⟨a', f, p, C1, C2, F, G, e, ?_, ?_⟩
          · rcases hG with ⟨j1, j2, j3, j4, j5, j6, jl, j7⟩ | ⟨j1, j2, j3⟩
            · refine Or.inl ⟨j1, j2, cr, by omega, ⟨(hc t n a, K.length, K.length + C1.length), ?_⟩, fun _ => g4 _, by rw [← List.length_append]; exact j4, by omega, j6, by omega, j7⟩
              · have := Rn_t run j3
                rw [List.append_assoc] at this
                have e9 : (K ++ (C1 ++ C2)).length = K.length + C1.length + C2.length := by simp only [List.length_append]; omega
                dsimp only at this
                rw [e9, List.length_append] at this
                exact this
            · exact Or.inr ⟨j1, run _ j2, j3⟩
          · intro h o R0 et hm l D dA ad ac tt sc
            have et0 := et
            subst et
            refine open9 h l D dA ad ac tt sc e _ (fun Gj X hV => ?_)
            refine cl_head R0 ha hL hm l D dA ad ac tt sc Gj _ _ X hV (fun e => absurd cr e) (fun _ e => absurd e c16) (fun _ hj => ?_)
            have E2 : Ex [90] h (u2 (yA h) 90 3 0) := Ex_u90 (Ex_yA (Ex_r _ _))
            refine tm_iload_n X 0 dX6_clause_74 rfl rfl ?_
            refine tm_bipush X (120 : Int32) dX6_clause_75 (by decide) ?_
            refine tm_ic_neT X 84 (fun e => cx ((l_eq (N := 120) (c := 120) rfl (by decide) (by omega)).mp e)) dX6_clause_77 rfl ?_
            refine tm_aload_n X 1 dX6_clause_84 rfl rfl ?_
            refine tm_rsum X (hC1 _ (R2 h o R0) rfl l D dA ad ac tt sc) ⟨by decide, by decide⟩ (Nat.le_of_ble_eq_true rfl) dX6_clause_85 ⟨by omega, by omega⟩ ?_
            rintro h1 P1 _ ⟨q1, q2, q3, x, fs, rfl, hx⟩
            rw [List.append_nil]
            have E3 : Ex [90, 91, 92] h h1 := Ex_3 (Ex_tt E2 q1)
            have hx3 : SDn 15 P1 x F := by
              obtain ⟨y, y1, y2⟩ := q3 rfl
              cases y1
              exact y2
            refine hw h1 L.length q2 (tX_3 E3 rfl) (by rw [q1 91 (by decide)]; exact hm) hj l D dA ad ac tt sc Gj _ _ X _ hV P1 (some x) (nI (hc (tX h) n a)) (fun y hy => by cases hy; exact ⟨fs, hx⟩) (fun hf h' P' sc' E' R' => ⟨Ex_tt E3 E', R', fun e => by omega⟩) (fun hf h' P3 y E' R' k1 k2 k3 => ⟨Ex_tt E3 E', ⟨0, by rw [hf]; rcases hG with ⟨g1, g2, g3, g4, g5, g6, gl, g7⟩ | ⟨g1, g2, g3⟩ <;> first | (rw [g2]; exact R') | omega⟩, fun _ => ⟨k1, by rw [k2, q1 92 (by decide)]; rfl, ⟨y, rfl, CDn_m k3 (by decide) (fun w hw => List.mem_append_left _ hw)⟩, Or.inr ⟨cx, x, fs, rfl, SDn_m hx3 (by decide) (fun w hw => List.mem_append_right _ hw), List.mem_append_right _ hx⟩⟩⟩) _ _ ⟨by omega, by omega⟩
        · refine ⟨a1, f1, p1, [], [], fun _ => none, fun _ => none, n + 9, Or.inr ⟨g1, Rn_s ez _ g2, rfl⟩, ?_⟩
          intro h o R0 et hm l D dA ad ac tt sc
          have et0 := et
          subst et
          refine open9 h l D dA ad ac tt sc (n + 9) _ (fun Gj X hV => ?_)
          refine cl_head R0 ha hL hm l D dA ad ac tt sc Gj _ _ X hV (fun e => absurd cr e) (fun _ e => absurd e c16) (fun _ hj => ?_)
          have E2 : Ex [90] h (u2 (yA h) 90 3 0) := Ex_u90 (Ex_yA (Ex_r _ _))
          refine tm_iload_n X 0 dX6_clause_74 rfl rfl ?_
          refine tm_bipush X (120 : Int32) dX6_clause_75 (by decide) ?_
          refine tm_ic_neT X 84 (fun e => cx ((l_eq (N := 120) (c := 120) rfl (by decide) (by omega)).mp e)) dX6_clause_77 rfl ?_
          refine tm_aload_n X 1 dX6_clause_84 rfl rfl ?_
          refine tm_rsum X (hC1 _ (R2 h o R0) rfl l D dA ad ac tt sc) ⟨by decide, by decide⟩ (Nat.le_of_ble_eq_true rfl) dX6_clause_85 ⟨by omega, by omega⟩ ?_
          rintro h1 P1 _ ⟨q1, q2, q3, x, fs, rfl, hx⟩
          rw [List.append_nil]
          have E3 : Ex [90, 91, 92] h h1 := Ex_3 (Ex_tt E2 q1)
          exact cl_mid (fr1 := 0) (lo1 := 0) (mc1 := 0) (ms1 := 0) (Q1 := fun _ _ _ => False) q2 (by omega) hj (by rw [q1 91 (by decide)]; exact hm) l D dA ad ac tt sc Gj _ _ X hV (fun y hy => by cases hy; exact ⟨fs, hx⟩) (fun e => by omega) (fun _ sc' => ⟨Ex_tl E3, ⟨0, RS_tl q2⟩, fun e => by omega⟩) (fun e => by omega) (fun _ _ _ _ h => h.elim) ⟨by decide, by decide⟩ _ _ ⟨by omega, by omega⟩
  · have ez : zS t n (0, a, o0, S0, K, (g, W, u, L)) = .inl (.inl (1, a)) := by
      show z0 t n a K (g, W, u, L) = _
      unfold z0
      rw [if_neg (show ¬ (hc t n a = 118 ∨ hc t n a = 121 ∨ hc t n a = 120) from cr)]
    refine ⟨a, 1, a, [], [], fun _ => none, fun _ => none, n + 9, Or.inr ⟨by decide, Hz_s ez, rfl⟩, ?_⟩
    intro h o R0 et hm l D dA ad ac tt sc
    subst et
    refine open9 h l D dA ad ac tt sc (n + 9) _ (fun Gj X hV => ?_)
    exact cl_head R0 ha hL hm l D dA ad ac tt sc Gj _ _ X hV (fun _ => ⟨Ex_3 (Ex_yF (Ex_r _ _)), ⟨o, RS_F R0 (by decide)⟩, fun e => by cases e⟩) (fun e => absurd e cr) (fun e => absurd e cr)
