/-! tour: the guide reads all -/
set_option maxRecDepth 100000
theorem X_all {t : Nat → Nat} {n D : Nat} (hn : n ≤ 80) (hD9 : D ≤ 10) (IH : AOK t n D) : AOK t n (D + 1) := by
  intro h a c P k hT hk hD S hak h41
  have ht : ∀ i, t i < 256 := fun i => by rw [← hT]; exact oct_lt _
  show R (mX17_all (mX17_one (mX17_rounds (mX17_allR D))) h) _
  unfold mX17_all
  rw [X_isGood S.1, cl1_s, decide_eq_true rfl, bI_t]
  refine fx_R2 90 (fun j x g => (x = 1 ∧ Ex [85, 86] h g ∧ ∃ a' c' P', j ≤ a' ∧ XG g n a' c' P' k.length ∧ a ≤ a' ∧ c ≤ c' ∧ (a' < n ∨ k.length ≠ 0) ∧ (hc t n a' = 41 → ∀ z k', k = z :: k' → z.1 = c') ∧ tG t n a c P k a' c' P' k) ∨ (x = 0 ∧ gQ t n a c P k (10 * (D + 1)) (fun a' => n ≤ a' ∨ hc t n a' = 41) h g)) (by decide) (Or.inl ⟨rfl, Ex_r _ _, a, c, P, Nat.zero_le _, S, Nat.le_refl _, Nat.le_refl _, hak, h41, tG_r⟩) ?_
  rintro j x g k9 hj hI hk9
  rcases hI with ⟨rfl, Eg, a', c', P', hja, G, haa, hcc, hak', h41', hg⟩ | ⟨rfl, hQ⟩
  · rw [i10]
    have hGn := G.2.1
    refine R_c1 (X_one IH (tX_E Eg hT) hk (by omega) G hn hD9 hak' h41') ?_
    rintro g6 ⟨E6, H6⟩
    have E06 := Ex_tt Eg E6
    rcases H6 with ⟨a2, c2, P2, G2, ha2, hc2, _, hg2⟩ | ⟨w, q, a2, S2, hw, ha2, hb2⟩
    · have hh := X_here G2.1
      rw [tX_E E06 hT] at hh
      have h256 := hc_lt ht n a2
      rw [X_isGood G2.1, cl1_s, decide_eq_true rfl, nm_s, nm_s, bI_t, i10, X_isEnd G2.1, cl1_s, hh]
      have fin : (n ≤ a2 ∨ hc t n a2 = 41) → R (k9 0 g6) (gQ t n a c P k (10 * (D + 1)) (fun a' => n ≤ a' ∨ hc t n a' = 41) h) := fun he => hk9 (j + 1) _ _ (by omega) (by omega) (Or.inr ⟨rfl, E06, Or.inl ⟨a2, c2, P2, G2, by omega, by omega, he, tG_t hg hg2⟩⟩)
      by_cases hen : n ≤ a2
      · rw [decide_eq_true hen, bI_t, i10]
        exact fin (Or.inl hen)
      · rw [decide_eq_false hen, bI_f, i00, cl1_s]
        by_cases h41n : hc t n a2 = 41
        · rw [if_pos ((l_eq (N := 41) (c := 41) rfl (by decide) (by omega)).mpr h41n)]
          exact fin (Or.inr h41n)
        · rw [if_neg (fun e => h41n ((l_eq (N := 41) (c := 41) rfl (by decide) (by omega)).mp e))]
          exact hk9 (j + 1) _ _ (by omega) (by omega) (Or.inl ⟨rfl, E06, a2, c2, P2, by omega, G2, by omega, by omega, Or.inl (by omega), fun e => absurd e h41n, tG_t hg hg2⟩)
    · rw [X_isGood S2, cl1_s, decide_eq_false (by omega), nm_s, nm_s, bI_f, i00]
      exact hk9 (j + 1) _ _ (by omega) (by omega) (Or.inr ⟨rfl, E06, Or.inr ⟨w, q, a2, S2, hw, by omega, tG_b hg hb2⟩⟩)
  · rw [i00]
    exact R_some hQ
theorem AOK_all {t : Nat → Nat} {n : Nat} (hn : n ≤ 80) : AOK t n 5 := by
  have h0 : AOK t n 0 := fun h a c P k _ h1 h2 => absurd h2 (by omega)
  exact X_all hn (by decide) (X_all hn (by decide) (X_all hn (by decide) (X_all hn (by decide) (X_all hn (by decide) h0))))
def xE (h0 : Hp) (z : (Nat × Nat) ⊕ (Nat × (Nat → Nat))) (r : Int32 × Hp) : Prop := Ex [85, 86] h0 r.2 ∧ match z with
  | .inl (w, q) => r.1 = -1000 * nI w - nI q ∧ 0 < w ∧ w ≤ 100 ∧ q ≤ 100000
  | .inr (c, P) => c ≤ 48 ∧ r.1 = nI c ∧ ∀ i, i < c → r.2 86 i = nI (P i) ∧ P i < 5
theorem X_gread {h : Hp} {n : Nat} {P : Nat → Nat} (h1 : 1 ≤ n) (hn : n ≤ 80) (S : XG h n 0 0 P 0) : R (mX17_read h) (xE h (tR (tX h) n 82 0 0 P [])) := by
  have fu : ∀ f, tR (tX h) n (82 + f) 0 0 P [] = tR (tX h) n 82 0 0 P [] := tR_fuel (by omega) (by omega)
  unfold mX17_read
  refine R_c1 (AOK_all hn h 0 0 P [] rfl (by decide) (by decide) S (Or.inl (by omega)) (fun _ z k' e => by cases e)) ?_
  rintro g ⟨E, H⟩
  rcases H with ⟨a', c', P', G, _, _, he, f, hg⟩ | ⟨w, q, a', S', hw, ha', f, hb⟩
  · have eZ : tR (tX h) n 82 0 0 P [] = tR (tX h) n (81 + 1) a' c' P' [] := by rw [← fu f, hg 82]
    have eY : tR (tX h) n (81 + 1) a' c' P' [] = if n ≤ a' then (if ([] : List (Nat × Nat × Nat)).length = 0 then .inr (c', P') else .inl (1, a')) else match tS (tX h) n a' c' P' [] with
      | .inl z => .inl z
      | .inr (a', c', P', k') => tR (tX h) n 81 a' c' P' k' := rfl
    rw [eY] at eZ
    clear eY
    have hGa := G.2.1
    rw [X_isGood G.1, cl1_s, decide_eq_true rfl, nm_s, bI_t, i10, X_isEnd G.1, cl1_s]
    by_cases hen : n ≤ a'
    · rw [if_pos hen, if_pos (show ([] : List (Nat × Nat × Nat)).length = 0 from rfl)] at eZ
      rw [decide_eq_true hen, bI_t, i10]
      show R (cl1 (mX15_answer 85 _ _) _) _
      rw [X_answer G.1, cl1_s, if_pos rfl, eZ]
      exact R_some ⟨E, G.2.2.2.1, G.2.2.1, G.2.2.2.2.2⟩
    · have h41 : hc (tX h) n a' = 41 := by
        rcases he with he | he
        · exact absurd he hen
        · exact he
      have eS : tS (tX h) n a' c' P' [] = .inl (1, a') := by
        unfold tS
        rw [if_pos h41]
      rw [if_neg hen, eS] at eZ
      rw [decide_eq_false hen, bI_f, i00, X_place G.1, cl1_s, show mX15_bad 85 g 1 (nI a') = _ from X_bad0 G.1 1 a', cl1_s]
      show R (cl1 (mX15_answer 85 _ _) _) _
      have SF := SC_F G.1 (w := 1) (q := a') (by decide) (by omega)
      rw [X_answer SF, cl1_s, if_neg (by decide), eZ]
      exact R_some ⟨Ex_tt E (Ex_85 (Ex_F _ _ _ _)), rfl, by decide, by decide, by omega⟩
  · have eZ : tR (tX h) n 82 0 0 P [] = .inl (w, q) := by rw [← fu f, hb 82]
    have hS := S'.2.2.2.2.2.2
    rw [X_isGood S', cl1_s, decide_eq_false (by omega), nm_s, bI_f, i00]
    show R (cl1 (mX15_answer 85 _ _) _) _
    rw [X_answer S', cl1_s, if_neg (by omega), eZ]
    exact R_some ⟨E, rfl, hw, hS.1, hS.2⟩
theorem gaf_c {c c' : Nat → Int32} : ∀ n, (∀ i, i < n → c i = c' i) → gaf c n = gaf c' n
  | 0, _ => rfl
  | n + 1, h => by
    show stc (gaf c n) (c n) = stc (gaf c' n) (c' n)
    rw [gaf_c n (fun i hi => h i (by omega)), h n (by omega)]
def tPo (h0 : Hp) (z : (Nat × Nat) ⊕ (Nat × (Nat → Nat))) (r : Int32 × Hp) : Prop := (∀ k, k ∉ [3, 85, 86, 100] → r.2 k = h0 k) ∧ (∀ i, i ≠ 4 → i ≠ 10 → r.2 100 i = h0 100 i) ∧ r.2 100 10 = 0 ∧ match z with
  | .inl (w, q) => r.1 = -1000 * nI w - nI q ∧ r.2 3 = h0 3 ∧ r.2 100 4 = h0 100 4
  | .inr (c, P) => c ≤ 48 ∧ r.1 = nI c ∧ r.2 100 4 = nI c ∧ ∀ k, k < c → r.2 3 k = nI (gaf (fun i => nI (sL (P i))) (k + 1))
theorem X_tour {h : Hp} {n t : Nat} (h1 : 1 ≤ n) (hn : n ≤ 80) (h10 : h 100 10 = nI t) (hnt : n ≤ t) (ht : t ≤ 260) : R (mX0_tour h (nI n)) (tPo h (tR (tX h) n 82 0 0 (fun _ => 0) [])) := by
  have e0 : nI n - 1 = nI (n - 1) := nI_subn (b := 1) h1
  unfold mX0_tour
  rw [X_wi1 (nI n) 80 80 (by decide), e0, nR_s (by omega) (by omega), cl1_s, nm_s, bI_t, i10, h10, if_pos (nI_le (by omega) (by omega)), nm_s, nm_s]
  have C1 : ∀ z, z ≠ 85 → z ≠ 86 → hG0 (u2 h 100 10 0) (nI n) z = u2 h 100 10 0 z := fun z h1 h2 => by
    unfold hG0
    rw [if_neg h1, if_neg h2]
  have C2 : XG (hG0 (u2 h 100 10 0) (nI n)) n 0 0 (fun _ => 0) 0 := ⟨⟨rfl, rfl, rfl, rfl, by omega, by omega, by omega, by omega⟩, by omega, rfl, by omega, rfl, fun i hi => by omega⟩
  have C6 : tX (hG0 (u2 h 100 10 0) (nI n)) = tX h := rfl
  generalize hG0 (u2 h 100 10 0) (nI n) = h5 at *
  have Rd := X_gread h1 hn C2
  rw [C6] at Rd
  generalize tR (tX h) n 82 0 0 (fun _ => 0) [] = Z at *
  refine R_c2 Rd ?_
  rintro r8 h8 ⟨E8, P8⟩
  dsimp only at E8 P8
  have K8 : (∀ z, z ∉ [85, 86, 100] → h8 z = h z) ∧ h8 100 = upd (h 100) 10 0 := by
    refine ⟨fun z hz => ?_, ?_⟩
    · simp only [List.mem_cons, List.not_mem_nil, or_false, not_or] at hz
      rw [E8 z (by simp only [List.mem_cons, List.not_mem_nil, or_false, not_or]; exact ⟨hz.1, hz.2.1⟩), C1 z hz.1 hz.2.1, u2_n hz.2.2]
    · rw [E8 100 (by decide), C1 100 (by decide) (by decide), u2_e]
  cases hZ : Z with
  | inl wq =>
    obtain ⟨w, q⟩ := wq
    rw [hZ] at P8
    obtain ⟨p1, p2, p3, p4⟩ := P8
    have hneg : ¬ (0 : Int32) ≤ r8 := by
      rw [p1, show (-1000 : Int32) = iI (-1000) from rfl, iI_n, iI_n, iI_mul, iI_sub]
      intro e
      have := (iI_le (a := 0) (by omega) (by omega)).mp e
      omega
    rw [if_neg hneg]
    refine R_some ⟨fun z hz => ?_, fun i hi4 hi10 => ?_, ?_, p1, K8.1 3 (by decide), ?_⟩
    · simp only [List.mem_cons, List.not_mem_nil, or_false, not_or] at hz
      exact K8.1 z (by simp only [List.mem_cons, List.not_mem_nil, or_false, not_or]; exact hz.2)
    · dsimp only
      rw [K8.2, upd_n hi10]
    · dsimp only
      rw [K8.2, upd_e]
    · dsimp only
      rw [K8.2, upd_n (by decide)]
  | inr cp =>
    obtain ⟨c, P⟩ := cp
    rw [hZ] at P8
    obtain ⟨p1, p2, p3⟩ := P8
    rw [p2, if_pos (nI_pos' (by omega)), nm_s]
    refine fx_R3 c (fun i x y g => x = nI (gaf (fun i => nI (sL (P i))) i) ∧ y = nI i ∧ Ex [3, 100] h8 g ∧ (∀ i, i ≠ 4 → g 100 i = h8 100 i) ∧ g 100 4 = nI c ∧ ∀ k, k < i → g 3 k = nI (gaf (fun i => nI (sL (P i))) (k + 1))) (by show c < 100000; omega) ⟨rfl, rfl, fun z hz => ?_, fun i hi => ?_, ?_, fun k hk => absurd hk (by omega)⟩ ?_
    · rw [u2_n (fun e => hz (by rw [e]; simp))]
    · rw [u2_e, upd_n hi]
    · rw [u2_e, upd_e]
    · rintro i x y g k9 hi ⟨rfl, rfl, q1, q2, q3, q4⟩ hk9
      by_cases hic : i = c
      · rw [if_pos (nI_le (by omega) (by omega))]
        subst hic
        refine R_some ⟨fun z hz => ?_, fun z hz4 hz10 => ?_, ?_, p1, rfl, q3, q4⟩
        · simp only [List.mem_cons, List.not_mem_nil, or_false, not_or] at hz
          dsimp only
          rw [q1 z (by simp only [List.mem_cons, List.not_mem_nil, or_false, not_or]; exact ⟨hz.1, hz.2.2.2⟩)]
          exact K8.1 z (by simp only [List.mem_cons, List.not_mem_nil, or_false, not_or]; exact hz.2)
        · dsimp only
          rw [q2 z hz4, K8.2, upd_n hz10]
        · dsimp only
          rw [q2 10 (by decide), K8.2, upd_e]
      · have hic' : i < c := by omega
        rw [if_neg (nI_ge hic' (by omega)), ck_s (show i < 48 by omega) (by decide), nI_clamp (by omega)]
        have er : g 86 i = nI (P i) := by
          rw [q1 86 (by decide)]
          exact (p3 i hic').1
        have hP5 := (p3 i hic').2
        rw [er]
        have hgl := gaf_lt (fun i => nI (sL (P i))) i
        have eg1 : gaf (fun i => nI (sL (P i))) (i + 1) = stc (gaf (fun i => nI (sL (P i))) i) (nI (sL (P i))) := rfl
        refine R_let (fun s => (if s = (-1 : Int32) then nI (gaf (fun i => nI (sL (P i))) i) else s) = nI (gaf (fun i => nI (sL (P i))) (i + 1))) ?_ ?_
        · intro s hs
          refine R_let (fun s' => s' = nI (gaf (fun i => nI (sL (P i))) (i + 1))) ?_ ?_
          · rintro _ rfl
            rw [ck_s (show i < 48 by omega) (by decide), nm_s, nI_1]
            refine hk9 (i + 1) _ _ _ (by omega) (by omega) ⟨rfl, rfl, fun z hz => ?_, fun z hz => ?_, ?_, fun z hz => ?_⟩
            · rw [u2_n (fun e => hz (by rw [e]; simp))]
              exact q1 z hz
            · rw [u2_n (by decide)]
              exact q2 z hz
            · rw [u2_n (by decide)]
              exact q3
            · rw [u2_e]
              by_cases e : z = i
              · rw [e, upd_e]
              · rw [upd_n e]
                exact q4 z (by omega)
          · intro kk hkk
            by_cases hs1 : s = (-1 : Int32)
            · rw [if_pos hs1]
              rw [if_pos hs1] at hs
              exact hkk _ hs
            · rw [if_neg hs1]
              rw [if_neg hs1] at hs
              exact hkk _ hs
        · intro kk hkk
          by_cases h4 : P i = 4
          · rw [if_pos ((l_eq (N := 4) (c := 4) rfl (by decide) (by omega)).mpr h4)]
            refine hkk _ ?_
            rw [eg1, h4, stc_4, if_neg (by decide)]
            rfl
          · rw [if_neg (fun e => h4 ((l_eq (N := 4) (c := 4) rfl (by decide) (by omega)).mp e)), ck_s (show i < 48 by omega) (by decide)]
            obtain ⟨v, v1, v2, _⟩ := stp_t ⟨gaf (fun i => nI (sL (P i))) i, hgl⟩ ⟨P i, by omega⟩
            dsimp only at v1 v2
            rw [v1, cl1_s]
            refine hkk _ ?_
            rw [eg1]
            exact v2
section
variable {t t' : Nat → Nat} {n : Nat}
theorem vA_c (e : ∀ i, hc t n i = hc t' n i) (a : Nat) : vA t n a = vA t' n a := by
  unfold vA
  rw [e a]
theorem tS_c (e : ∀ i, hc t n i = hc t' n i) (a c : Nat) (P : Nat → Nat) (k : List (Nat × Nat × Nat)) : tS t n a c P k = tS t' n a c P k := by
  unfold tS
  rw [vA_c e, tms_c e, e a, e (vA t' n a)]
theorem tR_c (e : ∀ i, hc t n i = hc t' n i) : ∀ f a c P k, tR t n f a c P k = tR t' n f a c P k
  | 0, _, _, _, _ => rfl
  | f + 1, a, c, P, k => by
    rw [tR, tR, tS_c e]
    cases tS t' n a c P k with
    | inl z => rfl
    | inr z => 
      obtain ⟨a', c', P', k'⟩ := z
      dsimp only
      rw [tR_c e f]
end
theorem st_tour (LW : LWt) : St_tour (II LW) := by
  intro tt hx hm a0 H
  obtain ⟨⟨t, ht, e1, e2⟩, H3⟩ := H.2.2.1
  cases h1 : nR (a0 - 1) 80 with
  | false =>
    unfold mX0_tour mX5_tour
    rw [X_wi1 a0 80 80 (by decide), M_wi1 a0 80 80 (by decide), h1]
    exact ⟨-1, hx, hm, rfl, rfl, H⟩
  | true =>
    obtain ⟨n0, hn0, _, e0'⟩ := nR_of h1
    have e0 : a0 = nI (n0 + 1) := sub1_of e0'
    clear e0'
    subst e0
    by_cases hnt : n0 + 1 ≤ t
    · obtain ⟨⟨r, x⟩, p1, c1, c2, c3, c4⟩ := X_tour (n := n0 + 1) (by omega) (by omega) e1 hnt ht
      obtain ⟨⟨r', y⟩, p2, d1, d2, d3, d4⟩ := M_tour (n := n0 + 1) (by omega) (by omega) e2 hnt ht
      dsimp only at c1 c2 c3 c4 d1 d2 d3 d4
      have ec : ∀ i, hc (tM hm) (n0 + 1) i = hc (tX hx) (n0 + 1) i := fun i => by
        unfold hc
        by_cases c : i < n0 + 1
        · rw [if_pos c, if_pos c]
          unfold tM tX
          rw [H3 i (by omega)]
        · rw [if_neg c, if_neg c]
      rw [tR_c ec] at d4
      generalize tR (tX hx) (n0 + 1) 82 0 0 (fun _ => 0) [] = Z at *
      have X1 : ∀ z, z ∈ [1, 8, 40, 42, 43, 44, 60, 62, 63, 64, 70, 71] → x z = hx z := fun z hz => c1 z (by
        have a : ∀ z, z ∈ [1, 8, 40, 42, 43, 44, 60, 62, 63, 64, 70, 71] → z ∉ [3, 85, 86, 100] := by decide
        exact a z hz)
      have Y1 : ∀ z, z ∈ [200, 201, 202, 205, 222, 223, 224, 225, 226, 255] → y z = hm z := fun z hz => d1 z (by
        have a : ∀ z, z ∈ [200, 201, 202, 205, 222, 223, 224, 225, 226, 255] → z ∉ [234, 235, 236, 237, 238, 300] := by decide
        exact a z hz)
      have rest : IPath x y → II LW tt x y := fun hP => by
        obtain ⟨J1, J2, J3, J4, J5, J6⟩ := H
        refine ⟨?_, ?_, ?_, hP, ?_, ?_⟩
        · exact BM_c J1 (X1 40 (by decide)) (X1 42 (by decide)) (X1 43 (by decide)) (X1 44 (by decide)) (Y1 200 (by decide)) (Y1 201 (by decide)) (d2 3 (by decide)) (d2 4 (by decide))
        · unfold IOff
          rw [X1 1 (by decide), Y1 202 (by decide)]
          exact J2
        · refine ⟨⟨0, by omega, c3, d3⟩, ?_⟩
          rw [X1 8 (by decide), Y1 205 (by decide)]
          exact J3.2
        · unfold IKept
          rw [c2 11 (by decide) (by decide), d2 56 (by decide), Y1 255 (by decide)]
          rcases J5 with J5 | ⟨a, b, J5⟩
          · exact Or.inl J5
          · exact Or.inr ⟨a, b, BR_c (X1 60 (by decide)) (X1 62 (by decide)) (X1 63 (by decide)) (X1 64 (by decide)) J5⟩
        · rw [X1 70 (by decide), X1 71 (by decide), Y1 222 (by decide), Y1 223 (by decide), Y1 224 (by decide), Y1 225 (by decide), Y1 226 (by decide), d2 15 (by decide)]
          exact J6
      cases hZ : Z with
      | inl wq =>
        obtain ⟨w, q⟩ := wq
        rw [hZ] at c4 d4
        obtain ⟨f1, f2, f3⟩ := c4
        obtain ⟨g1, g2, g3⟩ := d4
        refine ⟨r, x, y, p1, by rw [p2, f1, g1], rest ?_⟩
        unfold IPath
        rw [f2, f3, g2, g3]
        exact H.2.2.2.1
      | inr cp =>
        obtain ⟨c, P⟩ := cp
        rw [hZ] at c4 d4
        obtain ⟨f0, f1, f2, f3⟩ := c4
        obtain ⟨_, g1, g2, g3⟩ := d4
        refine ⟨r, x, y, p1, by rw [p2, f1, g1], rest ⟨c, f0, f2, g2, fun k hk => ?_⟩⟩
        rw [f3 k hk]
        congr 1
        exact gaf_c _ (fun i hi => (g3 i (by omega)).symm)
    · refine ⟨-1, hx, hm, ?_, ?_, H⟩
      · unfold mX0_tour
        rw [X_wi1 _ 80 80 (by decide), h1, cl1_s, nm_s, bI_t, i10, e1, if_neg (nI_leN (by omega) (by omega) hnt)]
      · unfold mX5_tour
        rw [M_wi1 _ 80 80 (by decide), h1, cl1_s, nm_s, bI_t, i10, e2, if_neg (nI_leN (by omega) (by omega) hnt)]
