/-! law: the reference's rule -/
set_option maxRecDepth 100000
def MLt (h : Hp) (L : List (Nat × Nat × Nat × Nat)) : Prop := h 300 14 = nI L.length ∧ L.length ≤ 16 ∧ ∀ i z, L[i]? = some z → (h 218 i = nI z.1 ∧ h 219 i = nI z.2.1 ∧ h 220 i = nI z.2.2.1 ∧ h 221 i = nI z.2.2.2) ∧ z.1 < 256 ∧ z.2.1 ≤ 240 ∧ z.2.2.1 ≤ 240 ∧ z.2.2.2 ≤ 240
def MFq (h h' : Hp) : Prop := Ex [216, 217, 218, 219, 220, 221, 300] h h' ∧ ∀ i, i ∉ [7, 9, 10, 11, 12, 13, 14] → h' 300 i = h 300 i
def MOq (t : Nat → Nat) (n : Nat) (s0 : Zs) (h : Hp) (G : Hp → Zs → Prop) (r : Int32 × Hp) : Prop := MFq h r.2 ∧ ((r.1 = 0 ∧ ∃ w p, Hz t n s0 (.inl (w, p)) ∧ r.2 300 9 = -1000 * nI w - nI p) ∨ (r.1 = 1 ∧ ∃ s', Rn t n s0 s' ∧ G r.2 s'))
theorem MFq_r (h : Hp) : MFq h h := ⟨Ex_r _ _, fun _ _ => rfl⟩
theorem MFq_t {a b c : Hp} (h1 : MFq a b) (h2 : MFq b c) : MFq a c := ⟨Ex_tt h1.1 h2.1, fun i hi => (h2.2 i hi).trans (h1.2 i hi)⟩
theorem MFq_f {a b : Hp} (h1 : MFr a b) : MFq a b := ⟨fun q hq => h1.1 q (fun e => hq (by simp at e ⊢; omega)), fun i hi => h1.2 i (fun e => hi (by simp at e ⊢; omega))⟩
theorem MFq_u {h0 h : Hp} {i : Nat} {v : Int32} (H : MFq h0 h) (hi : i ∈ [7, 9, 10, 11, 12, 13, 14]) : MFq h0 (u2 h 300 i v) := by
  refine ⟨fun q hq => ?_, fun k hk => ?_⟩
  · rw [u2_n (fun e => hq (by rw [e]; simp))]
    exact H.1 q hq
  · rw [u2_e, upd_n (fun e => hk (by rw [e]; exact hi))]
    exact H.2 k hk
theorem MFq_v {h0 h : Hp} {q i : Nat} {v : Int32} (H : MFq h0 h) (hq : q ∈ [218, 219, 220, 221]) : MFq h0 (u2 h q i v) := by
  have hq2 : 218 ≤ q ∧ q ≤ 221 := by simp at hq; omega
  refine ⟨fun r hr => ?_, fun k hk => ?_⟩
  · rw [u2_n (fun e => hr (by rw [e]; simp; omega))]
    exact H.1 r hr
  · rw [u2_n (by omega)]
    exact H.2 k hk
theorem tM_q {a b : Hp} {t : Nat → Nat} (e : MFq a b) (h : tM a = t) : tM b = t := by
  rw [← h]
  funext i
  unfold tM
  rw [e.1 205 (by decide)]
theorem MS_c {h h' : Hp} {n a o : Nat} {W K : List Nat} (S : MS h n a o W K) (e6 : h' 216 = h 216) (e7 : h' 217 = h 217) (e3 : ∀ i, i ∈ [7, 8, 11, 12, 13] → h' 300 i = h 300 i) : MS h' n a o W K := by
  obtain ⟨S1, S2, S3, S4, S5, S6, S7, S8⟩ := S
  refine ⟨⟨by rw [e3 8 (by decide)]; exact S1.1, by rw [e3 7 (by decide)]; exact S1.2.1, S1.2.2⟩, by rw [e3 11 (by decide)]; exact S2, S3, by rw [e3 13 (by decide)]; exact S4, by rw [e7]; exact S5, by rw [e3 12 (by decide)]; exact S6, by rw [e6]; exact S7, S8⟩
theorem MS_f {h : Hp} {n a o q i : Nat} {v : Int32} {W K : List Nat} (S : MS h n a o W K) (hq : 218 ≤ q ∧ q ≤ 221) : MS (u2 h q i v) n a o W K := MS_c S (u2_n (by omega)) (u2_n (by omega)) (fun i _ => by rw [u2_n (by omega)])
section
variable {t : Nat → Nat} {n a : Nat} {h : Hp} {K : List Nat}
/-- before a rule: place and codes -/
def MSk (h : Hp) (n a : Nat) (K : List Nat) : Prop := MC h n a ∧ h 300 12 = nI K.length ∧ (∀ i z, K[i]? = some z → h 216 i = nI z ∧ z < 20 * uN) ∧ K.length ≤ 260
theorem MSk_m {o : Nat} {W : List Nat} (S : MS h n a o W K) : MSk h n a K := ⟨S.1, S.2.2.2.2.2.1, S.2.2.2.2.2.2.1, S.2.2.2.2.2.2.2.2⟩
theorem MSk_f {q i : Nat} {v : Int32} (S : MSk h n a K) (hq : 218 ≤ q ∧ q ≤ 221) : MSk (u2 h q i v) n a K := by
  obtain ⟨S1, S2, S3, S4⟩ := S
  exact ⟨⟨by rw [u2_n (by omega)]; exact S1.1, by rw [u2_n (by omega)]; exact S1.2.1, S1.2.2⟩, by rw [u2_n (by omega)]; exact S2, by rw [u2_n (by omega)]; exact S3, S4⟩
theorem MSk_pos {a' : Nat} (S : MSk h n a K) (ha : a' ≤ 100000) : MSk (u2 h 300 7 (nI a')) n a' K := by
  obtain ⟨S1, S2, S3, S4⟩ := S
  exact ⟨MC_a S1 ha, by rw [u2_e, upd_n (by decide)]; exact S2, by rw [u2_n (by decide)]; exact S3, S4⟩
theorem MSk_s (S : MSk h n a K) : MS (u2 (u2 h 300 11 (nI 0)) 300 13 0) n a 0 [] K := by
  obtain ⟨S1, S2, S3, S4⟩ := S
  refine ⟨MC_u (MC_u S1 (by omega) (by omega)) (by omega) (by omega), by rw [u2_e, upd_n (by decide), u2_e, upd_e], by omega, by rw [u2_e, upd_e]; rfl, fun i z hz => by simp at hz, by rw [u2_e, upd_n (by decide), u2_e, upd_n (by decide)]; exact S2, by rw [u2_n (by decide), u2_n (by decide)]; exact S3, by simp, S4⟩
theorem M_rule {o0 x0 : Nat} {S0 W0 : List Nat} {u0 : Nat × Nat × Nat} {L : List (Nat × Nat × Nat × Nat)} (et : tM h = t) (T1 : MSk h n a K) (T2 : MV n a 0 0 [] K) (ML : MLt h L) : R (mX5_readsRule h) (MOq t n (0, a, o0, S0, K, (x0, W0, u0, L)) h (fun g s' => ∃ a' K' u' z, s' = (7, a', 0, [], K', (0, [], u', L ++ [z])) ∧ a < a' ∧ MS g n a' 0 [] K' ∧ MV n a' 0 0 [] K' ∧ MLt g (L ++ [z]))) := by
  have ht : ∀ i, t i < 256 := fun i => by rw [← et]; exact oct_lt _
  have hh := M_here T1.1
  have hp7 := T1.1.2.1
  have hb := MV_b T2
  obtain ⟨L1, L2, L3⟩ := ML
  rw [et] at hh
  unfold mX5_readsRule
  rw [hh, cl1_s]
  by_cases c : hc t n a = 118 ∨ hc t n a = 121 ∨ hc t n a = 120
  · have hin := hc_in (t := t) (n := n) (i := a) (by omega)
    have h256 := hc_lt ht n a
    have ehc : hcM t n a = nI (hc t n a) := hcM_pos (by omega)
    rw [ehc]
    have hsel : ∀ (A B : Option (Int32 × Hp)), (if nI (hc t n a) = 118 then A else if nI (hc t n a) = 121 then A else if nI (hc t n a) = 120 then A else B) = A := by
      intro A B
      rcases c with e | e | e <;> rw [e] <;> rfl
    rw [nm_s, hsel, L1]
    by_cases c16 : L.length = 16
    · rw [if_pos (by rw [c16]; rfl)]
      rw [M_wrong, cl2_s, bz_0]
      refine R_some ⟨MFq_u (MFq_r h) (by decide), Or.inl ⟨rfl, 4, a, Hz_s ?_, ?_⟩⟩
      · show z0 t n a K _ = _
        unfold z0
        rw [if_pos c, if_pos c16]
      · dsimp only
        rw [u2_e, upd_e, hp7]
        rfl
    · rw [if_neg (fun e9 => c16 ((l_eq (N := 16) (c := 16) rfl (by decide) (by omega)).mp e9)), ck_s (by omega) (by decide), nI_clamp (by omega), nm_s, nm_s]
      have s1 := MSk_f (q := 218) (i := L.length) (v := nI (hc t n a)) T1 (by omega)
      rw [s1.1.2.1, nI_1]
      have s2 := MSk_pos s1 (a' := a + 1) (by omega)
      have e14 : u2 (u2 h 218 L.length (nI (hc t n a))) 300 7 (nI (a + 1)) 300 14 = nI L.length := L1
      rw [e14, ck_s (by omega) (by decide), nI_clamp (by omega), nm_s, s2.2.1, nm_s, nm_s, nm_s]
      have s3 := MSk_s (MSk_f (q := 219) (i := L.length) (v := nI K.length) s2 (by omega))
      have hF3 := MFq_u (i := 13) (v := 0) (MFq_u (i := 11) (v := nI 0) (MFq_v (q := 219) (i := L.length) (v := nI K.length) (MFq_u (i := 7) (v := nI (a + 1)) (MFq_v (q := 218) (i := L.length) (v := nI (hc t n a)) (MFq_r h) (by decide)) (by decide)) (by decide)) (by decide)) (by decide)
      have v3 := MV_a T2 (a' := a + 1) (by omega) (by omega)
      have w1 : u2 (u2 (u2 (u2 (u2 h 218 L.length (nI (hc t n a))) 300 7 (nI (a + 1))) 219 L.length (nI K.length)) 300 11 (nI 0)) 300 13 0 218 = upd (h 218) L.length (nI (hc t n a)) := rfl
      have w2 : u2 (u2 (u2 (u2 (u2 h 218 L.length (nI (hc t n a))) 300 7 (nI (a + 1))) 219 L.length (nI K.length)) 300 11 (nI 0)) 300 13 0 219 = upd (h 219) L.length (nI K.length) := rfl
      have w3 : u2 (u2 (u2 (u2 (u2 h 218 L.length (nI (hc t n a))) 300 7 (nI (a + 1))) 219 L.length (nI K.length)) 300 11 (nI 0)) 300 13 0 220 = h 220 := rfl
      have w4 : u2 (u2 (u2 (u2 (u2 h 218 L.length (nI (hc t n a))) 300 7 (nI (a + 1))) 219 L.length (nI K.length)) 300 11 (nI 0)) 300 13 0 221 = h 221 := rfl
      have w5 : u2 (u2 (u2 (u2 (u2 h 218 L.length (nI (hc t n a))) 300 7 (nI (a + 1))) 219 L.length (nI K.length)) 300 11 (nI 0)) 300 13 0 300 14 = nI L.length := L1
      rw [show (0 : Int32) = nI 0 from rfl] at *
      generalize u2 (u2 (u2 (u2 (u2 h 218 L.length (nI (hc t n a))) 300 7 (nI (a + 1))) 219 L.length (nI K.length)) 300 11 (nI 0)) 300 13 (nI 0) = g at *
      have hgo : ∀ g2 a2 K2 x2, MFr g g2 → a < a2 → MS g2 n a2 0 [] K2 → MV n a2 0 0 [] K2 → Rn t n (0, a, o0, S0, K, (x0, W0, u0, L)) (3, a2, 0, [], K2, (x2, [], (hc t n a, K.length, K2.length), L)) → R (ck (g2 300 14) 16 (nm (u2 g2 220 (g2 300 14).toNatClampNeg (g2 300 12)) (fun h9 => cl2 (mX5_readsCondition h9) (fun r11 h12 => if r11 = nI 0 then bz (nI 0) (some (nI 0, h12)) else ck (h12 300 14) 16 (nm (u2 h12 221 (h12 300 14).toNatClampNeg (h12 300 12)) (fun h13 => nm (u2 h13 300 14 (h13 300 14 + 1)) (fun h14 => bz 1 (some (1, h14))))))))) (MOq t n (0, a, o0, S0, K, (x0, W0, u0, L)) h (fun g s' => ∃ a' K' u' z, s' = (7, a', 0, [], K', (0, [], u', L ++ [z])) ∧ a < a' ∧ MS g n a' 0 [] K' ∧ MV n a' 0 0 [] K' ∧ MLt g (L ++ [z]))) := by
        intro g2 a2 K2 x2 hF ha2 S2 V2 hR
        have hb2 := MV_b V2
        have e2 : g2 300 14 = nI L.length := by rw [hF.2 14 (by decide)]; exact w5
        rw [e2, ck_s (by omega) (by decide), nI_clamp (by omega), nm_s, S2.2.2.2.2.2.1]
        have S3 := MS_f (q := 220) (i := L.length) (v := nI K2.length) S2 (by omega)
        have hFq := MFq_v (q := 220) (i := L.length) (v := nI K2.length) (MFq_t hF3 (MFq_f hF)) (by decide)
        refine R_c2 (M_condition (o0 := 0) (S0 := []) (W0 := []) (x0 := x2) (f := hc t n a) (b := K.length) (m := K2.length) (L := L) (tM_q hFq et) S3 V2) (fun r g4 hg4 => ?_)
        obtain ⟨b1, ⟨b2, w, p, b3, b4⟩ | ⟨b2, s', b3, a5, K5, b5, b6, b7, b8⟩⟩ := hg4
        · dsimp only at b1 b2 b4
          rw [b2]
          rw [if_pos (show (0 : Int32) = nI 0 from rfl)]
          exact R_some ⟨MFq_t hFq (MFq_f b1), Or.inl ⟨rfl, w, p, hR _ b3, b4⟩⟩
        · dsimp only at b1 b2 b7
          subst b5
          have hb5 := MV_b b8
          have e4 : g4 300 14 = nI L.length := by rw [b1.2 14 (by decide), u2_n (by decide)]; exact e2
          rw [b2, if_neg (show ¬ (1 : Int32) = nI 0 by decide), e4, ck_s (by omega) (by decide), nI_clamp (by omega), nm_s, b7.2.2.2.2.2.1, nm_s, bz_1]
          rw [show u2 g4 221 L.length (nI K5.length) 300 14 = nI L.length from e4, nI_1]
          refine R_some ⟨MFq_u (MFq_v (MFq_t hFq (MFq_f b1)) (by decide)) (by decide), Or.inr ⟨rfl, _, Rn_t hR b3, a5, K5, _, (hc t n a, K.length, K2.length, K5.length), rfl, by omega, ?_, b8, ?_⟩⟩
          · dsimp only
            exact MS_c (MS_f (q := 221) (i := L.length) (v := nI K5.length) b7 (by omega)) (u2_n (by decide)) (u2_n (by decide)) (fun i hi => by rw [u2_e, upd_n (fun e9 => by subst e9; simp at hi)])
          · refine ⟨by dsimp only; rw [u2_e, upd_e, List.length_append]; rfl, by rw [List.length_append]; simp; omega, fun i z hz => ?_⟩
            dsimp only
            have f8 : u2 (u2 g4 221 L.length (nI K5.length)) 300 14 (nI (L.length + 1)) 218 = upd (h 218) L.length (nI (hc t n a)) := by
              rw [u2_n (by decide), u2_n (by decide), b1.1 218 (by decide), u2_n (by decide), hF.1 218 (by decide)]
              exact w1
            have f9 : u2 (u2 g4 221 L.length (nI K5.length)) 300 14 (nI (L.length + 1)) 219 = upd (h 219) L.length (nI K.length) := by
              rw [u2_n (by decide), u2_n (by decide), b1.1 219 (by decide), u2_n (by decide), hF.1 219 (by decide)]
              exact w2
            have f10 : u2 (u2 g4 221 L.length (nI K5.length)) 300 14 (nI (L.length + 1)) 220 = upd (h 220) L.length (nI K2.length) := by
              rw [u2_n (by decide), u2_n (by decide), b1.1 220 (by decide), u2_e, hF.1 220 (by decide), w3]
            have f11 : u2 (u2 g4 221 L.length (nI K5.length)) 300 14 (nI (L.length + 1)) 221 = upd (h 221) L.length (nI K5.length) := by
              rw [u2_n (by decide), u2_e, b1.1 221 (by decide), u2_n (by decide), hF.1 221 (by decide), w4]
            rw [f8, f9, f10, f11]
            by_cases ci : i < L.length
            · rw [List.getElem?_append_left ci] at hz
              rw [upd_n (by omega), upd_n (by omega), upd_n (by omega), upd_n (by omega)]
              exact L3 i z hz
            · rw [List.getElem?_append_right (by omega)] at hz
              have hi : i = L.length := by
                have := (List.getElem?_eq_some_iff.mp hz).1
                simp at this
                omega
              subst hi
              rw [Nat.sub_self] at hz
              cases hz
              rw [upd_e, upd_e, upd_e, upd_e]
              exact ⟨⟨rfl, rfl, rfl, rfl⟩, h256, by dsimp only; omega, by dsimp only; omega, by dsimp only; omega⟩
      by_cases c120 : hc t n a = 120
      · rw [if_pos (by rw [c120]; rfl)]
        refine hgo g (a + 1) K 0 (MFr_r g) (by omega) s3 v3 (Rn_s ?_)
        show z0 t n a K _ = _
        unfold z0
        dsimp only
        rw [if_pos c, if_neg c16, if_pos c120, c120]
      · rw [if_neg (fun e9 => c120 ((l_eq (N := 120) (c := 120) rfl (by decide) (by omega)).mp e9))]
        refine R_c2 (M_sum (q := (0, [], (hc t n a, K.length, 0), L)) (tM_q hF3 et) (fun w hw => by cases hw) ⟨s3, v3⟩) (fun r g4 hg4 => ?_)
        have hR0 : Rn t n (0, a, o0, S0, K, (x0, W0, u0, L)) (1, a + 1, 0, [], K, (0, [], (hc t n a, K.length, 0), L)) := by
          refine Rn_s ?_
          show z0 t n a K _ = _
          unfold z0
          dsimp only
          rw [if_pos c, if_neg c16, if_neg c120]
        obtain ⟨b1, ⟨b2, w, p, b3, b4⟩ | ⟨b2, s', b3, a5, K5, b5, b6, b7, b8⟩⟩ := hg4
        · dsimp only at b1 b2 b4
          rw [b2, if_pos (show (0 : Int32) = nI 0 from rfl)]
          exact R_some ⟨MFq_t hF3 (MFq_f b1), Or.inl ⟨rfl, w, p, hR0 _ b3, b4⟩⟩
        · dsimp only at b1 b2 b7
          subst b5
          rw [b2, if_neg (show ¬ (1 : Int32) = nI 0 by decide)]
          refine hgo g4 a5 K5 0 b1 (by omega) b7 b8 (Rn_t hR0 (Rn_t b3 (Rn_s ?_)))
          rfl
  · have hsel : ∀ (A B : Option (Int32 × Hp)), (if hcM t n a = 118 then A else if hcM t n a = 121 then A else if hcM t n a = 120 then A else B) = B := by
      intro A B
      rw [if_neg (fun e9 => c (Or.inl ((M_is t (c := 118) (C := 118) rfl (by decide) (by decide) ht).mp e9))), if_neg (fun e9 => c (Or.inr (Or.inl ((M_is t (c := 121) (C := 121) rfl (by decide) (by decide) ht).mp e9)))), if_neg (fun e9 => c (Or.inr (Or.inr ((M_is t (c := 120) (C := 120) rfl (by decide) (by decide) ht).mp e9))))]
    rw [nm_s, hsel, M_wrong, cl2_s, bz_0]
    refine R_some ⟨MFq_u (MFq_r h) (by decide), Or.inl ⟨rfl, 1, a, Hz_s ?_, ?_⟩⟩
    · show z0 t n a K _ = _
      unfold z0
      rw [if_neg c]
    · dsimp only
      rw [u2_e, upd_e, hp7]
      rfl
end
