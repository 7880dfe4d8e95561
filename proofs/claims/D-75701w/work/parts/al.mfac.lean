/-! law: the reference's factor -/
set_option maxRecDepth 100000
def pdB (x : Nat) : Bool := decide (x / uN ≤ 10)
def onB (x : Nat) : Bool := decide (x / uN = 14 ∨ x / uN = 13 ∨ x / uN = 10)
/-- the reckoning of what may still come -/
def MV (n a o e : Nat) (X K : List Nat) : Prop := n ≤ 240 ∧ a ≤ n ∧ X.length ≤ a ∧ K.length + X.countP pdB + e ≤ a ∧ o = X.countP onB ∧ ∀ w, w ∈ X → (w / uN = 11 ∨ w / uN = 12) → ∃ z, K[w % uN]? = some z ∧ z / uN = w / uN
def MT (h : Hp) (n a o e : Nat) (X K : List Nat) : Prop := MS h n a o X K ∧ MV n a o e X K
def SO (S : List Nat) : Prop := ∀ s, s ∈ S → (2 ≤ s ∧ s ≤ 6) ∨ s = 14
def WO (W : List Nat) : Prop := ∀ w, w ∈ W → 10 ≤ w / uN ∧ w / uN ≤ 13
theorem uN_d (k : Nat) : uN * k / uN = k := Nat.mul_div_cancel_left k (by decide)
section
variable {n a o e x z : Nat} {X K : List Nat}
theorem JW_k (H : ∀ w, w ∈ X → (w / uN = 11 ∨ w / uN = 12) → ∃ z, K[w % uN]? = some z ∧ z / uN = w / uN) : ∀ w, w ∈ X → (w / uN = 11 ∨ w / uN = 12) → ∃ z', (K ++ [z])[w % uN]? = some z' ∧ z' / uN = w / uN := by
  intro w hw hj
  obtain ⟨z', e1, e2⟩ := H w hw hj
  exact ⟨z', by rw [List.getElem?_append_left (List.getElem?_eq_some_iff.mp e1).1]; exact e1, e2⟩
theorem MV_n {a' : Nat} (H : MV n a o e X K) (h1 : a < a') (h2 : a' ≤ n) : MV n a' o e X (K ++ [z]) := by
  obtain ⟨H0, H1, H2, H3, H4, H5⟩ := H
  exact ⟨H0, h2, by omega, by rw [List.length_append]; simp; omega, H4, JW_k H5⟩
theorem MV_p (H : MV n a o e X K) (h1 : a < n) (hx : (x / uN = 11 ∨ x / uN = 12) → False) : MV n (a + 1) (o + if onB x then 1 else 0) e (x :: X) K := by
  obtain ⟨H0, H1, H2, H3, H4, H5⟩ := H
  refine ⟨H0, by omega, by rw [List.length_cons]; omega, ?_, ?_, ?_⟩
  · rw [List.countP_cons]
    split <;> omega
  · rw [List.countP_cons, H4]
  · intro w hw hj
    rcases List.mem_cons.mp hw with e1 | e1
    · exact absurd (e1 ▸ hj) hx
    · exact H5 w e1 hj
theorem MV_tl (H : MV n a o e (x :: X) K) (hp : pdB x = false) : MV n a (o - if onB x then 1 else 0) e X K ∧ (onB x = true → 1 ≤ o) := by
  obtain ⟨H0, H1, H2, H3, H4, H5⟩ := H
  rw [List.length_cons] at H2
  rw [List.countP_cons, hp] at H3
  rw [List.countP_cons] at H4
  refine ⟨⟨H0, H1, by omega, by simp at H3; omega, ?_, fun w hw => H5 w (List.mem_cons_of_mem _ hw)⟩, fun ho => ?_⟩
  · omega
  · rw [ho, if_pos rfl] at H4
    omega
theorem MV_cl (H : MV n a o e (x :: X) K) (hp : pdB x = true) : MV n a (o - if onB x then 1 else 0) e X (K ++ [z]) ∧ (onB x = true → 1 ≤ o) := by
  obtain ⟨H0, H1, H2, H3, H4, H5⟩ := H
  rw [List.length_cons] at H2
  rw [List.countP_cons, hp, if_pos rfl] at H3
  rw [List.countP_cons] at H4
  refine ⟨⟨H0, H1, by omega, by rw [List.length_append]; simp; omega, ?_, JW_k (fun w hw => H5 w (List.mem_cons_of_mem _ hw))⟩, fun ho => ?_⟩
  · omega
  · rw [ho, if_pos rfl] at H4
    omega
theorem MV_a {a' : Nat} (H : MV n a o e X K) (h1 : a ≤ a') (h2 : a' ≤ n) : MV n a' o e X K := by
  obtain ⟨H0, H1, H2, H3, H4, H5⟩ := H
  exact ⟨H0, h2, by omega, by omega, H4, H5⟩
theorem MV_b (H : MV n a o e X K) : n ≤ 240 ∧ a ≤ n ∧ X.length ≤ 240 ∧ K.length + X.countP pdB + e ≤ 240 ∧ K.length + e ≤ 240 := by
  obtain ⟨H0, H1, H2, H3, H4, H5⟩ := H
  exact ⟨H0, H1, by omega, by omega, by omega⟩
end
def MO (t : Nat → Nat) (n : Nat) (s0 : Zs) (h : Hp) (G : Hp → Zs → Prop) (r : Int32 × Hp) : Prop := MFr h r.2 ∧ ((r.1 = 0 ∧ ∃ w p, Hz t n s0 (.inl (w, p)) ∧ r.2 300 9 = -1000 * nI w - nI p) ∨ (r.1 = 1 ∧ ∃ s', Rn t n s0 s' ∧ G r.2 s'))
section
variable {t : Nat → Nat} {n : Nat} {s0 s1 : Zs} {h h1 : Hp} {G G' : Hp → Zs → Prop}
theorem Rn_H {w p : Nat} (H : Rn t n s0 s1) (e : zS t n s1 = .inl (.inl (w, p))) : Hz t n s0 (.inl (w, p)) := H _ (Hz_s e)
theorem MO_c {M : Option (Int32 × Hp)} {f : Int32 → Hp → Option (Int32 × Hp)} (hM : R M (MO t n s1 h1 G)) (hF : MFr h h1) (hr : Rn t n s0 s1) (e0 : ∀ b, f 0 b = some (0, b)) (k : ∀ b s', MFr h b → MFr h1 b → Rn t n s0 s' → G b s' → R (f 1 b) (MO t n s0 h G')) : R (cl2 M f) (MO t n s0 h G') := by
  refine R_c2 hM (fun r b hb => ?_)
  obtain ⟨b1, ⟨b2, w, p, b3, b4⟩ | ⟨b2, s', b3, b4⟩⟩ := hb
  · dsimp only at b1 b2 b4
    subst b2
    rw [e0]
    exact R_some ⟨MFr_t hF b1, Or.inl ⟨rfl, w, p, hr _ b3, b4⟩⟩
  · dsimp only at b1 b2 b4
    subst b2
    exact k b s' (MFr_t hF b1) b1 (Rn_t hr b3) b4
theorem MO_w {a : Nat} {f : Int32 → Hp → Option (Int32 × Hp)} (w : Nat) {wI v : Int32} (ew : nI w = wI) (ev : v = nI a) (hF : MFr h h1) (hz : Hz t n s0 (.inl (w, a))) (e0 : ∀ b, f 0 b = some (0, b)) : R (cl2 (mX5_wrongAt h1 wI v) f) (MO t n s0 h G) := by
  rw [M_wrong, cl2_s, e0]
  refine R_some ⟨MFr_9 _ hF, Or.inl ⟨rfl, w, a, hz, ?_⟩⟩
  dsimp only
  rw [u2_e, upd_e, ← ew, ev]
theorem M_is (t : Nat → Nat) {n i c : Nat} {C : Int32} (hC : nI c = C) (h0 : 0 < c) (hl : c < 2 ^ 31) (ht : ∀ i, t i < 256) : hcM t n i = C ↔ hc t n i = c := by
  have hb := hc_lt ht n i
  unfold hcM hc at *
  by_cases g : i < n
  · rw [if_pos g] at hb ⊢
    rw [if_pos g]
    exact l_eq hC hl (by omega)
  · rw [if_neg g, if_neg g]
    constructor
    · intro e9
      exfalso
      rw [← hC] at e9
      have := congrArg Int32.toInt e9
      rw [nI_toInt hl] at this
      simp at this
    · intro e9
      omega
theorem nmb_q {v' a' : Nat} : ∀ k a v p, nmb t n k a v = .inr (v', a') → v < 10 ^ p → a ≤ a' ∧ (a' ≤ n ∨ a' = a) ∧ v' < 10 ^ (p + k)
  | 0, a, v, p, h, hv => by
    unfold nmb at h
    by_cases c : 48 ≤ hc t n a ∧ hc t n a ≤ 57
    · rw [if_pos c] at h
      cases h
    · rw [if_neg c] at h
      cases h
      exact ⟨Nat.le_refl _, Or.inr rfl, hv⟩
  | k + 1, a, v, p, h, hv => by
    unfold nmb at h
    by_cases c : 48 ≤ hc t n a ∧ hc t n a ≤ 57
    · rw [if_pos c] at h
      have hp : 10 ^ (p + 1) = 10 ^ p * 10 := Nat.pow_succ ..
      obtain ⟨r1, r2, r3⟩ := nmb_q k (a + 1) _ (p + 1) h (by omega)
      have := hc_in (t := t) (n := n) (i := a) (by omega)
      exact ⟨by omega, by omega, by rw [show p + (k + 1) = p + 1 + k by omega]; exact r3⟩
    · rw [if_neg c] at h
      cases h
      refine ⟨Nat.le_refl _, Or.inr rfl, ?_⟩
      exact Nat.lt_of_lt_of_le hv (Nat.pow_le_pow_right (by decide) (by omega))
theorem fac_q {c i : Nat} (h : fac c = some i) : i < 10 ∧ 0 < c := by
  unfold fac at h
  repeat' split at h
  all_goals first | (cases h; omega) | cases h
theorem M_factor {a o e : Nat} {S K W : List Nat} {q : Zq} (et : tM h = t) (T : MT h n a o e (S.map (uN * ·) ++ W) K) : R (mX5_readsFactor h) (MO t n (1, a, o, S, K, q) h (fun g s' => ∃ a' o' S' K', s' = (2, a', o', S', K', q) ∧ a < a' ∧ MT g n a' o' e (S'.map (uN * ·) ++ W) K' ∧ (SO S → SO S'))) := by
  have ht : ∀ i, t i < 256 := fun i => by rw [← et]; exact oct_lt _
  unfold mX5_readsFactor
  refine fx_R1 300 (fun j g => ∃ o' S' K', MFr h g ∧ Rn t n (1, a, o, S, K, q) (1, a + j, o', S', K', q) ∧ MT g n (a + j) o' e (S'.map (uN * ·) ++ W) K' ∧ (SO S → SO S')) (by decide) ⟨o, S, K, MFr_r h, Rn_r, T, fun x => x⟩ ?_
  rintro j g k hj ⟨o', S', K', hF, hR, ⟨T1, T2⟩, hS⟩ hk
  have eg : tM g = t := tM_F hF et
  have hh := M_here T1.1
  have hd := M_digit T1
  have hb := MV_b T2
  have hp7 := T1.1.2.1
  rw [eg] at hh hd
  rw [hh, cl1_s]
  by_cases c : hc t n (a + j) = 91
  · have hin := hc_in (t := t) (n := n) (i := a + j) (by omega)
    rw [if_pos ((M_is t (c := 91) (C := 91) rfl (by decide) (by decide) ht).mpr c)]
    refine R_c2 (M_opens T1 (k := 14) (by omega) (by decide) (by omega)) (fun r b hb2 => ?_)
    obtain ⟨b1, b2⟩ := hb2
    by_cases c6 : o' = 6
    · rw [if_pos c6] at b2
      dsimp only at b1 b2
      rw [b2.1, if_pos rfl, bz_0]
      refine R_some ⟨MFr_t hF b1, Or.inl ⟨rfl, 5, a + j, Rn_H hR ?_, b2.2⟩⟩
      show zF t n (a + j) o' S' K' q = _
      unfold zF
      rw [if_pos c, if_pos c6]
    · rw [if_neg c6] at b2
      dsimp only at b1 b2
      rw [b2.1, if_neg (by decide)]
      refine hk (j + 1) b (by omega) (by omega) ⟨o' + 1, 14 :: S', K', MFr_t hF b1, Rn_t hR (Rn_s ?_), ⟨b2.2, ?_⟩, ?_⟩
      · show zF t n (a + j) o' S' K' q = _
        unfold zF
        rw [if_pos c, if_neg c6]
        rfl
      · exact MV_p T2 hin (x := uN * 14) (by decide)
      · intro x s hs
        rcases List.mem_cons.mp hs with e1 | e1
        · exact Or.inr e1
        · exact hS x s e1
  · rw [if_neg (fun e9 => c ((M_is t (c := 91) (C := 91) rfl (by decide) (by decide) ht).mp e9)), hd, cl1_s]
    by_cases c2 : 48 ≤ hc t n (a + j) ∧ hc t n (a + j) ≤ 57
    · have hin := hc_in (t := t) (n := n) (i := a + j) (by omega)
      rw [decide_eq_true c2, bI_t, i10]
      have hN := M_number T1 (by omega)
      rw [eg] at hN
      cases eN : nmb t n 5 (a + j) 0 with
      | inl p =>
        rw [eN] at hN
        refine R_c2 hN (fun r b hb2 => ?_)
        obtain ⟨b1, b2⟩ := hb2
        dsimp only at b1 b2
        rw [b2.1, if_pos rfl, bz_0]
        refine R_some ⟨MFr_t hF b1, Or.inl ⟨rfl, 2, p, Rn_H hR ?_, b2.2⟩⟩
        show zF t n (a + j) o' S' K' q = _
        unfold zF
        rw [if_neg c, if_pos c2, eN]
      | inr va =>
        obtain ⟨v, a2⟩ := va
        rw [eN] at hN
        obtain ⟨n1, n2, n3⟩ := nmb_q 5 _ _ 0 eN (by decide)
        have n4 : a + j < a2 := by
          have : nmb t n 5 (a + j) 0 = nmb t n 4 (a + j + 1) (10 * 0 + (hc t n (a + j) - 48)) := by
            conv => lhs; unfold nmb
            rw [if_pos c2]
          rw [this] at eN
          have := (nmb_q 4 _ _ 9 eN (by omega)).1
          omega
        have n5 : a2 ≤ n := by omega
        refine R_c2 hN (fun r b hb2 => ?_)
        obtain ⟨b1, b2, b3, b4⟩ := hb2
        dsimp only at b1 b2 b3 b4
        rw [b2, if_neg (by decide), b3]
        obtain ⟨h', e1, e2, e3⟩ := M_notes b4 (op := 0) (v := v) (by unfold uN; omega) (by omega)
        rw [show mX5_notes b 0 (nI v) = _ from e1, cl1_s, bz_1]
        rw [show uN * 0 + v = v by omega] at e2
        refine R_some ⟨MFr_t hF (MFr_t b1 e3), Or.inr ⟨rfl, _, Rn_t hR (Rn_s ?_), a2, o', S', K' ++ [v], rfl, by omega, ⟨e2, MV_n T2 n4 n5⟩, hS⟩⟩
        show zF t n (a + j) o' S' K' q = _
        unfold zF
        rw [if_neg c, if_pos c2, eN]
    · rw [decide_eq_false c2, bI_f, i00, cl1_s, M_fact ht, cl1_s]
      cases ef : fac (hc t n (a + j)) with
      | none =>
        dsimp only
        rw [if_pos rfl]
        refine MO_w (a := a + j) 1 rfl hp7 hF (Rn_H hR ?_) (fun b => rfl)
        show zF t n (a + j) o' S' K' q = _
        unfold zF
        rw [if_neg c, if_neg c2, ef]
      | some i =>
        dsimp only
        obtain ⟨f1, f2⟩ := fac_q ef
        have hin := hc_in (t := t) (n := n) (i := a + j) f2
        rw [if_neg (fun e9 => by
          have := congrArg Int32.toInt e9
          rw [nI_toInt (by omega)] at this
          simp at this)]
        obtain ⟨h', e1, e2, e3⟩ := M_notes T1 (op := 1) (v := i) (by unfold uN; omega) (by omega)
        rw [show mX5_notes g 1 (nI i) = _ from e1, cl1_s, nm_s, e2.1.2.1, nI_1, bz_1]
        rw [show uN * 1 + i = uN + i by omega] at e2
        refine R_some ⟨MFr_u (MFr_t hF e3) (by decide), Or.inr ⟨rfl, _, Rn_t hR (Rn_s ?_), a + j + 1, o', S', K' ++ [uN + i], rfl, by omega, ⟨MS_pos e2 (by omega), MV_n T2 (by omega) hin⟩, hS⟩⟩
        show zF t n (a + j) o' S' K' q = _
        unfold zF
        rw [if_neg c, if_neg c2, ef]
end
