/-! law: the reference's words -/
set_option maxRecDepth 100000
/-- the reference's reader stands so: place, open, waits (the last first), codes -/
def MS (h : Hp) (n a o : Nat) (W K : List Nat) : Prop := MC h n a ∧ h 300 11 = nI o ∧ o ≤ 6 ∧ h 300 13 = nI W.length ∧ (∀ i z, W.reverse[i]? = some z → h 217 i = nI z ∧ z < 20 * uN) ∧ h 300 12 = nI K.length ∧ (∀ i z, K[i]? = some z → h 216 i = nI z ∧ z < 20 * uN) ∧ W.length ≤ 260 ∧ K.length ≤ 260
def MFr (h h' : Hp) : Prop := Ex [216, 217, 300] h h' ∧ ∀ i, i ∉ [7, 9, 10, 11, 12, 13] → h' 300 i = h 300 i
theorem MFr_r (h : Hp) : MFr h h := ⟨Ex_r _ _, fun _ _ => rfl⟩
theorem MFr_t {a b c : Hp} (h1 : MFr a b) (h2 : MFr b c) : MFr a c := ⟨Ex_tt h1.1 h2.1, fun i hi => (h2.2 i hi).trans (h1.2 i hi)⟩
theorem MFr_u {h0 h : Hp} {i : Nat} {v : Int32} (H : MFr h0 h) (hi : i ∈ [7, 9, 10, 11, 12, 13]) : MFr h0 (u2 h 300 i v) := by
  refine ⟨fun q hq => ?_, fun k hk => ?_⟩
  · rw [u2_n (fun e => hq (by rw [e]; simp))]
    exact H.1 q hq
  · rw [u2_e, upd_n (fun e => hk (by rw [e]; exact hi))]
    exact H.2 k hk
theorem MFr_v {h0 h : Hp} {q i : Nat} {v : Int32} (H : MFr h0 h) (hq : q = 216 ∨ q = 217) : MFr h0 (u2 h q i v) := by
  refine ⟨fun r hr => ?_, fun k hk => ?_⟩
  · rw [u2_n (fun e => hr (by rw [e]; rcases hq with e2 | e2 <;> rw [e2] <;> simp))]
    exact H.1 r hr
  · rw [u2_n (by omega)]
    exact H.2 k hk
theorem tM_F {a b : Hp} {t : Nat → Nat} (e : MFr a b) (h : tM a = t) : tM b = t := by
  rw [← h]
  funext i
  unfold tM
  rw [e.1 205 (by decide)]
section
variable {h : Hp} {n a o : Nat} {W K : List Nat}
theorem MS_pos (S : MS h n a o W K) {a' : Nat} (ha : a' ≤ 100000) : MS (u2 h 300 7 (nI a')) n a' o W K := by
  obtain ⟨S1, S2, S3, S4, S5, S6, S7, S8⟩ := S
  refine ⟨MC_a S1 ha, ?_, S3, ?_, fun i z hz => ?_, ?_, fun i z hz => ?_, S8⟩
  · rw [u2_e, upd_n (by decide)]; exact S2
  · rw [u2_e, upd_n (by decide)]; exact S4
  · rw [u2_n (by decide)]; exact S5 i z hz
  · rw [u2_e, upd_n (by decide)]; exact S6
  · rw [u2_n (by decide)]; exact S7 i z hz
theorem MS_10 (S : MS h n a o W K) (v : Int32) {i : Nat} (hi : i = 9 ∨ i = 10) : MS (u2 h 300 i v) n a o W K := by
  obtain ⟨S1, S2, S3, S4, S5, S6, S7, S8⟩ := S
  refine ⟨MC_u S1 (by omega) (by omega), ?_, S3, ?_, fun i z hz => ?_, ?_, fun i z hz => ?_, S8⟩
  · rw [u2_e, upd_n (by omega)]; exact S2
  · rw [u2_e, upd_n (by omega)]; exact S4
  · rw [u2_n (by decide)]; exact S5 i z hz
  · rw [u2_e, upd_n (by omega)]; exact S6
  · rw [u2_n (by decide)]; exact S7 i z hz
theorem MS_opn (S : MS h n a o W K) {o' : Nat} (ho : o' ≤ 6) : MS (u2 h 300 11 (nI o')) n a o' W K := by
  obtain ⟨S1, S2, S3, S4, S5, S6, S7, S8⟩ := S
  refine ⟨MC_u S1 (by omega) (by omega), ?_, ho, ?_, fun i z hz => ?_, ?_, fun i z hz => ?_, S8⟩
  · rw [u2_e, upd_e]
  · rw [u2_e, upd_n (by omega)]; exact S4
  · rw [u2_n (by decide)]; exact S5 i z hz
  · rw [u2_e, upd_n (by omega)]; exact S6
  · rw [u2_n (by decide)]; exact S7 i z hz
theorem MS_pop {w : Nat} (S : MS h n a o (w :: W) K) : MS (u2 h 300 13 (h 300 13 - 1)) n a o W K := by
  obtain ⟨S1, S2, S3, S4, S5, S6, S7, S8⟩ := S
  rw [List.length_cons] at S4 S8
  refine ⟨MC_u S1 (by omega) (by omega), ?_, S3, ?_, fun i z hz => ?_, ?_, fun i z hz => ?_, by omega, S8.2⟩
  · rw [u2_e, upd_n (by omega)]; exact S2
  · rw [u2_e, upd_e, S4, nI_pred]
  · rw [u2_n (by decide)]
    refine S5 i z ?_
    rw [List.reverse_cons, List.getElem?_append_left (List.getElem?_eq_some_iff.mp hz).1]
    exact hz
  · rw [u2_e, upd_n (by omega)]; exact S6
  · rw [u2_n (by decide)]; exact S7 i z hz
theorem MS_push {w : Nat} (S : MS h n a o W K) (hw : w < 20 * uN) (hl : W.length < 260) : MS (u2 (u2 h 217 W.length (nI w)) 300 13 (u2 h 217 W.length (nI w) 300 13 + 1)) n a o (w :: W) K := by
  obtain ⟨S1, S2, S3, S4, S5, S6, S7, S8⟩ := S
  refine ⟨MC_u ⟨by rw [u2_n (by decide)]; exact S1.1, by rw [u2_n (by decide)]; exact S1.2.1, S1.2.2⟩ (by omega) (by omega), ?_, S3, ?_, fun i z hz => ?_, ?_, fun i z hz => ?_, by rw [List.length_cons]; omega, S8.2⟩
  · rw [u2_e, upd_n (by omega), u2_n (by decide)]; exact S2
  · rw [u2_e, upd_e, u2_n (by decide), S4, nI_1, List.length_cons]
  · rw [u2_n (by decide), u2_e]
    rw [List.reverse_cons] at hz
    by_cases ci : i < W.reverse.length
    · rw [List.getElem?_append_left ci] at hz
      rw [List.length_reverse] at ci
      rw [upd_n (by omega)]
      exact S5 i z hz
    · rw [List.getElem?_append_right (by omega)] at hz
      have hi : i = W.length := by
        have := (List.getElem?_eq_some_iff.mp hz).1
        simp at this ci
        omega
      subst hi
      rw [List.length_reverse, Nat.sub_self] at hz
      cases hz
      rw [upd_e]
      exact ⟨rfl, hw⟩
  · rw [u2_e, upd_n (by omega), u2_n (by decide)]; exact S6
  · rw [u2_n (by decide), u2_n (by decide)]; exact S7 i z hz
theorem MS_note {z9 : Nat} (S : MS h n a o W K) (hw : z9 < 20 * uN) (hl : K.length < 260) : MS (u2 (u2 h 216 K.length (nI z9)) 300 12 (u2 h 216 K.length (nI z9) 300 12 + 1)) n a o W (K ++ [z9]) := by
  obtain ⟨S1, S2, S3, S4, S5, S6, S7, S8⟩ := S
  refine ⟨MC_u ⟨by rw [u2_n (by decide)]; exact S1.1, by rw [u2_n (by decide)]; exact S1.2.1, S1.2.2⟩ (by omega) (by omega), ?_, S3, ?_, fun i z hz => ?_, ?_, fun i z hz => ?_, S8.1, by rw [List.length_append]; simp; omega⟩
  · rw [u2_e, upd_n (by omega), u2_n (by decide)]; exact S2
  · rw [u2_e, upd_n (by omega), u2_n (by decide)]; exact S4
  · rw [u2_n (by decide), u2_n (by decide)]; exact S5 i z hz
  · rw [u2_e, upd_e, u2_n (by decide), S6, nI_1, List.length_append]
    rfl
  · rw [u2_n (by decide), u2_e]
    by_cases ci : i < K.length
    · rw [List.getElem?_append_left ci] at hz
      rw [upd_n (by omega)]
      exact S7 i z hz
    · rw [List.getElem?_append_right (by omega)] at hz
      have hi : i = K.length := by
        have := (List.getElem?_eq_some_iff.mp hz).1
        simp at this
        omega
      subst hi
      rw [Nat.sub_self] at hz
      cases hz
      rw [upd_e]
      exact ⟨rfl, hw⟩
theorem M_notes (S : MS h n a o W K) {op v : Nat} (hw : uN * op + v < 20 * uN) (hl : K.length < 260) : ∃ h', mX5_notes h (nI op) (nI v) = some h' ∧ MS h' n a o W (K ++ [uN * op + v]) ∧ MFr h h' := by
  refine ⟨_, ?_, MS_note S hw hl, MFr_u (MFr_v (MFr_r h) (Or.inl rfl)) (by decide)⟩
  unfold mX5_notes
  rw [S.2.2.2.2.2.1, ck_s hl (by decide), nI_clamp (by omega), nm_s, nm_s, show (1048576 : Int32) * nI op + nI v = nI (uN * op + v) by
    rw [show (1048576 : Int32) = nI uN from rfl, nI_ml, nI_add]]
def topv : List Nat → Int32
  | [] => -1
  | w :: _ => nI (w / uN)
theorem M_top (S : MS h n a o W K) : mX5_waitTop h = some (topv W) := by
  obtain ⟨S1, S2, S3, S4, S5, S6, S7, S8⟩ := S
  unfold mX5_waitTop
  rw [nm_s, S4]
  cases W with
  | nil =>
    rw [if_pos (show nI ([] : List Nat).length = 0 from rfl)]
    rfl
  | cons w W =>
    rw [List.length_cons] at S8 ⊢
    obtain ⟨e1, e2⟩ := S5 W.length w (by rw [List.reverse_cons, List.getElem?_append_right (by simp), List.length_reverse, Nat.sub_self]; rfl)
    unfold uN at e2
    rw [if_neg (nI_ne0 (by omega) (by omega)), nm_s, nI_pred]
    rw [ck_s (show W.length < 260 by omega) (by decide), nI_clamp (by omega), e1]
    show some (nI w / nI 1048576) = _
    rw [pk_div (by omega) (by decide) (by decide)]
    rfl
/-- what a fault leaves; what a good end leaves -/
def MBad (t : Nat → Nat) (n : Nat) (s0 : Zs) (r : Int32 × Hp) : Prop := r.1 = 0 ∧ ∃ w p, Hz t n s0 (.inl (w, p)) ∧ r.2 300 9 = -1000 * nI w - nI p
theorem M_wr (S : MS h n a o W K) (w p : Nat) : mX5_wrongAt h (nI w) (nI p) = some (0, u2 h 300 9 (-1000 * nI w - nI p)) := M_wrong h _ _
theorem MFr_9 {h0 h : Hp} (v : Int32) (H : MFr h0 h) : MFr h0 (u2 h 300 9 v) := MFr_u H (by decide)
theorem M_opens (S : MS h n a o W K) (ha : a < 1000) {k : Nat} (hk : k < 20) (hl : W.length < 260) : R (mX5_opens h (nI k)) (fun r => MFr h r.2 ∧ if o = 6 then r.1 = 0 ∧ r.2 300 9 = -1000 * nI 5 - nI a else r.1 = 1 ∧ MS r.2 n (a + 1) (o + 1) (uN * k :: W) K) := by
  have ho := S.2.2.1
  unfold mX5_opens
  rw [S.2.1]
  by_cases c : o = 6
  · rw [if_pos (by rw [c]; rfl), S.1.2.1, show mX5_wrongAt h 5 (nI a) = _ from M_wr S 5 a, cl2_s, bz_0]
    refine R_some ⟨MFr_9 _ (MFr_r h), ?_⟩
    rw [if_pos c]
    refine ⟨rfl, ?_⟩
    dsimp only
    rw [u2_e, upd_e]
  · rw [if_neg (fun e => c ((l_eq (N := 6) (c := 6) rfl (by decide) (by omega)).mp e)), nm_s, nI_1]
    have S2 := MS_opn S (o' := o + 1) (by omega)
    rw [S2.2.2.2.1, ck_s hl (by decide), nI_clamp (by omega), nm_s, nm_s, nm_s, bz_1, show (1048576 : Int32) * nI k = nI (uN * k) by
      rw [show (1048576 : Int32) = nI uN from rfl, nI_ml]]
    have S3 := MS_push S2 (w := uN * k) (by unfold uN; omega) hl
    have e7 : u2 (u2 (u2 h 300 11 (nI (o + 1))) 217 W.length (nI (uN * k))) 300 13 (u2 (u2 h 300 11 (nI (o + 1))) 217 W.length (nI (uN * k)) 300 13 + 1) 300 7 = nI a := S3.1.2.1
    have S4 := MS_pos S3 (a' := a + 1) (by omega)
    rw [e7, nI_1]
    refine R_some ⟨MFr_u (MFr_u (MFr_v (MFr_u (MFr_r h) (by decide)) (Or.inr rfl)) (by decide)) (by decide), ?_⟩
    rw [if_neg c]
    exact ⟨rfl, S4⟩
theorem M_digit (S : MS h n a o W K) : mX5_isDigit h = some (bI (decide (48 ≤ hc (tM h) n a ∧ hc (tM h) n a ≤ 57))) := by
  have ht : ∀ i, tM h i < 256 := fun i => oct_lt _
  have h256 := hc_lt ht n a
  unfold mX5_isDigit
  rw [M_here S.1, cl1_s]
  simp only [nm_q, cl1_q, bz_0, bz_1]
  unfold hcM hc at *
  by_cases g : a < n
  · rw [if_pos g] at h256 ⊢
    rw [if_pos g]
    generalize tM h a = c at h256
    by_cases c1 : c < 48
    · rw [if_pos (l_lt (N := 48) (c := 48) rfl c1 (by decide)), decide_eq_false (by omega)]
      rfl
    · rw [if_neg (l_nlt (N := 48) (c := 48) rfl (by omega) (by omega))]
      by_cases c2 : 57 < c
      · rw [if_pos (l_gt (N := 57) (c := 57) rfl c2 (by omega)), decide_eq_false (by omega)]
        rfl
      · rw [if_neg (l_ngt (N := 57) (c := 57) rfl (by omega) (by decide)), decide_eq_true (by omega)]
        rfl
  · rw [if_neg g, if_neg g, if_pos (by decide), decide_eq_false (by omega)]
    rfl
theorem M_number (S : MS h n a o W K) (ha : a ≤ 1000) : R (mX5_readsNumber h) (fun r => MFr h r.2 ∧ match nmb (tM h) n 5 a 0 with
    | .inl p => r.1 = 0 ∧ r.2 300 9 = -1000 * nI 2 - nI p
    | .inr (v, a') => r.1 = 1 ∧ r.2 300 10 = nI v ∧ MS r.2 n a' o W K) := by
  have ht : ∀ i, tM h i < 256 := fun i => oct_lt _
  generalize hZ : nmb (tM h) n 5 a 0 = Z
  unfold mX5_readsNumber
  rw [nm_s, nm_s, S.1.2.1]
  refine fx_R1 6 (fun j g => j ≤ 5 ∧ MFr h g ∧ ∃ v, g 300 10 = nI v ∧ v < 10 ^ j ∧ MS g n (a + j) o W K ∧ nmb (tM h) n (5 - j) (a + j) v = Z) (by decide) ⟨by decide, MFr_u (MFr_r h) (by decide), 0, by rw [u2_e, upd_e]; rfl, by decide, MS_10 S _ (Or.inr rfl), hZ⟩ ?_
  rintro j g k hj ⟨hj5, hE, v, e10, hvj, T, hN⟩ hk
  have hd := M_digit T
  have hh := M_here T.1
  rw [tM_F hE rfl] at hd hh
  rw [hd, cl1_s]
  by_cases c : 48 ≤ hc (tM h) n (a + j) ∧ hc (tM h) n (a + j) ≤ 57
  · rw [decide_eq_true c, bI_t, i10, T.1.2.1, show (5 : Int32) = nI 5 from rfl, nI_add]
    by_cases c5 : j = 5
    · subst c5
      rw [if_pos rfl, show mX5_wrongAt g 2 (nI (a + 5)) = _ from M_wr T 2 (a + 5), cl2_s, bz_0]
      refine R_some ⟨MFr_9 _ hE, ?_⟩
      have hZ2 : Z = .inl (a + 5) := by
        rw [← hN]
        show nmb (tM h) n 0 (a + 5) v = _
        unfold nmb
        rw [if_pos c]
      rw [hZ2]
      refine ⟨rfl, ?_⟩
      dsimp only
      rw [u2_e, upd_e]
    · rw [if_neg (fun e => c5 (by have := (nI_eq (by omega) (by omega)).mp e; omega)), hh, cl1_s, nm_s, hcM_pos (by omega), e10]
      have e11 : (10 : Int32) * nI v + nI (hc (tM h) n (a + j)) - 48 = nI (10 * v + (hc (tM h) n (a + j) - 48)) := by
        rw [show (10 : Int32) = nI 10 from rfl, nI_ml, nI_add, show (48 : Int32) = nI 48 from rfl, nI_subn (by omega)]
        congr 1
        omega
      have hp : 10 ^ (j + 1) = 10 ^ j * 10 := Nat.pow_succ ..
      rw [e11, nm_s, show u2 g 300 10 (nI (10 * v + (hc (tM h) n (a + j) - 48))) 300 7 = nI (a + j) from T.1.2.1, nI_1]
      refine hk (j + 1) _ (by omega) (by omega) ⟨by omega, MFr_u (MFr_u hE (by decide)) (by decide), 10 * v + (hc (tM h) n (a + j) - 48), by rw [u2_e, upd_n (by decide), u2_e, upd_e], by omega, (show MS _ n (a + j + 1) o W K from MS_pos (MS_10 T _ (Or.inr rfl)) (by omega)), ?_⟩
      rw [← hN, show 5 - j = (5 - (j + 1)) + 1 by omega]
      conv => rhs; unfold nmb
      rw [if_pos c]
      rfl
  · rw [decide_eq_false c, bI_f, i00, bz_1]
    refine R_some ⟨hE, ?_⟩
    have : Z = .inr (v, a + j) := by
      rw [← hN]
      cases 5 - j with
      | zero =>
        unfold nmb
        rw [if_neg c]
      | succ m =>
        unfold nmb
        rw [if_neg c]
    rw [this]
    exact ⟨rfl, e10, T⟩
theorem fct_t : ∀ c : Fin 256, mX5_factOf (nI c.val) = some (match fac c.val with | some d => nI d | none => -1) := by decide +kernel
theorem M_fact {t : Nat → Nat} (ht : ∀ i, t i < 256) (n i : Nat) : mX5_factOf (hcM t n i) = some (match fac (hc t n i) with | some d => nI d | none => -1) := by
  unfold hcM hc
  by_cases g : i < n
  · rw [if_pos g, if_pos g]
    exact fct_t ⟨t i, ht i⟩
  · rw [if_neg g, if_neg g]
    rfl
theorem sgn_t : ∀ c : Fin 256, mX5_sumSign (nI c.val) = some (if sgn c.val = 0 then -1 else nI (sgn c.val)) := by decide +kernel
theorem M_sign {t : Nat → Nat} (ht : ∀ i, t i < 256) (n i : Nat) : mX5_sumSign (hcM t n i) = some (if sgn (hc t n i) = 0 then -1 else nI (sgn (hc t n i))) := by
  unfold hcM hc
  by_cases g : i < n
  · rw [if_pos g, if_pos g]
    exact sgn_t ⟨t i, ht i⟩
  · rw [if_neg g, if_neg g]
    rfl
end
