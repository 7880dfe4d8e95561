/-! casts: a row of the reference -/
set_option maxRecDepth 100000
def MF (h0 h : Hp) : Prop := Ex [229, 300] h0 h ∧ ∀ i, i ∉ [7, 9, 30, 31, 32, 33] → h 300 i = h0 300 i
theorem MF_t {a b c : Hp} (h1 : MF a b) (h2 : MF b c) : MF a c := ⟨fun q hq => (h2.1 q hq).trans (h1.1 q hq), fun i hi => (h2.2 i hi).trans (h1.2 i hi)⟩
theorem MF_r (a : Hp) : MF a a := ⟨Ex_r _ _, fun _ _ => rfl⟩
theorem MF_u {h0 h : Hp} {i : Nat} {v : Int32} (H : MF h0 h) (hi : i ∈ [7, 9, 30, 31, 32, 33]) : MF h0 (u2 h 300 i v) := by
  refine ⟨fun q hq => ?_, fun k hk => ?_⟩
  · rw [u2_n (fun e => hq (by rw [e]; simp))]
    exact H.1 q hq
  · rw [u2_e, upd_n (fun e => hk (by rw [e]; exact hi))]
    exact H.2 k hk
theorem MC_u {h : Hp} {n a i : Nat} {v : Int32} (S : MC h n a) (h7 : i ≠ 7) (h8 : i ≠ 8) : MC (u2 h 300 i v) n a := by
  obtain ⟨e0, e1, hr⟩ := S
  exact ⟨by rw [u2_e, upd_n (fun e => h8 e.symm)]; exact e0, by rw [u2_e, upd_n (fun e => h7 e.symm)]; exact e1, hr⟩
theorem MC_a {h : Hp} {n a a' : Nat} (S : MC h n a) (ha : a' ≤ 100000) : MC (u2 h 300 7 (nI a')) n a' := by
  obtain ⟨e0, e1, h1, h2⟩ := S
  exact ⟨by rw [u2_e, upd_n (by decide)]; exact e0, by rw [u2_e, upd_e], h1, ha⟩
/-- a row of the reference's new heights -/
def RM (h : Hp) (s : Nat) (F : Nat → Nat) : Prop := ∀ i, i < 8 → h 229 (s + i) = nI (F i)
theorem M_unit {h : Hp} {n a x s : Nat} {F : Nat → Nat} (S : MC h n a) (ha : a ≤ 3000) (hx : x ≤ 8) (h32 : h 300 32 = nI x) (hs : s + 8 ≤ 96) (hF : RM h s F) : R (mX5_readsHeights h (nI s)) (fun r => MF h r.2 ∧ r.2 300 30 = h 300 30 ∧ r.2 300 31 = h 300 31 ∧ if 97 ≤ hc (tM h) n (uA (tM h) n a) ∧ hc (tM h) n (uA (tM h) n a) ≤ 122 then (if x + tms (tM h) n a 56 ≤ 8 then r.1 = 1 ∧ MC r.2 n (uA (tM h) n a + 1) ∧ r.2 300 32 = nI (x + tms (tM h) n a 56) ∧ RM r.2 s (uF F x (tms (tM h) n a 56) (hc (tM h) n (uA (tM h) n a) - 97)) ∧ ∀ i, ¬ (s ≤ i ∧ i < s + 8) → r.2 229 i = h 229 i else r.1 = 0 ∧ r.2 300 9 = -1000 * nI 4 - nI a) else r.1 = 0 ∧ r.2 300 9 = -1000 * nI 1 - nI (uA (tM h) n a)) := by
  have ht : ∀ i, tM h i < 256 := fun i => oct_lt _
  have tb := tms_b (t := tM h) (n := n) (a := a)
  have ub := uA_b (t := tM h) (n := n) (a := a)
  have b0 := hc_lt ht n a
  unfold mX5_readsHeights
  rw [nm_s, nm_s, S.2.1]
  have S1 : MC (u2 h 300 33 1) n a := MC_u S (by decide) (by decide)
  have t1 : tM (u2 h 300 33 1) = tM h := rfl
  have hh1 := M_here S1
  rw [t1] at hh1
  rw [hh1, cl1_s, show mX5_in (hcM (tM h) n a) 50 56 = _ from hcM_in ht (lo := 50) (hi := 56) (by decide) (by decide) (by decide), cl1_s]
  -- behind the digit
  refine R_let (fun g => MF h g ∧ g 300 30 = h 300 30 ∧ g 300 31 = h 300 31 ∧ g 300 32 = h 300 32 ∧ g 229 = h 229 ∧ MC g n (uA (tM h) n a) ∧ g 300 33 = nI (tms (tM h) n a 56)) ?_ ?_
  · rintro g ⟨m1, m2, m3, m4, m5, S2, m6⟩
    have t2 : tM g = tM h := by
      funext i
      unfold tM
      rw [m1.1 205 (by decide)]
    have hh2 := M_here S2
    rw [t2] at hh2
    have b1 := hc_lt ht n (uA (tM h) n a)
    have hin : mX5_in (hcM (tM h) n (uA (tM h) n a) - 97) 0 25 = some (bI (decide (97 ≤ hc (tM h) n (uA (tM h) n a) ∧ hc (tM h) n (uA (tM h) n a) ≤ 122))) := by
      refine (win_sp _ _ _).trans (dec_c ?_)
      unfold hcM hc
      by_cases g9 : uA (tM h) n a < n
      · have := ht (uA (tM h) n a)
        rw [if_pos g9, if_pos g9, iI_n, show (97 : Int32) = iI 97 from rfl, iI_sub, iI_toInt (by omega), show (0 : Int32).toInt = 0 by decide, show (25 : Int32).toInt = 25 by decide]
        omega
      · rw [if_neg g9, if_neg g9, show ((-1 : Int32) - 97).toInt = -98 by decide, show (0 : Int32).toInt = 0 by decide]
        omega
    rw [hh2, cl1_s, nm_s, hin, cl1_s]
    by_cases hl : 97 ≤ hc (tM h) n (uA (tM h) n a) ∧ hc (tM h) n (uA (tM h) n a) ≤ 122
    · have hlt : uA (tM h) n a < n := by
        refine Classical.byContradiction (fun h9 => ?_)
        unfold hc at hl
        rw [if_neg h9] at hl
        omega
      have ev : hcM (tM h) n (uA (tM h) n a) - 97 = nI (hc (tM h) n (uA (tM h) n a) - 97) := by
        have e1 : hcM (tM h) n (uA (tM h) n a) = nI (hc (tM h) n (uA (tM h) n a)) := by
          unfold hcM hc
          rw [if_pos hlt, if_pos hlt]
        rw [e1]
        exact nI_subn (b := 97) hl.1
      rw [decide_eq_true hl, bI_t, i10, nm_s, ev, S2.2.1, nI_1]
      have S3 : MC (u2 g 300 7 (nI (uA (tM h) n a + 1))) n (uA (tM h) n a + 1) := MC_a S2 (by omega)
      have k32 : u2 g 300 7 (nI (uA (tM h) n a + 1)) 300 32 = nI x := by
        rw [u2_e, upd_n (by decide), m4]
        exact h32
      have k33 : u2 g 300 7 (nI (uA (tM h) n a + 1)) 300 33 = nI (tms (tM h) n a 56) := by
        rw [u2_e, upd_n (by decide)]
        exact m6
      have M3 : MF h (u2 g 300 7 (nI (uA (tM h) n a + 1))) := MF_u m1 (by decide)
      have k30 : u2 g 300 7 (nI (uA (tM h) n a + 1)) 300 30 = h 300 30 := by
        rw [u2_e, upd_n (by decide)]
        exact m2
      have k31 : u2 g 300 7 (nI (uA (tM h) n a + 1)) 300 31 = h 300 31 := by
        rw [u2_e, upd_n (by decide)]
        exact m3
      have k229 : u2 g 300 7 (nI (uA (tM h) n a + 1)) 229 = h 229 := by
        rw [u2_n (by decide)]
        exact m5
      generalize u2 g 300 7 (nI (uA (tM h) n a + 1)) = g3 at *
      rw [k32, k33, nI_add]
      by_cases hm : x + tms (tM h) n a 56 ≤ 8
      · rw [if_pos (l_lec (N := 8) (c := 8) rfl hm (by decide))]
        refine fx_R2 (tms (tM h) n a 56) (fun i y hh => y = nI i ∧ MF h hh ∧ hh 300 30 = h 300 30 ∧ hh 300 31 = h 300 31 ∧ MC hh n (uA (tM h) n a + 1) ∧ hh 300 32 = nI (x + i) ∧ hh 300 33 = nI (tms (tM h) n a 56) ∧ RM hh s (uF F x i (hc (tM h) n (uA (tM h) n a) - 97)) ∧ ∀ z, ¬ (s ≤ z ∧ z < s + 8) → hh 229 z = h 229 z) (by show tms (tM h) n a 56 < 100000; omega) ⟨rfl, M3, k30, k31, S3, k32, k33, by rw [uF_0]; intro i hi; rw [k229]; exact hF i hi, fun z hz => by rw [k229]⟩ ?_
        rintro i _ hh k9 hi ⟨rfl, q1, q2, q3, q4, q5, q6, q7, q8⟩ hk9
        rw [q6]
        by_cases him : i = tms (tM h) n a 56
        · rw [if_pos (nI_le (by omega) (by omega)), bz_1]
          subst him
          refine R_some ⟨q1, q2, q3, ?_⟩
          rw [if_pos hl, if_pos hm]
          exact ⟨rfl, q4, q5, q7, q8⟩
        · rw [if_neg (nI_ge (by omega) (by omega)), q5, nI_add, ck_s (show s + (x + i) < 96 by omega) (by decide), nm_s, nm_s, nI_clamp (by omega), u2_n (show (300 : Nat) ≠ 229 by decide), q5, nI_1, nI_1]
          refine hk9 (i + 1) _ _ (by omega) (by omega) ⟨rfl, ?_, ?_, ?_, ?_, ?_, ?_, fun z hz => ?_, fun z hz => ?_⟩
          · refine ⟨fun q hq => ?_, fun k hk => ?_⟩
            · rw [u2_n (fun e => hq (by rw [e]; simp)), u2_n (fun e => hq (by rw [e]; simp))]
              exact q1.1 q hq
            · rw [u2_e, upd_n (fun e => hk (by rw [e]; decide)), u2_n (by decide)]
              exact q1.2 k hk
          · rw [u2_e, upd_n (by decide), u2_n (by decide)]
            exact q2
          · rw [u2_e, upd_n (by decide), u2_n (by decide)]
            exact q3
          · obtain ⟨e0, e1, er⟩ := q4
            exact ⟨by rw [u2_e, upd_n (by decide), u2_n (by decide)]; exact e0, by rw [u2_e, upd_n (by decide), u2_n (by decide)]; exact e1, er⟩
          · rw [u2_e, upd_e]
            rfl
          · rw [u2_e, upd_n (by decide), u2_n (by decide)]
            exact q6
          · rw [u2_n (by decide), u2_e]
            unfold uF
            by_cases e : z = x + i
            · rw [e, upd_e, if_pos (by omega)]
            · rw [upd_n (by omega)]
              have := q7 z hz
              unfold uF at this
              rw [this]
              by_cases e2 : x ≤ z ∧ z < x + i
              · rw [if_pos e2, if_pos (by omega)]
              · rw [if_neg e2, if_neg (by omega)]
          · rw [u2_n (by decide), u2_e, upd_n (by omega)]
            exact q8 z hz
      · rw [if_neg (l_nlec (N := 8) (c := 8) rfl (by omega) (by omega)), M_wrong, cl2_s, bz_0]
        refine R_some ⟨MF_u M3 (by decide), ?_, ?_, ?_⟩
        · dsimp only
          rw [u2_e, upd_n (by decide)]
          exact k30
        · dsimp only
          rw [u2_e, upd_n (by decide)]
          exact k31
        · rw [if_pos hl, if_neg hm]
          refine ⟨rfl, ?_⟩
          dsimp only
          rw [u2_e, upd_e]
          rfl
    · rw [decide_eq_false hl, bI_f, i00, M_wrong, cl2_s, bz_0]
      refine R_some ⟨MF_u m1 (by decide), ?_, ?_, ?_⟩
      · dsimp only
        rw [u2_e, upd_n (by decide)]
        exact m2
      · dsimp only
        rw [u2_e, upd_n (by decide)]
        exact m3
      · rw [if_neg hl]
        refine ⟨rfl, ?_⟩
        dsimp only
        rw [u2_e, upd_e, S2.2.1]
        rfl
  · intro k hk
    by_cases c : 50 ≤ hc (tM h) n a ∧ hc (tM h) n a ≤ 56
    · have hlt : a < n := by
        refine Classical.byContradiction (fun h9 => ?_)
        unfold hc at c
        rw [if_neg h9] at c
        omega
      have e1 : hcM (tM h) n a = nI (hc (tM h) n a) := by
        unfold hcM hc
        rw [if_pos hlt, if_pos hlt]
      rw [decide_eq_true c, bI_t, i10, cl1_s, nm_s, nm_s, e1, show nI (hc (tM h) n a) - 48 = nI (hc (tM h) n a - 48) from nI_subn (b := 48) (by omega), u2_e (h := u2 h 300 33 1), upd_n (show (7 : Nat) ≠ 33 by decide), u2_e (h := h), upd_n (show (7 : Nat) ≠ 33 by decide), S.2.1, nI_1]
      refine hk _ ⟨MF_u (MF_u (MF_u (MF_r h) (by decide)) (by decide)) (by decide), ?_, ?_, ?_, ?_, ?_, ?_⟩
      · rfl
      · rfl
      · rfl
      · rfl
      · unfold uA
        rw [if_pos c]
        exact MC_a (MC_u S1 (by decide) (by decide)) (by omega)
      · unfold tms
        rw [if_pos c]
        rfl
    · rw [decide_eq_false c, bI_f, i00]
      refine hk _ ⟨MF_u (MF_r h) (by decide), rfl, rfl, rfl, rfl, ?_, ?_⟩
      · unfold uA
        rw [if_neg c]
        exact S1
      · unfold tms
        rw [if_neg c]
        rfl
