/-! law: codes reckoned by the reference -/
set_option maxRecDepth 100000
def Sj (g : Hp) (st : List Int32) : Prop := ∀ i z, st.reverse[i]? = some z → g 227 i = z
section
variable {g : Hp} {st : List Int32} {x y v : Int32} {cd : Nat → Nat} {V : Nat → Int32} {e k b : Nat} {r : Option Int32}
theorem Sj_top (S : Sj g (x :: st)) : g 227 st.length = x := S _ _ (by rw [List.reverse_cons, List.getElem?_append_right (by simp), List.length_reverse, Nat.sub_self]; rfl)
theorem Sj_tl (S : Sj g (x :: st)) : Sj g st := fun i z hz => S i z (by
  rw [List.reverse_cons, List.getElem?_append_left (List.getElem?_eq_some_iff.mp hz).1]
  exact hz)
theorem Sj_psh (S : Sj g st) : Sj (u2 g 227 st.length v) (v :: st) := by
  intro i z hz
  rw [u2_e]
  rw [List.reverse_cons] at hz
  by_cases ci : i < st.reverse.length
  · rw [List.getElem?_append_left ci] at hz
    rw [List.length_reverse] at ci
    rw [upd_n (by omega)]
    exact S i z hz
  · rw [List.getElem?_append_right (by omega)] at hz
    have hi : i = st.length := by
      have := (List.getElem?_eq_some_iff.mp hz).1
      simp at this ci
      omega
    subst hi
    rw [List.length_reverse, Nat.sub_self] at hz
    cases hz
    rw [upd_e]
theorem He_i (H : He cd V e k st r) : evS cd V e k st = some (.inl r) ∨ ∃ k' st', evS cd V e k st = some (.inr (k', st')) ∧ He cd V e k' st' r := by
  obtain ⟨f, H⟩ := H
  cases f with
  | zero => cases H
  | succ f =>
    unfold evR at H
    cases h : evS cd V e k st with
    | none =>
      rw [h] at H
      cases H
    | some w =>
      rw [h] at H
      cases w with
      | inl r0 =>
        cases H
        exact Or.inl rfl
      | inr ks => exact Or.inr ⟨ks.1, ks.2, rfl, f, H⟩
theorem M_rck {op : Nat} (ho : 2 ≤ op ∧ op ≤ 9) (hz : ¬ ((op = 5 ∨ op = 6) ∧ y = 0)) : mX5_reckon (nI op) x y = some (rck op x y) := by
  have hop : op = 2 ∨ op = 3 ∨ op = 4 ∨ op = 5 ∨ op = 6 ∨ op = 7 ∨ op = 8 ∨ op = 9 := by omega
  have hle : ∀ a b : Int32, (if a ≤ b then some (0 : Int32) else some 1) = some (if b < a then 1 else 0) := by
    intro a b
    by_cases c : a ≤ b
    · rw [if_pos c, if_neg (fun h => by rw [Int32.lt_iff_toInt_lt] at h; rw [Int32.le_iff_toInt_le] at c; omega)]
    · rw [if_neg c, if_pos (by rw [Int32.lt_iff_toInt_lt]; rw [Int32.le_iff_toInt_le] at c; omega)]
  unfold mX5_reckon rck
  rcases hop with rfl | rfl | rfl | rfl | rfl | rfl | rfl | rfl
  · rfl
  · rfl
  · rfl
  · have hy : y ≠ 0 := fun e9 => hz ⟨by omega, e9⟩
    simp only [nz, if_neg hy]
    rfl
  · have hy : y ≠ 0 := fun e9 => hz ⟨by omega, e9⟩
    simp only [nz, if_neg hy]
    rfl
  · exact hle y x
  · exact hle x y
  · show (if x = y then some (1 : Int32) else some 0) = some (if x = y then 1 else 0)
    by_cases c : x = y
    · rw [if_pos c, if_pos c]
    · rw [if_neg c, if_neg c]
theorem M_reckons {h : Hp} (hb : b ≤ 240) (he : e ≤ 240) (h2 : ∀ i, b ≤ i → i < e → h 222 i = nI (cd i) ∧ cd i < 20 * uN) (hV : ∀ i, i < 10 → h 228 i = V i) (H : He cd V e b [] r) : ∃ h', mX5_reckonsTo h (nI b) (nI e) = some (r.getD 0, h') ∧ Ex [227] h h' := by
  have key : R (mX5_reckonsTo h (nI b) (nI e)) (fun p => p.1 = r.getD 0 ∧ Ex [227] h p.2) := by
    unfold mX5_reckonsTo
    have e260 : (260 : Int32) * (nI b / 260) = 0 := by
      rw [show nI b / (260 : Int32) = nI (b / 260) from pk_div (d := 260) (by omega) (by decide) (by decide), show b / 260 = 0 by omega]
      rfl
    rw [nm_s, e260]
    refine fx_R3 300 (fun j x3 x5 g => ∃ st, x3 = nI st.length ∧ x5 = nI (b + j) ∧ st.length ≤ j ∧ (j = 0 ∨ b + j ≤ e) ∧ He cd V e (b + j) st r ∧ Sj g st ∧ Ex [227] h g) (by decide) ⟨[], rfl, rfl, by simp, Or.inl rfl, H, fun i z hz => by simp at hz, Ex_r _ _⟩ ?_
    rintro j x3 x5 g kk hj ⟨st, rfl, rfl, hl, hje, HH, hS, hE⟩ hk
    have gV : ∀ i, i < 10 → g 228 i = V i := fun i hi => by rw [hE 228 (by decide)]; exact hV i hi
    have hi := He_i HH
    by_cases cE : e ≤ b + j
    · rw [if_pos (nI_le cE (by omega))]
      unfold evS at hi
      rw [if_pos cE] at hi
      cases hL : st.getLast? with
      | none =>
        rw [hL] at hi
        rcases hi with hi | ⟨_, _, hi, _⟩ <;> cases hi
      | some w =>
        rw [hL] at hi
        rcases hi with hi | ⟨_, _, hi, _⟩
        · cases hi
          refine R_some ⟨?_, hE⟩
          exact hS 0 w (by rw [← List.head?_eq_getElem?, List.head?_reverse]; exact hL)
        · cases hi
    · obtain ⟨c1, c2⟩ := h2 (b + j) (by omega) (by omega)
      have c222 : g 222 (b + j) = nI (cd (b + j)) := by rw [hE 222 (by decide)]; exact c1
      have edv : nI (cd (b + j)) / 1048576 = nI (cd (b + j) / uN) := pk_div (d := 1048576) (by unfold uN at c2; omega) (by decide) (by decide)
      have ejr : jrem (nI (cd (b + j))) 1048576 = nI (cd (b + j) % uN) := jrem_s (d := 1048576) (by unfold uN at c2; omega) (by decide) (by decide)
      have hm : cd (b + j) % uN < uN := Nat.mod_lt _ (by decide)
      have ho20 : cd (b + j) / uN < 20 := Nat.div_lt_of_lt_mul (by rw [Nat.mul_comm]; exact c2)
      rw [if_neg (nI_ge (by omega) (by omega))]
      unfold evS at hi
      rw [if_neg cE] at hi
      generalize cd (b + j) / uN = op at *
      generalize cd (b + j) % uN = md at *
      have hmd : md < 1048576 := hm
      simp only [ck_s (show b + j < 260 by omega) (show 260 < 2 ^ 31 by decide), nI_clamp (show b + j < 2 ^ 31 by omega), c222, edv, ejr, nm_q, nI_1]
      by_cases c0 : op = 0
      · rw [if_pos c0] at hi
        rw [if_pos (by rw [c0]; rfl), if_pos (by rw [c0]; rfl), ck_s (by omega) (by decide), nI_clamp (by omega)]
        rcases hi with hi | ⟨k', st', hi, H2⟩
        · cases hi
        · cases hi
          refine hk (j + 1) _ _ _ (by omega) (by omega) ⟨nI md :: st, by rw [List.length_cons], rfl, by rw [List.length_cons]; omega, by omega, H2, Sj_psh hS, ?_⟩
          exact fun q hq => by rw [u2_n (fun e9 => hq (by rw [e9]; simp))]; exact hE q hq
      · have n0 : ¬ nI op = 0 := nI_ne0 (by omega) (by omega)
        rw [if_neg c0] at hi
        simp only [if_neg n0]
        by_cases c1' : op = 1
        · rw [if_pos c1'] at hi
          rw [if_pos (by rw [c1']; rfl)]
          by_cases c10 : md < 10
          · rw [if_pos c10] at hi
            rw [ck_s c10 (by decide), nI_clamp (by omega), ck_s (by omega) (by decide), nI_clamp (by omega), gV md c10]
            rcases hi with hi | ⟨k', st', hi, H2⟩
            · cases hi
            · cases hi
              refine hk (j + 1) _ _ _ (by omega) (by omega) ⟨V md :: st, by rw [List.length_cons], rfl, by rw [List.length_cons]; omega, by omega, H2, Sj_psh hS, ?_⟩
              exact fun q hq => by rw [u2_n (fun e9 => hq (by rw [e9]; simp))]; exact hE q hq
          · rw [if_neg c10] at hi
            rcases hi with hi | ⟨k', st', hi, H2⟩ <;> cases hi
        · rw [if_neg c1'] at hi
          rw [if_neg (fun e9 => c1' ((l_eq (N := 1) (c := 1) rfl (by decide) (by omega)).mp e9))]
          by_cases c10 : op = 10
          · rw [if_pos c10] at hi
            rw [if_pos (by rw [c10]; rfl)]
            cases st with
            | nil => rcases hi with hi | ⟨k', st', hi, H2⟩ <;> cases hi
            | cons x s =>
              rw [List.length_cons] at hl
              rcases hi with hi | ⟨k', st', hi, H2⟩
              · cases hi
              · cases hi
                rw [List.length_cons, nI_pred, ck_s (by omega) (by decide), ck_s (by omega) (by decide), nI_clamp (by omega), Sj_top hS]
                refine hk (j + 1) _ _ _ (by omega) (by omega) ⟨(1 - x) :: s, by rw [List.length_cons], rfl, by rw [List.length_cons]; omega, by omega, H2, Sj_psh (Sj_tl hS), ?_⟩
                exact fun q hq => by rw [u2_n (fun e9 => hq (by rw [e9]; simp))]; exact hE q hq
          · rw [if_neg c10] at hi
            rw [if_neg (fun e9 => c10 ((l_eq (N := 10) (c := 10) rfl (by decide) (by omega)).mp e9))]
            have hjmp : ∀ bv : Int32, (evJ (b + j) md e bv st = some (.inl r) ∨ ∃ k' st', evJ (b + j) md e bv st = some (.inr (k', st')) ∧ He cd V e k' st' r) → R (ck (nI st.length - 1) 260 (if g 227 (nI st.length - 1).toNatClampNeg = bv then kk (nI st.length) (0 + nI md) g else kk (nI st.length - 1) (nI (b + j + 1)) g)) (fun p => p.1 = r.getD 0 ∧ Ex [227] h p.2) := by
              intro bv hi
              unfold evJ at hi
              cases st with
              | nil => rcases hi with hi | ⟨k', st', hi, H2⟩ <;> cases hi
              | cons x s =>
                rw [List.length_cons] at hl
                rw [List.length_cons, nI_pred, ck_s (by omega) (by decide), nI_clamp (by omega), Sj_top hS]
                dsimp only at hi
                by_cases cx : x = bv
                · rw [if_pos cx] at hi
                  rw [if_pos cx]
                  by_cases cj : b + j < md ∧ md ≤ e
                  · rw [if_pos cj] at hi
                    rcases hi with hi | ⟨k', st', hi, H2⟩
                    · cases hi
                    · cases hi
                      have e9 : b + (md - b) = md := by omega
                      refine hk (md - b) _ _ _ (by omega) (by omega) ⟨x :: s, by rw [List.length_cons], by rw [e9, show (0 : Int32) = nI 0 from rfl, nI_add, Nat.zero_add], by rw [List.length_cons]; omega, by omega, by rw [e9]; exact H2, hS, hE⟩
                  · rw [if_neg cj] at hi
                    rcases hi with hi | ⟨k', st', hi, H2⟩ <;> cases hi
                · rw [if_neg cx] at hi
                  rw [if_neg cx]
                  rcases hi with hi | ⟨k', st', hi, H2⟩
                  · cases hi
                  · cases hi
                    exact hk (j + 1) _ _ _ (by omega) (by omega) ⟨s, rfl, rfl, by omega, by omega, H2, Sj_tl hS, hE⟩
            by_cases c11 : op = 11
            · rw [if_pos c11] at hi
              rw [if_pos (by rw [c11]; rfl), if_neg (by rw [c11]; decide)]
              exact hjmp 0 hi
            · rw [if_neg c11] at hi
              rw [if_neg (fun e9 => c11 ((l_eq (N := 11) (c := 11) rfl (by decide) (by omega)).mp e9))]
              by_cases c12 : op = 12
              · rw [if_pos c12] at hi
                rw [if_pos (by rw [c12]; rfl), if_pos (by rw [c12]; rfl)]
                exact hjmp 1 hi
              · rw [if_neg c12] at hi
                rw [if_neg (fun e9 => c12 ((l_eq (N := 12) (c := 12) rfl (by decide) (by omega)).mp e9))]
                unfold evO at hi
                match st, hi, hS, hl with
                | [], hi, _, _ => rcases hi with hi | ⟨k', st', hi, H2⟩ <;> cases hi
                | [_], hi, _, _ => rcases hi with hi | ⟨k', st', hi, H2⟩ <;> cases hi
                | y :: x :: s, hi, hS, hl =>
                  rw [List.length_cons, List.length_cons] at hl
                  dsimp only at hi
                  have ey : g 227 (s.length + 1) = y := Sj_top hS
                  have ex : g 227 s.length = x := Sj_top (Sj_tl hS)
                  rw [List.length_cons, List.length_cons, nI_pred, nI_pred, nI_clamp (show s.length + 1 < 2 ^ 31 by omega), nI_clamp (show s.length < 2 ^ 31 by omega), ey, ex]
                  by_cases cz : (op = 5 ∨ op = 6) ∧ y = 0
                  · rw [if_pos cz] at hi
                    have er : r = none := by
                      rcases hi with hi | ⟨k', st', hi, H2⟩
                      · cases hi
                        rfl
                      · cases hi
                    rcases cz with ⟨rfl | rfl, cz⟩
                    · rw [if_pos (show nI 5 = 5 from rfl), ck_s (by omega) (by decide), if_pos cz, er]
                      exact R_some ⟨rfl, hE⟩
                    · rw [if_neg (by decide), if_pos (show nI 6 = 6 from rfl), ck_s (by omega) (by decide), if_pos cz, er]
                      exact R_some ⟨rfl, hE⟩
                  · rw [if_neg cz] at hi
                    by_cases co : 2 ≤ op ∧ op ≤ 9
                    · rw [if_pos co] at hi
                      have hok : R (ck (nI s.length) 260 (ck (nI (s.length + 1)) 260 (cl1 (mX5_reckon (nI op) x y) (fun r20 => ck (nI s.length) 260 (kk (nI (s.length + 1)) (nI (b + j + 1)) (u2 g 227 s.length r20)))))) (fun p => p.1 = r.getD 0 ∧ Ex [227] h p.2) := by
                        rw [ck_s (by omega) (by decide), ck_s (by omega) (by decide), M_rck co cz, cl1_s, ck_s (by omega) (by decide)]
                        rcases hi with hi | ⟨k', st', hi, H2⟩
                        · cases hi
                        · cases hi
                          refine hk (j + 1) _ _ _ (by omega) (by omega) ⟨rck op x y :: s, by rw [List.length_cons], rfl, by rw [List.length_cons]; omega, by omega, H2, Sj_psh (Sj_tl (Sj_tl hS)), ?_⟩
                          exact fun q hq => by rw [u2_n (fun e9 => hq (by rw [e9]; simp))]; exact hE q hq
                      by_cases c5 : op = 5
                      · rw [if_pos (by rw [c5]; rfl), ck_s (by omega) (by decide), if_neg (fun e9 => cz ⟨Or.inl c5, e9⟩)]
                        exact hok
                      · rw [if_neg (fun e9 => c5 ((l_eq (N := 5) (c := 5) rfl (by decide) (by omega)).mp e9))]
                        by_cases c6 : op = 6
                        · rw [if_pos (by rw [c6]; rfl), ck_s (by omega) (by decide), if_neg (fun e9 => cz ⟨Or.inr c6, e9⟩)]
                          exact hok
                        · rw [if_neg (fun e9 => c6 ((l_eq (N := 6) (c := 6) rfl (by decide) (by omega)).mp e9))]
                          exact hok
                    · rw [if_neg co] at hi
                      rcases hi with hi | ⟨k', st', hi, H2⟩ <;> cases hi
  obtain ⟨⟨v, h'⟩, e1, e2, e3⟩ := key
  dsimp only at e2 e3
  subst e2
  exact ⟨h', e1, e3⟩
end
