/-! casts: a line -/
set_option maxRecDepth 100000
theorem bv_bit (x : BitVec 32) (k : Nat) (hk : k < 32) (hz : ¬ BitVec.twoPow 32 k = 0#32) : (x.sshiftRight k &&& 1#32 = 1#32) ↔ ¬ (x &&& (1#32 <<< k) = 0#32) := by
  rw [BitVec.and_one_eq_setWidth_ofBool_getLsbD, show 1#32 <<< k = BitVec.twoPow 32 k from rfl, BitVec.and_twoPow, BitVec.getLsbD_sshiftRight]
  simp only [Nat.add_zero, hk, if_true]
  cases x.getLsbD k with
  | false => simp
  | true => simp [hz]
theorem bit_x (v : Int32) (k : Nat) (hk : k < 12) : ((v >>> nI k) &&& 1 = 1) ↔ ¬ (v &&& ((1 : Int32) <<< nI k)) = 0 := by
  have hz : ∀ k : Fin 12, ¬ BitVec.twoPow 32 k.val = 0#32 := by decide
  have b := bv_bit v.toBitVec k (by omega) (hz ⟨k, hk⟩)
  have s1 : ∀ k : Fin 12, ((nI k.val).toBitVec.smod 32).toNat = k.val := by decide
  have e1 : ((v >>> nI k) &&& 1).toBitVec = v.toBitVec.sshiftRight k &&& 1#32 := by
    rw [Int32.toBitVec_and, Int32.toBitVec_shiftRight]
    show v.toBitVec.sshiftRight ((nI k).toBitVec.smod 32).toNat &&& 1#32 = _
    rw [s1 ⟨k, hk⟩]
  have e2 : (v &&& ((1 : Int32) <<< nI k)).toBitVec = v.toBitVec &&& (1#32 <<< k) := by
    rw [Int32.toBitVec_and, Int32.toBitVec_shiftLeft]
    show v.toBitVec &&& (1#32 <<< ((nI k).toBitVec.smod 32).toNat) = _
    rw [s1 ⟨k, hk⟩]
  rw [← Int32.toBitVec_inj, e1, ← Int32.toBitVec_inj (b := 0), e2]
  exact b
theorem kk_t : ∀ c : Fin 2, ∀ r : Fin 6, ((6 : Int32) * nI c.val + nI r.val) &&& 31 = nI (6 * c.val + r.val) := by decide +kernel
def lbit (v : Int32) (k : Nat) : Prop := ¬ (v &&& ((1 : Int32) <<< nI k)) = 0
noncomputable def lC (t : Nat → Nat) (n a : Nat) : Nat := if hc t n a = 85 then 1 else 0
noncomputable def lR (t : Nat → Nat) (n a : Nat) : Nat := hc t n (a + 1) - 48
def lset (G : Nat → Nat → Nat) (c r : Nat) (F : Nat → Nat) : Nat → Nat → Nat := fun c' i => if c' = c ∧ 8 * r ≤ i ∧ i < 8 * r + 8 then F (i - 8 * r) else G c' i
/-- one line: a fault, or where it ends, what is told then, what is laid then -/
noncomputable def lrun (t : Nat → Nat) (n a : Nat) (v : Int32) (G : Nat → Nat → Nat) : Option (Nat × Nat) × Nat × Int32 × (Nat → Nat → Nat) :=
  if bo (hc t n a = 85 ∨ hc t n a = 76) = true then
    (if bo (48 ≤ hc t n (a + 1) ∧ hc t n (a + 1) ≤ 53) = true then
      (if bo (lbit v (6 * lC t n a + lR t n a)) = true then (some (6, a + 1), a, v, G)
      else if bo (hc t n (a + 2) = 61) = true then ((hrun t n 9 (a + 3) 0 (fun i => G (lC t n a) (8 * lR t n a + i))).1, (hrun t n 9 (a + 3) 0 (fun i => G (lC t n a) (8 * lR t n a + i))).2.1, v ||| ((1 : Int32) <<< nI (6 * lC t n a + lR t n a)), lset G (lC t n a) (lR t n a) (hrun t n 9 (a + 3) 0 (fun i => G (lC t n a) (8 * lR t n a + i))).2.2)
      else (some (1, a + 2), a, v, G))
    else (some (1, a + 1), a, v, G))
  else (some (1, a), a, v, G)
def GX (h : Hp) (G : Nat → Nat → Nat) : Prop := ∀ c i, c < 2 → i < 48 → h (82 + c) i = nI (G c i)
def lPost (h0 : Hp) (n p l : Nat) (Z : Option (Nat × Nat) × Nat × Int32 × (Nat → Nat → Nat)) (h' : Hp) : Prop := Ex [80, 82, 83] h0 h' ∧ match Z.1 with
  | some (w, q) => ∃ a, a ≤ 3000 ∧ 0 < w ∧ SC 80 h' n a w q
  | none => SC 80 h' n Z.2.1 0 p ∧ h' 80 6 = Z.2.2.1 ∧ h' 80 7 = nI (l + 1) ∧ GX h' Z.2.2.2
theorem lC_b {t : Nat → Nat} {n a : Nat} : lC t n a < 2 := by
  unfold lC
  split <;> omega
theorem hrun_w {t : Nat → Nat} {n : Nat} : ∀ k a x F w q, (hrun t n k a x F).1 = some (w, q) → 0 < w ∧ w ≤ 100
  | 0, a, x, F, w, q, h => by cases h
  | k + 1, a, x, F, w, q, h => by
    rw [hrun_s] at h
    by_cases c1 : 97 ≤ hc t n (uA t n a) ∧ hc t n (uA t n a) ≤ 122
    · rw [if_pos c1] at h
      by_cases c2 : x + tms t n a 56 ≤ 8
      · rw [if_pos c2] at h
        by_cases c3 : uA t n a + 1 < n ∧ hc t n (uA t n a + 1) ≠ 59
        · rw [if_pos c3] at h
          exact hrun_w k _ _ _ w q h
        · rw [if_neg c3] at h
          cases h
      · rw [if_neg c2] at h
        cases h
        omega
    · rw [if_neg c1] at h
      cases h
      omega
theorem X_line {h : Hp} {n a p l : Nat} {v : Int32} {G : Nat → Nat → Nat} (S : SC 80 h n a 0 p) (ha : a ≤ 900) (hv : h 80 6 = v) (hl : h 80 7 = nI l) (hG : GX h G) : R (mX16_line h) (fun h' => lPost h n p l (lrun (tX h) n a v G) h') := by
  have ht : ∀ i, tX h i < 256 := fun i => oct_lt _
  have b0 := hc_lt ht n a
  have b1 := hc_lt ht n (a + 1)
  have cb := lC_b (t := tX h) (n := n) (a := a)
  generalize hZ : lrun (tX h) n a v G = Z
  unfold lrun at hZ
  unfold mX16_line
  rw [X_here S, cl1_s]
  refine R_let (fun s => s = nI (lC (tX h) n a)) ?_ ?_
  · rintro s rfl
    rw [cl1_s]
    -- behind the first letter
    refine R_let (fun g => ((hc (tX h) n a = 85 ∨ hc (tX h) n a = 76) ∧ g = h) ∨ (¬ (hc (tX h) n a = 85 ∨ hc (tX h) n a = 76) ∧ g = sF 80 h 1 a)) ?_ ?_
    · intro g hg
      obtain ⟨f, q, S1, E1, f1, hf⟩ : ∃ f q, SC 80 g n a f q ∧ Ex [80] h g ∧ (∀ i, 4 ≤ i → g 80 i = h 80 i) ∧ ((f = 0 ∧ q = p ∧ (hc (tX h) n a = 85 ∨ hc (tX h) n a = 76)) ∨ (0 < f ∧ Z.1 = some (f, q))) := by
        rcases hg with ⟨c, rfl⟩ | ⟨c, rfl⟩
        · exact ⟨0, p, S, Ex_r _ _, fun _ _ => rfl, Or.inl ⟨rfl, rfl, c⟩⟩
        · refine ⟨1, a, SC_F S (by omega) (by omega), Ex_F _ _ _ _, fun i hi => F_i (by omega) (by omega), Or.inr ⟨by omega, ?_⟩⟩
          rw [← hZ, bo_f c]
          rfl
      have S2 := SC_A S1 (by omega)
      have E2 : Ex [80] h (sA1 80 g) := fun z hz => (Ex_A _ _ z hz).trans (E1 z hz)
      have f2 : ∀ i, 4 ≤ i → sA1 80 g 80 i = h 80 i := fun i hi => (A_i (by omega)).trans (f1 i hi)
      have t2 : tX (sA1 80 g) = tX h := by
        funext z
        unfold tX
        rw [E2 8 (by decide)]
      have hh2 := X_here S2
      rw [t2] at hh2
      rw [X_goesOn, cl1_s, hh2, cl1_s, nm_s, X_isGood S2, cl1_s]
      generalize hgg : sA1 80 g = g2 at *
      clear hg hgg S1 E1 f1
      -- behind the row's digit
      refine R_let (fun g3 => Ex [80] h g3 ∧ (∀ i, 4 ≤ i → g3 80 i = h 80 i) ∧ ∃ f q, SC 80 g3 n (a + 1) f q ∧ ((f = 0 ∧ q = p ∧ (hc (tX h) n a = 85 ∨ hc (tX h) n a = 76) ∧ 48 ≤ hc (tX h) n (a + 1) ∧ hc (tX h) n (a + 1) ≤ 53) ∨ (0 < f ∧ Z.1 = some (f, q)))) ?_ ?_
      · rintro g3 ⟨E3, f3, f9, q9, S3, h3⟩
        rw [X_isGood S3, cl1_s]
        -- behind the test of what is told
        refine R_let (fun g4 => Ex [80] h g4 ∧ (∀ i, 4 ≤ i → g4 80 i = h 80 i) ∧ ∃ f q, SC 80 g4 n (a + 1) f q ∧ ((f = 0 ∧ q = p ∧ (hc (tX h) n a = 85 ∨ hc (tX h) n a = 76) ∧ (48 ≤ hc (tX h) n (a + 1) ∧ hc (tX h) n (a + 1) ≤ 53) ∧ ¬ lbit v (6 * lC (tX h) n a + lR (tX h) n a)) ∨ (0 < f ∧ Z.1 = some (f, q)))) ?_ ?_
        · rintro g4 ⟨E4, f4, f8, q8, S4, h4⟩
          have S5 := SC_A S4 (by omega)
          have E5 : Ex [80] h (sA1 80 g4) := fun z hz => (Ex_A _ _ z hz).trans (E4 z hz)
          have f5 : ∀ i, 4 ≤ i → sA1 80 g4 80 i = h 80 i := fun i hi => (A_i (by omega)).trans (f4 i hi)
          have t5 : tX (sA1 80 g4) = tX h := by
            funext z
            unfold tX
            rw [E5 8 (by decide)]
          have M5 := X_must S5 (c := 61) (by decide)
          rw [t5] at M5
          rw [X_goesOn, cl1_s, show mX15_must 80 (sA1 80 g4) 61 = _ from M5, cl1_s]
          have E80 : ∀ g', Ex [80] h g' → Ex [80, 82, 83] h g' := fun g' hE z hz => hE z (fun e => hz (by simp at e; rw [e]; simp))
          rcases h4 with ⟨rfl, rfl, c0, c1, c2⟩ | ⟨hpos, hz⟩
          · by_cases c3 : hc (tX h) n (a + 2) = 61
            · rw [if_neg (fun e => e.2 c3)]
              have S6 := SC_A S5 (by omega)
              have E6 : Ex [80] h (sA1 80 (sA1 80 g4)) := fun z hz => (Ex_A _ _ z hz).trans (E5 z hz)
              have f6 : ∀ i, 4 ≤ i → sA1 80 (sA1 80 g4) 80 i = h 80 i := fun i hi => (A_i (by omega)).trans (f5 i hi)
              generalize sA1 80 (sA1 80 g4) = g6 at *
              have hr6 : lR (tX h) n a < 6 := by
                unfold lR
                omega
              have evr : nI (hc (tX h) n (a + 1)) - 48 = nI (lR (tX h) n a) := nI_subn (b := 48) c1.1
              rw [X_isGood S6, cl1_s, decide_eq_true rfl, bI_t, i10, nm_s, evr, show ((6 : Int32) * nI (lC (tX h) n a) + nI (lR (tX h) n a)) &&& 31 = _ from kk_t ⟨_, cb⟩ ⟨_, hr6⟩, f6 6 (by decide), hv]
              rw [bo_t c0, if_pos rfl, bo_t c1, if_pos rfl, bo_f c2, if_neg Bool.false_ne_true, bo_t c3, if_pos rfl] at hZ
              generalize lC (tX h) n a = c at *
              generalize lR (tX h) n a = r at *
              have t6 : tX (u2 g6 80 6 (v ||| (1 : Int32) <<< nI (6 * c + r))) = tX h := by
                funext z
                unfold tX
                rw [u2_n (by decide), E6 8 (by decide)]
              have H := X_heights (h := u2 g6 80 6 (v ||| (1 : Int32) <<< nI (6 * c + r))) (F := fun i => G c (8 * r + i)) (SC_c S6 (fun i hi => by rw [u2_e, upd_n (by omega)])) (by omega) cb hr6 (fun i hi => by
                rw [u2_n (by omega), E6 (82 + c) (by simp only [List.mem_cons, List.not_mem_nil, or_false]; omega)]
                exact hG c _ cb (by omega))
              rw [t6] at H
              refine R_c1 H ?_
              rintro g7 ⟨E7, f7, o7, h7⟩
              rw [nm_s]
              have hw := hrun_w (t := tX h) (n := n) 9 (a + 1 + 1 + 1) 0 (fun i => G c (8 * r + i))
              generalize hY : hrun (tX h) n 9 (a + 1 + 1 + 1) 0 (fun i => G c (8 * r + i)) = Y at *
              have Eall : Ex [80, 82, 83] h (u2 g7 80 7 (g7 80 7 + 1)) := fun z hz => by
                simp only [List.mem_cons, List.not_mem_nil, or_false, not_or] at hz
                rw [u2_n hz.1, E7 z (by simp only [List.mem_cons, List.not_mem_nil, or_false]; omega), u2_n hz.1]
                exact E6 z (by simpa using hz.1)
              refine R_some ⟨Eall, ?_⟩
              rw [← hZ]
              cases hY1 : Y.1 with
              | some wq =>
                obtain ⟨w, q⟩ := wq
                rw [hY1] at h7
                obtain ⟨a9, ha9, S9⟩ := h7
                exact ⟨a9, by omega, (hw w q hY1).1, SC_c S9 (fun i hi => by rw [u2_e, upd_n (by omega)])⟩
              | none =>
                rw [hY1] at h7
                obtain ⟨S9, R9⟩ := h7
                refine ⟨SC_c S9 (fun i hi => by rw [u2_e, upd_n (by omega)]), ?_, ?_, fun c' i hc' hi => ?_⟩
                · rw [u2_e, upd_n (by decide), f7 6 (by decide), u2_e, upd_e]
                · rw [u2_e, upd_e, f7 7 (by decide), u2_e, upd_n (by decide), f6 7 (by decide), hl, nI_1]
                · rw [u2_n (by omega)]
                  show _ = nI (lset G c r Y.2.2 c' i)
                  unfold lset
                  by_cases e : c' = c ∧ 8 * r ≤ i ∧ i < 8 * r + 8
                  · rw [if_pos e, e.1]
                    have := R9 (i - 8 * r) (by omega)
                    rw [show 8 * r + (i - 8 * r) = i by omega] at this
                    exact this
                  · rw [if_neg e]
                    by_cases e2 : c' = c
                    · rw [e2, o7 i (fun e9 => e ⟨e2, e9⟩), u2_n (by omega), E6 (82 + c) (by simp only [List.mem_cons, List.not_mem_nil, or_false]; omega)]
                      exact hG c i cb hi
                    · rw [E7 (82 + c') (by simp only [List.mem_cons, List.not_mem_nil, or_false]; omega), u2_n (by omega), E6 (82 + c') (by simp only [List.mem_cons, List.not_mem_nil, or_false]; omega)]
                      exact hG c' i hc' hi
            · rw [if_pos ⟨rfl, c3⟩]
              have S6 := SC_F S5 (w := 1) (q := a + 1 + 1) (by omega) (by omega)
              have S7 := SC_A S6 (by omega)
              rw [X_isGood S7, cl1_s, decide_eq_false (by decide), bI_f, i00]
              refine R_some ⟨E80 _ (fun z hz => (Ex_A _ _ z hz).trans ((Ex_F _ _ _ _ z hz).trans (E5 z hz))), ?_⟩
              rw [← hZ, bo_t c0, if_pos rfl, bo_t c1, if_pos rfl, bo_f c2, if_neg Bool.false_ne_true, bo_f c3, if_neg Bool.false_ne_true]
              exact ⟨_, by omega, by omega, S7⟩
          · rw [if_neg (fun e => by omega)]
            have S6 := SC_A S5 (by omega)
            rw [X_isGood S6, cl1_s, decide_eq_false (by omega), bI_f, i00]
            refine R_some ⟨E80 _ (fun z hz => (Ex_A _ _ z hz).trans (E5 z hz)), ?_⟩
            rw [hz]
            exact ⟨_, by omega, hpos, S6⟩
        · intro k hk
          rcases h3 with ⟨rfl, rfl, c0, c1, c1'⟩ | ⟨hpos, hz⟩
          · have hr6 : lR (tX h) n a < 6 := by
              unfold lR
              omega
            have evr : nI (hc (tX h) n (a + 1)) - 48 = nI (lR (tX h) n a) := nI_subn (b := 48) c1
            have bx := bit_x v (6 * lC (tX h) n a + lR (tX h) n a) (by omega)
            rw [decide_eq_true rfl, bI_t, i10, evr, show ((6 : Int32) * nI (lC (tX h) n a) + nI (lR (tX h) n a)) &&& 31 = _ from kk_t ⟨_, cb⟩ ⟨_, hr6⟩, f3 6 (by decide), hv]
            show R (if (v >>> nI (6 * lC (tX h) n a + lR (tX h) n a)) &&& 1 = 1 then _ else _) _
            by_cases c2 : lbit v (6 * lC (tX h) n a + lR (tX h) n a)
            · rw [if_pos (bx.mpr c2), X_place S3, cl1_s, show mX15_bad 80 g3 6 (nI (a + 1)) = _ from X_bad0 S3 6 (a + 1), cl1_s]
              refine hk _ ⟨fun z hz => (Ex_F _ _ _ _ z hz).trans (E3 z hz), fun i hi => (F_i (by omega) (by omega)).trans (f3 i hi), 6, a + 1, SC_F S3 (by omega) (by omega), Or.inr ⟨by omega, ?_⟩⟩
              rw [← hZ, bo_t c0, if_pos rfl, bo_t ⟨c1, c1'⟩, if_pos rfl, bo_t c2, if_pos rfl]
            · rw [if_neg (fun e => c2 (bx.mp e))]
              exact hk _ ⟨E3, f3, 0, q9, S3, Or.inl ⟨rfl, rfl, c0, ⟨c1, c1'⟩, c2⟩⟩
          · rw [decide_eq_false (by omega), bI_f, i00]
            exact hk _ ⟨E3, f3, f9, q9, S3, Or.inr ⟨hpos, hz⟩⟩
      · intro k hk
        rcases hf with ⟨rfl, rfl, c0⟩ | ⟨hpos, hz⟩
        · rw [decide_eq_true rfl, bI_t, i10, X_in _ 6 6 (by decide), cl1_s, iI_n (hc (tX h) n (a + 1)), show (48 : Int32) = iI 48 from rfl, iI_sub, nR_I (by omega)]
          by_cases c1 : 48 ≤ hc (tX h) n (a + 1) ∧ hc (tX h) n (a + 1) ≤ 53
          · rw [decide_eq_true (by omega), bI_t, i10]
            exact hk _ ⟨E2, f2, 0, q, S2, Or.inl ⟨rfl, rfl, c0, c1⟩⟩
          · rw [decide_eq_false (by omega), bI_f, i00, X_place S2, cl1_s, show mX15_bad 80 g2 1 (nI (a + 1)) = _ from X_bad0 S2 1 (a + 1), cl1_s]
            refine hk _ ⟨fun z hz => (Ex_F _ _ _ _ z hz).trans (E2 z hz), fun i hi => (F_i (by omega) (by omega)).trans (f2 i hi), 1, a + 1, SC_F S2 (by omega) (by omega), Or.inr ⟨by omega, ?_⟩⟩
            rw [← hZ, bo_t c0, if_pos rfl, bo_f c1, if_neg Bool.false_ne_true]
        · rw [decide_eq_false (by omega), bI_f, i00]
          exact hk _ ⟨E2, f2, f, q, S2, Or.inr ⟨hpos, hz⟩⟩
    · intro k hk
      by_cases c : hc (tX h) n a = 85
      · rw [if_pos (by rw [c]; rfl)]
        exact hk _ (Or.inl ⟨Or.inl c, rfl⟩)
      · rw [if_neg (fun e => c ((l_eq (N := 85) (c := 85) rfl (by decide) (by omega)).mp e)), cl1_s]
        by_cases c2 : hc (tX h) n a = 76
        · rw [if_pos (by rw [c2]; rfl)]
          exact hk _ (Or.inl ⟨Or.inr c2, rfl⟩)
        · rw [if_neg (fun e => c2 ((l_eq (N := 76) (c := 76) rfl (by decide) (by omega)).mp e)), X_place S, cl1_s, show mX15_bad 80 h 1 (nI a) = _ from X_bad0 S 1 a, cl1_s]
          exact hk _ (Or.inr ⟨fun e => by rcases e with e | e; exact c e; exact c2 e, rfl⟩)
  · intro k hk
    by_cases c : hc (tX h) n a = 85
    · rw [if_pos (by rw [c]; rfl)]
      exact hk _ (by unfold lC; rw [if_pos c]; rfl)
    · rw [if_neg (fun e => c ((l_eq (N := 85) (c := 85) rfl (by decide) (by omega)).mp e))]
      exact hk _ (by unfold lC; rw [if_neg c]; rfl)
