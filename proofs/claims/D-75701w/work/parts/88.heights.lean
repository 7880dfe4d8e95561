/-! casts: the heights of a row -/
set_option maxRecDepth 100000
def uA (t : Nat → Nat) (n a : Nat) : Nat := if 50 ≤ hc t n a ∧ hc t n a ≤ 56 then a + 1 else a
def uF (F : Nat → Nat) (x m v : Nat) : Nat → Nat := fun i => if x ≤ i ∧ i < x + m then v else F i
/-- the units of a row: a fault, or where it ends and what is laid -/
def hrun (t : Nat → Nat) (n : Nat) : Nat → Nat → Nat → (Nat → Nat) → Option (Nat × Nat) × Nat × (Nat → Nat)
  | 0, a, _, F => (none, a, F)
  | k + 1, a, x, F => if 97 ≤ hc t n (uA t n a) ∧ hc t n (uA t n a) ≤ 122 then (if x + tms t n a 56 ≤ 8 then (if uA t n a + 1 < n ∧ hc t n (uA t n a + 1) ≠ 59 then hrun t n k (uA t n a + 1) (x + tms t n a 56) (uF F x (tms t n a 56) (hc t n (uA t n a) - 97)) else (none, uA t n a + 1, uF F x (tms t n a 56) (hc t n (uA t n a) - 97))) else (some (4, a), a, F)) else (some (1, uA t n a), a, F)
theorem hrun_s (t : Nat → Nat) (n k a x : Nat) (F : Nat → Nat) : hrun t n (k + 1) a x F = if 97 ≤ hc t n (uA t n a) ∧ hc t n (uA t n a) ≤ 122 then (if x + tms t n a 56 ≤ 8 then (if uA t n a + 1 < n ∧ hc t n (uA t n a + 1) ≠ 59 then hrun t n k (uA t n a + 1) (x + tms t n a 56) (uF F x (tms t n a 56) (hc t n (uA t n a) - 97)) else (none, uA t n a + 1, uF F x (tms t n a 56) (hc t n (uA t n a) - 97))) else (some (4, a), a, F)) else (some (1, uA t n a), a, F) := rfl
theorem tms_b {t : Nat → Nat} {n a : Nat} : 1 ≤ tms t n a 56 ∧ tms t n a 56 ≤ 8 := by
  unfold tms
  split <;> omega
theorem uA_b {t : Nat → Nat} {n a : Nat} : a ≤ uA t n a ∧ uA t n a ≤ a + 1 := by
  unfold uA
  split <;> omega
theorem uF_0 (F : Nat → Nat) (x v : Nat) : uF F x 0 v = F := by
  funext i
  unfold uF
  rw [if_neg (by omega)]
/-- a row of the class's trial -/
def RW (h : Hp) (pl r : Nat) (F : Nat → Nat) : Prop := ∀ i, i < 8 → h pl (8 * r + i) = nI (F i)
def hPost (h0 : Hp) (pl r n p : Nat) (Z : Option (Nat × Nat) × Nat × (Nat → Nat)) (h' : Hp) : Prop := Ex [80, pl] h0 h' ∧ (∀ i, 4 ≤ i → h' 80 i = h0 80 i) ∧ (∀ i, ¬ (8 * r ≤ i ∧ i < 8 * r + 8) → h' pl i = h0 pl i) ∧ match Z.1 with
  | some (w, q) => ∃ a, a ≤ 2000 ∧ SC 80 h' n a w q
  | none => SC 80 h' n Z.2.1 0 p ∧ RW h' pl r Z.2.2
theorem X_heights {h : Hp} {n a p c r : Nat} {F : Nat → Nat} (S : SC 80 h n a 0 p) (ha : a ≤ 1000) (hc2 : c < 2) (hr : r < 6) (hF : RW h (82 + c) r F) : R (mX16_heights h (nI c) (nI r)) (fun h' => hPost h (82 + c) r n p (hrun (tX h) n 9 a 0 F) h') := by
  have ht : ∀ i, tX h i < 256 := fun i => oct_lt _
  generalize hZ : hrun (tX h) n 9 a 0 F = Z
  unfold mX16_heights
  rw [X_isGood S, cl1_s]
  refine fx_R3 10 (fun j x m g => (m = 1 ∧ j ≤ 8 ∧ ∃ a' x' F', x = nI x' ∧ j ≤ x' ∧ x' ≤ 8 ∧ a' ≤ 1000 + 2 * j ∧ SC 80 g n a' 0 p ∧ RW g (82 + c) r F' ∧ hrun (tX h) n (9 - j) a' x' F' = Z ∧ Ex [80, 82 + c] h g ∧ (∀ i, 4 ≤ i → g 80 i = h 80 i) ∧ ∀ i, ¬ (8 * r ≤ i ∧ i < 8 * r + 8) → g (82 + c) i = h (82 + c) i) ∨ (m = 0 ∧ hPost h (82 + c) r n p Z g)) (by decide) (Or.inl ⟨rfl, by omega, a, 0, F, rfl, by omega, by omega, by omega, S, hF, hZ, Ex_r _ _, fun _ _ => rfl, fun _ _ => rfl⟩) ?_
  rintro j x m g k hj hI hk
  rcases hI with ⟨rfl, hj8, a', x', F', rfl, hx1, hx2, ha', S', hF', hZ', hE, h4, hro⟩ | ⟨rfl, hP⟩
  · have htg : tX g = tX h := by
      funext i
      unfold tX
      rw [hE 8 (by simp only [List.mem_cons, List.not_mem_nil, or_false]; omega)]
    have T := X_times S' (hi := 56) (by decide)
    rw [htg] at T
    rw [i10, X_place S', cl1_s, show mX15_times 80 g 56 = _ from T, cl2_s]
    have tb := tms_b (t := tX h) (n := n) (a := a')
    have ub := uA_b (t := tX h) (n := n) (a := a')
    -- behind the digit
    obtain ⟨g1, eg1, S1, E1, f1⟩ : ∃ g1, (if 50 ≤ hc (tX h) n a' ∧ hc (tX h) n a' ≤ 56 then sA1 80 g else g) = g1 ∧ SC 80 g1 n (uA (tX h) n a') 0 p ∧ Ex [80] g g1 ∧ ∀ i, 4 ≤ i → g1 80 i = g 80 i := by
      refine ⟨_, rfl, ?_, ?_, ?_⟩
      · unfold uA
        split
        · exact SC_A S' (by omega)
        · exact S'
      · split
        · exact Ex_A _ _
        · exact Ex_r _ _
      · intro i hi
        split
        · exact A_i (by omega)
        · rfl
    rw [eg1]
    have htg1 : tX g1 = tX h := by
      rw [← htg]
      funext i
      unfold tX
      rw [E1 8 (by decide)]
    have hs := X_sees S1 (lo := 97) (hi := 122) (by decide) (by decide)
    rw [htg1] at hs
    rw [show mX15_sees 80 g1 97 122 = _ from hs, cl1_s]
    have hZs := hrun_s (tX h) n (8 - j) a' x' F'
    rw [show 8 - j + 1 = 9 - j by omega, hZ'] at hZs
    have Ex1 : Ex [80, 82 + c] h g1 := fun q hq => by
      rw [E1 q (fun e => hq (by simp at e; rw [e]; simp))]
      exact hE q hq
    have n80 : 82 + c ∉ [80] := by
      simp only [List.mem_cons, List.not_mem_nil, or_false]
      omega
    have row1 : g1 (82 + c) = g (82 + c) := E1 _ n80
    -- a fault: nothing is laid, the loop ends
    have flt : ∀ w q, 0 < w → w ≤ 100 → q ≤ 100000 → Z.1 = some (w, q) → ∀ y, y = sA1 80 (sF 80 g1 w q) → R (k (nI x') 0 y) (fun h' => hPost h (82 + c) r n p Z h') := fun w q h1 h2 h3 hz y hy => by
      have S2 := SC_F S1 h2 h3
      have S3 := SC_A S2 (by omega)
      refine hk (j + 1) _ _ _ (by omega) (by omega) (Or.inr ⟨rfl, ?_, ?_, ?_, ?_⟩)
      · rw [hy]
        intro z hz9
        rw [Ex_A _ _ z (fun e => hz9 (by simp at e; rw [e]; simp)), Ex_F _ _ _ _ z (fun e => hz9 (by simp at e; rw [e]; simp))]
        exact Ex1 z hz9
      · rw [hy]
        intro i hi
        rw [A_i (by omega), F_i (by omega) (by omega), f1 i hi]
        exact h4 i hi
      · rw [hy]
        intro i hi
        rw [Ex_A _ _ (82 + c) n80, Ex_F _ _ _ _ (82 + c) n80, row1]
        exact hro i hi
      · rw [hz, hy]
        exact ⟨uA (tX h) n a' + 1, by omega, S3⟩
    have c82 : (nI c).toNatClampNeg = c := nI_clamp (by omega)
    rw [nm_s]
    have fl2 : ∀ w q, 0 < w → w ≤ 100 → q ≤ 100000 → Z.1 = some (w, q) → R (fx FU (fun _ _ _ => none) (fun k69 (x3_14 : Int32) (x7_15 : Int32) (h16 : Hp) => nm (cl1 (mX15_goesOn 80 h16) (fun h18 => cl1 (mX15_isGood 80 h18) (fun r20 => nm (fun (s21 : Int32) => k x3_14 s21 h18) (fun k144 => nm (k144 (0 : Int32)) (fun k143 => if r20 = 0 then k143 else cl1 (mX15_isEnd 80 h18) (fun r23 => if r23 = 0 then cl1 (mX15_here 80 h18) (fun r25 => if r25 = (59 : Int32) then k143 else k144 (1 : Int32)) else k143)))))) (fun k112 => if nI (tms (tX h) n a' 56) ≤ x7_15 then k112 else cl1 (mX15_isGood 80 h16) (fun r27 => if r27 = 0 then k112 else ck (nI c) 2 (cl1 (mX15_here 80 h16) (fun r30 => ck (8 * nI r + x3_14) 48 (nm (u2 h16 (82 + (nI c).toNatClampNeg) (8 * nI r + x3_14).toNatClampNeg (r30 - 97)) (fun h31 => k69 (x3_14 + 1) (x7_15 + 1) h31))))))) (nI x') 0 (sF 80 g1 w q)) (fun h' => hPost h (82 + c) r n p Z h') := fun w q h1 h2 h3 hz => by
      have S2 := SC_F S1 h2 h3
      have S3 := SC_A S2 (by omega)
      refine fx_R3 0 (fun _ x y hh => x = nI x' ∧ y = 0 ∧ hh = sF 80 g1 w q) (by decide) ⟨rfl, rfl, rfl⟩ ?_
      rintro _ _ _ _ k9 _ ⟨rfl, rfl, rfl⟩ _
      rw [nm_s, if_neg (nI_nle (by omega) (by omega)), X_isGood S2, cl1_s, decide_eq_false (by omega), bI_f, i00, X_goesOn, cl1_s, X_isGood S3, cl1_s, decide_eq_false (by omega), nm_s, nm_s, bI_f, i00]
      exact flt w q h1 h2 h3 hz _ rfl
    by_cases hl : 97 ≤ hc (tX h) n (uA (tX h) n a') ∧ hc (tX h) n (uA (tX h) n a') ≤ 122
    · rw [if_pos hl] at hZs
      rw [decide_eq_true hl, bI_t, i10, nI_add]
      by_cases hm : x' + tms (tX h) n a' 56 ≤ 8
      · rw [if_pos hm] at hZs
        rw [if_pos (l_lec (N := 8) (c := 8) rfl hm (by decide))]
        refine fx_R3 (tms (tX h) n a' 56) (fun i x y hh => x = nI (x' + i) ∧ y = nI i ∧ SC 80 hh n (uA (tX h) n a') 0 p ∧ RW hh (82 + c) r (uF F' x' i (hc (tX h) n (uA (tX h) n a') - 97)) ∧ Ex [80, 82 + c] h hh ∧ (∀ i, 4 ≤ i → hh 80 i = h 80 i) ∧ ∀ i, ¬ (8 * r ≤ i ∧ i < 8 * r + 8) → hh (82 + c) i = h (82 + c) i) (by show tms (tX h) n a' 56 < 100000; omega) ⟨rfl, rfl, S1, by rw [uF_0]; intro i hi; rw [row1]; exact hF' i hi, Ex1, fun i hi => by rw [f1 i hi]; exact h4 i hi, fun i hi => by rw [row1]; exact hro i hi⟩ ?_
        rintro i _ _ hh k9 hi ⟨rfl, rfl, Sh, Rh, Eh, fh, oh⟩ hk9
        have hth : tX hh = tX h := by
          funext z
          unfold tX
          rw [Eh 8 (by simp only [List.mem_cons, List.not_mem_nil, or_false]; omega)]
        rw [nm_s]
        by_cases him : i = tms (tX h) n a' 56
        · rw [if_pos (nI_le (by omega) (by omega)), X_goesOn, cl1_s]
          have S3 := SC_A Sh (by omega)
          have E3 : Ex [80, 82 + c] h (sA1 80 hh) := fun q hq => by
            rw [Ex_A _ _ q (fun e => hq (by simp at e; rw [e]; simp))]
            exact Eh q hq
          have R3 : RW (sA1 80 hh) (82 + c) r (uF F' x' (tms (tX h) n a' 56) (hc (tX h) n (uA (tX h) n a') - 97)) := fun z hz => by
            rw [Ex_A _ _ (82 + c) n80, ← him]
            exact Rh z hz
          have f3 : ∀ i, 4 ≤ i → sA1 80 hh 80 i = h 80 i := fun z hz => by
            rw [A_i (by omega)]
            exact fh z hz
          have o3 : ∀ i, ¬ (8 * r ≤ i ∧ i < 8 * r + 8) → sA1 80 hh (82 + c) i = h (82 + c) i := fun z hz => by
            rw [Ex_A _ _ (82 + c) n80]
            exact oh z hz
          have ht3 : tX (sA1 80 hh) = tX h := by
            funext z
            unfold tX
            rw [E3 8 (by simp only [List.mem_cons, List.not_mem_nil, or_false]; omega)]
          have hh3 := X_here S3
          rw [ht3] at hh3
          have h256 := hc_lt ht n (uA (tX h) n a' + 1)
          rw [X_isGood S3, cl1_s, decide_eq_true rfl, nm_s, nm_s, bI_t, i10, X_isEnd S3, cl1_s, hh3, cl1_s]
          by_cases he : uA (tX h) n a' + 1 < n ∧ hc (tX h) n (uA (tX h) n a' + 1) ≠ 59
          · rw [if_pos he] at hZs
            rw [decide_eq_false (by omega), bI_f, i00, if_neg (fun e => he.2 ((l_eq (N := 59) (c := 59) rfl (by decide) (by omega)).mp e))]
            exact hk (j + 1) _ _ _ (by omega) (by omega) (Or.inl ⟨rfl, by omega, _, x' + tms (tX h) n a' 56, _, by rw [him], by omega, hm, by omega, S3, R3, by rw [show 9 - (j + 1) = 8 - j by omega]; exact hZs.symm, E3, f3, o3⟩)
          · rw [if_neg he] at hZs
            have fin : R (k (nI (x' + i)) 0 (sA1 80 hh)) (fun h' => hPost h (82 + c) r n p Z h') := hk (j + 1) _ _ _ (by omega) (by omega) (Or.inr ⟨rfl, E3, f3, o3, by rw [hZs]; exact ⟨S3, R3⟩⟩)
            by_cases hen : n ≤ uA (tX h) n a' + 1
            · rw [decide_eq_true hen, bI_t, i10]
              exact fin
            · rw [decide_eq_false hen, bI_f, i00, if_pos ((l_eq (N := 59) (c := 59) rfl (by decide) (by omega)).mpr (by
                refine Classical.byContradiction (fun h9 => he ⟨by omega, h9⟩)))]
              exact fin
        · have hlt : i < tms (tX h) n a' 56 := by omega
          have hhh := X_here Sh
          rw [hth] at hhh
          rw [if_neg (nI_ge hlt (by omega)), X_isGood Sh, cl1_s, decide_eq_true rfl, bI_t, i10, ck_s hc2 (by decide), hhh, cl1_s, mul8, ck_s (show 8 * r + (x' + i) < 48 by omega) (by decide), nm_s, c82, nI_clamp (by omega), show (97 : Int32) = nI 97 from rfl, nI_subn hl.1, nI_1, nI_1]
          refine hk9 (i + 1) _ _ _ (by omega) (by omega) ⟨rfl, rfl, SC_c Sh (fun z _ => by rw [u2_n (by omega)]), fun z hz => ?_, fun q hq => ?_, fun z hz => ?_, fun z hz => ?_⟩
          · rw [u2_e]
            unfold uF
            by_cases e : z = x' + i
            · rw [e, upd_e, if_pos (by omega)]
            · rw [upd_n (by omega)]
              have := Rh z hz
              unfold uF at this
              rw [this]
              by_cases e2 : x' ≤ z ∧ z < x' + i
              · rw [if_pos e2, if_pos (by omega)]
              · rw [if_neg e2, if_neg (by omega)]
          · rw [u2_n (fun e => hq (by rw [e]; simp))]
            exact Eh q hq
          · rw [u2_n (by omega)]
            exact fh z hz
          · rw [u2_e, upd_n (by omega)]
            exact oh z hz
      · rw [if_neg hm] at hZs
        rw [if_neg (l_nlec (N := 8) (c := 8) rfl (by omega) (by omega)), show mX15_bad 80 g1 4 (nI a') = _ from X_bad0 S1 4 a', cl1_s]
        exact fl2 4 a' (by decide) (by decide) (by omega) (by rw [hZs])
    · rw [if_neg hl] at hZs
      rw [decide_eq_false hl, bI_f, i00, X_place S1, cl1_s, show mX15_bad 80 g1 1 (nI (uA (tX h) n a')) = _ from X_bad0 S1 1 _, cl1_s]
      exact fl2 1 _ (by decide) (by decide) (by omega) (by rw [hZs])
  · rw [i00]
    exact R_some hP
