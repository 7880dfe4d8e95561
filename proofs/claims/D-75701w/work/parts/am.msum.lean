/-! law: the reference's sum -/
set_option maxRecDepth 100000
section
variable {t : Nat → Nat} {n a o e : Nat} {h : Hp} {S W K : List Nat} {q : Zq}
abbrev pps (sg s : Nat) : Prop := s < 7 ∧ (4 ≤ s ∨ sg < 4)
theorem cs_b : ∀ (s : Fin 15) (b : Bool), (2 ≤ s.val) → (if nI s.val < 4 then (if bI b = 0 then false else if nI s.val = 2 then true else if nI s.val = 3 then true else false) else if nI s.val ≤ 6 then true else (if bI b = 0 then false else if nI s.val = 2 then true else if nI s.val = 3 then true else false)) = decide (s.val < 7 ∧ (4 ≤ s.val ∨ b = true)) := by decide +kernel
theorem cs_i {ρ : Type} (A B : ρ) {v x1 : Int32} (p : Bool) (hb : (if v < 4 then (if x1 = 0 then false else if v = 2 then true else if v = 3 then true else false) else if v ≤ 6 then true else (if x1 = 0 then false else if v = 2 then true else if v = 3 then true else false)) = p) : (if v < 4 then (if x1 = 0 then B else if v = 2 then A else if v = 3 then A else B) else if v ≤ 6 then A else (if x1 = 0 then B else if v = 2 then A else if v = 3 then A else B)) = if p = true then A else B := by
  subst hb
  by_cases c1 : v < 4
  · simp only [if_pos c1]
    by_cases c2 : x1 = 0
    · simp [c2]
    · by_cases c3 : v = 2
      · simp [c2, c3]
      · by_cases c4 : v = 3
        · simp [c2, c4]
        · simp [c2, c3, c4]
  · simp only [if_neg c1]
    by_cases c0 : v ≤ 6
    · simp [c0]
    · simp only [if_neg c0]
      by_cases c2 : x1 = 0
      · simp [c2]
      · by_cases c3 : v = 2
        · simp [c2, c3]
        · by_cases c4 : v = 3
          · simp [c2, c4]
          · simp [c2, c3, c4]
theorem M_closes {sg : Nat} {x1 : Int32} (esg : sgn (hc t n a) = sg) (hx : x1 = bI (decide (sg < 4))) (hS : SO S) (hW : WO W) (T : MT h n a o e (S.map (uN * ·) ++ W) K) : R (mX5_closesSums h x1) (fun g => MFr h g ∧ ∃ S' K', Rn t n (2, a, o, S, K, q) (2, a, o, S', K', q) ∧ MT g n a o e (S'.map (uN * ·) ++ W) K' ∧ SO S' ∧ (14 ∈ S' ↔ 14 ∈ S) ∧ (∀ s S2, S' = s :: S2 → ¬ pps sg s)) := by
  unfold mX5_closesSums
  refine fx_R1 300 (fun j g => MFr h g ∧ ∃ S' K', S'.length + j = S.length ∧ Rn t n (2, a, o, S, K, q) (2, a, o, S', K', q) ∧ MT g n a o e (S'.map (uN * ·) ++ W) K' ∧ SO S' ∧ (14 ∈ S' ↔ 14 ∈ S)) (by decide) ⟨MFr_r h, S, K, rfl, Rn_r, T, hS, Iff.rfl⟩ ?_
  rintro j g k hj ⟨hF, S', K', hl, hR, ⟨T1, T2⟩, hS', h14⟩ hk
  have hb := MV_b T2
  have hb0 := MV_b T.2
  rw [List.length_append, List.length_map] at hb0
  have hT := M_top T1
  simp only [hT, cl1_q, nm_q]
  cases S' with
  | nil =>
    rw [cs_i _ _ false]
    · refine R_some ⟨hF, [], K', hR, ⟨T1, T2⟩, hS', h14, fun s S2 e9 => by cases e9⟩
    · cases W with
      | nil =>
        subst hx
        show (if (-1 : Int32) < 4 then _ else _) = false
        rw [if_pos (by decide)]
        cases decide (sg < 4) <;> rfl
      | cons w W =>
        obtain ⟨w1, w2⟩ := hW w (List.mem_cons_self ..)
        subst hx
        have := cs_b ⟨w / uN, by omega⟩ (decide (sg < 4)) (by dsimp only; omega)
        dsimp only at this
        rw [show topv (List.map (fun x => uN * x) [] ++ w :: W) = nI (w / uN) from rfl, this, decide_eq_false (by omega)]
  | cons s S2 =>
    have hs := hS' s (List.mem_cons_self ..)
    have et : topv (List.map (fun x => uN * x) (s :: S2) ++ W) = nI s := by
      show nI (uN * s / uN) = _
      rw [uN_d]
    rw [et, cs_i _ _ (decide (pps sg s))]
    · by_cases c : pps sg s
      · rw [if_pos (decide_eq_true c)]
        have c7 := c.1
        obtain ⟨h', e1, e2, e3⟩ := M_notes T1 (op := s) (v := 0) (by unfold uN; omega) (by omega)
        rw [show mX5_notes g (nI s) 0 = _ from e1, cl1_q]
        have e4 := MS_pop e2
        obtain ⟨v1, v2⟩ := MV_cl (z := uN * s + 0) T2 (by unfold pdB; rw [uN_d]; exact decide_eq_true (by omega))
        have ho : onB (uN * s) = false := by unfold onB; rw [uN_d]; exact decide_eq_false (by omega)
        rw [ho] at v1
        rw [List.length_cons] at hl
        refine hk (j + 1) _ (by omega) (by omega) ⟨MFr_u (MFr_t hF e3) (by decide), S2, K' ++ [uN * s], by omega, Rn_t hR (Rn_s ?_), ⟨e4, v1⟩, fun s9 h9 => hS' s9 (List.mem_cons_of_mem _ h9), ?_⟩
        · show zA t n a o (s :: S2) K' q = _
          unfold zA
          dsimp only
          rw [esg, if_pos c]
        · rw [← h14, List.mem_cons]
          exact ⟨Or.inr, fun x => x.resolve_left (by omega)⟩
      · rw [if_neg (by simp [c])]
        refine R_some ⟨hF, s :: S2, K', hR, ⟨T1, T2⟩, hS', h14, fun s3 S3 e9 => by cases e9; exact c⟩
    · subst hx
      have := cs_b ⟨s, by omega⟩ (decide (sg < 4)) (by dsimp only; omega)
      dsimp only at this
      rw [this]
      unfold pps
      simp
theorem M_hasOpen (T : MT h n a o e (S.map (uN * ·) ++ W) K) : mX5_hasOpenSum h (nI W.length) = some (bI (decide (14 ∈ S))) := by
  obtain ⟨T1, T2⟩ := T
  have hb := MV_b T2
  have hl : (S.map (uN * ·) ++ W).length = S.length + W.length := by simp
  rw [hl] at hb
  have h13 := T1.2.2.2.1
  rw [hl] at h13
  have key : R (mX5_hasOpenSum h (nI W.length)) (fun r => r = bI (decide (14 ∈ S))) := by
    unfold mX5_hasOpenSum
    refine fx_R1 300 (fun j x => x = nI (W.length + j) ∧ j ≤ S.length ∧ ∀ i, i < j → S.reverse[i]? ≠ some 14) (by decide) ⟨rfl, by omega, fun i hi => by omega⟩ ?_
    rintro j x k hj ⟨rfl, hjl, hN⟩ hk
    rw [h13]
    by_cases c : j = S.length
    · subst c
      rw [if_pos (nI_le (by omega) (by omega)), bz_0]
      refine R_some ?_
      rw [decide_eq_false]
      · rfl
      · intro h9
        rw [← List.mem_reverse] at h9
        obtain ⟨i, hi⟩ := List.mem_iff_getElem?.mp h9
        refine hN i ?_ hi
        have := (List.getElem?_eq_some_iff.mp hi).1
        rw [List.length_reverse] at this
        exact this
    · obtain ⟨s, hs⟩ : ∃ s, S.reverse[j]? = some s := ⟨_, List.getElem?_eq_getElem (by rw [List.length_reverse]; omega)⟩
      obtain ⟨g1, g2⟩ := T1.2.2.2.2.1 (W.length + j) (uN * s) (by
        rw [List.reverse_append, List.getElem?_append_right (by simp), List.length_reverse, Nat.add_sub_cancel_left, ← List.map_reverse, List.getElem?_map, hs]
        rfl)
      rw [if_neg (nI_ge (by omega) (by omega)), ck_s (by omega) (by decide), nI_clamp (by omega), g1, show nI (uN * s) / 1048576 = nI s by
        show nI (uN * s) / nI 1048576 = _
        unfold uN at g2
        rw [pk_div (by unfold uN; omega) (by decide) (by decide)]
        show nI (uN * s / uN) = _
        rw [uN_d]]
      unfold uN at g2
      by_cases c2 : s = 14
      · rw [if_pos (by rw [c2]; rfl), bz_1]
        refine R_some ?_
        rw [decide_eq_true]
        · rfl
        · rw [← List.mem_reverse]
          exact List.mem_iff_getElem?.mpr ⟨j, by rw [hs, c2]⟩
      · rw [if_neg (fun e9 => c2 ((l_eq (N := 14) (c := 14) rfl (by decide) (by omega)).mp e9)), nI_1]
        refine hk (j + 1) _ (by omega) (by omega) ⟨rfl, by omega, fun i hi => ?_⟩
        by_cases c3 : i = j
        · rw [c3, hs]
          intro e9
          cases e9
          exact c2 rfl
        · exact hN i (by omega)
  obtain ⟨r, e1, e2⟩ := key
  rw [e1, e2]
theorem zA_bad (h0 : sgn (hc t n a) = 0) (h93 : hc t n a ≠ 93) : ∀ (S K : List Nat), SO S → 14 ∈ S → Hz t n (2, a, o, S, K, q) (.inl (1, a))
  | [], K, _, h => by cases h
  | s :: S, K, hS, h => by
    have hs := hS s (List.mem_cons_self ..)
    by_cases c : s = 14
    · refine Hz_s ?_
      show zA t n a o (s :: S) K q = _
      unfold zA
      dsimp only
      rw [h0, if_neg (by omega), if_neg (by omega), if_neg h93]
    · refine Rn_s (s' := (2, a, o, S, K ++ [uN * s], q)) ?_ _ (zA_bad h0 h93 S _ (fun x hx => hS x (List.mem_cons_of_mem _ hx)) ((List.mem_cons.mp h).resolve_left (fun e9 => c e9.symm)))
      show zA t n a o (s :: S) K q = _
      unfold zA
      dsimp only
      rw [h0, if_pos (by omega)]
theorem sgn_b (c : Nat) : sgn c = 0 ∨ (2 ≤ sgn c ∧ sgn c ≤ 6 ∧ 0 < c ∧ c ≠ 93) := by
  unfold sgn
  repeat' split
  all_goals omega
theorem M_sum (et : tM h = t) (hW : WO W) (T : MT h n a o e W K) : R (mX5_readsSum h) (MO t n (1, a, o, [], K, q) h (fun g s' => ∃ a' K', s' = (6, a', o, [], K', q) ∧ a < a' ∧ MT g n a' o e W K')) := by
  have ht : ∀ i, t i < 256 := fun i => by rw [← et]; exact oct_lt _
  have hO := T.2.2.2.2.2.1
  unfold mX5_readsSum
  rw [nm_s, T.1.2.2.2.1]
  refine MO_c (M_factor (S := []) (W := W) et T) (MFr_r h) Rn_r (fun b => rfl) ?_
  rintro b s' hF1 - hR1 ⟨a1, o1, S1, K1, rfl, ha1, hT1, hS1⟩
  rw [if_neg (by decide)]
  refine fx_R1 300 (fun j g => ∃ o' S' K', MFr h g ∧ Rn t n (1, a, o, [], K, q) (2, a1 + j, o', S', K', q) ∧ MT g n (a1 + j) o' e (S'.map (uN * ·) ++ W) K' ∧ SO S') (by decide) ⟨o1, S1, K1, hF1, hR1, hT1, hS1 (fun s hs => by cases hs)⟩ ?_
  rintro j g k hj ⟨o', S', K', hF, hR, T', hS⟩ hk
  have eg : tM g = t := tM_F hF et
  have hh := M_here T'.1.1
  have hb := MV_b T'.2
  have hp7 := T'.1.1.2.1
  have hop := M_hasOpen T'
  rw [eg] at hh
  rw [hh, cl1_s, M_sign ht, cl1_s, nm_s]
  rcases sgn_b (hc t n (a1 + j)) with c0 | ⟨c1, c2, c3, c4⟩
  · rw [if_pos c0, if_pos rfl]
    simp only [hop, nm_q, cl1_q]
    by_cases c14 : 14 ∈ S'
    · rw [decide_eq_true c14, bI_t, i10]
      by_cases c93 : hc t n (a1 + j) = 93
      · have hin := hc_in (t := t) (n := n) (i := a1 + j) (by omega)
        rw [if_pos ((M_is t (c := 93) (C := 93) rfl (by decide) (by decide) ht).mpr c93)]
        refine R_c1 (M_closes (q := q) c0 (x1 := 1) rfl hS hW T') (fun g2 hg2 => ?_)
        obtain ⟨f1, S2, K2, f2, ⟨f3, f3'⟩, f4, f5, f6⟩ := hg2
        have f7 := f5.mpr c14
        cases S2 with
        | nil => cases f7
        | cons s S3 =>
          have hs := f4 s (List.mem_cons_self ..)
          have f8 := f6 s S3 rfl
          unfold pps at f8
          have hs14 : s = 14 := by omega
          subst hs14
          have p1 := MS_pop f3
          obtain ⟨v1, v2⟩ := MV_tl f3' (by decide)
          have v3 := v2 (by decide)
          rw [show onB (uN * 14) = true by decide, if_pos rfl] at v1
          have e11 := p1.2.1
          rw [e11, show nI o' - 1 = nI (o' - 1) from nI_subn (b := 1) v3]
          have p2 := MS_opn p1 (o' := o' - 1) (by have := p1.2.2.1; omega)
          rw [p2.1.2.1, nI_1]
          refine hk (j + 1) _ (by omega) (by omega) ⟨o' - 1, S3, K2, MFr_u (MFr_u (MFr_u (MFr_t hF f1) (by decide)) (by decide)) (by decide), Rn_t hR (Rn_t f2 (Rn_s ?_)), ⟨MS_pos p2 (by omega), MV_a v1 (by omega) (by omega)⟩, fun s9 h9 => f4 s9 (List.mem_cons_of_mem _ h9)⟩
          show zA t n (a1 + j) o' (14 :: S3) K2 q = _
          unfold zA
          dsimp only
          rw [c0, if_neg (by decide), if_neg (by decide), if_pos c93]
          rfl
      · rw [if_neg (fun e9 => c93 ((M_is t (c := 93) (C := 93) rfl (by decide) (by decide) ht).mp e9)), i10]
        refine MO_w (a := a1 + j) 1 rfl hp7 hF (hR _ (zA_bad c0 c93 S' K' hS c14)) (fun b => rfl)
    · rw [decide_eq_false c14, bI_f, i00, i00]
      rw [ite_self]
      refine R_c1 (M_closes (q := q) c0 (x1 := 1) rfl hS hW T') (fun g2 hg2 => ?_)
      obtain ⟨f1, S2, K2, f2, ⟨f3, f3'⟩, f4, f5, f6⟩ := hg2
      have hs2 : S2 = [] := by
        cases S2 with
        | nil => rfl
        | cons s S3 =>
          have hs := f4 s (List.mem_cons_self ..)
          have f8 := f6 s S3 rfl
          unfold pps at f8
          exact absurd (f5.mp (by rw [show s = 14 by omega]; exact List.mem_cons_self ..)) c14
      subst hs2
      have ho : o' = o := by
        rw [hO]
        exact f3'.2.2.2.2.1
      subst ho
      rw [bz_1]
      refine R_some ⟨MFr_t hF f1, Or.inr ⟨rfl, _, Rn_t hR (Rn_t f2 (Rn_s ?_)), a1 + j, K2, rfl, by omega, f3, f3'⟩⟩
      show zA t n (a1 + j) o' [] K2 q = _
      unfold zA
      dsimp only
      rw [c0, if_neg (by decide)]
  · have hin := hc_in (t := t) (n := n) (i := a1 + j) c3
    rw [if_neg (show ¬ sgn (hc t n (a1 + j)) = 0 by omega), if_neg (fun e9 => by
      have := congrArg Int32.toInt e9
      rw [nI_toInt (by omega)] at this
      simp at this)]
    generalize hsg : sgn (hc t n (a1 + j)) = sg at c1 c2
    refine R_let (fun x => x = bI (decide (sg < 4))) ?_ ?_
    · intro x1 hx
      refine R_c1 (M_closes (q := q) hsg hx hS hW T') (fun g2 hg2 => ?_)
      obtain ⟨f1, S2, K2, f2, ⟨f3, f3'⟩, f4, f5, f6⟩ := hg2
      have hb2 := MV_b f3'
      rw [f3.2.2.2.1, ck_s (by omega) (by decide), nI_clamp (by omega), nm_s, nm_s, show (1048576 : Int32) * nI sg = nI (uN * sg) by
        rw [show (1048576 : Int32) = nI uN from rfl, nI_ml]]
      have p1 := MS_push f3 (w := uN * sg) (by unfold uN; omega) (by omega)
      have p2 := MV_p f3' hin (x := uN * sg) (by rw [uN_d]; omega)
      have ho : onB (uN * sg) = false := by unfold onB; rw [uN_d]; exact decide_eq_false (by omega)
      rw [ho] at p2
      have p3 := MS_pos p1 (a' := a1 + j + 1) (by omega)
      rw [p1.1.2.1, nI_1, nm_s]
      have hF2 := MFr_u (i := 7) (v := nI (a1 + j + 1)) (MFr_u (i := 13) (v := u2 g2 217 (S2.map (uN * ·) ++ W).length (nI (uN * sg)) 300 13 + 1) (MFr_v (i := (S2.map (uN * ·) ++ W).length) (v := nI (uN * sg)) (MFr_t hF f1) (Or.inr rfl)) (by decide)) (by decide)
      refine MO_c (M_factor (q := q) (S := sg :: S2) (W := W) (tM_F hF2 et) ⟨p3, p2⟩) hF2 (Rn_t hR (Rn_t f2 (Rn_s ?_))) (fun b => rfl) ?_
      · show zA t n (a1 + j) o' S2 K2 q = _
        unfold zA
        cases S2 with
        | nil =>
          dsimp only
          rw [hsg, if_pos (by omega)]
        | cons s S3 =>
          have f8 := f6 s S3 rfl
          unfold pps at f8
          dsimp only
          rw [hsg, if_neg f8, if_pos (by omega)]
      · rintro b3 s3 hF3 - hR3 ⟨a3, o3, S3, K3, rfl, ha3, hT3, hS3⟩
        dsimp only
        rw [if_neg (by decide)]
        refine hk (a3 - a1) b3 (by omega) (by have := MV_b hT3.2; omega) ⟨o3, S3, K3, hF3, ?_, ?_, hS3 (fun s hs => ?_)⟩
        · rw [show a1 + (a3 - a1) = a3 by omega]
          exact hR3
        · rw [show a1 + (a3 - a1) = a3 by omega]
          exact hT3
        · rcases List.mem_cons.mp hs with e1 | e1
          · exact Or.inl ⟨by omega, by omega⟩
          · exact f4 s e1
    · intro k38 hk38
      by_cases c4' : 4 ≤ sg
      · rw [if_pos (l_le (N := 4) (c := 4) rfl c4' (by omega))]
        exact hk38 0 (by rw [decide_eq_false (by omega)]; rfl)
      · rw [if_neg (l_ge (N := 4) (c := 4) rfl (by omega) (by decide))]
        exact hk38 1 (by rw [decide_eq_true (by omega)]; rfl)
end
