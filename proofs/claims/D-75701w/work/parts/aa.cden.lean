/-! law: what conditions in a pool come to -/
set_option maxRecDepth 100000
def CDn (d : Nat) (P : va_W) (x : Nat) (G : VF) : Prop := (∀ V y, G V = some y → y = 0 ∨ y = 1) ∧ ∀ P', Sub P P' → Dst P' → ∀ (su co : Nat → Option Nat) (h : Hp) (d' : Nat), d ≤ d' → ∃ h', mHolds (su, co, P') d' x h = some ((G (Vh h)).getD 2, h') ∧ Ex [30] h h'
theorem CDn_m {d d2 : Nat} {P P2 : va_W} {x : Nat} {G : VF} (H : CDn d P x G) (hd : d ≤ d2) (hs : Sub P P2) : CDn d2 P2 x G := ⟨H.1, fun P' h1 h2 su co h d' h3 => H.2 P' (fun z hz => h1 z (hs z hz)) h2 su co h d' (by omega)⟩
theorem Vh_30 {h h' : Hp} (e : Ex [30] h h') : Vh h' = Vh h := by
  unfold Vh
  rw [e 31 (by decide)]
theorem Ex_rfs (h : Hp) : Ex [30] h (rfs h) := Ex_u2 _ _ _ _
theorem Ex_hrf (b : Bool) (h : Hp) : Ex [30] h (hrf b h) := by
  cases b
  · exact Ex_rfs h
  · exact Ex_r _ _
theorem cm_c {c : Nat} (h : cmS c ≠ 0) : c = 60 ∨ c = 62 ∨ c = 61 := by
  unfold cmS at h
  by_cases e1 : c = 60
  · exact Or.inl e1
  · rw [if_neg e1] at h
    by_cases e2 : c = 62
    · exact Or.inr (Or.inl e2)
    · rw [if_neg e2] at h
      by_cases e3 : c = 61
      · exact Or.inr (Or.inr e3)
      · rw [if_neg e3] at h
        exact absurd rfl h
theorem bF_c {op : Nat} (h : 7 ≤ op) (F1 F2 : VF) (V : Nat → Int32) : bF op F1 F2 V = match F1 V with
    | none => none
    | some x => match F2 V with
      | none => none
      | some y => some (rck op x y) := by
  unfold bF
  cases F1 V with
  | none => rfl
  | some x =>
    cases F2 V with
    | none => rfl
    | some y =>
      dsimp only
      rw [if_neg (by omega)]
theorem ltb (x y : Int32) : ¬ y ≤ x ↔ x < y := by
  rw [Int32.le_iff_toInt_le, Int32.lt_iff_toInt_lt]
  omega
theorem CDn_cmp {P : va_W} {x p u c : Nat} {F1 F2 : VF} (hc9 : cmS c ≠ 0) (hm : (x, .inr (11, [.ref p, .ref u, .int (nI c)])) ∈ P) (h1 : SDn 20 P p F1) (h2 : SDn 20 P u F2) : CDn 1 P x (bF (cmS c) F1 F2) := by
  have cc := cm_c hc9
  have c7 : 7 ≤ cmS c := by
    rcases cc with e | e | e <;> rw [e] <;> decide
  refine ⟨fun V y hy => ?_, fun P' hs hD su co h d' hd => ?_⟩
  · rw [bF_c c7] at hy
    cases e1 : F1 V with
    | none => rw [e1] at hy; cases hy
    | some a =>
      cases e2 : F2 V with
      | none => rw [e1, e2] at hy; cases hy
      | some b =>
        rw [e1, e2] at hy
        cases hy
        rcases cc with e | e | e
        · rw [e]
          show (if a < b then (1 : Int32) else 0) = 0 ∨ (if a < b then (1 : Int32) else 0) = 1
          split
          · exact Or.inr rfl
          · exact Or.inl rfl
        · rw [e]
          show (if b < a then (1 : Int32) else 0) = 0 ∨ (if b < a then (1 : Int32) else 0) = 1
          split
          · exact Or.inr rfl
          · exact Or.inl rfl
        · rw [e]
          show (if a = b then (1 : Int32) else 0) = 0 ∨ (if a = b then (1 : Int32) else 0) = 1
          split
          · exact Or.inr rfl
          · exact Or.inl rfl
  · obtain ⟨e, rfl⟩ : ∃ e, d' = e + 1 := ⟨d' - 1, by omega⟩
    rw [w_cmp (ndl_i hD (hs _ hm))]
    unfold mX14_holds
    rw [nm_s]
    have v0 : Vh (u2 h 30 1 0) = Vh h := rfl
    have f0 : u2 h 30 1 0 30 1 = 0 := by rw [u2_e, upd_e]
    have E0 : Ex [30] h (u2 h 30 1 0) := Ex_u2 _ _ _ _
    generalize u2 h 30 1 0 = h1' at v0 f0 E0
    obtain ⟨v1, w1, x1⟩ := h1 P' hs hD su co h1' 20 (Nat.le_refl _)
    rw [w1, cl2_s]
    obtain ⟨v2, w2, x2⟩ := h2 P' hs hD su co (hrf (F1 (Vh h1')).isSome h1') 20 (Nat.le_refl _)
    rw [show (if (F1 (Vh h1')).isSome = true then h1' else rfs h1') = hrf (F1 (Vh h1')).isSome h1' from rfl, w2, cl2_s]
    rw [Vh_h] at x2 ⊢
    rw [show (if (F2 (Vh h1')).isSome = true then hrf (F1 (Vh h1')).isSome h1' else rfs (hrf (F1 (Vh h1')).isSome h1')) = hrf (F2 (Vh h1')).isSome (hrf (F1 (Vh h1')).isSome h1') from rfl, hrf_h]
    rw [v0] at x1 x2 ⊢
    rw [nm_s, bF_c c7]
    have fin : ∀ s : Int32, (∀ a b, F1 (Vh h) = some a → F2 (Vh h) = some b → s = rck (cmS c) a b ∧ (s = 0 ∨ s = 1)) → ∃ h', nm (fun (s9 : Int32) => some (s9, hrf ((F2 (Vh h)).isSome && (F1 (Vh h)).isSome) h1')) (fun k100 => if (hrf ((F2 (Vh h)).isSome && (F1 (Vh h)).isSome) h1' 30 1) = 0 then (if s = 0 then (k100 (0 : Int32)) else (k100 (1 : Int32))) else (k100 (2 : Int32))) = some ((match F1 (Vh h) with
        | none => none
        | some x => match F2 (Vh h) with
          | none => none
          | some y => some (rck (cmS c) x y) : Option Int32).getD 2, h') ∧ Ex [30] h h' := by
      intro s hs9
      refine ⟨hrf ((F2 (Vh h)).isSome && (F1 (Vh h)).isSome) h1', ?_, Ex_tt E0 (Ex_hrf _ _)⟩
      rw [nm_s]
      have r1 : rfs h1' 30 1 = 1 := by
        unfold rfs
        rw [u2_e, upd_e]
      cases e1 : F1 (Vh h) with
      | none =>
        have : hrf ((F2 (Vh h)).isSome && (none : Option Int32).isSome) h1' 30 1 = 1 := by
          rw [show ((F2 (Vh h)).isSome && (none : Option Int32).isSome) = false by cases (F2 (Vh h)).isSome <;> rfl]
          exact r1
        rw [this, if_neg (by decide)]
        rfl
      | some a =>
        cases e2 : F2 (Vh h) with
        | none =>
          have : hrf ((none : Option Int32).isSome && (some a).isSome) h1' 30 1 = 1 := r1
          rw [this, if_neg (by decide)]
          rfl
        | some b =>
          have : hrf ((some b).isSome && (some a).isSome) h1' 30 1 = 0 := f0
          rw [this, if_pos rfl]
          obtain ⟨y1, y2⟩ := hs9 a b e1 e2
          rcases y2 with y2 | y2
          · rw [if_pos y2]
            show some ((0 : Int32), _) = some (rck (cmS c) a b, _)
            rw [← y1, y2]
          · rw [if_neg (by rw [y2]; decide)]
            show some ((1 : Int32), _) = some (rck (cmS c) a b, _)
            rw [← y1, y2]
    rcases cc with e | e | e
    · subst e
      rw [if_pos (show nI 60 = (60 : Int32) from rfl)]
      by_cases c1 : v2 ≤ v1
      · rw [if_pos c1]
        refine fin 0 (fun a b ea eb => ⟨?_, Or.inl rfl⟩)
        rw [← x1 a ea, ← x2 b eb]
        show (0 : Int32) = if v1 < v2 then 1 else 0
        rw [if_neg (fun h9 => (ltb _ _).mpr h9 c1)]
      · rw [if_neg c1]
        refine fin 1 (fun a b ea eb => ⟨?_, Or.inr rfl⟩)
        rw [← x1 a ea, ← x2 b eb]
        show (1 : Int32) = if v1 < v2 then 1 else 0
        rw [if_pos ((ltb _ _).mp c1)]
    · subst e
      rw [if_neg (show ¬ nI 62 = (60 : Int32) by decide), if_pos (show nI 62 = (62 : Int32) from rfl)]
      by_cases c1 : v1 ≤ v2
      · rw [if_pos c1]
        refine fin 0 (fun a b ea eb => ⟨?_, Or.inl rfl⟩)
        rw [← x1 a ea, ← x2 b eb]
        show (0 : Int32) = if v2 < v1 then 1 else 0
        rw [if_neg (fun h9 => (ltb _ _).mpr h9 c1)]
      · rw [if_neg c1]
        refine fin 1 (fun a b ea eb => ⟨?_, Or.inr rfl⟩)
        rw [← x1 a ea, ← x2 b eb]
        show (1 : Int32) = if v2 < v1 then 1 else 0
        rw [if_pos ((ltb _ _).mp c1)]
    · subst e
      rw [if_neg (show ¬ nI 61 = (60 : Int32) by decide), if_neg (show ¬ nI 61 = (62 : Int32) by decide)]
      by_cases c1 : v1 = v2
      · rw [if_pos c1]
        refine fin 1 (fun a b ea eb => ⟨?_, Or.inr rfl⟩)
        rw [← x1 a ea, ← x2 b eb]
        show (1 : Int32) = if v1 = v2 then 1 else 0
        rw [if_pos c1]
      · rw [if_neg c1]
        refine fin 0 (fun a b ea eb => ⟨?_, Or.inl rfl⟩)
        rw [← x1 a ea, ← x2 b eb]
        show (0 : Int32) = if v1 = v2 then 1 else 0
        rw [if_neg c1]
theorem CDn_not {P : va_W} {x p d : Nat} {G : VF} (hm : (x, .inr (10, [.ref p])) ∈ P) (h1 : CDn d P p G) : CDn (d + 1) P x (nF G) := by
  refine ⟨fun V y hy => ?_, fun P' hs hD su co h d' hd => ?_⟩
  · unfold nF at hy
    cases e1 : G V with
    | none => rw [e1] at hy; cases hy
    | some a =>
      rw [e1] at hy
      cases hy
      rcases h1.1 V a e1 with e | e <;> rw [e]
      · exact Or.inr (by decide)
      · exact Or.inl (by decide)
  · obtain ⟨e, rfl⟩ : ∃ e, d' = e + 1 := ⟨d' - 1, by omega⟩
    rw [w_not (ndl_i hD (hs _ hm))]
    unfold mX13_holds
    obtain ⟨h', w1, x1⟩ := h1.2 P' hs hD su co h e (by omega)
    rw [w1, cl2_s]
    refine ⟨h', ?_, x1⟩
    unfold nF
    rw [nm_s]
    cases e1 : G (Vh h) with
    | none => rfl
    | some a =>
      rcases h1.1 _ a e1 with e2 | e2 <;> subst e2 <;> rfl
/-! some -/
abbrev SmT : Type := List (Nat × Nat × VF)
def ChS (P : va_W) (de : Nat) (nx : Option Nat) : SmT → Prop
  | [] => True
  | z :: L => (z.1, .inr (9, [.ref z.2.1, .int (nI de), va_rf (hd1 L nx)])) ∈ P ∧ ChS P de nx L
def fS (de : Nat) (G : VF) : SmT → VF
  | [] => G
  | z :: L => fS de (jF (nI de) G z.2.2) L
theorem ChS_m {P P' : va_W} {de : Nat} {nx : Option Nat} (hs : Sub P P') : ∀ L, ChS P de nx L → ChS P' de nx L
  | [], _ => trivial
  | z :: L, h => ⟨hs _ h.1, ChS_m hs L h.2⟩
theorem ChS_a {P : va_W} {de : Nat} {nx : Option Nat} {z : Nat × Nat × VF} (hz : (z.1, .inr (9, [.ref z.2.1, .int (nI de), va_rf nx])) ∈ P) : ∀ L, ChS P de (some z.1) L → ChS P de nx (L ++ [z])
  | [], _ => ⟨hz, trivial⟩
  | y :: L, h => ⟨by rw [show hd1 (L.append [z]) nx = _ from hd1_a L z nx]; exact h.1, ChS_a hz L h.2⟩
theorem fS_a (de : Nat) (G : VF) (z : Nat × Nat × VF) : ∀ L : SmT, fS de G (L ++ [z]) = jF (nI de) (fS de G L) z.2.2
  | [] => rfl
  | y :: L => by
    show fS de _ (L ++ [z]) = jF _ (fS de _ L) _
    exact fS_a de (jF (nI de) G y.2.2) z L
theorem fS_stop {de : Nat} {V : Nat → Int32} : ∀ (L : SmT) (G : VF), (G V = none ∨ G V = some (nI de)) → fS de G L V = G V
  | [], _, _ => rfl
  | z :: L, G, h => by
    have e : jF (nI de) G z.2.2 V = G V := by
      unfold jF
      rcases h with h | h
      · rw [h]
      · rw [h]
        dsimp only
        rw [if_pos rfl]
    show fS de (jF (nI de) G z.2.2) L V = G V
    rw [fS_stop L _ (by rw [e]; exact h), e]
theorem some_ev {P' : va_W} {su co : Nat → Option Nat} {d de : Nat} (hde : de = 0 ∨ de = 1) (hD : Dst P') {V : Nat → Int32} : ∀ (L : SmT) (m : Nat) (G : VF) (h : Hp), L.length < m → ChS P' de none L → (∀ z, z ∈ L → CDn d P' z.2.1 z.2.2) → Vh h = V → G V = some (nI (1 - de)) → ∃ h', fx m (fun _ _ => none) (fun (k2 : Option Nat → Hp → Option (Int32 × Hp)) (x2_1 : Option Nat) (h2 : Hp) =>
ifn x2_1 (
some (((1 : Int32) - nI de), h2)) (fun a3 =>
cl3 (ndSome P' a3) (fun n4 y5 z6 =>
cl2 (mHolds (su, co, P') d n4 h2) (fun r8 h9 =>
nm (
some (r8, h9)) (fun k28 =>
if r8 = (2 : Int32) then (
k28) else (
if r8 = nI de then (
k28) else (
k2 z6 h9))))))) (hd1 L none) h = some ((fS de G L V).getD 2, h') ∧ Ex [30] h h'
  | [], m, G, h, hm, _, _, _, hG => by
    obtain ⟨m, rfl⟩ : ∃ k, m = k + 1 := ⟨m - 1, by simp at hm; omega⟩
    rw [fx_s]
    refine ⟨h, ?_, Ex_r _ _⟩
    show some ((1 : Int32) - nI de, h) = some ((G V).getD 2, h)
    rw [hG]
    rcases hde with e | e <;> subst e <;> rfl
  | z :: L, m, G, h, hm, hC, hS, hV, hG => by
    obtain ⟨m, rfl⟩ : ∃ k, m = k + 1 := ⟨m - 1, by simp at hm; omega⟩
    rw [fx_s]
    obtain ⟨s1, s2⟩ := hS z (List.mem_cons_self ..)
    obtain ⟨h', e1, e2⟩ := s2 P' (fun _ h => h) hD su co h d (Nat.le_refl _)
    show ∃ h'', cl3 (ndSome P' z.1) _ = _ ∧ _
    rw [nd_some (ndl_i hD hC.1)]
    show ∃ h'', cl2 (mHolds (su, co, P') d z.2.1 h) _ = _ ∧ _
    rw [e1, cl2_s, nm_s, hV]
    have ej : jF (nI de) G z.2.2 V = z.2.2 V := by
      unfold jF
      rw [hG]
      dsimp only
      rw [if_neg (by rcases hde with e | e <;> subst e <;> decide)]
    have ef : fS de G (z :: L) V = fS de (jF (nI de) G z.2.2) L V := rfl
    rw [ef]
    cases ez : z.2.2 V with
    | none =>
      rw [fS_stop L _ (Or.inl (by rw [ej]; exact ez)), ej, ez]
      rw [if_pos (show (none : Option Int32).getD 2 = (2 : Int32) from rfl)]
      exact ⟨h', rfl, e2⟩
    | some y =>
      have y2 : ¬ y = (2 : Int32) := by
        rcases s1 V y ez with e | e <;> rw [e] <;> decide
      by_cases cy : y = nI de
      · rw [fS_stop L _ (Or.inr (by rw [ej, ez, cy])), ej, ez]
        show ∃ h'', (if y = (2 : Int32) then _ else if y = nI de then _ else _) = _ ∧ _
        rw [if_neg y2, if_pos cy]
        exact ⟨h', rfl, e2⟩
      · show ∃ h'', (if y = (2 : Int32) then _ else if y = nI de then _ else _) = _ ∧ _
        rw [if_neg y2, if_neg cy]
        have hy : y = nI (1 - de) := by
          rcases s1 V y ez with e | e <;> rcases hde with e3 | e3 <;> subst e3 <;> first
            | exact e
            | exact absurd e cy
        obtain ⟨h2, w1, w2⟩ := some_ev hde hD (V := V) L m (jF (nI de) G z.2.2) h' (by simp at hm; omega) hC.2 (fun w hw => hS w (List.mem_cons_of_mem _ hw)) (by rw [Vh_30 e2]; exact hV) (by rw [ej, ez, hy])
        exact ⟨h2, w1, Ex_tt e2 w2⟩
theorem fS_01 {de : Nat} (hde : de = 0 ∨ de = 1) : ∀ (L : SmT) (G : VF), (∀ V y, G V = some y → y = 0 ∨ y = 1) → (∀ z, z ∈ L → ∀ V y, z.2.2 V = some y → y = 0 ∨ y = 1) → ∀ V y, fS de G L V = some y → y = 0 ∨ y = 1
  | [], G, h, _ => h
  | z :: L, G, h, hz => fS_01 hde L (jF (nI de) G z.2.2) (fun V y hy => by
      unfold jF at hy
      cases e : G V with
      | none => rw [e] at hy; cases hy
      | some a =>
        rw [e] at hy
        dsimp only at hy
        by_cases c : a = nI de
        · rw [if_pos c] at hy
          cases hy
          exact h V _ e
        · rw [if_neg c] at hy
          exact hz z (List.mem_cons_self ..) V y hy) (fun w hw => hz w (List.mem_cons_of_mem _ hw))
theorem CDn_some {P : va_W} {d de : Nat} (hde : de = 0 ∨ de = 1) {z : Nat × Nat × VF} {L : SmT} (hL : L.length < 90000) (hC : ChS P de none (z :: L)) (hS : ∀ y, y ∈ z :: L → CDn d P y.2.1 y.2.2) : CDn (d + 1) P z.1 (fS de z.2.2 L) := by
  refine ⟨fS_01 hde L _ (hS z (List.mem_cons_self ..)).1 (fun w hw => (hS w (List.mem_cons_of_mem _ hw)).1), fun P' hs hD su co h d' hd => ?_⟩
  obtain ⟨e, rfl⟩ : ∃ e, d' = e + 1 := ⟨d' - 1, by omega⟩
  have hC' := ChS_m hs _ hC
  rw [w_some (ndl_i hD hC'.1)]
  unfold mX12_holds
  obtain ⟨h', w1, w2⟩ := some_ev (su := su) (co := co) (d := e) hde hD (V := Vh h) (z :: L) FU (fun _ => some (nI (1 - de))) h (by show L.length + 1 < 100000; omega) hC' (fun y hy => CDn_m (hS y hy) (by omega) hs) rfl rfl
  refine ⟨h', w1.trans ?_, w2⟩
  have : fS de (fun _ => some (nI (1 - de))) (z :: L) = fS de z.2.2 L := by
    show fS de (jF (nI de) (fun _ => some (nI (1 - de))) z.2.2) L = _
    congr 1
    funext V
    unfold jF
    dsimp only
    rw [if_neg (by rcases hde with e | e <;> subst e <;> decide)]
  rw [this]
