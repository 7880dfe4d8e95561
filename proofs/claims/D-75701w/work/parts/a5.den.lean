/-! law: what trees in a pool come to -/
set_option maxRecDepth 100000
abbrev Sub (P P' : va_W) : Prop := ∀ z, z ∈ P → z ∈ P'
theorem ndl_of : ∀ {P : va_W} {x : Nat} {e : va_E}, Dst P → (x, e) ∈ P → P.find? (fun q => q.1 == x) = some (x, e)
  | [], x, e, _, h => by cases h
  | p :: P, x, e, hd, h => by
    unfold Dst at hd
    rw [List.pairwise_cons] at hd
    rcases List.mem_cons.mp h with h | h
    · subst h
      rw [List.find?_cons_of_pos (by simp)]
    · have hne := hd.1 _ h
      rw [List.find?_cons_of_neg (by simp; exact hne)]
      exact ndl_of (P := P) hd.2 h
theorem ndl_i {P : va_W} {x : Nat} {o : Nat × List Value} (hd : Dst P) (h : (x, .inr o) ∈ P) : ndl P x = some o := by
  unfold ndl
  rw [ndl_of hd h]
section
variable {P : va_W} {su co : Nat → Option Nat} {x d : Nat} {h : Hp}
theorem w_num {v : Int32} (hn : ndl P x = some (7, [.int v])) : mWorth (su, co, P) (d + 1) x h = some (v, h) := by
  have e : ndNum P x = some v := by
    unfold ndNum
    rw [hn]
    rfl
  unfold mWorth
  dsimp only
  rw [e]
  rfl
theorem w_let {v : Int32} (hn : ndl P x = some (8, [.int v])) : mWorth (su, co, P) (d + 1) x h = ck v 128 (some (h 31 v.toNatClampNeg, h)) := by
  have e : ndNum P x = none := by
    unfold ndNum
    rw [hn]
    rfl
  have e2 : ndLet P x = some v := by
    unfold ndLet
    rw [hn]
    rfl
  unfold mWorth
  dsimp only
  rw [e, e2]
  rfl
theorem nd_row {s : Int32} {p : Nat} {nx : Option Nat} (hn : ndl P x = some (6, [.int s, .ref p, va_rf nx])) : ndRow P x = some (s, p, nx) := by
  unfold ndRow
  rw [hn]
  cases nx <;> rfl
theorem w_row {s : Int32} {p : Nat} {nx : Option Nat} (hn : ndl P x = some (6, [.int s, .ref p, va_rf nx])) : mWorth (su, co, P) (d + 1) x h = mX8_worth (su, co, P) (mWorth (su, co, P) d) s p nx h := by
  have e : ndNum P x = none := by
    unfold ndNum
    rw [hn]
    rfl
  have e2 : ndLet P x = none := by
    unfold ndLet
    rw [hn]
    rfl
  conv => lhs; unfold mWorth
  dsimp only
  rw [e, e2, nd_row hn]
theorem w_cmp {s : Int32} {p u : Nat} (hn : ndl P x = some (11, [.ref p, .ref u, .int s])) : mHolds (su, co, P) (d + 1) x h = mX14_holds (su, co, P) (mWorth (su, co, P) 20) p u s h := by
  have e : ndCmp P x = some (p, u, s) := by
    unfold ndCmp
    rw [hn]
    rfl
  unfold mHolds
  dsimp only
  rw [e]
theorem w_not {p : Nat} (hn : ndl P x = some (10, [.ref p])) : mHolds (su, co, P) (d + 1) x h = mX13_holds (su, co, P) (mHolds (su, co, P) d) p h := by
  have e : ndCmp P x = none := by
    unfold ndCmp
    rw [hn]
    rfl
  have e2 : ndNot P x = some p := by
    unfold ndNot
    rw [hn]
    rfl
  conv => lhs; unfold mHolds
  dsimp only
  rw [e, e2]
theorem nd_some {s : Int32} {p : Nat} {nx : Option Nat} (hn : ndl P x = some (9, [.ref p, .int s, va_rf nx])) : ndSome P x = some (p, s, nx) := by
  unfold ndSome
  rw [hn]
  cases nx <;> rfl
theorem w_some {s : Int32} {p : Nat} {nx : Option Nat} (hn : ndl P x = some (9, [.ref p, .int s, va_rf nx])) : mHolds (su, co, P) (d + 1) x h = mX12_holds (su, co, P) (mHolds (su, co, P) d) p s nx x h := by
  have e : ndCmp P x = none := by
    unfold ndCmp
    rw [hn]
    rfl
  have e2 : ndNot P x = none := by
    unfold ndNot
    rw [hn]
    rfl
  conv => lhs; unfold mHolds
  dsimp only
  rw [e, e2, nd_some hn]
end
def Vh (h : Hp) : Nat → Int32 := fun i => h 31 (fct i)
def rfs (h : Hp) : Hp := u2 h 30 1 1
theorem Vh_r (h : Hp) : Vh (rfs h) = Vh h := rfl
theorem rfs_r (h : Hp) : rfs (rfs h) = rfs h := by
  unfold rfs
  funext q i
  by_cases c : q = 30
  · subst c
    rw [u2_e, u2_e]
    by_cases c2 : i = 1
    · subst c2
      rw [upd_e, upd_e]
    · rw [upd_n c2, upd_n c2]
  · rw [u2_n c, u2_n c]
/-- the sum at x comes to F, in every pool above P -/
def SDn (d : Nat) (P : va_W) (x : Nat) (F : VF) : Prop := ∀ P', Sub P P' → Dst P' → ∀ (su co : Nat → Option Nat) (h : Hp) (d' : Nat), d ≤ d' → ∃ v, mWorth (su, co, P') d' x h = some (v, if (F (Vh h)).isSome then h else rfs h) ∧ ∀ z, F (Vh h) = some z → v = z
theorem SDn_m {d d2 : Nat} {P P2 : va_W} {x : Nat} {F : VF} (H : SDn d P x F) (hd : d ≤ d2) (hs : Sub P P2) : SDn d2 P2 x F := fun P' h1 h2 su co h d' h3 => H P' (fun z hz => h1 z (hs z hz)) h2 su co h d' (by omega)
theorem SDn_num {P : va_W} {x v : Nat} (hm : (x, .inr (7, [.int (nI v)])) ∈ P) : SDn 1 P x (fun _ => some (nI v)) := by
  intro P' h1 h2 su co h d' hd
  obtain ⟨d, rfl⟩ : ∃ d, d' = d + 1 := ⟨d' - 1, by omega⟩
  exact ⟨nI v, w_num (ndl_i h2 (h1 _ hm)), fun z hz => by cases hz; rfl⟩
theorem fac_s {c i : Nat} (h : fac c = some i) : fct i = c ∧ i < 10 ∧ c < 128 ∧ 91 < c := by
  unfold fac at h
  repeat' split at h
  all_goals first
    | (cases h; rename_i hc; subst hc; exact ⟨rfl, by decide, by decide, by decide⟩)
    | cases h
theorem SDn_let {P : va_W} {x c i : Nat} (hf : fac c = some i) (hm : (x, .inr (8, [.int (nI c)])) ∈ P) : SDn 1 P x (fun V => some (V i)) := by
  intro P' h1 h2 su co h d' hd
  obtain ⟨d, rfl⟩ : ∃ d, d' = d + 1 := ⟨d' - 1, by omega⟩
  obtain ⟨f1, f2, f3, _⟩ := fac_s hf
  refine ⟨h 31 c, ?_, fun z hz => by cases hz; unfold Vh; rw [f1]⟩
  rw [w_let (ndl_i h2 (h1 _ hm)), ck_s f3 (by decide), nI_clamp (by omega)]
  rfl
/-! rows -/
abbrev RwT : Type := List (Nat × Nat × Nat × VF)
def hd1 {α : Type} (L : List (Nat × α)) (nx : Option Nat) : Option Nat := match L with
  | [] => nx
  | z :: _ => some z.1
def ChR (P : va_W) (nx : Option Nat) : RwT → Prop
  | [] => True
  | z :: L => (z.1, .inr (6, [.int (nI z.2.1), .ref z.2.2.1, va_rf (hd1 L nx)])) ∈ P ∧ ChR P nx L
def fR (G : VF) : RwT → VF
  | [] => G
  | z :: L => fR (bF (sgn z.2.1) G z.2.2.2) L
theorem ChR_m {P P' : va_W} {nx : Option Nat} (hs : Sub P P') : ∀ L, ChR P nx L → ChR P' nx L
  | [], _ => trivial
  | z :: L, h => ⟨hs _ h.1, ChR_m hs L h.2⟩
theorem hd1_a {α : Type} (L : List (Nat × α)) (z : Nat × α) (nx : Option Nat) : hd1 (L ++ [z]) nx = hd1 L (some z.1) := by cases L <;> rfl
/-- one more row behind the last -/
theorem ChR_a {P : va_W} {nx : Option Nat} {z : Nat × Nat × Nat × VF} (hz : (z.1, .inr (6, [.int (nI z.2.1), .ref z.2.2.1, va_rf nx])) ∈ P) : ∀ L, ChR P (some z.1) L → ChR P nx (L ++ [z])
  | [], _ => ⟨hz, trivial⟩
  | y :: L, h => ⟨by rw [show hd1 (L.append [z]) nx = _ from hd1_a L z nx]; exact h.1, ChR_a hz L h.2⟩
theorem fR_a (G : VF) (z : Nat × Nat × Nat × VF) : ∀ L : RwT, fR G (L ++ [z]) = bF (sgn z.2.1) (fR G L) z.2.2.2
  | [] => rfl
  | y :: L => by
    show fR _ (L ++ [z]) = bF _ (fR _ L) _
    exact fR_a (bF (sgn y.2.1) G y.2.2.2) z L
theorem X_worked {h : Hp} {c : Nat} {x y : Int32} (hs : sgn c ≠ 0) : mX8_worked h (nI c) x y = if (sgn c = 5 ∨ sgn c = 6) ∧ y = 0 then some (0, rfs h) else some (rck (sgn c) x y, h) := by
  have hc : c = 43 ∨ c = 45 ∨ c = 42 ∨ c = 47 ∨ c = 37 := by
    unfold sgn at hs
    repeat' split at hs
    all_goals first
      | omega
      | exact absurd rfl hs
  unfold mX8_worked
  rcases hc with rfl | rfl | rfl | rfl | rfl
  · rfl
  · rfl
  · rfl
  · rw [if_neg (by decide), if_neg (by decide), if_neg (by decide), if_neg (by decide), nm_s]
    by_cases c : y = 0
    · rw [if_pos c, if_pos ⟨Or.inl rfl, c⟩, nm_s]
      show nm _ _ = _
      rw [nm_s, if_pos c]
      rfl
    · rw [if_neg c, if_neg (fun e => c e.2)]
      show nm _ _ = _
      rw [nm_s, if_neg c, if_pos (by decide)]
      unfold nz
      rw [if_neg c]
      rfl
  · rw [if_neg (by decide), if_neg (by decide), if_neg (by decide), if_neg (by decide), nm_s]
    by_cases c : y = 0
    · rw [if_pos c, if_pos ⟨Or.inr rfl, c⟩, nm_s]
      show nm _ _ = _
      rw [nm_s, if_pos c]
      rfl
    · rw [if_neg c, if_neg (fun e => c e.2)]
      show nm _ _ = _
      rw [nm_s, if_neg c, if_neg (by decide)]
      unfold nz
      rw [if_neg c]
      rfl
def hrf (b : Bool) (h : Hp) : Hp := if b then h else rfs h
theorem Vh_h (b : Bool) (h : Hp) : Vh (hrf b h) = Vh h := by cases b <;> rfl
theorem hrf_h (a b : Bool) (h : Hp) : hrf a (hrf b h) = hrf (a && b) h := by
  cases a <;> cases b <;> first
    | rfl
    | exact rfs_r h
theorem rows_ev {P' : va_W} {su co : Nat → Option Nat} {d : Nat} (hD : Dst P') {h0 : Hp} : ∀ (L : RwT) (m : Nat) (G : VF) (v : Int32), L.length < m → ChR P' none L → (∀ z, z ∈ L → sgn z.2.1 ≠ 0 ∧ SDn d P' z.2.2.1 z.2.2.2) → (∀ z, G (Vh h0) = some z → v = z) → ∃ v', fx m (fun _ _ _ => none) (fun (k14 : Int32 → Option Nat → Hp → Option (Int32 × Hp)) (x2_4 : Int32) (x3_5 : Option Nat) (h6 : Hp) =>
ifn x3_5 (
some (x2_4, h6)) (fun a7 =>
cl3 (ndRow P' a7) (fun y8 n9 z10 =>
cl2 (mWorth (su, co, P') d n9 h6) (fun r12 h13 =>
cl2 (mX8_worked h13 y8 x2_4 r12) (fun r15 h16 =>
k14 r15 z10 h16))))) v (hd1 L none) (hrf (G (Vh h0)).isSome h0) = some (v', hrf (fR G L (Vh h0)).isSome h0) ∧ ∀ z, fR G L (Vh h0) = some z → v' = z
  | [], m, G, v, hm, _, _, hv => by
    obtain ⟨m, rfl⟩ : ∃ k, m = k + 1 := ⟨m - 1, by simp at hm; omega⟩
    rw [fx_s]
    exact ⟨v, rfl, hv⟩
  | z :: L, m, G, v, hm, hC, hS, hv => by
    obtain ⟨m, rfl⟩ : ∃ k, m = k + 1 := ⟨m - 1, by simp at hm; omega⟩
    rw [fx_s]
    obtain ⟨s1, s2⟩ := hS z (List.mem_cons_self ..)
    obtain ⟨r, e1, e2⟩ := s2 P' (fun _ h => h) hD su co (hrf (G (Vh h0)).isSome h0) d (Nat.le_refl _)
    rw [Vh_h] at e1 e2
    show ∃ v', cl3 (ndRow P' z.1) _ = _ ∧ _
    rw [nd_row (ndl_i hD hC.1)]
    show ∃ v', cl2 (mWorth (su, co, P') d z.2.2.1 (hrf (G (Vh h0)).isSome h0)) _ = _ ∧ _
    rw [e1, cl2_s, X_worked s1]
    have eh : (if (z.2.2.2 (Vh h0)).isSome = true then hrf (G (Vh h0)).isSome h0 else rfs (hrf (G (Vh h0)).isSome h0)) = hrf ((z.2.2.2 (Vh h0)).isSome && (G (Vh h0)).isSome) h0 := by
      rw [← hrf_h]
      rfl
    rw [eh]
    have key : ∃ v1, (if (sgn z.2.1 = 5 ∨ sgn z.2.1 = 6) ∧ r = 0 then some ((0 : Int32), rfs (hrf ((z.2.2.2 (Vh h0)).isSome && (G (Vh h0)).isSome) h0)) else some (rck (sgn z.2.1) v r, hrf ((z.2.2.2 (Vh h0)).isSome && (G (Vh h0)).isSome) h0)) = some (v1, hrf ((bF (sgn z.2.1) G z.2.2.2 (Vh h0)).isSome || ((z.2.2.2 (Vh h0)).isSome && (G (Vh h0)).isSome && !decide ((sgn z.2.1 = 5 ∨ sgn z.2.1 = 6) ∧ r = 0))) h0) ∧ ∀ y, bF (sgn z.2.1) G z.2.2.2 (Vh h0) = some y → v1 = y := by
      unfold bF
      by_cases c : (sgn z.2.1 = 5 ∨ sgn z.2.1 = 6) ∧ r = 0
      · rw [if_pos c, decide_eq_true c]
        refine ⟨0, ?_, ?_⟩
        · congr 2
          rw [show rfs (hrf ((z.2.2.2 (Vh h0)).isSome && (G (Vh h0)).isSome) h0) = hrf false (hrf ((z.2.2.2 (Vh h0)).isSome && (G (Vh h0)).isSome) h0) from rfl, hrf_h]
          congr 1
          cases hG : G (Vh h0) with
          | none => cases z.2.2.2 (Vh h0) <;> rfl
          | some xg =>
            cases hF : z.2.2.2 (Vh h0) with
            | none => rfl
            | some y =>
              have := e2 y hF
              dsimp only
              rw [if_pos ⟨c.1, by rw [← this]; exact c.2⟩]
              rfl
        · intro y hy
          cases hG : G (Vh h0) with
          | none => rw [hG] at hy; cases hy
          | some xg =>
            cases hF : z.2.2.2 (Vh h0) with
            | none => rw [hG, hF] at hy; cases hy
            | some y' =>
              have := e2 y' hF
              rw [hG, hF] at hy
              dsimp only at hy
              rw [if_pos ⟨c.1, by rw [← this]; exact c.2⟩] at hy
              cases hy
      · rw [if_neg c, decide_eq_false c]
        refine ⟨rck (sgn z.2.1) v r, ?_, ?_⟩
        · congr 3
          cases hG : G (Vh h0) with
          | none => cases z.2.2.2 (Vh h0) <;> rfl
          | some xg =>
            cases hF : z.2.2.2 (Vh h0) with
            | none => rfl
            | some y => simp
        · intro y hy
          cases hG : G (Vh h0) with
          | none => rw [hG] at hy; cases hy
          | some xg =>
            cases hF : z.2.2.2 (Vh h0) with
            | none => rw [hG, hF] at hy; cases hy
            | some y' =>
              have a1 := e2 y' hF
              have a2 := hv xg hG
              rw [hG, hF] at hy
              dsimp only at hy
              rw [if_neg (by rw [← a1]; exact c)] at hy
              cases hy
              rw [a1, a2]
    have same : ((bF (sgn z.2.1) G z.2.2.2 (Vh h0)).isSome || ((z.2.2.2 (Vh h0)).isSome && (G (Vh h0)).isSome && !decide ((sgn z.2.1 = 5 ∨ sgn z.2.1 = 6) ∧ r = 0))) = (bF (sgn z.2.1) G z.2.2.2 (Vh h0)).isSome := by
      unfold bF
      cases hG : G (Vh h0) with
      | none => cases z.2.2.2 (Vh h0) <;> rfl
      | some xg =>
        cases hF : z.2.2.2 (Vh h0) with
        | none => rfl
        | some y =>
          have a1 := e2 y hF
          dsimp only
          by_cases c : (sgn z.2.1 = 5 ∨ sgn z.2.1 = 6) ∧ r = 0
          · rw [decide_eq_true c, if_pos ⟨c.1, by rw [← a1]; exact c.2⟩]
            rfl
          · rw [if_neg (by rw [← a1]; exact c)]
            rfl
    obtain ⟨v1, k1, k2⟩ := key
    rw [k1, cl2_s, same]
    exact rows_ev hD L m (bF (sgn z.2.1) G z.2.2.2) v1 (by simp at hm; omega) hC.2 (fun y hy => hS y (List.mem_cons_of_mem _ hy)) k2
theorem SDn_rows {P : va_W} {d : Nat} {z : Nat × Nat × Nat × VF} {L : RwT} (hL : L.length < 90000) (hC : ChR P none (z :: L)) (h0 : SDn d P z.2.2.1 z.2.2.2) (hS : ∀ y, y ∈ L → sgn y.2.1 ≠ 0 ∧ SDn d P y.2.2.1 y.2.2.2) : SDn (d + 1) P z.1 (fR z.2.2.2 L) := by
  intro P' h1 h2 su co h d' hd
  obtain ⟨e, rfl⟩ : ∃ e, d' = e + 1 := ⟨d' - 1, by omega⟩
  have hC' := ChR_m h1 _ hC
  rw [w_row (ndl_i h2 hC'.1)]
  unfold mX8_worth
  obtain ⟨v, e1, e2⟩ := SDn_m h0 (show d ≤ e by omega) h1 P' (fun _ h => h) h2 su co h e (Nat.le_refl _)
  rw [e1, cl2_s]
  have := rows_ev (su := su) (co := co) (d := e) h2 (h0 := h) L FU z.2.2.2 v (by show L.length < 100000; omega) hC'.2 (fun y hy => ⟨(hS y hy).1, SDn_m (hS y hy).2 (by omega) h1⟩) e2
  exact this
