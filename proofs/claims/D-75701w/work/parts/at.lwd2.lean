/-! law: both answer alike, 2 -/
set_option maxRecDepth 100000
section
variable {K : List Nat} {L : List (Nat × Nat × Nat × Nat)} {P : va_W} {su co : Nat → Option Nat} {c : Nat}
theorem w_ndRow {x d : Nat} {fs : List Value} {h : Hp} {v : Int32} {h' : Hp} (hn : ndl P x = some (6, fs)) (hw : mWorth (su, co, P) (d + 1) x h = some (v, h')) : ∃ q, ndRow P x = some q := by
  cases hr : ndRow P x with
  | some q => exact ⟨q, rfl⟩
  | none =>
    have h1 : ndNum P x = none := by
      unfold ndNum
      rw [hn]
      first | rfl | simp
    have h2 : ndLet P x = none := by
      unfold ndLet
      rw [hn]
      first | rfl | simp
    unfold mWorth at hw
    dsimp only at hw
    rw [h1, h2, hr] at hw
    cases hw
/-- what the class tells: the first clause's worth -/
def Tlv (j n : Nat) (f : Option Int32) (dv : Int32) : Int32 := if j < n then f.getD 0 else dv
theorem X_tells {V : Nat → Int32} {j c : Nat} {cI dv : Int32} (hcI : nI c = cI) (hc9 : c < 256) (h120 : c ≠ 120) (hP : Dst P) (hL : L.length ≤ 16) (hF : Fst K L P su co V c 0 j) : ∃ f : Option Int32, (j < L.length → ∃ z F, L[j]? = some z ∧ SgK K z.2.1 z.2.2.1 F ∧ f = F V) ∧ ∀ hx : Hp, (∀ i z, L[i]? = some z → hx 71 i = nI z.1 ∧ z.1 < 256) → hx 70 3 = nI L.length → (∀ i, i < 10 → hx 31 (fct i) = V i) → ∃ h', mTells (su, co, P) hx cI dv = some (Tlv j L.length f dv, h') ∧ Ex [30] hx h' := by
  have hex : ∃ f : Option Int32, ∀ (_ : j < L.length), ∃ z y F G, L[j]? = some z ∧ z.1 = c ∧ co j = some y ∧ CDn 20 P y G ∧ SgK K z.2.2.1 z.2.2.2 G ∧ G V = some 1 ∧ ((∃ x fs, su j = some x ∧ SDn 20 P x F ∧ (x, .inr (6, fs)) ∈ P) ∧ SgK K z.2.1 z.2.2.1 F) ∧ f = F V := by
    by_cases cj : j < L.length
    · obtain ⟨z, y, F, G, z1, z2, y1, y2, y3, y4, y5⟩ := hF.2.2.2 cj
      exact ⟨F V, fun _ => ⟨z, y, F, G, z1, z2, y1, y2, y3, y4, y5.resolve_left (by omega), rfl⟩⟩
    · exact ⟨none, fun h => absurd h cj⟩
  obtain ⟨f, hf⟩ := hex
  refine ⟨f, fun cj => ?_, ?_⟩
  · obtain ⟨z, y, F, G, z1, z2, y1, y2, y3, y4, y5, y6⟩ := hf cj
    exact ⟨z, F, z1, y5.2, y6⟩
  intro hx hl h70 hV
  have key : R (mTells (su, co, P) hx cI dv) (fun p => p.1 = Tlv j L.length f dv ∧ Ex [30] hx p.2) := by
    unfold mTells mX4_tells
    refine fx_R2 16 (fun i x g => x = nI i ∧ i ≤ j ∧ Ex [30] hx g) (by decide) ⟨rfl, by omega, Ex_r _ _⟩ ?_
    rintro i x g k hi ⟨rfl, hij, hE⟩ hk
    have hVg : ∀ i, i < 10 → Vh g i = V i := fun i hi => by
      rw [Vh_30 hE]
      exact hV i hi
    have hjL := hF.2.1
    rw [hE 70 (by decide), h70]
    by_cases cl : L.length ≤ i
    · rw [if_pos (nI_le cl (by omega))]
      refine R_some ⟨?_, hE⟩
      unfold Tlv
      rw [if_neg (by omega)]
    · rw [if_neg (nI_ge (by omega) (by omega)), ck_s (by omega) (by decide), nI_clamp (by omega), nm_s, hE 71 (by decide)]
      by_cases cj : i < j
      · obtain ⟨z, z1, z2⟩ := hF.2.2.1 i (by omega) cj
        obtain ⟨l1, l2⟩ := hl i z z1
        rw [l1]
        rcases z2 with z2 | ⟨z2, y, G, y1, y2, y3, y4⟩
        · rw [if_neg (fun e9 => z2 ((l_eq hcI (by omega) (by omega)).mp e9)), nI_1]
          exact hk (i + 1) _ _ (by omega) (by omega) ⟨rfl, by omega, hE⟩
        · obtain ⟨h', e1, e2⟩ := y2.2 P (fun _ hz => hz) hP su co g 20 (Nat.le_refl _)
          rw [SgK_v y3 hVg] at e1
          rw [if_pos (by rw [z2, hcI]), ck_s (by omega) (by decide), nm_s]
          show R (on (co i) _) _
          rw [y1]
          show R (cl2 (mHolds (su, co, P) 20 y g) _) _
          rw [e1, cl2_s, if_neg, nI_1]
          · exact hk (i + 1) _ _ (by omega) (by omega) ⟨rfl, by omega, Ex_tt hE e2⟩
          · intro e9
            cases cG : G V with
            | none =>
              rw [cG] at e9
              exact absurd e9 (by decide)
            | some w =>
              rw [cG] at e9
              exact y4 (by rw [cG, show w = 1 from e9])
      · obtain rfl : i = j := by omega
        obtain ⟨z, y, F, G, z1, z2, y1, y2, y3, y4, ⟨⟨x, fs, x1, x2, x3⟩, y5⟩, y6⟩ := hf (by omega)
        obtain ⟨l1, l2⟩ := hl i z z1
        obtain ⟨h', e1, e2⟩ := y2.2 P (fun _ hz => hz) hP su co g 20 (Nat.le_refl _)
        rw [SgK_v y3 hVg, y4] at e1
        rw [l1, if_pos (by rw [z2, hcI]), ck_s (by omega) (by decide), nm_s]
        show R (on (co i) _) _
        rw [y1]
        show R (cl2 (mHolds (su, co, P) 20 y g) _) _
        rw [e1, cl2_s, if_pos (show (some (1 : Int32)).getD 2 = 1 from rfl), ck_s (by omega) (by decide), nm_s]
        show R (on (su i) _) _
        rw [x1]
        show R (cl3 (ndRow P x) _) _
        have hE2 : Ex [30] hx (u2 h' 30 1 0) := Ex_tt (Ex_tt hE e2) (Ex_u2 _ _ _ _)
        have hV2 : ∀ i, i < 10 → Vh (u2 h' 30 1 0) i = V i := fun i hi => by
          rw [Vh_30 hE2]
          exact hV i hi
        obtain ⟨v, w1, w2⟩ := x2 P (fun _ hz => hz) hP su co (u2 h' 30 1 0) 20 (Nat.le_refl _)
        rw [SgK_v y5 hV2, ← y6] at w1 w2
        obtain ⟨⟨q1, q2, q3⟩, hq⟩ := w_ndRow (ndl_i hP x3) w1
        rw [hq]
        show R (cl2 (mX7_told (su, co, P) (mWorth (su, co, P) 20) x h') _) _
        unfold mX7_told
        rw [nm_s, w1]
        have eT : Tlv i L.length f dv = f.getD 0 := by
          unfold Tlv
          rw [if_pos (by omega)]
        rw [eT]
        cases f with
        | none =>
          rw [show (if (none : Option Int32).isSome = true then u2 h' 30 1 0 else rfs (u2 h' 30 1 0)) = rfs (u2 h' 30 1 0) from rfl, cl2_s, nm_s, if_neg (show ¬ (rfs (u2 h' 30 1 0)) 30 1 = 0 by unfold rfs; rw [u2_e, upd_e]; decide), cl2_s]
          exact R_some ⟨rfl, Ex_tt hE2 (Ex_rfs _)⟩
        | some w =>
          rw [show (if (some w : Option Int32).isSome = true then u2 h' 30 1 0 else rfs (u2 h' 30 1 0)) = u2 h' 30 1 0 from rfl, cl2_s, nm_s, if_pos (show (u2 h' 30 1 0) 30 1 = 0 by rw [u2_e, upd_e]), cl2_s]
          exact R_some ⟨w2 w rfl, hE2⟩
  obtain ⟨⟨v, h'⟩, e1, e2, e3⟩ := key
  dsimp only at e2 e3
  subst e2
  exact ⟨h', e1, e3⟩
/-- the reference's first clause -/
theorem M_fst1 {hm : Hp} {V : Nat → Int32} {j c : Nat} {cI : Int32} (hcI : nI c = cI) (hc9 : c < 256) (hK : MKp hm K L) (hV : ∀ i, i < 10 → hm 228 i = V i) (hF : Fst K L P su co V c 0 j) : ∃ h', mX5_firstOf hm cI = some (nI j, h') ∧ Ex [227] hm h' := by
  obtain ⟨k1, k2, k3, k4, k5⟩ := hK
  have key : R (mX5_firstOf hm cI) (fun p => p.1 = nI j ∧ Ex [227] hm p.2) := by
    unfold mX5_firstOf
    refine fx_R2 16 (fun i x g => x = nI i ∧ i ≤ j ∧ Ex [227] hm g) (by decide) ⟨rfl, by omega, Ex_r _ _⟩ ?_
    rintro i x g k hi ⟨rfl, hij, hE⟩ hk
    have hjL := hF.2.1
    have gV : ∀ i, i < 10 → g 228 i = V i := fun i hi => by rw [hE 228 (by decide)]; exact hV i hi
    have g4 : ∀ i z, K[i]? = some z → g 222 i = nI z ∧ z < 20 * uN := fun i z hz => by rw [hE 222 (by decide)]; exact k4 i z hz
    rw [nm_s, hE 300 (by decide), k1]
    by_cases cl : L.length ≤ i
    · rw [if_pos (nI_le cl (by omega))]
      exact R_some ⟨by rw [show i = j by omega], hE⟩
    · rw [if_neg (nI_ge (by omega) (by omega)), nm_s]
      simp only [ck_s (show i < 16 by omega) (show 16 < 2 ^ 31 by decide), nI_clamp (show i < 2 ^ 31 by omega), nm_q, nI_1]
      rw [hE 223 (by decide), hE 225 (by decide), hE 226 (by decide)]
      by_cases cj : i < j
      · obtain ⟨z, z1, z2⟩ := hF.2.2.1 i (by omega) cj
        obtain ⟨⟨l1, l2, l3, l4⟩, l5, l6, l7, l8⟩ := k5 i z z1
        rw [l1, l3, l4]
        rcases z2 with z2 | ⟨z2, y, G, y1, y2, y3, y4⟩
        · rw [if_neg (fun e9 => z2 ((l_eq hcI (by omega) (by omega)).mp e9))]
          exact hk (i + 1) _ _ (by omega) (by omega) ⟨rfl, by omega, hE⟩
        · obtain ⟨h', e1, e2⟩ := M_seg y3 l7 l8 g4 gV
          rw [if_pos (by rw [z2, hcI]), e1, cl2_s, if_neg]
          · exact hk (i + 1) _ _ (by omega) (by omega) ⟨rfl, by omega, Ex_tt hE e2⟩
          · intro e9
            cases cG : G V with
            | none =>
              rw [cG] at e9
              exact absurd e9 (by decide)
            | some w =>
              rw [cG] at e9
              exact y4 (by rw [cG, show w = 1 from e9])
      · obtain rfl : i = j := by omega
        obtain ⟨z, y, F, G, z1, z2, y1, y2, y3, y4, y5⟩ := hF.2.2.2 (by omega)
        obtain ⟨⟨l1, l2, l3, l4⟩, l5, l6, l7, l8⟩ := k5 i z z1
        obtain ⟨h', e1, e2⟩ := M_seg y3 l7 l8 g4 gV
        rw [l1, l3, l4, if_pos (by rw [z2, hcI]), e1, cl2_s, y4, if_pos (show (some (1 : Int32)).getD 0 = 1 from rfl)]
        exact R_some ⟨rfl, Ex_tt hE e2⟩
  obtain ⟨⟨v, h'⟩, e1, e2, e3⟩ := key
  dsimp only at e2 e3
  subst e2
  exact ⟨h', e1, e3⟩
theorem M_worn {hm : Hp} {V : Nat → Int32} {j c : Nat} {cI dv : Int32} {f : Option Int32} (hcI : nI c = cI) (hc9 : c < 256) (hd : hld dv = dv) (hK : MKp hm K L) (hV : ∀ i, i < 10 → hm 228 i = V i) (hF : Fst K L P su co V c 0 j) (hf : j < L.length → ∃ z F, L[j]? = some z ∧ SgK K z.2.1 z.2.2.1 F ∧ f = F V) : ∃ h', mX5_wornBy hm cI dv = some (hld (Tlv j L.length f dv), h') ∧ Ex [227] hm h' := by
  obtain ⟨h1, e1, e2⟩ := M_fst1 hcI hc9 hK hV hF
  obtain ⟨k1, k2, k3, k4, k5⟩ := hK
  have hjL := hF.2.1
  have hmin : ∀ v : Int32, mX5_min 25 v = some (jmin 25 v) := by
    intro v
    unfold mX5_min jmin
    simp only [nm_q]
    by_cases c1 : v < 25
    · rw [if_pos c1, if_pos (by rw [Int32.le_iff_toInt_le]; rw [Int32.lt_iff_toInt_lt] at c1; omega)]
    · rw [if_neg c1]
      by_cases c2 : v ≤ 25
      · rw [if_pos c2, show v = 25 from Int32.toInt_inj.mp (by rw [Int32.le_iff_toInt_le] at c2; rw [Int32.lt_iff_toInt_lt] at c1; omega)]
      · rw [if_neg c2]
  have hmax : ∀ v : Int32, mX5_max 0 v = some (jmax 0 v) := by
    intro v
    unfold mX5_max jmax
    simp only [nm_q]
    by_cases c1 : 0 < v
    · rw [if_pos c1, if_pos (by rw [Int32.le_iff_toInt_le]; rw [Int32.lt_iff_toInt_lt] at c1; omega)]
    · rw [if_neg c1]
      by_cases c2 : 0 ≤ v
      · rw [if_pos c2, show v = 0 from Int32.toInt_inj.mp (by rw [Int32.le_iff_toInt_le] at c2; rw [Int32.lt_iff_toInt_lt] at c1; omega)]
      · rw [if_neg c2]
  unfold mX5_wornBy
  rw [e1, cl2_s, nm_s, e2 300 (by decide), k1]
  unfold Tlv
  by_cases cj : j < L.length
  · rw [if_neg (fun e9 => by have := (nI_eq (by omega) (by omega)).mp e9; omega), if_pos cj]
    obtain ⟨z, F, z1, z2, z3⟩ := hf cj
    obtain ⟨⟨l1, l2, l3, l4⟩, l5, l6, l7, l8⟩ := k5 j z z1
    obtain ⟨h', w1, w2⟩ := M_seg (h := h1) (V := V) z2 l6 l7 (fun i z hz => by rw [e2 222 (by decide)]; exact k4 i z hz) (fun i hi => by rw [e2 228 (by decide)]; exact hV i hi)
    rw [ck_s (by omega) (by decide), ck_s (by omega) (by decide), nI_clamp (by omega), e2 224 (by decide), e2 225 (by decide), l2, l3, w1, cl2_s, ← z3]
    refine ⟨h', ?_, Ex_tt e2 w2⟩
    rw [hmin, cl1_s, hmax, cl1_s]
    rfl
  · rw [if_pos (by rw [show j = L.length by omega]), if_neg cj, hd]
    exact ⟨h1, rfl, e2⟩
end
