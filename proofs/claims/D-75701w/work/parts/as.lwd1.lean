/-! law: both answer alike, 1 -/
set_option maxRecDepth 100000
section
variable {cd : Nat → Nat} {V V' : Nat → Int32} {e k b : Nat} {st : List Int32} {r r' : Option Int32} {K : List Nat} {F G : VF}
theorem evS_v (hv : ∀ i, i < 10 → V i = V' i) : evS cd V e k st = evS cd V' e k st := by
  unfold evS
  by_cases c : cd k % uN < 10
  · rw [hv _ c]
  · rw [if_neg c, if_neg c]
theorem He_v (hv : ∀ i, i < 10 → V i = V' i) (H : He cd V e k st r) : He cd V' e k st r := by
  obtain ⟨f, H⟩ := H
  refine ⟨f, ?_⟩
  rw [← H]
  clear H
  induction f generalizing k st with
  | zero => rfl
  | succ f ih =>
    unfold evR
    rw [evS_v hv]
    split
    · rfl
    · exact ih
    · rfl
theorem evR_u : ∀ f g k st, evR cd V e f k st = some r → evR cd V e g k st = some r' → r = r'
  | 0, _, _, _, h, _ => by cases h
  | _ + 1, 0, _, _, _, h => by cases h
  | f + 1, g + 1, k, st, h1, h2 => by
    unfold evR at h1 h2
    cases c : evS cd V e k st with
    | none => rw [c] at h1; cases h1
    | some w =>
      rw [c] at h1 h2
      cases w with
      | inl r0 =>
        cases h1
        cases h2
        rfl
      | inr ks => exact evR_u f g ks.1 ks.2 h1 h2
theorem He_u (h1 : He cd V e k st r) (h2 : He cd V e k st r') : r = r' := by
  obtain ⟨f, h1⟩ := h1
  obtain ⟨g, h2⟩ := h2
  exact evR_u f g k st h1 h2
def cdK (K : List Nat) : Nat → Nat := fun i => K.getD i 0
theorem SgK_He (H : SgK K b e F) (V : Nat → Int32) : He (cdK K) V e b [] (F V) := by
  obtain ⟨C, h1, h2, h3⟩ := H
  refine h1 (cdK K) V e (fun i z hz => ?_) (by omega) [] (F V) ?_
  · unfold cdK
    rw [List.getD_eq_getElem?_getD, h3 i z hz]
    rfl
  · cases c : F V with
    | none => rfl
    | some v =>
      refine He_e ?_
      unfold evS
      rw [if_pos (by omega)]
      rfl
theorem SgK_v (H : SgK K b e F) (hv : ∀ i, i < 10 → V i = V' i) : F V = F V' := He_u (He_v hv (SgK_He H V)) (SgK_He H V')
/-- the reference reckons a stretch of codes -/
theorem M_seg {h : Hp} (H : SgK K b e F) (hb : b ≤ 240) (he : e ≤ 240) (h2 : ∀ i z, K[i]? = some z → h 222 i = nI z ∧ z < 20 * uN) (hV : ∀ i, i < 10 → h 228 i = V i) : ∃ h', mX5_reckonsTo h (nI b) (nI e) = some ((F V).getD 0, h') ∧ Ex [227] h h' := by
  refine M_reckons (cd := cdK K) (V := V) hb he (fun i i1 i2 => ?_) hV (SgK_He H V)
  obtain ⟨C, -, h3, h4⟩ := H
  have hz := h4 (i - b) _ (List.getElem?_eq_getElem (show i - b < C.length by omega))
  rw [show b + (i - b) = i by omega] at hz
  have := h2 i _ hz
  unfold cdK
  rw [List.getD_eq_getElem?_getD, hz]
  exact this
end
/-- the first clause of a letter that holds -/
def Fst (K : List Nat) (L : List (Nat × Nat × Nat × Nat)) (P : va_W) (su co : Nat → Option Nat) (V : Nat → Int32) (c i j : Nat) : Prop := i ≤ j ∧ j ≤ L.length ∧ (∀ m, i ≤ m → m < j → ∃ z, L[m]? = some z ∧ (z.1 ≠ c ∨ z.1 = c ∧ ∃ y G, co m = some y ∧ CDn 20 P y G ∧ SgK K z.2.2.1 z.2.2.2 G ∧ G V ≠ some 1)) ∧ (j < L.length → ∃ z y F G, L[j]? = some z ∧ z.1 = c ∧ co j = some y ∧ CDn 20 P y G ∧ SgK K z.2.2.1 z.2.2.2 G ∧ G V = some 1 ∧ (z.1 = 120 ∨ (∃ x fs, su j = some x ∧ SDn 20 P x F ∧ (x, .inr (6, fs)) ∈ P) ∧ SgK K z.2.1 z.2.2.1 F))
section
variable {K : List Nat} {L : List (Nat × Nat × Nat × Nat)} {P : va_W} {su co : Nat → Option Nat} {c : Nat}
theorem Fst_ex (V : Nat → Int32) (c : Nat) (hC : ∀ i z, L[i]? = some z → ClR K P (su, co) i z) : ∀ d i, i + d = L.length → ∃ j, Fst K L P su co V c i j
  | 0, i, h => ⟨i, Nat.le_refl _, by omega, fun m h1 h2 => by omega, fun h2 => by omega⟩
  | d + 1, i, h => by
    obtain ⟨z, hz⟩ : ∃ z, L[i]? = some z := ⟨_, List.getElem?_eq_getElem (by omega)⟩
    obtain ⟨F, G, ⟨y, y1, y2⟩, g1, g2⟩ := hC i z hz
    by_cases c1 : z.1 = c ∧ G V = some 1
    · exact ⟨i, Nat.le_refl _, by omega, fun m h1 h2 => by omega, fun _ => ⟨z, y, F, G, hz, c1.1, y1, y2, g1, c1.2, g2⟩⟩
    · obtain ⟨j, j1, j2, j3, j4⟩ := Fst_ex V c hC d (i + 1) (by omega)
      refine ⟨j, by omega, j2, fun m h1 h2 => ?_, j4⟩
      by_cases cm : m = i
      · subst cm
        refine ⟨z, hz, ?_⟩
        by_cases c2 : z.1 = c
        · exact Or.inr ⟨c2, y, G, y1, y2, g1, fun e9 => c1 ⟨c2, e9⟩⟩
        · exact Or.inl c2
      · exact j3 m (by omega) h2
/-- how many: the class's answer -/
theorem X_says {hx : Hp} {V : Nat → Int32} {j : Nat} (hP : Dst P) (hL : L.length ≤ 16) (hl : ∀ i z, L[i]? = some z → hx 71 i = nI z.1 ∧ z.1 < 256) (h70 : hx 70 3 = nI L.length) (hV : ∀ i, i < 10 → hx 31 (fct i) = V i) (hF : Fst K L P su co V 120 0 j) : ∃ h', mSays (su, co, P) hx 120 = some (bI (decide (j < L.length)), h') ∧ Ex [30] hx h' := by
  have key : R (mSays (su, co, P) hx 120) (fun p => p.1 = bI (decide (j < L.length)) ∧ Ex [30] hx p.2) := by
    unfold mSays mX4_says
    refine fx_R2 16 (fun i x g => x = nI i ∧ i ≤ j ∧ Ex [30] hx g) (by decide) ⟨rfl, by omega, Ex_r _ _⟩ ?_
    rintro i x g k hi ⟨rfl, hij, hE⟩ hk
    have hVg : ∀ i, i < 10 → Vh g i = V i := fun i hi => by
      rw [Vh_30 hE]
      exact hV i hi
    rw [hE 70 (by decide), h70]
    by_cases cl : L.length ≤ i
    · rw [if_pos (nI_le cl (by omega)), bz_0]
      exact R_some ⟨by rw [decide_eq_false (by omega)]; rfl, hE⟩
    · rw [if_neg (nI_ge (by omega) (by omega)), ck_s (by omega) (by decide), nI_clamp (by omega), nm_s, hE 71 (by decide)]
      by_cases cj : i < j
      · obtain ⟨z, z1, z2⟩ := hF.2.2.1 i (by omega) cj
        obtain ⟨l1, l2⟩ := hl i z z1
        rw [l1]
        rcases z2 with z2 | ⟨z2, y, G, y1, y2, y3, y4⟩
        · rw [if_neg (fun e9 => z2 ((l_eq (N := 120) (c := 120) rfl (by decide) (by omega)).mp e9)), nI_1]
          exact hk (i + 1) _ _ (by omega) (by omega) ⟨rfl, by omega, hE⟩
        · obtain ⟨h', e1, e2⟩ := y2.2 P (fun _ hz => hz) hP su co g 20 (Nat.le_refl _)
          rw [SgK_v y3 hVg] at e1
          rw [if_pos (by rw [z2]; rfl), ck_s (by omega) (by decide), nm_s]
          show R (on (co i) _) _
          rw [y1]
          show R (cl2 (mHolds (su, co, P) 20 y g) _) _
          rw [e1, cl2_s, if_neg, nI_1]
          · exact hk (i + 1) _ _ (by omega) (by omega) ⟨rfl, by omega, Ex_tt hE e2⟩
          · intro e9
            cases cG : G V with
            | none =>
              rw [cG] at e9
              exact absurd e9 (by decide)
            | some w =>
              rw [cG] at e9
              exact y4 (by rw [cG, show w = 1 from e9])
      · obtain rfl : i = j := by omega
        obtain ⟨z, y, F, G, z1, z2, y1, y2, y3, y4, y5⟩ := hF.2.2.2 (by omega)
        obtain ⟨l1, l2⟩ := hl i z z1
        obtain ⟨h', e1, e2⟩ := y2.2 P (fun _ hz => hz) hP su co g 20 (Nat.le_refl _)
        rw [SgK_v y3 hVg, y4] at e1
        rw [l1, if_pos (by rw [z2]; rfl), ck_s (by omega) (by decide), nm_s]
        show R (on (co i) _) _
        rw [y1]
        show R (cl2 (mHolds (su, co, P) 20 y g) _) _
        rw [e1, cl2_s, if_pos (show (some (1 : Int32)).getD 2 = 1 from rfl), bz_1]
        exact R_some ⟨by rw [decide_eq_true (by omega)]; rfl, Ex_tt hE e2⟩
  obtain ⟨⟨v, h'⟩, e1, e2, e3⟩ := key
  dsimp only at e2 e3
  subst e2
  exact ⟨h', e1, e3⟩
end
