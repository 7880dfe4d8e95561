set_option maxRecDepth 100000
def mWorth (tt : (Nat → Option Nat) × (Nat → Option Nat) × va_W) : Nat → Nat → Hp → Option (Int32 × Hp)
  | 0, _, _ => none
  | d + 1, a, h => match ndNum tt.2.2 a with
    | some n => mX9_worth tt n h
    | none => match ndLet tt.2.2 a with
      | some n => mX10_worth tt n h
      | none => match ndRow tt.2.2 a with
        | some (sg, pa, nx) => mX8_worth tt (mWorth tt d) sg pa nx h
        | none => none
theorem wct : ∀ (d e1 e2 : Nat) (l : Launch) (D : va_G) (ad : Nat → Nat) (dA : Nat → ClassId) (tt : (Nat → Option Nat) × (Nat → Option Nat) × va_W), WCT (mWorth tt d) (d + e1) (d * 23 + e2) l D ad dA tt := by
  intro d
  induction d with
  | zero =>
    intro e1 e2 l D ad dA tt a h r h' hm
    cases hm
  | succ d ih =>
    intro e1 e2 l D ad dA tt a h r h' hm
    unfold mWorth at hm
    rw [show d + 1 + e1 = d + e1 + 1 by omega, show (d + 1) * 23 + e2 = d * 23 + e2 + 23 by omega]
    cases h1 : ndNum tt.2.2 a with
    | some n =>
      rw [h1] at hm
      exact Or.inl ⟨n, rfl, ctX9_worth _ _ l D ad dA tt a n h1 h r h' hm⟩
    | none =>
      rw [h1] at hm
      cases h2 : ndLet tt.2.2 a with
      | some n =>
        rw [h2] at hm
        exact Or.inr (Or.inl ⟨n, rfl, ctX10_worth _ _ l D ad dA tt a n h2 h r h' hm⟩)
      | none =>
        rw [h2] at hm
        cases h3 : ndRow tt.2.2 a with
        | some q =>
          obtain ⟨sg, pa, nx⟩ := q
          rw [h3] at hm
          exact Or.inr (Or.inr ⟨_, rfl, ctX8_worth _ _ _ l D ad dA tt (ih e1 e2 l D ad dA tt) a sg pa nx h3 h r h' hm⟩)
        | none =>
          rw [h3] at hm
          cases hm
def mHolds (tt : (Nat → Option Nat) × (Nat → Option Nat) × va_W) : Nat → Nat → Hp → Option (Int32 × Hp)
  | 0, _, _ => none
  | d + 1, a, h => match ndCmp tt.2.2 a with
    | some (px, py, sg) => mX14_holds tt (mWorth tt 20) px py sg h
    | none => match ndNot tt.2.2 a with
      | some px => mX13_holds tt (mHolds tt d) px h
      | none => match ndSome tt.2.2 a with
        | some (pa, de, nx) => mX12_holds tt (mHolds tt d) pa de nx a h
        | none => none
theorem hct : ∀ (d e1 e2 : Nat) (l : Launch) (D : va_G) (ad : Nat → Nat) (dA : Nat → ClassId) (tt : (Nat → Option Nat) × (Nat → Option Nat) × va_W), HCT (mHolds tt d) (20 + d + e1) (460 + d * 24 + e2) l D ad dA tt := by
  intro d
  induction d with
  | zero =>
    intro e1 e2 l D ad dA tt a h r h' hm
    cases hm
  | succ d ih =>
    intro e1 e2 l D ad dA tt a h r h' hm
    unfold mHolds at hm
    rw [show 20 + (d + 1) + e1 = 20 + d + e1 + 1 by omega]
    cases h1 : ndCmp tt.2.2 a with
    | some q =>
      obtain ⟨px, py, sg⟩ := q
      rw [h1] at hm
      refine Or.inl ⟨_, rfl, ?_⟩
      rw [show 460 + (d + 1) * 24 + e2 = 20 * 23 + (d * 24 + e2 + 1) + 23 by omega, show 20 + d + e1 = 20 + (d + e1) by omega]
      exact ctX14_holds _ _ _ l D ad dA tt (wct 20 (d + e1) (d * 24 + e2 + 1) l D ad dA tt) a px py sg h1 h r h' hm
    | none =>
      rw [h1] at hm
      rw [show 460 + (d + 1) * 24 + e2 = 460 + d * 24 + e2 + 24 by omega]
      cases h2 : ndNot tt.2.2 a with
      | some px =>
        rw [h2] at hm
        exact Or.inr (Or.inl ⟨_, rfl, ctX13_holds _ _ _ l D ad dA tt (ih e1 e2 l D ad dA tt) a px h2 h r h' hm⟩)
      | none =>
        rw [h2] at hm
        cases h3 : ndSome tt.2.2 a with
        | some q =>
          obtain ⟨pa, de, nx⟩ := q
          rw [h3] at hm
          exact Or.inr (Or.inr ⟨_, rfl, ctX12_holds _ _ _ l D ad dA tt (ih e1 e2 l D ad dA tt) a pa de nx h3 h r h' hm⟩)
        | none =>
          rw [h3] at hm
          cases hm
def mSays (tt : (Nat → Option Nat) × (Nat → Option Nat) × va_W) (h : Hp) (x1 : Int32) : Option (Int32 × Hp) := mX4_says tt (mHolds tt 20) h x1
def mTells (tt : (Nat → Option Nat) × (Nat → Option Nat) × va_W) (h : Hp) (x1 x2 : Int32) : Option (Int32 × Hp) := mX4_tells tt (mWorth tt 20) (mHolds tt 20) h x1 x2
theorem ctSays (l : Launch) (D : va_G) (ad : Nat → Nat) (dA : Nat → ClassId) (tt : (Nat → Option Nat) × (Nat → Option Nat) × va_W) (h : Hp) (x1 r : Int32) (h' : Hp) (hm : mSays tt h x1 = some (r, h')) : CT l yX4_says cX4_says 4 (some .boolean) D dA 41 964 0 0 (wX ad dA tt h) [.ref (ad 70), .int x1, .ref (ad 30)] (some (.int r)) (wX ad dA tt h') :=
  ctX4_says _ 40 940 l D ad dA tt (hct 20 0 0 l D ad dA tt) h x1 r h' hm
theorem ctTells (l : Launch) (D : va_G) (ad : Nat → Nat) (dA : Nat → ClassId) (tt : (Nat → Option Nat) × (Nat → Option Nat) × va_W) (h : Hp) (x1 x2 r : Int32) (h' : Hp) (hm : mTells tt h x1 x2 = some (r, h')) : CT l yX4_tells cX4_tells 5 (some .int) D dA 42 985 0 0 (wX ad dA tt h) [.ref (ad 70), .int x1, .int x2, .ref (ad 30)] (some (.int r)) (wX ad dA tt h') :=
  ctX4_tells _ _ 40 940 l D ad dA tt (wct 20 20 480 l D ad dA tt) (hct 20 0 0 l D ad dA tt) h x1 x2 r h' hm
