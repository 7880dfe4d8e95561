set_option maxRecDepth 100000
theorem lenX (ad : Nat → Nat) (dA : Nat → ClassId) (tt : (Nat → Option Nat) × (Nat → Option Nat) × va_W) (h : Hp) : (wX ad dA tt h).length = 35 + tt.2.2.length := by
  unfold wX
  rw [List.length_append]
  rfl
theorem AR.left {w v : Hp → va_W} {q k a n : Nat} {cA : ClassId} (h : AR w q k a n cA) (hv : ∀ h i x, v (u2 h k i x) = v h) : AR (fun h => w h ++ v h) q k a n cA := by
  intro hp
  obtain ⟨h1, h2⟩ := h hp
  have hq := (List.getElem?_eq_some_iff.mp h1).1
  constructor
  · show (w hp ++ v hp)[q]? = _
    rw [List.getElem?_append_left hq]
    exact h1
  · intro i x
    show (w hp ++ v hp).set q _ = w (u2 hp k i x) ++ v (u2 hp k i x)
    rw [List.set_append_left _ _ hq, h2, hv]
theorem FI.left {w v : Hp → va_W} {q k a ci f : Nat} (h : FI w q k a ci f) (hv : ∀ h i x, v (u2 h k i x) = v h) : FI (fun h => w h ++ v h) q k a ci f := by
  intro hp
  obtain ⟨fs, h1, h2, h3, h4⟩ := h hp
  have hq := (List.getElem?_eq_some_iff.mp h1).1
  refine ⟨fs, ?_, h2, h3, fun x => ?_⟩
  · show (w hp ++ v hp)[q]? = _
    rw [List.getElem?_append_left hq]
    exact h1
  · show (w hp ++ v hp).set q _ = w (u2 hp k f x) ++ v (u2 hp k f x)
    rw [List.set_append_left _ _ hq, h4, hv]
theorem FR.left {w v : va_W} {q a ci f b : Nat} (h : FR w q a ci f b) : FR (w ++ v) q a ci f b := by
  obtain ⟨fs, h1, h2⟩ := h
  exact ⟨fs, by rw [List.getElem?_append_left (List.getElem?_eq_some_iff.mp h1).1]; exact h1, h2⟩
theorem AA.left {w v : va_W} {q a n : Nat} {cA : ClassId} {g : Nat → Nat} (h : AA w q a n cA g) : AA (w ++ v) q a n cA g := by
  show (w ++ v)[q]? = _
  rw [List.getElem?_append_left (List.getElem?_eq_some_iff.mp h).1]
  exact h
def wXC (ad ac : Nat → Nat) (dA : Nat → ClassId) (tt : (Nat → Option Nat) × (Nat → Option Nat) × va_W) (h : Hp) : va_W := wX ad dA tt h ++ wC0 ad ac dA h
theorem arXC_31 (ad ac : Nat → Nat) (dA : Nat → ClassId) (tt : (Nat → Option Nat) × (Nat → Option Nat) × va_W) : AR (wXC ad ac dA tt) 2 31 (ad 31) 128 (dA 0) := AR.left (v := wC0 ad ac dA) (arX_31 ad dA tt) (fun h i x => rfl)
theorem aaXC_41 (ad ac : Nat → Nat) (dA : Nat → ClassId) (tt : (Nat → Option Nat) × (Nat → Option Nat) × va_W) (h : Hp) : AA (wXC ad ac dA tt h) 4 (ad 41) 2 (dA 3) (fun i => ad (42 + i)) := AA.left (aaX_41 ad dA tt h)
theorem arXC_42 (ad ac : Nat → Nat) (dA : Nat → ClassId) (tt : (Nat → Option Nat) × (Nat → Option Nat) × va_W) : AR (wXC ad ac dA tt) 5 42 (ad 42) 48 (dA 0) := AR.left (v := wC0 ad ac dA) (arX_42 ad dA tt) (fun h i x => rfl)
theorem arXC_43 (ad ac : Nat → Nat) (dA : Nat → ClassId) (tt : (Nat → Option Nat) × (Nat → Option Nat) × va_W) : AR (wXC ad ac dA tt) 6 43 (ad 43) 48 (dA 0) := AR.left (v := wC0 ad ac dA) (arX_43 ad dA tt) (fun h i x => rfl)
theorem arXC_44 (ad ac : Nat → Nat) (dA : Nat → ClassId) (tt : (Nat → Option Nat) × (Nat → Option Nat) × va_W) : AR (wXC ad ac dA tt) 7 44 (ad 44) 2 (dA 0) := AR.left (v := wC0 ad ac dA) (arX_44 ad dA tt) (fun h i x => rfl)
theorem aaXC_51 (ad ac : Nat → Nat) (dA : Nat → ClassId) (tt : (Nat → Option Nat) × (Nat → Option Nat) × va_W) (h : Hp) : AA (wXC ad ac dA tt h) 9 (ad 51) 2 (dA 3) (fun i => ad (52 + i)) := AA.left (aaX_51 ad dA tt h)
theorem arXC_52 (ad ac : Nat → Nat) (dA : Nat → ClassId) (tt : (Nat → Option Nat) × (Nat → Option Nat) × va_W) : AR (wXC ad ac dA tt) 10 52 (ad 52) 48 (dA 0) := AR.left (v := wC0 ad ac dA) (arX_52 ad dA tt) (fun h i x => rfl)
theorem arXC_53 (ad ac : Nat → Nat) (dA : Nat → ClassId) (tt : (Nat → Option Nat) × (Nat → Option Nat) × va_W) : AR (wXC ad ac dA tt) 11 53 (ad 53) 48 (dA 0) := AR.left (v := wC0 ad ac dA) (arX_53 ad dA tt) (fun h i x => rfl)
theorem arXC_54 (ad ac : Nat → Nat) (dA : Nat → ClassId) (tt : (Nat → Option Nat) × (Nat → Option Nat) × va_W) : AR (wXC ad ac dA tt) 12 54 (ad 54) 2 (dA 0) := AR.left (v := wC0 ad ac dA) (arX_54 ad dA tt) (fun h i x => rfl)
theorem aaXC_61 (ad ac : Nat → Nat) (dA : Nat → ClassId) (tt : (Nat → Option Nat) × (Nat → Option Nat) × va_W) (h : Hp) : AA (wXC ad ac dA tt h) 14 (ad 61) 2 (dA 3) (fun i => ad (62 + i)) := AA.left (aaX_61 ad dA tt h)
theorem arXC_62 (ad ac : Nat → Nat) (dA : Nat → ClassId) (tt : (Nat → Option Nat) × (Nat → Option Nat) × va_W) : AR (wXC ad ac dA tt) 15 62 (ad 62) 48 (dA 0) := AR.left (v := wC0 ad ac dA) (arX_62 ad dA tt) (fun h i x => rfl)
theorem arXC_63 (ad ac : Nat → Nat) (dA : Nat → ClassId) (tt : (Nat → Option Nat) × (Nat → Option Nat) × va_W) : AR (wXC ad ac dA tt) 16 63 (ad 63) 48 (dA 0) := AR.left (v := wC0 ad ac dA) (arX_63 ad dA tt) (fun h i x => rfl)
theorem arXC_64 (ad ac : Nat → Nat) (dA : Nat → ClassId) (tt : (Nat → Option Nat) × (Nat → Option Nat) × va_W) : AR (wXC ad ac dA tt) 17 64 (ad 64) 2 (dA 0) := AR.left (v := wC0 ad ac dA) (arX_64 ad dA tt) (fun h i x => rfl)
theorem arXC_1 (ad ac : Nat → Nat) (dA : Nat → ClassId) (tt : (Nat → Option Nat) × (Nat → Option Nat) × va_W) : AR (wXC ad ac dA tt) 18 1 (ad 1) 48 (dA 1) := AR.left (v := wC0 ad ac dA) (arX_1 ad dA tt) (fun h i x => rfl)
theorem arXC_2 (ad ac : Nat → Nat) (dA : Nat → ClassId) (tt : (Nat → Option Nat) × (Nat → Option Nat) × va_W) : AR (wXC ad ac dA tt) 19 2 (ad 2) 48 (dA 1) := AR.left (v := wC0 ad ac dA) (arX_2 ad dA tt) (fun h i x => rfl)
theorem arXC_3 (ad ac : Nat → Nat) (dA : Nat → ClassId) (tt : (Nat → Option Nat) × (Nat → Option Nat) × va_W) : AR (wXC ad ac dA tt) 20 3 (ad 3) 48 (dA 0) := AR.left (v := wC0 ad ac dA) (arX_3 ad dA tt) (fun h i x => rfl)
theorem arXC_8 (ad ac : Nat → Nat) (dA : Nat → ClassId) (tt : (Nat → Option Nat) × (Nat → Option Nat) × va_W) : AR (wXC ad ac dA tt) 21 8 (ad 8) 260 (dA 2) := AR.left (v := wC0 ad ac dA) (arX_8 ad dA tt) (fun h i x => rfl)
theorem arXC_12 (ad ac : Nat → Nat) (dA : Nat → ClassId) (tt : (Nat → Option Nat) × (Nat → Option Nat) × va_W) : AR (wXC ad ac dA tt) 22 12 (ad 12) 63 (dA 0) := AR.left (v := wC0 ad ac dA) (arX_12 ad dA tt) (fun h i x => rfl)
theorem arXC_13 (ad ac : Nat → Nat) (dA : Nat → ClassId) (tt : (Nat → Option Nat) × (Nat → Option Nat) × va_W) : AR (wXC ad ac dA tt) 23 13 (ad 13) 63 (dA 0) := AR.left (v := wC0 ad ac dA) (arX_13 ad dA tt) (fun h i x => rfl)
theorem arXC_14 (ad ac : Nat → Nat) (dA : Nat → ClassId) (tt : (Nat → Option Nat) × (Nat → Option Nat) × va_W) : AR (wXC ad ac dA tt) 24 14 (ad 14) 63 (dA 0) := AR.left (v := wC0 ad ac dA) (arX_14 ad dA tt) (fun h i x => rfl)
theorem arXC_15 (ad ac : Nat → Nat) (dA : Nat → ClassId) (tt : (Nat → Option Nat) × (Nat → Option Nat) × va_W) : AR (wXC ad ac dA tt) 25 15 (ad 15) 63 (dA 0) := AR.left (v := wC0 ad ac dA) (arX_15 ad dA tt) (fun h i x => rfl)
theorem arXC_16 (ad ac : Nat → Nat) (dA : Nat → ClassId) (tt : (Nat → Option Nat) × (Nat → Option Nat) × va_W) : AR (wXC ad ac dA tt) 26 16 (ad 16) 48 (dA 1) := AR.left (v := wC0 ad ac dA) (arX_16 ad dA tt) (fun h i x => rfl)
theorem arXC_17 (ad ac : Nat → Nat) (dA : Nat → ClassId) (tt : (Nat → Option Nat) × (Nat → Option Nat) × va_W) : AR (wXC ad ac dA tt) 27 17 (ad 17) 48 (dA 0) := AR.left (v := wC0 ad ac dA) (arX_17 ad dA tt) (fun h i x => rfl)
theorem arXC_18 (ad ac : Nat → Nat) (dA : Nat → ClassId) (tt : (Nat → Option Nat) × (Nat → Option Nat) × va_W) : AR (wXC ad ac dA tt) 28 18 (ad 18) 48 (dA 0) := AR.left (v := wC0 ad ac dA) (arX_18 ad dA tt) (fun h i x => rfl)
theorem arXC_19 (ad ac : Nat → Nat) (dA : Nat → ClassId) (tt : (Nat → Option Nat) × (Nat → Option Nat) × va_W) : AR (wXC ad ac dA tt) 29 19 (ad 19) 48 (dA 0) := AR.left (v := wC0 ad ac dA) (arX_19 ad dA tt) (fun h i x => rfl)
theorem arXC_20 (ad ac : Nat → Nat) (dA : Nat → ClassId) (tt : (Nat → Option Nat) × (Nat → Option Nat) × va_W) : AR (wXC ad ac dA tt) 30 20 (ad 20) 48 (dA 0) := AR.left (v := wC0 ad ac dA) (arX_20 ad dA tt) (fun h i x => rfl)
theorem arXC_71 (ad ac : Nat → Nat) (dA : Nat → ClassId) (tt : (Nat → Option Nat) × (Nat → Option Nat) × va_W) : AR (wXC ad ac dA tt) 32 71 (ad 71) 16 (dA 0) := AR.left (v := wC0 ad ac dA) (arX_71 ad dA tt) (fun h i x => rfl)
theorem aaXC_81 (ad ac : Nat → Nat) (dA : Nat → ClassId) (tt : (Nat → Option Nat) × (Nat → Option Nat) × va_W) (h : Hp) : AA (wXC ad ac dA tt h) (35 + tt.2.2.length + 1) (ac 81) 2 (dA 3) (fun i => ac (82 + i)) := AA.right (aaC0_81 ad ac dA h) (lenX ad dA tt h)
theorem arXC_82 (ad ac : Nat → Nat) (dA : Nat → ClassId) (tt : (Nat → Option Nat) × (Nat → Option Nat) × va_W) : AR (wXC ad ac dA tt) (35 + tt.2.2.length + 2) 82 (ac 82) 48 (dA 0) := AR.right (w := wX ad dA tt) (arC0_82 ad ac dA) (lenX ad dA tt) (fun h i x => rfl)
theorem arXC_83 (ad ac : Nat → Nat) (dA : Nat → ClassId) (tt : (Nat → Option Nat) × (Nat → Option Nat) × va_W) : AR (wXC ad ac dA tt) (35 + tt.2.2.length + 3) 83 (ac 83) 48 (dA 0) := AR.right (w := wX ad dA tt) (arC0_83 ad ac dA) (lenX ad dA tt) (fun h i x => rfl)
theorem frXC_100_0 (ad ac : Nat → Nat) (dA : Nat → ClassId) (tt : (Nat → Option Nat) × (Nat → Option Nat) × va_W) (h : Hp) : FR (wXC ad ac dA tt h) 0 (ad 100) 0 0 (ad 30) := FR.left (frX_100_0 ad dA tt h)
theorem frXC_100_1 (ad ac : Nat → Nat) (dA : Nat → ClassId) (tt : (Nat → Option Nat) × (Nat → Option Nat) × va_W) (h : Hp) : FR (wXC ad ac dA tt h) 0 (ad 100) 0 1 (ad 1) := FR.left (frX_100_1 ad dA tt h)
theorem frXC_100_2 (ad ac : Nat → Nat) (dA : Nat → ClassId) (tt : (Nat → Option Nat) × (Nat → Option Nat) × va_W) (h : Hp) : FR (wXC ad ac dA tt h) 0 (ad 100) 0 2 (ad 2) := FR.left (frX_100_2 ad dA tt h)
theorem frXC_100_3 (ad ac : Nat → Nat) (dA : Nat → ClassId) (tt : (Nat → Option Nat) × (Nat → Option Nat) × va_W) (h : Hp) : FR (wXC ad ac dA tt h) 0 (ad 100) 0 3 (ad 3) := FR.left (frX_100_3 ad dA tt h)
theorem fiXC_100_4 (ad ac : Nat → Nat) (dA : Nat → ClassId) (tt : (Nat → Option Nat) × (Nat → Option Nat) × va_W) : FI (wXC ad ac dA tt) 0 100 (ad 100) 0 4 := FI.left (v := wC0 ad ac dA) (fiX_100_4 ad dA tt) (fun h i x => rfl)
theorem frXC_100_5 (ad ac : Nat → Nat) (dA : Nat → ClassId) (tt : (Nat → Option Nat) × (Nat → Option Nat) × va_W) (h : Hp) : FR (wXC ad ac dA tt h) 0 (ad 100) 0 5 (ad 40) := FR.left (frX_100_5 ad dA tt h)
theorem frXC_100_6 (ad ac : Nat → Nat) (dA : Nat → ClassId) (tt : (Nat → Option Nat) × (Nat → Option Nat) × va_W) (h : Hp) : FR (wXC ad ac dA tt h) 0 (ad 100) 0 6 (ad 50) := FR.left (frX_100_6 ad dA tt h)
theorem frXC_100_7 (ad ac : Nat → Nat) (dA : Nat → ClassId) (tt : (Nat → Option Nat) × (Nat → Option Nat) × va_W) (h : Hp) : FR (wXC ad ac dA tt h) 0 (ad 100) 0 7 (ad 60) := FR.left (frX_100_7 ad dA tt h)
theorem frXC_100_8 (ad ac : Nat → Nat) (dA : Nat → ClassId) (tt : (Nat → Option Nat) × (Nat → Option Nat) × va_W) (h : Hp) : FR (wXC ad ac dA tt h) 0 (ad 100) 0 8 (ad 8) := FR.left (frX_100_8 ad dA tt h)
theorem frXC_100_9 (ad ac : Nat → Nat) (dA : Nat → ClassId) (tt : (Nat → Option Nat) × (Nat → Option Nat) × va_W) (h : Hp) : FR (wXC ad ac dA tt h) 0 (ad 100) 0 9 (ad 70) := FR.left (frX_100_9 ad dA tt h)
theorem fiXC_100_10 (ad ac : Nat → Nat) (dA : Nat → ClassId) (tt : (Nat → Option Nat) × (Nat → Option Nat) × va_W) : FI (wXC ad ac dA tt) 0 100 (ad 100) 0 10 := FI.left (v := wC0 ad ac dA) (fiX_100_10 ad dA tt) (fun h i x => rfl)
theorem fiXC_100_11 (ad ac : Nat → Nat) (dA : Nat → ClassId) (tt : (Nat → Option Nat) × (Nat → Option Nat) × va_W) : FI (wXC ad ac dA tt) 0 100 (ad 100) 0 11 := FI.left (v := wC0 ad ac dA) (fiX_100_11 ad dA tt) (fun h i x => rfl)
theorem frXC_100_12 (ad ac : Nat → Nat) (dA : Nat → ClassId) (tt : (Nat → Option Nat) × (Nat → Option Nat) × va_W) (h : Hp) : FR (wXC ad ac dA tt h) 0 (ad 100) 0 12 (ad 12) := FR.left (frX_100_12 ad dA tt h)
theorem frXC_100_13 (ad ac : Nat → Nat) (dA : Nat → ClassId) (tt : (Nat → Option Nat) × (Nat → Option Nat) × va_W) (h : Hp) : FR (wXC ad ac dA tt h) 0 (ad 100) 0 13 (ad 13) := FR.left (frX_100_13 ad dA tt h)
theorem frXC_100_14 (ad ac : Nat → Nat) (dA : Nat → ClassId) (tt : (Nat → Option Nat) × (Nat → Option Nat) × va_W) (h : Hp) : FR (wXC ad ac dA tt h) 0 (ad 100) 0 14 (ad 14) := FR.left (frX_100_14 ad dA tt h)
theorem frXC_100_15 (ad ac : Nat → Nat) (dA : Nat → ClassId) (tt : (Nat → Option Nat) × (Nat → Option Nat) × va_W) (h : Hp) : FR (wXC ad ac dA tt h) 0 (ad 100) 0 15 (ad 15) := FR.left (frX_100_15 ad dA tt h)
theorem frXC_100_16 (ad ac : Nat → Nat) (dA : Nat → ClassId) (tt : (Nat → Option Nat) × (Nat → Option Nat) × va_W) (h : Hp) : FR (wXC ad ac dA tt h) 0 (ad 100) 0 16 (ad 16) := FR.left (frX_100_16 ad dA tt h)
theorem frXC_100_17 (ad ac : Nat → Nat) (dA : Nat → ClassId) (tt : (Nat → Option Nat) × (Nat → Option Nat) × va_W) (h : Hp) : FR (wXC ad ac dA tt h) 0 (ad 100) 0 17 (ad 17) := FR.left (frX_100_17 ad dA tt h)
theorem frXC_100_18 (ad ac : Nat → Nat) (dA : Nat → ClassId) (tt : (Nat → Option Nat) × (Nat → Option Nat) × va_W) (h : Hp) : FR (wXC ad ac dA tt h) 0 (ad 100) 0 18 (ad 18) := FR.left (frX_100_18 ad dA tt h)
theorem frXC_100_19 (ad ac : Nat → Nat) (dA : Nat → ClassId) (tt : (Nat → Option Nat) × (Nat → Option Nat) × va_W) (h : Hp) : FR (wXC ad ac dA tt h) 0 (ad 100) 0 19 (ad 19) := FR.left (frX_100_19 ad dA tt h)
theorem frXC_100_20 (ad ac : Nat → Nat) (dA : Nat → ClassId) (tt : (Nat → Option Nat) × (Nat → Option Nat) × va_W) (h : Hp) : FR (wXC ad ac dA tt h) 0 (ad 100) 0 20 (ad 20) := FR.left (frX_100_20 ad dA tt h)
theorem obXC_100 (ad ac : Nat → Nat) (dA : Nat → ClassId) (tt : (Nat → Option Nat) × (Nat → Option Nat) × va_W) (h : Hp) : ∃ fs, (wXC ad ac dA tt h)[0]? = some (ad 100, .inr (0, fs)) := by obtain ⟨fs, h1, _⟩ := frXC_100_0 ad ac dA tt h; exact ⟨fs, h1⟩
theorem frXC_30_0 (ad ac : Nat → Nat) (dA : Nat → ClassId) (tt : (Nat → Option Nat) × (Nat → Option Nat) × va_W) (h : Hp) : FR (wXC ad ac dA tt h) 1 (ad 30) 1 0 (ad 31) := FR.left (frX_30_0 ad dA tt h)
theorem fiXC_30_1 (ad ac : Nat → Nat) (dA : Nat → ClassId) (tt : (Nat → Option Nat) × (Nat → Option Nat) × va_W) : FI (wXC ad ac dA tt) 1 30 (ad 30) 1 1 := FI.left (v := wC0 ad ac dA) (fiX_30_1 ad dA tt) (fun h i x => rfl)
theorem obXC_30 (ad ac : Nat → Nat) (dA : Nat → ClassId) (tt : (Nat → Option Nat) × (Nat → Option Nat) × va_W) (h : Hp) : ∃ fs, (wXC ad ac dA tt h)[1]? = some (ad 30, .inr (1, fs)) := by obtain ⟨fs, h1, _⟩ := frXC_30_0 ad ac dA tt h; exact ⟨fs, h1⟩
theorem frXC_40_0 (ad ac : Nat → Nat) (dA : Nat → ClassId) (tt : (Nat → Option Nat) × (Nat → Option Nat) × va_W) (h : Hp) : FR (wXC ad ac dA tt h) 3 (ad 40) 2 0 (ad 41) := FR.left (frX_40_0 ad dA tt h)
theorem frXC_40_1 (ad ac : Nat → Nat) (dA : Nat → ClassId) (tt : (Nat → Option Nat) × (Nat → Option Nat) × va_W) (h : Hp) : FR (wXC ad ac dA tt h) 3 (ad 40) 2 1 (ad 44) := FR.left (frX_40_1 ad dA tt h)
theorem fiXC_40_2 (ad ac : Nat → Nat) (dA : Nat → ClassId) (tt : (Nat → Option Nat) × (Nat → Option Nat) × va_W) : FI (wXC ad ac dA tt) 3 40 (ad 40) 2 2 := FI.left (v := wC0 ad ac dA) (fiX_40_2 ad dA tt) (fun h i x => rfl)
theorem fiXC_40_3 (ad ac : Nat → Nat) (dA : Nat → ClassId) (tt : (Nat → Option Nat) × (Nat → Option Nat) × va_W) : FI (wXC ad ac dA tt) 3 40 (ad 40) 2 3 := FI.left (v := wC0 ad ac dA) (fiX_40_3 ad dA tt) (fun h i x => rfl)
theorem fiXC_40_4 (ad ac : Nat → Nat) (dA : Nat → ClassId) (tt : (Nat → Option Nat) × (Nat → Option Nat) × va_W) : FI (wXC ad ac dA tt) 3 40 (ad 40) 2 4 := FI.left (v := wC0 ad ac dA) (fiX_40_4 ad dA tt) (fun h i x => rfl)
theorem frXC_40_5 (ad ac : Nat → Nat) (dA : Nat → ClassId) (tt : (Nat → Option Nat) × (Nat → Option Nat) × va_W) (h : Hp) : FR (wXC ad ac dA tt h) 3 (ad 40) 2 5 (ad 100) := FR.left (frX_40_5 ad dA tt h)
theorem obXC_40 (ad ac : Nat → Nat) (dA : Nat → ClassId) (tt : (Nat → Option Nat) × (Nat → Option Nat) × va_W) (h : Hp) : ∃ fs, (wXC ad ac dA tt h)[3]? = some (ad 40, .inr (2, fs)) := by obtain ⟨fs, h1, _⟩ := frXC_40_0 ad ac dA tt h; exact ⟨fs, h1⟩
theorem ar2XC_42 (ad ac : Nat → Nat) (dA : Nat → ClassId) (tt : (Nat → Option Nat) × (Nat → Option Nat) × va_W) : AR2 (wXC ad ac dA tt) 5 42 ad 48 (dA 0) := AR2.of (arXC_42 ad ac dA tt) (arXC_43 ad ac dA tt)
theorem frXC_50_0 (ad ac : Nat → Nat) (dA : Nat → ClassId) (tt : (Nat → Option Nat) × (Nat → Option Nat) × va_W) (h : Hp) : FR (wXC ad ac dA tt h) 8 (ad 50) 2 0 (ad 51) := FR.left (frX_50_0 ad dA tt h)
theorem frXC_50_1 (ad ac : Nat → Nat) (dA : Nat → ClassId) (tt : (Nat → Option Nat) × (Nat → Option Nat) × va_W) (h : Hp) : FR (wXC ad ac dA tt h) 8 (ad 50) 2 1 (ad 54) := FR.left (frX_50_1 ad dA tt h)
theorem fiXC_50_2 (ad ac : Nat → Nat) (dA : Nat → ClassId) (tt : (Nat → Option Nat) × (Nat → Option Nat) × va_W) : FI (wXC ad ac dA tt) 8 50 (ad 50) 2 2 := FI.left (v := wC0 ad ac dA) (fiX_50_2 ad dA tt) (fun h i x => rfl)
theorem fiXC_50_3 (ad ac : Nat → Nat) (dA : Nat → ClassId) (tt : (Nat → Option Nat) × (Nat → Option Nat) × va_W) : FI (wXC ad ac dA tt) 8 50 (ad 50) 2 3 := FI.left (v := wC0 ad ac dA) (fiX_50_3 ad dA tt) (fun h i x => rfl)
theorem fiXC_50_4 (ad ac : Nat → Nat) (dA : Nat → ClassId) (tt : (Nat → Option Nat) × (Nat → Option Nat) × va_W) : FI (wXC ad ac dA tt) 8 50 (ad 50) 2 4 := FI.left (v := wC0 ad ac dA) (fiX_50_4 ad dA tt) (fun h i x => rfl)
theorem frXC_50_5 (ad ac : Nat → Nat) (dA : Nat → ClassId) (tt : (Nat → Option Nat) × (Nat → Option Nat) × va_W) (h : Hp) : FR (wXC ad ac dA tt h) 8 (ad 50) 2 5 (ad 100) := FR.left (frX_50_5 ad dA tt h)
theorem obXC_50 (ad ac : Nat → Nat) (dA : Nat → ClassId) (tt : (Nat → Option Nat) × (Nat → Option Nat) × va_W) (h : Hp) : ∃ fs, (wXC ad ac dA tt h)[8]? = some (ad 50, .inr (2, fs)) := by obtain ⟨fs, h1, _⟩ := frXC_50_0 ad ac dA tt h; exact ⟨fs, h1⟩
theorem ar2XC_52 (ad ac : Nat → Nat) (dA : Nat → ClassId) (tt : (Nat → Option Nat) × (Nat → Option Nat) × va_W) : AR2 (wXC ad ac dA tt) 10 52 ad 48 (dA 0) := AR2.of (arXC_52 ad ac dA tt) (arXC_53 ad ac dA tt)
theorem frXC_60_0 (ad ac : Nat → Nat) (dA : Nat → ClassId) (tt : (Nat → Option Nat) × (Nat → Option Nat) × va_W) (h : Hp) : FR (wXC ad ac dA tt h) 13 (ad 60) 2 0 (ad 61) := FR.left (frX_60_0 ad dA tt h)
theorem frXC_60_1 (ad ac : Nat → Nat) (dA : Nat → ClassId) (tt : (Nat → Option Nat) × (Nat → Option Nat) × va_W) (h : Hp) : FR (wXC ad ac dA tt h) 13 (ad 60) 2 1 (ad 64) := FR.left (frX_60_1 ad dA tt h)
theorem fiXC_60_2 (ad ac : Nat → Nat) (dA : Nat → ClassId) (tt : (Nat → Option Nat) × (Nat → Option Nat) × va_W) : FI (wXC ad ac dA tt) 13 60 (ad 60) 2 2 := FI.left (v := wC0 ad ac dA) (fiX_60_2 ad dA tt) (fun h i x => rfl)
theorem fiXC_60_3 (ad ac : Nat → Nat) (dA : Nat → ClassId) (tt : (Nat → Option Nat) × (Nat → Option Nat) × va_W) : FI (wXC ad ac dA tt) 13 60 (ad 60) 2 3 := FI.left (v := wC0 ad ac dA) (fiX_60_3 ad dA tt) (fun h i x => rfl)
theorem fiXC_60_4 (ad ac : Nat → Nat) (dA : Nat → ClassId) (tt : (Nat → Option Nat) × (Nat → Option Nat) × va_W) : FI (wXC ad ac dA tt) 13 60 (ad 60) 2 4 := FI.left (v := wC0 ad ac dA) (fiX_60_4 ad dA tt) (fun h i x => rfl)
theorem frXC_60_5 (ad ac : Nat → Nat) (dA : Nat → ClassId) (tt : (Nat → Option Nat) × (Nat → Option Nat) × va_W) (h : Hp) : FR (wXC ad ac dA tt h) 13 (ad 60) 2 5 (ad 100) := FR.left (frX_60_5 ad dA tt h)
theorem obXC_60 (ad ac : Nat → Nat) (dA : Nat → ClassId) (tt : (Nat → Option Nat) × (Nat → Option Nat) × va_W) (h : Hp) : ∃ fs, (wXC ad ac dA tt h)[13]? = some (ad 60, .inr (2, fs)) := by obtain ⟨fs, h1, _⟩ := frXC_60_0 ad ac dA tt h; exact ⟨fs, h1⟩
theorem ar2XC_62 (ad ac : Nat → Nat) (dA : Nat → ClassId) (tt : (Nat → Option Nat) × (Nat → Option Nat) × va_W) : AR2 (wXC ad ac dA tt) 15 62 ad 48 (dA 0) := AR2.of (arXC_62 ad ac dA tt) (arXC_63 ad ac dA tt)
theorem frXC_70_0 (ad ac : Nat → Nat) (dA : Nat → ClassId) (tt : (Nat → Option Nat) × (Nat → Option Nat) × va_W) (h : Hp) : FR (wXC ad ac dA tt h) 31 (ad 70) 3 0 (ad 71) := FR.left (frX_70_0 ad dA tt h)
theorem frXC_70_1 (ad ac : Nat → Nat) (dA : Nat → ClassId) (tt : (Nat → Option Nat) × (Nat → Option Nat) × va_W) (h : Hp) : FR (wXC ad ac dA tt h) 31 (ad 70) 3 1 (ad 72) := FR.left (frX_70_1 ad dA tt h)
theorem frXC_70_2 (ad ac : Nat → Nat) (dA : Nat → ClassId) (tt : (Nat → Option Nat) × (Nat → Option Nat) × va_W) (h : Hp) : FR (wXC ad ac dA tt h) 31 (ad 70) 3 2 (ad 73) := FR.left (frX_70_2 ad dA tt h)
theorem fiXC_70_3 (ad ac : Nat → Nat) (dA : Nat → ClassId) (tt : (Nat → Option Nat) × (Nat → Option Nat) × va_W) : FI (wXC ad ac dA tt) 31 70 (ad 70) 3 3 := FI.left (v := wC0 ad ac dA) (fiX_70_3 ad dA tt) (fun h i x => rfl)
theorem obXC_70 (ad ac : Nat → Nat) (dA : Nat → ClassId) (tt : (Nat → Option Nat) × (Nat → Option Nat) × va_W) (h : Hp) : ∃ fs, (wXC ad ac dA tt h)[31]? = some (ad 70, .inr (3, fs)) := by obtain ⟨fs, h1, _⟩ := frXC_70_0 ad ac dA tt h; exact ⟨fs, h1⟩
theorem fiXC_80_0 (ad ac : Nat → Nat) (dA : Nat → ClassId) (tt : (Nat → Option Nat) × (Nat → Option Nat) × va_W) : FI (wXC ad ac dA tt) (35 + tt.2.2.length + 0) 80 (ac 80) 12 0 := FI.right (w := wX ad dA tt) (fiC0_80_0 ad ac dA) (lenX ad dA tt) (fun h i x => rfl)
theorem fiXC_80_1 (ad ac : Nat → Nat) (dA : Nat → ClassId) (tt : (Nat → Option Nat) × (Nat → Option Nat) × va_W) : FI (wXC ad ac dA tt) (35 + tt.2.2.length + 0) 80 (ac 80) 12 1 := FI.right (w := wX ad dA tt) (fiC0_80_1 ad ac dA) (lenX ad dA tt) (fun h i x => rfl)
theorem fiXC_80_2 (ad ac : Nat → Nat) (dA : Nat → ClassId) (tt : (Nat → Option Nat) × (Nat → Option Nat) × va_W) : FI (wXC ad ac dA tt) (35 + tt.2.2.length + 0) 80 (ac 80) 12 2 := FI.right (w := wX ad dA tt) (fiC0_80_2 ad ac dA) (lenX ad dA tt) (fun h i x => rfl)
theorem fiXC_80_3 (ad ac : Nat → Nat) (dA : Nat → ClassId) (tt : (Nat → Option Nat) × (Nat → Option Nat) × va_W) : FI (wXC ad ac dA tt) (35 + tt.2.2.length + 0) 80 (ac 80) 12 3 := FI.right (w := wX ad dA tt) (fiC0_80_3 ad ac dA) (lenX ad dA tt) (fun h i x => rfl)
theorem frXC_80_4 (ad ac : Nat → Nat) (dA : Nat → ClassId) (tt : (Nat → Option Nat) × (Nat → Option Nat) × va_W) (h : Hp) : FR (wXC ad ac dA tt h) (35 + tt.2.2.length + 0) (ac 80) 12 4 (ad 100) := FR.right (frC0_80_4 ad ac dA h) (lenX ad dA tt h)
theorem frXC_80_5 (ad ac : Nat → Nat) (dA : Nat → ClassId) (tt : (Nat → Option Nat) × (Nat → Option Nat) × va_W) (h : Hp) : FR (wXC ad ac dA tt h) (35 + tt.2.2.length + 0) (ac 80) 12 5 (ac 81) := FR.right (frC0_80_5 ad ac dA h) (lenX ad dA tt h)
theorem fiXC_80_6 (ad ac : Nat → Nat) (dA : Nat → ClassId) (tt : (Nat → Option Nat) × (Nat → Option Nat) × va_W) : FI (wXC ad ac dA tt) (35 + tt.2.2.length + 0) 80 (ac 80) 12 6 := FI.right (w := wX ad dA tt) (fiC0_80_6 ad ac dA) (lenX ad dA tt) (fun h i x => rfl)
theorem fiXC_80_7 (ad ac : Nat → Nat) (dA : Nat → ClassId) (tt : (Nat → Option Nat) × (Nat → Option Nat) × va_W) : FI (wXC ad ac dA tt) (35 + tt.2.2.length + 0) 80 (ac 80) 12 7 := FI.right (w := wX ad dA tt) (fiC0_80_7 ad ac dA) (lenX ad dA tt) (fun h i x => rfl)
theorem frXC_80_8 (ad ac : Nat → Nat) (dA : Nat → ClassId) (tt : (Nat → Option Nat) × (Nat → Option Nat) × va_W) (h : Hp) : FR (wXC ad ac dA tt h) (35 + tt.2.2.length + 0) (ac 80) 12 8 (ad 100) := FR.right (frC0_80_8 ad ac dA h) (lenX ad dA tt h)
theorem obXC_80 (ad ac : Nat → Nat) (dA : Nat → ClassId) (tt : (Nat → Option Nat) × (Nat → Option Nat) × va_W) (h : Hp) : ∃ fs, (wXC ad ac dA tt h)[(35 + tt.2.2.length + 0)]? = some ((ac 80), .inr (12, fs)) := by obtain ⟨fs, h1, _⟩ := frXC_80_4 ad ac dA tt h; exact ⟨fs, h1⟩
theorem ar2XC_82 (ad ac : Nat → Nat) (dA : Nat → ClassId) (tt : (Nat → Option Nat) × (Nat → Option Nat) × va_W) : AR2 (wXC ad ac dA tt) (35 + tt.2.2.length + 2) 82 ac 48 (dA 0) := AR2.of (arXC_82 ad ac dA tt) (arXC_83 ad ac dA tt)
def wXG (ad ac : Nat → Nat) (dA : Nat → ClassId) (tt : (Nat → Option Nat) × (Nat → Option Nat) × va_W) (h : Hp) : va_W := wX ad dA tt h ++ wG0 ad ac dA h
theorem arXG_31 (ad ac : Nat → Nat) (dA : Nat → ClassId) (tt : (Nat → Option Nat) × (Nat → Option Nat) × va_W) : AR (wXG ad ac dA tt) 2 31 (ad 31) 128 (dA 0) := AR.left (v := wG0 ad ac dA) (arX_31 ad dA tt) (fun h i x => rfl)
theorem aaXG_41 (ad ac : Nat → Nat) (dA : Nat → ClassId) (tt : (Nat → Option Nat) × (Nat → Option Nat) × va_W) (h : Hp) : AA (wXG ad ac dA tt h) 4 (ad 41) 2 (dA 3) (fun i => ad (42 + i)) := AA.left (aaX_41 ad dA tt h)
theorem arXG_42 (ad ac : Nat → Nat) (dA : Nat → ClassId) (tt : (Nat → Option Nat) × (Nat → Option Nat) × va_W) : AR (wXG ad ac dA tt) 5 42 (ad 42) 48 (dA 0) := AR.left (v := wG0 ad ac dA) (arX_42 ad dA tt) (fun h i x => rfl)
theorem arXG_43 (ad ac : Nat → Nat) (dA : Nat → ClassId) (tt : (Nat → Option Nat) × (Nat → Option Nat) × va_W) : AR (wXG ad ac dA tt) 6 43 (ad 43) 48 (dA 0) := AR.left (v := wG0 ad ac dA) (arX_43 ad dA tt) (fun h i x => rfl)
theorem arXG_44 (ad ac : Nat → Nat) (dA : Nat → ClassId) (tt : (Nat → Option Nat) × (Nat → Option Nat) × va_W) : AR (wXG ad ac dA tt) 7 44 (ad 44) 2 (dA 0) := AR.left (v := wG0 ad ac dA) (arX_44 ad dA tt) (fun h i x => rfl)
theorem aaXG_51 (ad ac : Nat → Nat) (dA : Nat → ClassId) (tt : (Nat → Option Nat) × (Nat → Option Nat) × va_W) (h : Hp) : AA (wXG ad ac dA tt h) 9 (ad 51) 2 (dA 3) (fun i => ad (52 + i)) := AA.left (aaX_51 ad dA tt h)
theorem arXG_52 (ad ac : Nat → Nat) (dA : Nat → ClassId) (tt : (Nat → Option Nat) × (Nat → Option Nat) × va_W) : AR (wXG ad ac dA tt) 10 52 (ad 52) 48 (dA 0) := AR.left (v := wG0 ad ac dA) (arX_52 ad dA tt) (fun h i x => rfl)
theorem arXG_53 (ad ac : Nat → Nat) (dA : Nat → ClassId) (tt : (Nat → Option Nat) × (Nat → Option Nat) × va_W) : AR (wXG ad ac dA tt) 11 53 (ad 53) 48 (dA 0) := AR.left (v := wG0 ad ac dA) (arX_53 ad dA tt) (fun h i x => rfl)
theorem arXG_54 (ad ac : Nat → Nat) (dA : Nat → ClassId) (tt : (Nat → Option Nat) × (Nat → Option Nat) × va_W) : AR (wXG ad ac dA tt) 12 54 (ad 54) 2 (dA 0) := AR.left (v := wG0 ad ac dA) (arX_54 ad dA tt) (fun h i x => rfl)
theorem aaXG_61 (ad ac : Nat → Nat) (dA : Nat → ClassId) (tt : (Nat → Option Nat) × (Nat → Option Nat) × va_W) (h : Hp) : AA (wXG ad ac dA tt h) 14 (ad 61) 2 (dA 3) (fun i => ad (62 + i)) := AA.left (aaX_61 ad dA tt h)
theorem arXG_62 (ad ac : Nat → Nat) (dA : Nat → ClassId) (tt : (Nat → Option Nat) × (Nat → Option Nat) × va_W) : AR (wXG ad ac dA tt) 15 62 (ad 62) 48 (dA 0) := AR.left (v := wG0 ad ac dA) (arX_62 ad dA tt) (fun h i x => rfl)
theorem arXG_63 (ad ac : Nat → Nat) (dA : Nat → ClassId) (tt : (Nat → Option Nat) × (Nat → Option Nat) × va_W) : AR (wXG ad ac dA tt) 16 63 (ad 63) 48 (dA 0) := AR.left (v := wG0 ad ac dA) (arX_63 ad dA tt) (fun h i x => rfl)
theorem arXG_64 (ad ac : Nat → Nat) (dA : Nat → ClassId) (tt : (Nat → Option Nat) × (Nat → Option Nat) × va_W) : AR (wXG ad ac dA tt) 17 64 (ad 64) 2 (dA 0) := AR.left (v := wG0 ad ac dA) (arX_64 ad dA tt) (fun h i x => rfl)
theorem arXG_1 (ad ac : Nat → Nat) (dA : Nat → ClassId) (tt : (Nat → Option Nat) × (Nat → Option Nat) × va_W) : AR (wXG ad ac dA tt) 18 1 (ad 1) 48 (dA 1) := AR.left (v := wG0 ad ac dA) (arX_1 ad dA tt) (fun h i x => rfl)
theorem arXG_2 (ad ac : Nat → Nat) (dA : Nat → ClassId) (tt : (Nat → Option Nat) × (Nat → Option Nat) × va_W) : AR (wXG ad ac dA tt) 19 2 (ad 2) 48 (dA 1) := AR.left (v := wG0 ad ac dA) (arX_2 ad dA tt) (fun h i x => rfl)
theorem arXG_3 (ad ac : Nat → Nat) (dA : Nat → ClassId) (tt : (Nat → Option Nat) × (Nat → Option Nat) × va_W) : AR (wXG ad ac dA tt) 20 3 (ad 3) 48 (dA 0) := AR.left (v := wG0 ad ac dA) (arX_3 ad dA tt) (fun h i x => rfl)
theorem arXG_8 (ad ac : Nat → Nat) (dA : Nat → ClassId) (tt : (Nat → Option Nat) × (Nat → Option Nat) × va_W) : AR (wXG ad ac dA tt) 21 8 (ad 8) 260 (dA 2) := AR.left (v := wG0 ad ac dA) (arX_8 ad dA tt) (fun h i x => rfl)
theorem arXG_12 (ad ac : Nat → Nat) (dA : Nat → ClassId) (tt : (Nat → Option Nat) × (Nat → Option Nat) × va_W) : AR (wXG ad ac dA tt) 22 12 (ad 12) 63 (dA 0) := AR.left (v := wG0 ad ac dA) (arX_12 ad dA tt) (fun h i x => rfl)
theorem arXG_13 (ad ac : Nat → Nat) (dA : Nat → ClassId) (tt : (Nat → Option Nat) × (Nat → Option Nat) × va_W) : AR (wXG ad ac dA tt) 23 13 (ad 13) 63 (dA 0) := AR.left (v := wG0 ad ac dA) (arX_13 ad dA tt) (fun h i x => rfl)
theorem arXG_14 (ad ac : Nat → Nat) (dA : Nat → ClassId) (tt : (Nat → Option Nat) × (Nat → Option Nat) × va_W) : AR (wXG ad ac dA tt) 24 14 (ad 14) 63 (dA 0) := AR.left (v := wG0 ad ac dA) (arX_14 ad dA tt) (fun h i x => rfl)
theorem arXG_15 (ad ac : Nat → Nat) (dA : Nat → ClassId) (tt : (Nat → Option Nat) × (Nat → Option Nat) × va_W) : AR (wXG ad ac dA tt) 25 15 (ad 15) 63 (dA 0) := AR.left (v := wG0 ad ac dA) (arX_15 ad dA tt) (fun h i x => rfl)
theorem arXG_16 (ad ac : Nat → Nat) (dA : Nat → ClassId) (tt : (Nat → Option Nat) × (Nat → Option Nat) × va_W) : AR (wXG ad ac dA tt) 26 16 (ad 16) 48 (dA 1) := AR.left (v := wG0 ad ac dA) (arX_16 ad dA tt) (fun h i x => rfl)
theorem arXG_17 (ad ac : Nat → Nat) (dA : Nat → ClassId) (tt : (Nat → Option Nat) × (Nat → Option Nat) × va_W) : AR (wXG ad ac dA tt) 27 17 (ad 17) 48 (dA 0) := AR.left (v := wG0 ad ac dA) (arX_17 ad dA tt) (fun h i x => rfl)
theorem arXG_18 (ad ac : Nat → Nat) (dA : Nat → ClassId) (tt : (Nat → Option Nat) × (Nat → Option Nat) × va_W) : AR (wXG ad ac dA tt) 28 18 (ad 18) 48 (dA 0) := AR.left (v := wG0 ad ac dA) (arX_18 ad dA tt) (fun h i x => rfl)
theorem arXG_19 (ad ac : Nat → Nat) (dA : Nat → ClassId) (tt : (Nat → Option Nat) × (Nat → Option Nat) × va_W) : AR (wXG ad ac dA tt) 29 19 (ad 19) 48 (dA 0) := AR.left (v := wG0 ad ac dA) (arX_19 ad dA tt) (fun h i x => rfl)
theorem arXG_20 (ad ac : Nat → Nat) (dA : Nat → ClassId) (tt : (Nat → Option Nat) × (Nat → Option Nat) × va_W) : AR (wXG ad ac dA tt) 30 20 (ad 20) 48 (dA 0) := AR.left (v := wG0 ad ac dA) (arX_20 ad dA tt) (fun h i x => rfl)
theorem arXG_71 (ad ac : Nat → Nat) (dA : Nat → ClassId) (tt : (Nat → Option Nat) × (Nat → Option Nat) × va_W) : AR (wXG ad ac dA tt) 32 71 (ad 71) 16 (dA 0) := AR.left (v := wG0 ad ac dA) (arX_71 ad dA tt) (fun h i x => rfl)
theorem arXG_86 (ad ac : Nat → Nat) (dA : Nat → ClassId) (tt : (Nat → Option Nat) × (Nat → Option Nat) × va_W) : AR (wXG ad ac dA tt) (35 + tt.2.2.length + 1) 86 (ac 86) 48 (dA 0) := AR.right (w := wX ad dA tt) (arG0_86 ad ac dA) (lenX ad dA tt) (fun h i x => rfl)
theorem frXG_100_0 (ad ac : Nat → Nat) (dA : Nat → ClassId) (tt : (Nat → Option Nat) × (Nat → Option Nat) × va_W) (h : Hp) : FR (wXG ad ac dA tt h) 0 (ad 100) 0 0 (ad 30) := FR.left (frX_100_0 ad dA tt h)
theorem frXG_100_1 (ad ac : Nat → Nat) (dA : Nat → ClassId) (tt : (Nat → Option Nat) × (Nat → Option Nat) × va_W) (h : Hp) : FR (wXG ad ac dA tt h) 0 (ad 100) 0 1 (ad 1) := FR.left (frX_100_1 ad dA tt h)
theorem frXG_100_2 (ad ac : Nat → Nat) (dA : Nat → ClassId) (tt : (Nat → Option Nat) × (Nat → Option Nat) × va_W) (h : Hp) : FR (wXG ad ac dA tt h) 0 (ad 100) 0 2 (ad 2) := FR.left (frX_100_2 ad dA tt h)
theorem frXG_100_3 (ad ac : Nat → Nat) (dA : Nat → ClassId) (tt : (Nat → Option Nat) × (Nat → Option Nat) × va_W) (h : Hp) : FR (wXG ad ac dA tt h) 0 (ad 100) 0 3 (ad 3) := FR.left (frX_100_3 ad dA tt h)
theorem fiXG_100_4 (ad ac : Nat → Nat) (dA : Nat → ClassId) (tt : (Nat → Option Nat) × (Nat → Option Nat) × va_W) : FI (wXG ad ac dA tt) 0 100 (ad 100) 0 4 := FI.left (v := wG0 ad ac dA) (fiX_100_4 ad dA tt) (fun h i x => rfl)
theorem frXG_100_5 (ad ac : Nat → Nat) (dA : Nat → ClassId) (tt : (Nat → Option Nat) × (Nat → Option Nat) × va_W) (h : Hp) : FR (wXG ad ac dA tt h) 0 (ad 100) 0 5 (ad 40) := FR.left (frX_100_5 ad dA tt h)
theorem frXG_100_6 (ad ac : Nat → Nat) (dA : Nat → ClassId) (tt : (Nat → Option Nat) × (Nat → Option Nat) × va_W) (h : Hp) : FR (wXG ad ac dA tt h) 0 (ad 100) 0 6 (ad 50) := FR.left (frX_100_6 ad dA tt h)
theorem frXG_100_7 (ad ac : Nat → Nat) (dA : Nat → ClassId) (tt : (Nat → Option Nat) × (Nat → Option Nat) × va_W) (h : Hp) : FR (wXG ad ac dA tt h) 0 (ad 100) 0 7 (ad 60) := FR.left (frX_100_7 ad dA tt h)
theorem frXG_100_8 (ad ac : Nat → Nat) (dA : Nat → ClassId) (tt : (Nat → Option Nat) × (Nat → Option Nat) × va_W) (h : Hp) : FR (wXG ad ac dA tt h) 0 (ad 100) 0 8 (ad 8) := FR.left (frX_100_8 ad dA tt h)
theorem frXG_100_9 (ad ac : Nat → Nat) (dA : Nat → ClassId) (tt : (Nat → Option Nat) × (Nat → Option Nat) × va_W) (h : Hp) : FR (wXG ad ac dA tt h) 0 (ad 100) 0 9 (ad 70) := FR.left (frX_100_9 ad dA tt h)
theorem fiXG_100_10 (ad ac : Nat → Nat) (dA : Nat → ClassId) (tt : (Nat → Option Nat) × (Nat → Option Nat) × va_W) : FI (wXG ad ac dA tt) 0 100 (ad 100) 0 10 := FI.left (v := wG0 ad ac dA) (fiX_100_10 ad dA tt) (fun h i x => rfl)
theorem fiXG_100_11 (ad ac : Nat → Nat) (dA : Nat → ClassId) (tt : (Nat → Option Nat) × (Nat → Option Nat) × va_W) : FI (wXG ad ac dA tt) 0 100 (ad 100) 0 11 := FI.left (v := wG0 ad ac dA) (fiX_100_11 ad dA tt) (fun h i x => rfl)
theorem frXG_100_12 (ad ac : Nat → Nat) (dA : Nat → ClassId) (tt : (Nat → Option Nat) × (Nat → Option Nat) × va_W) (h : Hp) : FR (wXG ad ac dA tt h) 0 (ad 100) 0 12 (ad 12) := FR.left (frX_100_12 ad dA tt h)
theorem frXG_100_13 (ad ac : Nat → Nat) (dA : Nat → ClassId) (tt : (Nat → Option Nat) × (Nat → Option Nat) × va_W) (h : Hp) : FR (wXG ad ac dA tt h) 0 (ad 100) 0 13 (ad 13) := FR.left (frX_100_13 ad dA tt h)
theorem frXG_100_14 (ad ac : Nat → Nat) (dA : Nat → ClassId) (tt : (Nat → Option Nat) × (Nat → Option Nat) × va_W) (h : Hp) : FR (wXG ad ac dA tt h) 0 (ad 100) 0 14 (ad 14) := FR.left (frX_100_14 ad dA tt h)
theorem frXG_100_15 (ad ac : Nat → Nat) (dA : Nat → ClassId) (tt : (Nat → Option Nat) × (Nat → Option Nat) × va_W) (h : Hp) : FR (wXG ad ac dA tt h) 0 (ad 100) 0 15 (ad 15) := FR.left (frX_100_15 ad dA tt h)
theorem frXG_100_16 (ad ac : Nat → Nat) (dA : Nat → ClassId) (tt : (Nat → Option Nat) × (Nat → Option Nat) × va_W) (h : Hp) : FR (wXG ad ac dA tt h) 0 (ad 100) 0 16 (ad 16) := FR.left (frX_100_16 ad dA tt h)
theorem frXG_100_17 (ad ac : Nat → Nat) (dA : Nat → ClassId) (tt : (Nat → Option Nat) × (Nat → Option Nat) × va_W) (h : Hp) : FR (wXG ad ac dA tt h) 0 (ad 100) 0 17 (ad 17) := FR.left (frX_100_17 ad dA tt h)
theorem frXG_100_18 (ad ac : Nat → Nat) (dA : Nat → ClassId) (tt : (Nat → Option Nat) × (Nat → Option Nat) × va_W) (h : Hp) : FR (wXG ad ac dA tt h) 0 (ad 100) 0 18 (ad 18) := FR.left (frX_100_18 ad dA tt h)
theorem frXG_100_19 (ad ac : Nat → Nat) (dA : Nat → ClassId) (tt : (Nat → Option Nat) × (Nat → Option Nat) × va_W) (h : Hp) : FR (wXG ad ac dA tt h) 0 (ad 100) 0 19 (ad 19) := FR.left (frX_100_19 ad dA tt h)
theorem frXG_100_20 (ad ac : Nat → Nat) (dA : Nat → ClassId) (tt : (Nat → Option Nat) × (Nat → Option Nat) × va_W) (h : Hp) : FR (wXG ad ac dA tt h) 0 (ad 100) 0 20 (ad 20) := FR.left (frX_100_20 ad dA tt h)
theorem obXG_100 (ad ac : Nat → Nat) (dA : Nat → ClassId) (tt : (Nat → Option Nat) × (Nat → Option Nat) × va_W) (h : Hp) : ∃ fs, (wXG ad ac dA tt h)[0]? = some (ad 100, .inr (0, fs)) := by obtain ⟨fs, h1, _⟩ := frXG_100_0 ad ac dA tt h; exact ⟨fs, h1⟩
theorem frXG_30_0 (ad ac : Nat → Nat) (dA : Nat → ClassId) (tt : (Nat → Option Nat) × (Nat → Option Nat) × va_W) (h : Hp) : FR (wXG ad ac dA tt h) 1 (ad 30) 1 0 (ad 31) := FR.left (frX_30_0 ad dA tt h)
theorem fiXG_30_1 (ad ac : Nat → Nat) (dA : Nat → ClassId) (tt : (Nat → Option Nat) × (Nat → Option Nat) × va_W) : FI (wXG ad ac dA tt) 1 30 (ad 30) 1 1 := FI.left (v := wG0 ad ac dA) (fiX_30_1 ad dA tt) (fun h i x => rfl)
theorem obXG_30 (ad ac : Nat → Nat) (dA : Nat → ClassId) (tt : (Nat → Option Nat) × (Nat → Option Nat) × va_W) (h : Hp) : ∃ fs, (wXG ad ac dA tt h)[1]? = some (ad 30, .inr (1, fs)) := by obtain ⟨fs, h1, _⟩ := frXG_30_0 ad ac dA tt h; exact ⟨fs, h1⟩
theorem frXG_40_0 (ad ac : Nat → Nat) (dA : Nat → ClassId) (tt : (Nat → Option Nat) × (Nat → Option Nat) × va_W) (h : Hp) : FR (wXG ad ac dA tt h) 3 (ad 40) 2 0 (ad 41) := FR.left (frX_40_0 ad dA tt h)
theorem frXG_40_1 (ad ac : Nat → Nat) (dA : Nat → ClassId) (tt : (Nat → Option Nat) × (Nat → Option Nat) × va_W) (h : Hp) : FR (wXG ad ac dA tt h) 3 (ad 40) 2 1 (ad 44) := FR.left (frX_40_1 ad dA tt h)
theorem fiXG_40_2 (ad ac : Nat → Nat) (dA : Nat → ClassId) (tt : (Nat → Option Nat) × (Nat → Option Nat) × va_W) : FI (wXG ad ac dA tt) 3 40 (ad 40) 2 2 := FI.left (v := wG0 ad ac dA) (fiX_40_2 ad dA tt) (fun h i x => rfl)
theorem fiXG_40_3 (ad ac : Nat → Nat) (dA : Nat → ClassId) (tt : (Nat → Option Nat) × (Nat → Option Nat) × va_W) : FI (wXG ad ac dA tt) 3 40 (ad 40) 2 3 := FI.left (v := wG0 ad ac dA) (fiX_40_3 ad dA tt) (fun h i x => rfl)
theorem fiXG_40_4 (ad ac : Nat → Nat) (dA : Nat → ClassId) (tt : (Nat → Option Nat) × (Nat → Option Nat) × va_W) : FI (wXG ad ac dA tt) 3 40 (ad 40) 2 4 := FI.left (v := wG0 ad ac dA) (fiX_40_4 ad dA tt) (fun h i x => rfl)
theorem frXG_40_5 (ad ac : Nat → Nat) (dA : Nat → ClassId) (tt : (Nat → Option Nat) × (Nat → Option Nat) × va_W) (h : Hp) : FR (wXG ad ac dA tt h) 3 (ad 40) 2 5 (ad 100) := FR.left (frX_40_5 ad dA tt h)
theorem obXG_40 (ad ac : Nat → Nat) (dA : Nat → ClassId) (tt : (Nat → Option Nat) × (Nat → Option Nat) × va_W) (h : Hp) : ∃ fs, (wXG ad ac dA tt h)[3]? = some (ad 40, .inr (2, fs)) := by obtain ⟨fs, h1, _⟩ := frXG_40_0 ad ac dA tt h; exact ⟨fs, h1⟩
theorem ar2XG_42 (ad ac : Nat → Nat) (dA : Nat → ClassId) (tt : (Nat → Option Nat) × (Nat → Option Nat) × va_W) : AR2 (wXG ad ac dA tt) 5 42 ad 48 (dA 0) := AR2.of (arXG_42 ad ac dA tt) (arXG_43 ad ac dA tt)
theorem frXG_50_0 (ad ac : Nat → Nat) (dA : Nat → ClassId) (tt : (Nat → Option Nat) × (Nat → Option Nat) × va_W) (h : Hp) : FR (wXG ad ac dA tt h) 8 (ad 50) 2 0 (ad 51) := FR.left (frX_50_0 ad dA tt h)
theorem frXG_50_1 (ad ac : Nat → Nat) (dA : Nat → ClassId) (tt : (Nat → Option Nat) × (Nat → Option Nat) × va_W) (h : Hp) : FR (wXG ad ac dA tt h) 8 (ad 50) 2 1 (ad 54) := FR.left (frX_50_1 ad dA tt h)
theorem fiXG_50_2 (ad ac : Nat → Nat) (dA : Nat → ClassId) (tt : (Nat → Option Nat) × (Nat → Option Nat) × va_W) : FI (wXG ad ac dA tt) 8 50 (ad 50) 2 2 := FI.left (v := wG0 ad ac dA) (fiX_50_2 ad dA tt) (fun h i x => rfl)
theorem fiXG_50_3 (ad ac : Nat → Nat) (dA : Nat → ClassId) (tt : (Nat → Option Nat) × (Nat → Option Nat) × va_W) : FI (wXG ad ac dA tt) 8 50 (ad 50) 2 3 := FI.left (v := wG0 ad ac dA) (fiX_50_3 ad dA tt) (fun h i x => rfl)
theorem fiXG_50_4 (ad ac : Nat → Nat) (dA : Nat → ClassId) (tt : (Nat → Option Nat) × (Nat → Option Nat) × va_W) : FI (wXG ad ac dA tt) 8 50 (ad 50) 2 4 := FI.left (v := wG0 ad ac dA) (fiX_50_4 ad dA tt) (fun h i x => rfl)
theorem frXG_50_5 (ad ac : Nat → Nat) (dA : Nat → ClassId) (tt : (Nat → Option Nat) × (Nat → Option Nat) × va_W) (h : Hp) : FR (wXG ad ac dA tt h) 8 (ad 50) 2 5 (ad 100) := FR.left (frX_50_5 ad dA tt h)
theorem obXG_50 (ad ac : Nat → Nat) (dA : Nat → ClassId) (tt : (Nat → Option Nat) × (Nat → Option Nat) × va_W) (h : Hp) : ∃ fs, (wXG ad ac dA tt h)[8]? = some (ad 50, .inr (2, fs)) := by obtain ⟨fs, h1, _⟩ := frXG_50_0 ad ac dA tt h; exact ⟨fs, h1⟩
theorem ar2XG_52 (ad ac : Nat → Nat) (dA : Nat → ClassId) (tt : (Nat → Option Nat) × (Nat → Option Nat) × va_W) : AR2 (wXG ad ac dA tt) 10 52 ad 48 (dA 0) := AR2.of (arXG_52 ad ac dA tt) (arXG_53 ad ac dA tt)
theorem frXG_60_0 (ad ac : Nat → Nat) (dA : Nat → ClassId) (tt : (Nat → Option Nat) × (Nat → Option Nat) × va_W) (h : Hp) : FR (wXG ad ac dA tt h) 13 (ad 60) 2 0 (ad 61) := FR.left (frX_60_0 ad dA tt h)
theorem frXG_60_1 (ad ac : Nat → Nat) (dA : Nat → ClassId) (tt : (Nat → Option Nat) × (Nat → Option Nat) × va_W) (h : Hp) : FR (wXG ad ac dA tt h) 13 (ad 60) 2 1 (ad 64) := FR.left (frX_60_1 ad dA tt h)
theorem fiXG_60_2 (ad ac : Nat → Nat) (dA : Nat → ClassId) (tt : (Nat → Option Nat) × (Nat → Option Nat) × va_W) : FI (wXG ad ac dA tt) 13 60 (ad 60) 2 2 := FI.left (v := wG0 ad ac dA) (fiX_60_2 ad dA tt) (fun h i x => rfl)
theorem fiXG_60_3 (ad ac : Nat → Nat) (dA : Nat → ClassId) (tt : (Nat → Option Nat) × (Nat → Option Nat) × va_W) : FI (wXG ad ac dA tt) 13 60 (ad 60) 2 3 := FI.left (v := wG0 ad ac dA) (fiX_60_3 ad dA tt) (fun h i x => rfl)
theorem fiXG_60_4 (ad ac : Nat → Nat) (dA : Nat → ClassId) (tt : (Nat → Option Nat) × (Nat → Option Nat) × va_W) : FI (wXG ad ac dA tt) 13 60 (ad 60) 2 4 := FI.left (v := wG0 ad ac dA) (fiX_60_4 ad dA tt) (fun h i x => rfl)
theorem frXG_60_5 (ad ac : Nat → Nat) (dA : Nat → ClassId) (tt : (Nat → Option Nat) × (Nat → Option Nat) × va_W) (h : Hp) : FR (wXG ad ac dA tt h) 13 (ad 60) 2 5 (ad 100) := FR.left (frX_60_5 ad dA tt h)
theorem obXG_60 (ad ac : Nat → Nat) (dA : Nat → ClassId) (tt : (Nat → Option Nat) × (Nat → Option Nat) × va_W) (h : Hp) : ∃ fs, (wXG ad ac dA tt h)[13]? = some (ad 60, .inr (2, fs)) := by obtain ⟨fs, h1, _⟩ := frXG_60_0 ad ac dA tt h; exact ⟨fs, h1⟩
theorem ar2XG_62 (ad ac : Nat → Nat) (dA : Nat → ClassId) (tt : (Nat → Option Nat) × (Nat → Option Nat) × va_W) : AR2 (wXG ad ac dA tt) 15 62 ad 48 (dA 0) := AR2.of (arXG_62 ad ac dA tt) (arXG_63 ad ac dA tt)
theorem frXG_70_0 (ad ac : Nat → Nat) (dA : Nat → ClassId) (tt : (Nat → Option Nat) × (Nat → Option Nat) × va_W) (h : Hp) : FR (wXG ad ac dA tt h) 31 (ad 70) 3 0 (ad 71) := FR.left (frX_70_0 ad dA tt h)
theorem frXG_70_1 (ad ac : Nat → Nat) (dA : Nat → ClassId) (tt : (Nat → Option Nat) × (Nat → Option Nat) × va_W) (h : Hp) : FR (wXG ad ac dA tt h) 31 (ad 70) 3 1 (ad 72) := FR.left (frX_70_1 ad dA tt h)
theorem frXG_70_2 (ad ac : Nat → Nat) (dA : Nat → ClassId) (tt : (Nat → Option Nat) × (Nat → Option Nat) × va_W) (h : Hp) : FR (wXG ad ac dA tt h) 31 (ad 70) 3 2 (ad 73) := FR.left (frX_70_2 ad dA tt h)
theorem fiXG_70_3 (ad ac : Nat → Nat) (dA : Nat → ClassId) (tt : (Nat → Option Nat) × (Nat → Option Nat) × va_W) : FI (wXG ad ac dA tt) 31 70 (ad 70) 3 3 := FI.left (v := wG0 ad ac dA) (fiX_70_3 ad dA tt) (fun h i x => rfl)
theorem obXG_70 (ad ac : Nat → Nat) (dA : Nat → ClassId) (tt : (Nat → Option Nat) × (Nat → Option Nat) × va_W) (h : Hp) : ∃ fs, (wXG ad ac dA tt h)[31]? = some (ad 70, .inr (3, fs)) := by obtain ⟨fs, h1, _⟩ := frXG_70_0 ad ac dA tt h; exact ⟨fs, h1⟩
theorem fiXG_85_0 (ad ac : Nat → Nat) (dA : Nat → ClassId) (tt : (Nat → Option Nat) × (Nat → Option Nat) × va_W) : FI (wXG ad ac dA tt) (35 + tt.2.2.length + 0) 85 (ac 85) 13 0 := FI.right (w := wX ad dA tt) (fiG0_85_0 ad ac dA) (lenX ad dA tt) (fun h i x => rfl)
theorem fiXG_85_1 (ad ac : Nat → Nat) (dA : Nat → ClassId) (tt : (Nat → Option Nat) × (Nat → Option Nat) × va_W) : FI (wXG ad ac dA tt) (35 + tt.2.2.length + 0) 85 (ac 85) 13 1 := FI.right (w := wX ad dA tt) (fiG0_85_1 ad ac dA) (lenX ad dA tt) (fun h i x => rfl)
theorem fiXG_85_2 (ad ac : Nat → Nat) (dA : Nat → ClassId) (tt : (Nat → Option Nat) × (Nat → Option Nat) × va_W) : FI (wXG ad ac dA tt) (35 + tt.2.2.length + 0) 85 (ac 85) 13 2 := FI.right (w := wX ad dA tt) (fiG0_85_2 ad ac dA) (lenX ad dA tt) (fun h i x => rfl)
theorem fiXG_85_3 (ad ac : Nat → Nat) (dA : Nat → ClassId) (tt : (Nat → Option Nat) × (Nat → Option Nat) × va_W) : FI (wXG ad ac dA tt) (35 + tt.2.2.length + 0) 85 (ac 85) 13 3 := FI.right (w := wX ad dA tt) (fiG0_85_3 ad ac dA) (lenX ad dA tt) (fun h i x => rfl)
theorem frXG_85_4 (ad ac : Nat → Nat) (dA : Nat → ClassId) (tt : (Nat → Option Nat) × (Nat → Option Nat) × va_W) (h : Hp) : FR (wXG ad ac dA tt h) (35 + tt.2.2.length + 0) (ac 85) 13 4 (ad 100) := FR.right (frG0_85_4 ad ac dA h) (lenX ad dA tt h)
theorem frXG_85_5 (ad ac : Nat → Nat) (dA : Nat → ClassId) (tt : (Nat → Option Nat) × (Nat → Option Nat) × va_W) (h : Hp) : FR (wXG ad ac dA tt h) (35 + tt.2.2.length + 0) (ac 85) 13 5 (ac 86) := FR.right (frG0_85_5 ad ac dA h) (lenX ad dA tt h)
theorem fiXG_85_6 (ad ac : Nat → Nat) (dA : Nat → ClassId) (tt : (Nat → Option Nat) × (Nat → Option Nat) × va_W) : FI (wXG ad ac dA tt) (35 + tt.2.2.length + 0) 85 (ac 85) 13 6 := FI.right (w := wX ad dA tt) (fiG0_85_6 ad ac dA) (lenX ad dA tt) (fun h i x => rfl)
theorem fiXG_85_7 (ad ac : Nat → Nat) (dA : Nat → ClassId) (tt : (Nat → Option Nat) × (Nat → Option Nat) × va_W) : FI (wXG ad ac dA tt) (35 + tt.2.2.length + 0) 85 (ac 85) 13 7 := FI.right (w := wX ad dA tt) (fiG0_85_7 ad ac dA) (lenX ad dA tt) (fun h i x => rfl)
theorem frXG_85_8 (ad ac : Nat → Nat) (dA : Nat → ClassId) (tt : (Nat → Option Nat) × (Nat → Option Nat) × va_W) (h : Hp) : FR (wXG ad ac dA tt h) (35 + tt.2.2.length + 0) (ac 85) 13 8 (ad 100) := FR.right (frG0_85_8 ad ac dA h) (lenX ad dA tt h)
theorem obXG_85 (ad ac : Nat → Nat) (dA : Nat → ClassId) (tt : (Nat → Option Nat) × (Nat → Option Nat) × va_W) (h : Hp) : ∃ fs, (wXG ad ac dA tt h)[(35 + tt.2.2.length + 0)]? = some ((ac 85), .inr (13, fs)) := by obtain ⟨fs, h1, _⟩ := frXG_85_4 ad ac dA tt h; exact ⟨fs, h1⟩
