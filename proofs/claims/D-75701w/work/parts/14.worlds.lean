set_option maxRecDepth 100000
/-- the world of X -/
def wX (ad : Nat → Nat) (dA : Nat → ClassId) (tt : (Nat → Option Nat) × (Nat → Option Nat) × va_W) (h : Hp) : va_W := [
  ((ad 100), .inr (0, [.ref (ad 30), .ref (ad 1), .ref (ad 2), .ref (ad 3), .int (h 100 4), .ref (ad 40), .ref (ad 50), .ref (ad 60), .ref (ad 8), .ref (ad 70), .int (h 100 10), .int (h 100 11), .ref (ad 12), .ref (ad 13), .ref (ad 14), .ref (ad 15), .ref (ad 16), .ref (ad 17), .ref (ad 18), .ref (ad 19), .ref (ad 20)])),
  ((ad 30), .inr (1, [.ref (ad 31), .int (h 30 1)])),
  ((ad 31), .inl (dA 0, 128, .inl (h 31))),
  ((ad 40), .inr (2, [.ref (ad 41), .ref (ad 44), .int (h 40 2), .int (h 40 3), .int (h 40 4), .ref (ad 100)])),
  ((ad 41), .inl (dA 3, 2, .inr (.inr (.inr (.inr (fun i => some (ad (42 + i)))))))),
  ((ad 42), .inl (dA 0, 48, .inl (h 42))),
  ((ad 43), .inl (dA 0, 48, .inl (h 43))),
  ((ad 44), .inl (dA 0, 2, .inl (h 44))),
  ((ad 50), .inr (2, [.ref (ad 51), .ref (ad 54), .int (h 50 2), .int (h 50 3), .int (h 50 4), .ref (ad 100)])),
  ((ad 51), .inl (dA 3, 2, .inr (.inr (.inr (.inr (fun i => some (ad (52 + i)))))))),
  ((ad 52), .inl (dA 0, 48, .inl (h 52))),
  ((ad 53), .inl (dA 0, 48, .inl (h 53))),
  ((ad 54), .inl (dA 0, 2, .inl (h 54))),
  ((ad 60), .inr (2, [.ref (ad 61), .ref (ad 64), .int (h 60 2), .int (h 60 3), .int (h 60 4), .ref (ad 100)])),
  ((ad 61), .inl (dA 3, 2, .inr (.inr (.inr (.inr (fun i => some (ad (62 + i)))))))),
  ((ad 62), .inl (dA 0, 48, .inl (h 62))),
  ((ad 63), .inl (dA 0, 48, .inl (h 63))),
  ((ad 64), .inl (dA 0, 2, .inl (h 64))),
  ((ad 1), .inl (dA 1, 48, .inl (h 1))),
  ((ad 2), .inl (dA 1, 48, .inl (h 2))),
  ((ad 3), .inl (dA 0, 48, .inl (h 3))),
  ((ad 8), .inl (dA 2, 260, .inl (h 8))),
  ((ad 12), .inl (dA 0, 63, .inl (h 12))),
  ((ad 13), .inl (dA 0, 63, .inl (h 13))),
  ((ad 14), .inl (dA 0, 63, .inl (h 14))),
  ((ad 15), .inl (dA 0, 63, .inl (h 15))),
  ((ad 16), .inl (dA 1, 48, .inl (h 16))),
  ((ad 17), .inl (dA 0, 48, .inl (h 17))),
  ((ad 18), .inl (dA 0, 48, .inl (h 18))),
  ((ad 19), .inl (dA 0, 48, .inl (h 19))),
  ((ad 20), .inl (dA 0, 48, .inl (h 20))),
  ((ad 70), .inr (3, [.ref (ad 71), .ref (ad 72), .ref (ad 73), .int (h 70 3)])),
  ((ad 71), .inl (dA 0, 16, .inl (h 71))),
  ((ad 72), .inl (dA 4, 16, .inr (.inr (.inr (.inr tt.1))))),
  ((ad 73), .inl (dA 5, 16, .inr (.inr (.inr (.inr tt.2.1)))))] ++ tt.2.2
theorem arX_31 (ad : Nat → Nat) (dA : Nat → ClassId) (tt : (Nat → Option Nat) × (Nat → Option Nat) × va_W) : AR (wX ad dA tt) 2 31 (ad 31) 128 (dA 0) := fun h => ⟨rfl, fun i v => rfl⟩
theorem aaX_41 (ad : Nat → Nat) (dA : Nat → ClassId) (tt : (Nat → Option Nat) × (Nat → Option Nat) × va_W) (h : Hp) : AA (wX ad dA tt h) 4 (ad 41) 2 (dA 3) (fun i => ad (42 + i)) := rfl
theorem arX_42 (ad : Nat → Nat) (dA : Nat → ClassId) (tt : (Nat → Option Nat) × (Nat → Option Nat) × va_W) : AR (wX ad dA tt) 5 42 (ad 42) 48 (dA 0) := fun h => ⟨rfl, fun i v => rfl⟩
theorem arX_43 (ad : Nat → Nat) (dA : Nat → ClassId) (tt : (Nat → Option Nat) × (Nat → Option Nat) × va_W) : AR (wX ad dA tt) 6 43 (ad 43) 48 (dA 0) := fun h => ⟨rfl, fun i v => rfl⟩
theorem arX_44 (ad : Nat → Nat) (dA : Nat → ClassId) (tt : (Nat → Option Nat) × (Nat → Option Nat) × va_W) : AR (wX ad dA tt) 7 44 (ad 44) 2 (dA 0) := fun h => ⟨rfl, fun i v => rfl⟩
theorem aaX_51 (ad : Nat → Nat) (dA : Nat → ClassId) (tt : (Nat → Option Nat) × (Nat → Option Nat) × va_W) (h : Hp) : AA (wX ad dA tt h) 9 (ad 51) 2 (dA 3) (fun i => ad (52 + i)) := rfl
theorem arX_52 (ad : Nat → Nat) (dA : Nat → ClassId) (tt : (Nat → Option Nat) × (Nat → Option Nat) × va_W) : AR (wX ad dA tt) 10 52 (ad 52) 48 (dA 0) := fun h => ⟨rfl, fun i v => rfl⟩
theorem arX_53 (ad : Nat → Nat) (dA : Nat → ClassId) (tt : (Nat → Option Nat) × (Nat → Option Nat) × va_W) : AR (wX ad dA tt) 11 53 (ad 53) 48 (dA 0) := fun h => ⟨rfl, fun i v => rfl⟩
theorem arX_54 (ad : Nat → Nat) (dA : Nat → ClassId) (tt : (Nat → Option Nat) × (Nat → Option Nat) × va_W) : AR (wX ad dA tt) 12 54 (ad 54) 2 (dA 0) := fun h => ⟨rfl, fun i v => rfl⟩
theorem aaX_61 (ad : Nat → Nat) (dA : Nat → ClassId) (tt : (Nat → Option Nat) × (Nat → Option Nat) × va_W) (h : Hp) : AA (wX ad dA tt h) 14 (ad 61) 2 (dA 3) (fun i => ad (62 + i)) := rfl
theorem arX_62 (ad : Nat → Nat) (dA : Nat → ClassId) (tt : (Nat → Option Nat) × (Nat → Option Nat) × va_W) : AR (wX ad dA tt) 15 62 (ad 62) 48 (dA 0) := fun h => ⟨rfl, fun i v => rfl⟩
theorem arX_63 (ad : Nat → Nat) (dA : Nat → ClassId) (tt : (Nat → Option Nat) × (Nat → Option Nat) × va_W) : AR (wX ad dA tt) 16 63 (ad 63) 48 (dA 0) := fun h => ⟨rfl, fun i v => rfl⟩
theorem arX_64 (ad : Nat → Nat) (dA : Nat → ClassId) (tt : (Nat → Option Nat) × (Nat → Option Nat) × va_W) : AR (wX ad dA tt) 17 64 (ad 64) 2 (dA 0) := fun h => ⟨rfl, fun i v => rfl⟩
theorem arX_1 (ad : Nat → Nat) (dA : Nat → ClassId) (tt : (Nat → Option Nat) × (Nat → Option Nat) × va_W) : AR (wX ad dA tt) 18 1 (ad 1) 48 (dA 1) := fun h => ⟨rfl, fun i v => rfl⟩
theorem arX_2 (ad : Nat → Nat) (dA : Nat → ClassId) (tt : (Nat → Option Nat) × (Nat → Option Nat) × va_W) : AR (wX ad dA tt) 19 2 (ad 2) 48 (dA 1) := fun h => ⟨rfl, fun i v => rfl⟩
theorem arX_3 (ad : Nat → Nat) (dA : Nat → ClassId) (tt : (Nat → Option Nat) × (Nat → Option Nat) × va_W) : AR (wX ad dA tt) 20 3 (ad 3) 48 (dA 0) := fun h => ⟨rfl, fun i v => rfl⟩
theorem arX_8 (ad : Nat → Nat) (dA : Nat → ClassId) (tt : (Nat → Option Nat) × (Nat → Option Nat) × va_W) : AR (wX ad dA tt) 21 8 (ad 8) 260 (dA 2) := fun h => ⟨rfl, fun i v => rfl⟩
theorem arX_12 (ad : Nat → Nat) (dA : Nat → ClassId) (tt : (Nat → Option Nat) × (Nat → Option Nat) × va_W) : AR (wX ad dA tt) 22 12 (ad 12) 63 (dA 0) := fun h => ⟨rfl, fun i v => rfl⟩
theorem arX_13 (ad : Nat → Nat) (dA : Nat → ClassId) (tt : (Nat → Option Nat) × (Nat → Option Nat) × va_W) : AR (wX ad dA tt) 23 13 (ad 13) 63 (dA 0) := fun h => ⟨rfl, fun i v => rfl⟩
theorem arX_14 (ad : Nat → Nat) (dA : Nat → ClassId) (tt : (Nat → Option Nat) × (Nat → Option Nat) × va_W) : AR (wX ad dA tt) 24 14 (ad 14) 63 (dA 0) := fun h => ⟨rfl, fun i v => rfl⟩
theorem arX_15 (ad : Nat → Nat) (dA : Nat → ClassId) (tt : (Nat → Option Nat) × (Nat → Option Nat) × va_W) : AR (wX ad dA tt) 25 15 (ad 15) 63 (dA 0) := fun h => ⟨rfl, fun i v => rfl⟩
theorem arX_16 (ad : Nat → Nat) (dA : Nat → ClassId) (tt : (Nat → Option Nat) × (Nat → Option Nat) × va_W) : AR (wX ad dA tt) 26 16 (ad 16) 48 (dA 1) := fun h => ⟨rfl, fun i v => rfl⟩
theorem arX_17 (ad : Nat → Nat) (dA : Nat → ClassId) (tt : (Nat → Option Nat) × (Nat → Option Nat) × va_W) : AR (wX ad dA tt) 27 17 (ad 17) 48 (dA 0) := fun h => ⟨rfl, fun i v => rfl⟩
theorem arX_18 (ad : Nat → Nat) (dA : Nat → ClassId) (tt : (Nat → Option Nat) × (Nat → Option Nat) × va_W) : AR (wX ad dA tt) 28 18 (ad 18) 48 (dA 0) := fun h => ⟨rfl, fun i v => rfl⟩
theorem arX_19 (ad : Nat → Nat) (dA : Nat → ClassId) (tt : (Nat → Option Nat) × (Nat → Option Nat) × va_W) : AR (wX ad dA tt) 29 19 (ad 19) 48 (dA 0) := fun h => ⟨rfl, fun i v => rfl⟩
theorem arX_20 (ad : Nat → Nat) (dA : Nat → ClassId) (tt : (Nat → Option Nat) × (Nat → Option Nat) × va_W) : AR (wX ad dA tt) 30 20 (ad 20) 48 (dA 0) := fun h => ⟨rfl, fun i v => rfl⟩
theorem arX_71 (ad : Nat → Nat) (dA : Nat → ClassId) (tt : (Nat → Option Nat) × (Nat → Option Nat) × va_W) : AR (wX ad dA tt) 32 71 (ad 71) 16 (dA 0) := fun h => ⟨rfl, fun i v => rfl⟩
theorem frX_100_0 (ad : Nat → Nat) (dA : Nat → ClassId) (tt : (Nat → Option Nat) × (Nat → Option Nat) × va_W) (h : Hp) : FR (wX ad dA tt h) 0 (ad 100) 0 0 (ad 30) := ⟨_, rfl, rfl⟩
theorem frX_100_1 (ad : Nat → Nat) (dA : Nat → ClassId) (tt : (Nat → Option Nat) × (Nat → Option Nat) × va_W) (h : Hp) : FR (wX ad dA tt h) 0 (ad 100) 0 1 (ad 1) := ⟨_, rfl, rfl⟩
theorem frX_100_2 (ad : Nat → Nat) (dA : Nat → ClassId) (tt : (Nat → Option Nat) × (Nat → Option Nat) × va_W) (h : Hp) : FR (wX ad dA tt h) 0 (ad 100) 0 2 (ad 2) := ⟨_, rfl, rfl⟩
theorem frX_100_3 (ad : Nat → Nat) (dA : Nat → ClassId) (tt : (Nat → Option Nat) × (Nat → Option Nat) × va_W) (h : Hp) : FR (wX ad dA tt h) 0 (ad 100) 0 3 (ad 3) := ⟨_, rfl, rfl⟩
theorem fiX_100_4 (ad : Nat → Nat) (dA : Nat → ClassId) (tt : (Nat → Option Nat) × (Nat → Option Nat) × va_W) : FI (wX ad dA tt) 0 100 (ad 100) 0 4 := fun h => ⟨_, rfl, rfl, Nat.le_of_ble_eq_true rfl, fun v => rfl⟩
theorem frX_100_5 (ad : Nat → Nat) (dA : Nat → ClassId) (tt : (Nat → Option Nat) × (Nat → Option Nat) × va_W) (h : Hp) : FR (wX ad dA tt h) 0 (ad 100) 0 5 (ad 40) := ⟨_, rfl, rfl⟩
theorem frX_100_6 (ad : Nat → Nat) (dA : Nat → ClassId) (tt : (Nat → Option Nat) × (Nat → Option Nat) × va_W) (h : Hp) : FR (wX ad dA tt h) 0 (ad 100) 0 6 (ad 50) := ⟨_, rfl, rfl⟩
theorem frX_100_7 (ad : Nat → Nat) (dA : Nat → ClassId) (tt : (Nat → Option Nat) × (Nat → Option Nat) × va_W) (h : Hp) : FR (wX ad dA tt h) 0 (ad 100) 0 7 (ad 60) := ⟨_, rfl, rfl⟩
theorem frX_100_8 (ad : Nat → Nat) (dA : Nat → ClassId) (tt : (Nat → Option Nat) × (Nat → Option Nat) × va_W) (h : Hp) : FR (wX ad dA tt h) 0 (ad 100) 0 8 (ad 8) := ⟨_, rfl, rfl⟩
theorem frX_100_9 (ad : Nat → Nat) (dA : Nat → ClassId) (tt : (Nat → Option Nat) × (Nat → Option Nat) × va_W) (h : Hp) : FR (wX ad dA tt h) 0 (ad 100) 0 9 (ad 70) := ⟨_, rfl, rfl⟩
theorem fiX_100_10 (ad : Nat → Nat) (dA : Nat → ClassId) (tt : (Nat → Option Nat) × (Nat → Option Nat) × va_W) : FI (wX ad dA tt) 0 100 (ad 100) 0 10 := fun h => ⟨_, rfl, rfl, Nat.le_of_ble_eq_true rfl, fun v => rfl⟩
theorem fiX_100_11 (ad : Nat → Nat) (dA : Nat → ClassId) (tt : (Nat → Option Nat) × (Nat → Option Nat) × va_W) : FI (wX ad dA tt) 0 100 (ad 100) 0 11 := fun h => ⟨_, rfl, rfl, Nat.le_of_ble_eq_true rfl, fun v => rfl⟩
theorem frX_100_12 (ad : Nat → Nat) (dA : Nat → ClassId) (tt : (Nat → Option Nat) × (Nat → Option Nat) × va_W) (h : Hp) : FR (wX ad dA tt h) 0 (ad 100) 0 12 (ad 12) := ⟨_, rfl, rfl⟩
theorem frX_100_13 (ad : Nat → Nat) (dA : Nat → ClassId) (tt : (Nat → Option Nat) × (Nat → Option Nat) × va_W) (h : Hp) : FR (wX ad dA tt h) 0 (ad 100) 0 13 (ad 13) := ⟨_, rfl, rfl⟩
theorem frX_100_14 (ad : Nat → Nat) (dA : Nat → ClassId) (tt : (Nat → Option Nat) × (Nat → Option Nat) × va_W) (h : Hp) : FR (wX ad dA tt h) 0 (ad 100) 0 14 (ad 14) := ⟨_, rfl, rfl⟩
theorem frX_100_15 (ad : Nat → Nat) (dA : Nat → ClassId) (tt : (Nat → Option Nat) × (Nat → Option Nat) × va_W) (h : Hp) : FR (wX ad dA tt h) 0 (ad 100) 0 15 (ad 15) := ⟨_, rfl, rfl⟩
theorem frX_100_16 (ad : Nat → Nat) (dA : Nat → ClassId) (tt : (Nat → Option Nat) × (Nat → Option Nat) × va_W) (h : Hp) : FR (wX ad dA tt h) 0 (ad 100) 0 16 (ad 16) := ⟨_, rfl, rfl⟩
theorem frX_100_17 (ad : Nat → Nat) (dA : Nat → ClassId) (tt : (Nat → Option Nat) × (Nat → Option Nat) × va_W) (h : Hp) : FR (wX ad dA tt h) 0 (ad 100) 0 17 (ad 17) := ⟨_, rfl, rfl⟩
theorem frX_100_18 (ad : Nat → Nat) (dA : Nat → ClassId) (tt : (Nat → Option Nat) × (Nat → Option Nat) × va_W) (h : Hp) : FR (wX ad dA tt h) 0 (ad 100) 0 18 (ad 18) := ⟨_, rfl, rfl⟩
theorem frX_100_19 (ad : Nat → Nat) (dA : Nat → ClassId) (tt : (Nat → Option Nat) × (Nat → Option Nat) × va_W) (h : Hp) : FR (wX ad dA tt h) 0 (ad 100) 0 19 (ad 19) := ⟨_, rfl, rfl⟩
theorem frX_100_20 (ad : Nat → Nat) (dA : Nat → ClassId) (tt : (Nat → Option Nat) × (Nat → Option Nat) × va_W) (h : Hp) : FR (wX ad dA tt h) 0 (ad 100) 0 20 (ad 20) := ⟨_, rfl, rfl⟩
theorem frX_30_0 (ad : Nat → Nat) (dA : Nat → ClassId) (tt : (Nat → Option Nat) × (Nat → Option Nat) × va_W) (h : Hp) : FR (wX ad dA tt h) 1 (ad 30) 1 0 (ad 31) := ⟨_, rfl, rfl⟩
theorem fiX_30_1 (ad : Nat → Nat) (dA : Nat → ClassId) (tt : (Nat → Option Nat) × (Nat → Option Nat) × va_W) : FI (wX ad dA tt) 1 30 (ad 30) 1 1 := fun h => ⟨_, rfl, rfl, Nat.le_of_ble_eq_true rfl, fun v => rfl⟩
theorem frX_40_0 (ad : Nat → Nat) (dA : Nat → ClassId) (tt : (Nat → Option Nat) × (Nat → Option Nat) × va_W) (h : Hp) : FR (wX ad dA tt h) 3 (ad 40) 2 0 (ad 41) := ⟨_, rfl, rfl⟩
theorem frX_40_1 (ad : Nat → Nat) (dA : Nat → ClassId) (tt : (Nat → Option Nat) × (Nat → Option Nat) × va_W) (h : Hp) : FR (wX ad dA tt h) 3 (ad 40) 2 1 (ad 44) := ⟨_, rfl, rfl⟩
theorem fiX_40_2 (ad : Nat → Nat) (dA : Nat → ClassId) (tt : (Nat → Option Nat) × (Nat → Option Nat) × va_W) : FI (wX ad dA tt) 3 40 (ad 40) 2 2 := fun h => ⟨_, rfl, rfl, Nat.le_of_ble_eq_true rfl, fun v => rfl⟩
theorem fiX_40_3 (ad : Nat → Nat) (dA : Nat → ClassId) (tt : (Nat → Option Nat) × (Nat → Option Nat) × va_W) : FI (wX ad dA tt) 3 40 (ad 40) 2 3 := fun h => ⟨_, rfl, rfl, Nat.le_of_ble_eq_true rfl, fun v => rfl⟩
theorem fiX_40_4 (ad : Nat → Nat) (dA : Nat → ClassId) (tt : (Nat → Option Nat) × (Nat → Option Nat) × va_W) : FI (wX ad dA tt) 3 40 (ad 40) 2 4 := fun h => ⟨_, rfl, rfl, Nat.le_of_ble_eq_true rfl, fun v => rfl⟩
theorem frX_40_5 (ad : Nat → Nat) (dA : Nat → ClassId) (tt : (Nat → Option Nat) × (Nat → Option Nat) × va_W) (h : Hp) : FR (wX ad dA tt h) 3 (ad 40) 2 5 (ad 100) := ⟨_, rfl, rfl⟩
theorem ar2X_42 (ad : Nat → Nat) (dA : Nat → ClassId) (tt : (Nat → Option Nat) × (Nat → Option Nat) × va_W) : AR2 (wX ad dA tt) 5 42 ad 48 (dA 0) := AR2.of (arX_42 ad dA tt) (arX_43 ad dA tt)
theorem frX_50_0 (ad : Nat → Nat) (dA : Nat → ClassId) (tt : (Nat → Option Nat) × (Nat → Option Nat) × va_W) (h : Hp) : FR (wX ad dA tt h) 8 (ad 50) 2 0 (ad 51) := ⟨_, rfl, rfl⟩
theorem frX_50_1 (ad : Nat → Nat) (dA : Nat → ClassId) (tt : (Nat → Option Nat) × (Nat → Option Nat) × va_W) (h : Hp) : FR (wX ad dA tt h) 8 (ad 50) 2 1 (ad 54) := ⟨_, rfl, rfl⟩
theorem fiX_50_2 (ad : Nat → Nat) (dA : Nat → ClassId) (tt : (Nat → Option Nat) × (Nat → Option Nat) × va_W) : FI (wX ad dA tt) 8 50 (ad 50) 2 2 := fun h => ⟨_, rfl, rfl, Nat.le_of_ble_eq_true rfl, fun v => rfl⟩
theorem fiX_50_3 (ad : Nat → Nat) (dA : Nat → ClassId) (tt : (Nat → Option Nat) × (Nat → Option Nat) × va_W) : FI (wX ad dA tt) 8 50 (ad 50) 2 3 := fun h => ⟨_, rfl, rfl, Nat.le_of_ble_eq_true rfl, fun v => rfl⟩
theorem fiX_50_4 (ad : Nat → Nat) (dA : Nat → ClassId) (tt : (Nat → Option Nat) × (Nat → Option Nat) × va_W) : FI (wX ad dA tt) 8 50 (ad 50) 2 4 := fun h => ⟨_, rfl, rfl, Nat.le_of_ble_eq_true rfl, fun v => rfl⟩
theorem frX_50_5 (ad : Nat → Nat) (dA : Nat → ClassId) (tt : (Nat → Option Nat) × (Nat → Option Nat) × va_W) (h : Hp) : FR (wX ad dA tt h) 8 (ad 50) 2 5 (ad 100) := ⟨_, rfl, rfl⟩
theorem ar2X_52 (ad : Nat → Nat) (dA : Nat → ClassId) (tt : (Nat → Option Nat) × (Nat → Option Nat) × va_W) : AR2 (wX ad dA tt) 10 52 ad 48 (dA 0) := AR2.of (arX_52 ad dA tt) (arX_53 ad dA tt)
theorem frX_60_0 (ad : Nat → Nat) (dA : Nat → ClassId) (tt : (Nat → Option Nat) × (Nat → Option Nat) × va_W) (h : Hp) : FR (wX ad dA tt h) 13 (ad 60) 2 0 (ad 61) := ⟨_, rfl, rfl⟩
theorem frX_60_1 (ad : Nat → Nat) (dA : Nat → ClassId) (tt : (Nat → Option Nat) × (Nat → Option Nat) × va_W) (h : Hp) : FR (wX ad dA tt h) 13 (ad 60) 2 1 (ad 64) := ⟨_, rfl, rfl⟩
theorem fiX_60_2 (ad : Nat → Nat) (dA : Nat → ClassId) (tt : (Nat → Option Nat) × (Nat → Option Nat) × va_W) : FI (wX ad dA tt) 13 60 (ad 60) 2 2 := fun h => ⟨_, rfl, rfl, Nat.le_of_ble_eq_true rfl, fun v => rfl⟩
theorem fiX_60_3 (ad : Nat → Nat) (dA : Nat → ClassId) (tt : (Nat → Option Nat) × (Nat → Option Nat) × va_W) : FI (wX ad dA tt) 13 60 (ad 60) 2 3 := fun h => ⟨_, rfl, rfl, Nat.le_of_ble_eq_true rfl, fun v => rfl⟩
theorem fiX_60_4 (ad : Nat → Nat) (dA : Nat → ClassId) (tt : (Nat → Option Nat) × (Nat → Option Nat) × va_W) : FI (wX ad dA tt) 13 60 (ad 60) 2 4 := fun h => ⟨_, rfl, rfl, Nat.le_of_ble_eq_true rfl, fun v => rfl⟩
theorem frX_60_5 (ad : Nat → Nat) (dA : Nat → ClassId) (tt : (Nat → Option Nat) × (Nat → Option Nat) × va_W) (h : Hp) : FR (wX ad dA tt h) 13 (ad 60) 2 5 (ad 100) := ⟨_, rfl, rfl⟩
theorem ar2X_62 (ad : Nat → Nat) (dA : Nat → ClassId) (tt : (Nat → Option Nat) × (Nat → Option Nat) × va_W) : AR2 (wX ad dA tt) 15 62 ad 48 (dA 0) := AR2.of (arX_62 ad dA tt) (arX_63 ad dA tt)
theorem frX_70_0 (ad : Nat → Nat) (dA : Nat → ClassId) (tt : (Nat → Option Nat) × (Nat → Option Nat) × va_W) (h : Hp) : FR (wX ad dA tt h) 31 (ad 70) 3 0 (ad 71) := ⟨_, rfl, rfl⟩
theorem frX_70_1 (ad : Nat → Nat) (dA : Nat → ClassId) (tt : (Nat → Option Nat) × (Nat → Option Nat) × va_W) (h : Hp) : FR (wX ad dA tt h) 31 (ad 70) 3 1 (ad 72) := ⟨_, rfl, rfl⟩
theorem frX_70_2 (ad : Nat → Nat) (dA : Nat → ClassId) (tt : (Nat → Option Nat) × (Nat → Option Nat) × va_W) (h : Hp) : FR (wX ad dA tt h) 31 (ad 70) 3 2 (ad 73) := ⟨_, rfl, rfl⟩
theorem fiX_70_3 (ad : Nat → Nat) (dA : Nat → ClassId) (tt : (Nat → Option Nat) × (Nat → Option Nat) × va_W) : FI (wX ad dA tt) 31 70 (ad 70) 3 3 := fun h => ⟨_, rfl, rfl, Nat.le_of_ble_eq_true rfl, fun v => rfl⟩
/-- the world of M -/
def wM (ad : Nat → Nat) (dA : Nat → ClassId) (h : Hp) : va_W := [
  ((ad 300), .inr (4, [.ref (ad 200), .ref (ad 201), .ref (ad 202), .int (h 300 3), .int (h 300 4), .ref (ad 205), .int (h 300 6), .int (h 300 7), .int (h 300 8), .int (h 300 9), .int (h 300 10), .int (h 300 11), .int (h 300 12), .int (h 300 13), .int (h 300 14), .int (h 300 15), .ref (ad 216), .ref (ad 217), .ref (ad 218), .ref (ad 219), .ref (ad 220), .ref (ad 221), .ref (ad 222), .ref (ad 223), .ref (ad 224), .ref (ad 225), .ref (ad 226), .ref (ad 227), .ref (ad 228), .ref (ad 229), .int (h 300 30), .int (h 300 31), .int (h 300 32), .int (h 300 33), .ref (ad 234), .ref (ad 235), .ref (ad 236), .ref (ad 237), .ref (ad 238), .int (h 300 39), .int (h 300 40), .int (h 300 41), .ref (ad 242), .ref (ad 243), .ref (ad 244), .ref (ad 245), .ref (ad 246), .int (h 300 47), .int (h 300 48), .ref (ad 249), .int (h 300 50), .ref (ad 251), .int (h 300 52), .int (h 300 53), .ref (ad 254), .ref (ad 255), .int (h 300 56)])),
  ((ad 200), .inl (dA 0, 96, .inl (h 200))),
  ((ad 201), .inl (dA 0, 2, .inl (h 201))),
  ((ad 202), .inl (dA 1, 48, .inl (h 202))),
  ((ad 205), .inl (dA 2, 260, .inl (h 205))),
  ((ad 216), .inl (dA 0, 260, .inl (h 216))),
  ((ad 217), .inl (dA 0, 260, .inl (h 217))),
  ((ad 218), .inl (dA 0, 16, .inl (h 218))),
  ((ad 219), .inl (dA 0, 16, .inl (h 219))),
  ((ad 220), .inl (dA 0, 16, .inl (h 220))),
  ((ad 221), .inl (dA 0, 16, .inl (h 221))),
  ((ad 222), .inl (dA 0, 260, .inl (h 222))),
  ((ad 223), .inl (dA 0, 16, .inl (h 223))),
  ((ad 224), .inl (dA 0, 16, .inl (h 224))),
  ((ad 225), .inl (dA 0, 16, .inl (h 225))),
  ((ad 226), .inl (dA 0, 16, .inl (h 226))),
  ((ad 227), .inl (dA 0, 260, .inl (h 227))),
  ((ad 228), .inl (dA 0, 10, .inl (h 228))),
  ((ad 229), .inl (dA 0, 96, .inl (h 229))),
  ((ad 234), .inl (dA 0, 48, .inl (h 234))),
  ((ad 235), .inl (dA 0, 48, .inl (h 235))),
  ((ad 236), .inl (dA 0, 3, .inl (h 236))),
  ((ad 237), .inl (dA 0, 3, .inl (h 237))),
  ((ad 238), .inl (dA 0, 3, .inl (h 238))),
  ((ad 242), .inl (dA 1, 48, .inl (h 242))),
  ((ad 243), .inl (dA 0, 63, .inl (h 243))),
  ((ad 244), .inl (dA 0, 63, .inl (h 244))),
  ((ad 245), .inl (dA 1, 48, .inl (h 245))),
  ((ad 246), .inl (dA 0, 48, .inl (h 246))),
  ((ad 249), .inl (dA 0, 48, .inl (h 249))),
  ((ad 251), .inl (dA 0, 48, .inl (h 251))),
  ((ad 254), .inl (dA 1, 63, .inl (h 254))),
  ((ad 255), .inl (dA 0, 200, .inl (h 255)))]
theorem arM_200 (ad : Nat → Nat) (dA : Nat → ClassId) : AR (wM ad dA) 1 200 (ad 200) 96 (dA 0) := fun h => ⟨rfl, fun i v => rfl⟩
theorem arM_201 (ad : Nat → Nat) (dA : Nat → ClassId) : AR (wM ad dA) 2 201 (ad 201) 2 (dA 0) := fun h => ⟨rfl, fun i v => rfl⟩
theorem arM_202 (ad : Nat → Nat) (dA : Nat → ClassId) : AR (wM ad dA) 3 202 (ad 202) 48 (dA 1) := fun h => ⟨rfl, fun i v => rfl⟩
theorem arM_205 (ad : Nat → Nat) (dA : Nat → ClassId) : AR (wM ad dA) 4 205 (ad 205) 260 (dA 2) := fun h => ⟨rfl, fun i v => rfl⟩
theorem arM_216 (ad : Nat → Nat) (dA : Nat → ClassId) : AR (wM ad dA) 5 216 (ad 216) 260 (dA 0) := fun h => ⟨rfl, fun i v => rfl⟩
theorem arM_217 (ad : Nat → Nat) (dA : Nat → ClassId) : AR (wM ad dA) 6 217 (ad 217) 260 (dA 0) := fun h => ⟨rfl, fun i v => rfl⟩
theorem arM_218 (ad : Nat → Nat) (dA : Nat → ClassId) : AR (wM ad dA) 7 218 (ad 218) 16 (dA 0) := fun h => ⟨rfl, fun i v => rfl⟩
theorem arM_219 (ad : Nat → Nat) (dA : Nat → ClassId) : AR (wM ad dA) 8 219 (ad 219) 16 (dA 0) := fun h => ⟨rfl, fun i v => rfl⟩
theorem arM_220 (ad : Nat → Nat) (dA : Nat → ClassId) : AR (wM ad dA) 9 220 (ad 220) 16 (dA 0) := fun h => ⟨rfl, fun i v => rfl⟩
theorem arM_221 (ad : Nat → Nat) (dA : Nat → ClassId) : AR (wM ad dA) 10 221 (ad 221) 16 (dA 0) := fun h => ⟨rfl, fun i v => rfl⟩
theorem arM_222 (ad : Nat → Nat) (dA : Nat → ClassId) : AR (wM ad dA) 11 222 (ad 222) 260 (dA 0) := fun h => ⟨rfl, fun i v => rfl⟩
theorem arM_223 (ad : Nat → Nat) (dA : Nat → ClassId) : AR (wM ad dA) 12 223 (ad 223) 16 (dA 0) := fun h => ⟨rfl, fun i v => rfl⟩
theorem arM_224 (ad : Nat → Nat) (dA : Nat → ClassId) : AR (wM ad dA) 13 224 (ad 224) 16 (dA 0) := fun h => ⟨rfl, fun i v => rfl⟩
theorem arM_225 (ad : Nat → Nat) (dA : Nat → ClassId) : AR (wM ad dA) 14 225 (ad 225) 16 (dA 0) := fun h => ⟨rfl, fun i v => rfl⟩
theorem arM_226 (ad : Nat → Nat) (dA : Nat → ClassId) : AR (wM ad dA) 15 226 (ad 226) 16 (dA 0) := fun h => ⟨rfl, fun i v => rfl⟩
theorem arM_227 (ad : Nat → Nat) (dA : Nat → ClassId) : AR (wM ad dA) 16 227 (ad 227) 260 (dA 0) := fun h => ⟨rfl, fun i v => rfl⟩
theorem arM_228 (ad : Nat → Nat) (dA : Nat → ClassId) : AR (wM ad dA) 17 228 (ad 228) 10 (dA 0) := fun h => ⟨rfl, fun i v => rfl⟩
theorem arM_229 (ad : Nat → Nat) (dA : Nat → ClassId) : AR (wM ad dA) 18 229 (ad 229) 96 (dA 0) := fun h => ⟨rfl, fun i v => rfl⟩
theorem arM_234 (ad : Nat → Nat) (dA : Nat → ClassId) : AR (wM ad dA) 19 234 (ad 234) 48 (dA 0) := fun h => ⟨rfl, fun i v => rfl⟩
theorem arM_235 (ad : Nat → Nat) (dA : Nat → ClassId) : AR (wM ad dA) 20 235 (ad 235) 48 (dA 0) := fun h => ⟨rfl, fun i v => rfl⟩
theorem arM_236 (ad : Nat → Nat) (dA : Nat → ClassId) : AR (wM ad dA) 21 236 (ad 236) 3 (dA 0) := fun h => ⟨rfl, fun i v => rfl⟩
theorem arM_237 (ad : Nat → Nat) (dA : Nat → ClassId) : AR (wM ad dA) 22 237 (ad 237) 3 (dA 0) := fun h => ⟨rfl, fun i v => rfl⟩
theorem arM_238 (ad : Nat → Nat) (dA : Nat → ClassId) : AR (wM ad dA) 23 238 (ad 238) 3 (dA 0) := fun h => ⟨rfl, fun i v => rfl⟩
theorem arM_242 (ad : Nat → Nat) (dA : Nat → ClassId) : AR (wM ad dA) 24 242 (ad 242) 48 (dA 1) := fun h => ⟨rfl, fun i v => rfl⟩
theorem arM_243 (ad : Nat → Nat) (dA : Nat → ClassId) : AR (wM ad dA) 25 243 (ad 243) 63 (dA 0) := fun h => ⟨rfl, fun i v => rfl⟩
theorem arM_244 (ad : Nat → Nat) (dA : Nat → ClassId) : AR (wM ad dA) 26 244 (ad 244) 63 (dA 0) := fun h => ⟨rfl, fun i v => rfl⟩
theorem arM_245 (ad : Nat → Nat) (dA : Nat → ClassId) : AR (wM ad dA) 27 245 (ad 245) 48 (dA 1) := fun h => ⟨rfl, fun i v => rfl⟩
theorem arM_246 (ad : Nat → Nat) (dA : Nat → ClassId) : AR (wM ad dA) 28 246 (ad 246) 48 (dA 0) := fun h => ⟨rfl, fun i v => rfl⟩
theorem arM_249 (ad : Nat → Nat) (dA : Nat → ClassId) : AR (wM ad dA) 29 249 (ad 249) 48 (dA 0) := fun h => ⟨rfl, fun i v => rfl⟩
theorem arM_251 (ad : Nat → Nat) (dA : Nat → ClassId) : AR (wM ad dA) 30 251 (ad 251) 48 (dA 0) := fun h => ⟨rfl, fun i v => rfl⟩
theorem arM_254 (ad : Nat → Nat) (dA : Nat → ClassId) : AR (wM ad dA) 31 254 (ad 254) 63 (dA 1) := fun h => ⟨rfl, fun i v => rfl⟩
theorem arM_255 (ad : Nat → Nat) (dA : Nat → ClassId) : AR (wM ad dA) 32 255 (ad 255) 200 (dA 0) := fun h => ⟨rfl, fun i v => rfl⟩
theorem frM_300_0 (ad : Nat → Nat) (dA : Nat → ClassId) (h : Hp) : FR (wM ad dA h) 0 (ad 300) 4 0 (ad 200) := ⟨_, rfl, rfl⟩
theorem frM_300_1 (ad : Nat → Nat) (dA : Nat → ClassId) (h : Hp) : FR (wM ad dA h) 0 (ad 300) 4 1 (ad 201) := ⟨_, rfl, rfl⟩
theorem frM_300_2 (ad : Nat → Nat) (dA : Nat → ClassId) (h : Hp) : FR (wM ad dA h) 0 (ad 300) 4 2 (ad 202) := ⟨_, rfl, rfl⟩
theorem fiM_300_3 (ad : Nat → Nat) (dA : Nat → ClassId) : FI (wM ad dA) 0 300 (ad 300) 4 3 := fun h => ⟨_, rfl, rfl, Nat.le_of_ble_eq_true rfl, fun v => rfl⟩
theorem fiM_300_4 (ad : Nat → Nat) (dA : Nat → ClassId) : FI (wM ad dA) 0 300 (ad 300) 4 4 := fun h => ⟨_, rfl, rfl, Nat.le_of_ble_eq_true rfl, fun v => rfl⟩
theorem frM_300_5 (ad : Nat → Nat) (dA : Nat → ClassId) (h : Hp) : FR (wM ad dA h) 0 (ad 300) 4 5 (ad 205) := ⟨_, rfl, rfl⟩
theorem fiM_300_6 (ad : Nat → Nat) (dA : Nat → ClassId) : FI (wM ad dA) 0 300 (ad 300) 4 6 := fun h => ⟨_, rfl, rfl, Nat.le_of_ble_eq_true rfl, fun v => rfl⟩
theorem fiM_300_7 (ad : Nat → Nat) (dA : Nat → ClassId) : FI (wM ad dA) 0 300 (ad 300) 4 7 := fun h => ⟨_, rfl, rfl, Nat.le_of_ble_eq_true rfl, fun v => rfl⟩
theorem fiM_300_8 (ad : Nat → Nat) (dA : Nat → ClassId) : FI (wM ad dA) 0 300 (ad 300) 4 8 := fun h => ⟨_, rfl, rfl, Nat.le_of_ble_eq_true rfl, fun v => rfl⟩
theorem fiM_300_9 (ad : Nat → Nat) (dA : Nat → ClassId) : FI (wM ad dA) 0 300 (ad 300) 4 9 := fun h => ⟨_, rfl, rfl, Nat.le_of_ble_eq_true rfl, fun v => rfl⟩
theorem fiM_300_10 (ad : Nat → Nat) (dA : Nat → ClassId) : FI (wM ad dA) 0 300 (ad 300) 4 10 := fun h => ⟨_, rfl, rfl, Nat.le_of_ble_eq_true rfl, fun v => rfl⟩
theorem fiM_300_11 (ad : Nat → Nat) (dA : Nat → ClassId) : FI (wM ad dA) 0 300 (ad 300) 4 11 := fun h => ⟨_, rfl, rfl, Nat.le_of_ble_eq_true rfl, fun v => rfl⟩
theorem fiM_300_12 (ad : Nat → Nat) (dA : Nat → ClassId) : FI (wM ad dA) 0 300 (ad 300) 4 12 := fun h => ⟨_, rfl, rfl, Nat.le_of_ble_eq_true rfl, fun v => rfl⟩
theorem fiM_300_13 (ad : Nat → Nat) (dA : Nat → ClassId) : FI (wM ad dA) 0 300 (ad 300) 4 13 := fun h => ⟨_, rfl, rfl, Nat.le_of_ble_eq_true rfl, fun v => rfl⟩
theorem fiM_300_14 (ad : Nat → Nat) (dA : Nat → ClassId) : FI (wM ad dA) 0 300 (ad 300) 4 14 := fun h => ⟨_, rfl, rfl, Nat.le_of_ble_eq_true rfl, fun v => rfl⟩
theorem fiM_300_15 (ad : Nat → Nat) (dA : Nat → ClassId) : FI (wM ad dA) 0 300 (ad 300) 4 15 := fun h => ⟨_, rfl, rfl, Nat.le_of_ble_eq_true rfl, fun v => rfl⟩
theorem frM_300_16 (ad : Nat → Nat) (dA : Nat → ClassId) (h : Hp) : FR (wM ad dA h) 0 (ad 300) 4 16 (ad 216) := ⟨_, rfl, rfl⟩
theorem frM_300_17 (ad : Nat → Nat) (dA : Nat → ClassId) (h : Hp) : FR (wM ad dA h) 0 (ad 300) 4 17 (ad 217) := ⟨_, rfl, rfl⟩
theorem frM_300_18 (ad : Nat → Nat) (dA : Nat → ClassId) (h : Hp) : FR (wM ad dA h) 0 (ad 300) 4 18 (ad 218) := ⟨_, rfl, rfl⟩
theorem frM_300_19 (ad : Nat → Nat) (dA : Nat → ClassId) (h : Hp) : FR (wM ad dA h) 0 (ad 300) 4 19 (ad 219) := ⟨_, rfl, rfl⟩
theorem frM_300_20 (ad : Nat → Nat) (dA : Nat → ClassId) (h : Hp) : FR (wM ad dA h) 0 (ad 300) 4 20 (ad 220) := ⟨_, rfl, rfl⟩
theorem frM_300_21 (ad : Nat → Nat) (dA : Nat → ClassId) (h : Hp) : FR (wM ad dA h) 0 (ad 300) 4 21 (ad 221) := ⟨_, rfl, rfl⟩
theorem frM_300_22 (ad : Nat → Nat) (dA : Nat → ClassId) (h : Hp) : FR (wM ad dA h) 0 (ad 300) 4 22 (ad 222) := ⟨_, rfl, rfl⟩
theorem frM_300_23 (ad : Nat → Nat) (dA : Nat → ClassId) (h : Hp) : FR (wM ad dA h) 0 (ad 300) 4 23 (ad 223) := ⟨_, rfl, rfl⟩
theorem frM_300_24 (ad : Nat → Nat) (dA : Nat → ClassId) (h : Hp) : FR (wM ad dA h) 0 (ad 300) 4 24 (ad 224) := ⟨_, rfl, rfl⟩
theorem frM_300_25 (ad : Nat → Nat) (dA : Nat → ClassId) (h : Hp) : FR (wM ad dA h) 0 (ad 300) 4 25 (ad 225) := ⟨_, rfl, rfl⟩
theorem frM_300_26 (ad : Nat → Nat) (dA : Nat → ClassId) (h : Hp) : FR (wM ad dA h) 0 (ad 300) 4 26 (ad 226) := ⟨_, rfl, rfl⟩
theorem frM_300_27 (ad : Nat → Nat) (dA : Nat → ClassId) (h : Hp) : FR (wM ad dA h) 0 (ad 300) 4 27 (ad 227) := ⟨_, rfl, rfl⟩
theorem frM_300_28 (ad : Nat → Nat) (dA : Nat → ClassId) (h : Hp) : FR (wM ad dA h) 0 (ad 300) 4 28 (ad 228) := ⟨_, rfl, rfl⟩
theorem frM_300_29 (ad : Nat → Nat) (dA : Nat → ClassId) (h : Hp) : FR (wM ad dA h) 0 (ad 300) 4 29 (ad 229) := ⟨_, rfl, rfl⟩
theorem fiM_300_30 (ad : Nat → Nat) (dA : Nat → ClassId) : FI (wM ad dA) 0 300 (ad 300) 4 30 := fun h => ⟨_, rfl, rfl, Nat.le_of_ble_eq_true rfl, fun v => rfl⟩
theorem fiM_300_31 (ad : Nat → Nat) (dA : Nat → ClassId) : FI (wM ad dA) 0 300 (ad 300) 4 31 := fun h => ⟨_, rfl, rfl, Nat.le_of_ble_eq_true rfl, fun v => rfl⟩
theorem fiM_300_32 (ad : Nat → Nat) (dA : Nat → ClassId) : FI (wM ad dA) 0 300 (ad 300) 4 32 := fun h => ⟨_, rfl, rfl, Nat.le_of_ble_eq_true rfl, fun v => rfl⟩
theorem fiM_300_33 (ad : Nat → Nat) (dA : Nat → ClassId) : FI (wM ad dA) 0 300 (ad 300) 4 33 := fun h => ⟨_, rfl, rfl, Nat.le_of_ble_eq_true rfl, fun v => rfl⟩
theorem frM_300_34 (ad : Nat → Nat) (dA : Nat → ClassId) (h : Hp) : FR (wM ad dA h) 0 (ad 300) 4 34 (ad 234) := ⟨_, rfl, rfl⟩
theorem frM_300_35 (ad : Nat → Nat) (dA : Nat → ClassId) (h : Hp) : FR (wM ad dA h) 0 (ad 300) 4 35 (ad 235) := ⟨_, rfl, rfl⟩
theorem frM_300_36 (ad : Nat → Nat) (dA : Nat → ClassId) (h : Hp) : FR (wM ad dA h) 0 (ad 300) 4 36 (ad 236) := ⟨_, rfl, rfl⟩
theorem frM_300_37 (ad : Nat → Nat) (dA : Nat → ClassId) (h : Hp) : FR (wM ad dA h) 0 (ad 300) 4 37 (ad 237) := ⟨_, rfl, rfl⟩
theorem frM_300_38 (ad : Nat → Nat) (dA : Nat → ClassId) (h : Hp) : FR (wM ad dA h) 0 (ad 300) 4 38 (ad 238) := ⟨_, rfl, rfl⟩
theorem fiM_300_39 (ad : Nat → Nat) (dA : Nat → ClassId) : FI (wM ad dA) 0 300 (ad 300) 4 39 := fun h => ⟨_, rfl, rfl, Nat.le_of_ble_eq_true rfl, fun v => rfl⟩
theorem fiM_300_40 (ad : Nat → Nat) (dA : Nat → ClassId) : FI (wM ad dA) 0 300 (ad 300) 4 40 := fun h => ⟨_, rfl, rfl, Nat.le_of_ble_eq_true rfl, fun v => rfl⟩
theorem fiM_300_41 (ad : Nat → Nat) (dA : Nat → ClassId) : FI (wM ad dA) 0 300 (ad 300) 4 41 := fun h => ⟨_, rfl, rfl, Nat.le_of_ble_eq_true rfl, fun v => rfl⟩
theorem frM_300_42 (ad : Nat → Nat) (dA : Nat → ClassId) (h : Hp) : FR (wM ad dA h) 0 (ad 300) 4 42 (ad 242) := ⟨_, rfl, rfl⟩
theorem frM_300_43 (ad : Nat → Nat) (dA : Nat → ClassId) (h : Hp) : FR (wM ad dA h) 0 (ad 300) 4 43 (ad 243) := ⟨_, rfl, rfl⟩
theorem frM_300_44 (ad : Nat → Nat) (dA : Nat → ClassId) (h : Hp) : FR (wM ad dA h) 0 (ad 300) 4 44 (ad 244) := ⟨_, rfl, rfl⟩
theorem frM_300_45 (ad : Nat → Nat) (dA : Nat → ClassId) (h : Hp) : FR (wM ad dA h) 0 (ad 300) 4 45 (ad 245) := ⟨_, rfl, rfl⟩
theorem frM_300_46 (ad : Nat → Nat) (dA : Nat → ClassId) (h : Hp) : FR (wM ad dA h) 0 (ad 300) 4 46 (ad 246) := ⟨_, rfl, rfl⟩
theorem fiM_300_47 (ad : Nat → Nat) (dA : Nat → ClassId) : FI (wM ad dA) 0 300 (ad 300) 4 47 := fun h => ⟨_, rfl, rfl, Nat.le_of_ble_eq_true rfl, fun v => rfl⟩
theorem fiM_300_48 (ad : Nat → Nat) (dA : Nat → ClassId) : FI (wM ad dA) 0 300 (ad 300) 4 48 := fun h => ⟨_, rfl, rfl, Nat.le_of_ble_eq_true rfl, fun v => rfl⟩
theorem frM_300_49 (ad : Nat → Nat) (dA : Nat → ClassId) (h : Hp) : FR (wM ad dA h) 0 (ad 300) 4 49 (ad 249) := ⟨_, rfl, rfl⟩
theorem fiM_300_50 (ad : Nat → Nat) (dA : Nat → ClassId) : FI (wM ad dA) 0 300 (ad 300) 4 50 := fun h => ⟨_, rfl, rfl, Nat.le_of_ble_eq_true rfl, fun v => rfl⟩
theorem frM_300_51 (ad : Nat → Nat) (dA : Nat → ClassId) (h : Hp) : FR (wM ad dA h) 0 (ad 300) 4 51 (ad 251) := ⟨_, rfl, rfl⟩
theorem fiM_300_52 (ad : Nat → Nat) (dA : Nat → ClassId) : FI (wM ad dA) 0 300 (ad 300) 4 52 := fun h => ⟨_, rfl, rfl, Nat.le_of_ble_eq_true rfl, fun v => rfl⟩
theorem fiM_300_53 (ad : Nat → Nat) (dA : Nat → ClassId) : FI (wM ad dA) 0 300 (ad 300) 4 53 := fun h => ⟨_, rfl, rfl, Nat.le_of_ble_eq_true rfl, fun v => rfl⟩
theorem frM_300_54 (ad : Nat → Nat) (dA : Nat → ClassId) (h : Hp) : FR (wM ad dA h) 0 (ad 300) 4 54 (ad 254) := ⟨_, rfl, rfl⟩
theorem frM_300_55 (ad : Nat → Nat) (dA : Nat → ClassId) (h : Hp) : FR (wM ad dA h) 0 (ad 300) 4 55 (ad 255) := ⟨_, rfl, rfl⟩
theorem fiM_300_56 (ad : Nat → Nat) (dA : Nat → ClassId) : FI (wM ad dA) 0 300 (ad 300) 4 56 := fun h => ⟨_, rfl, rfl, Nat.le_of_ble_eq_true rfl, fun v => rfl⟩
/-- the world of C0 -/
def wC0 (ad ac : Nat → Nat) (dA : Nat → ClassId) (h : Hp) : va_W := [
  ((ac 80), .inr (12, [.int (h 80 0), .int (h 80 1), .int (h 80 2), .int (h 80 3), .ref (ad 100), .ref (ac 81), .int (h 80 6), .int (h 80 7), .ref (ad 100)])),
  ((ac 81), .inl (dA 3, 2, .inr (.inr (.inr (.inr (fun i => some (ac (82 + i)))))))),
  ((ac 82), .inl (dA 0, 48, .inl (h 82))),
  ((ac 83), .inl (dA 0, 48, .inl (h 83)))]
theorem aaC0_81 (ad ac : Nat → Nat) (dA : Nat → ClassId) (h : Hp) : AA (wC0 ad ac dA h) 1 (ac 81) 2 (dA 3) (fun i => ac (82 + i)) := rfl
theorem arC0_82 (ad ac : Nat → Nat) (dA : Nat → ClassId) : AR (wC0 ad ac dA) 2 82 (ac 82) 48 (dA 0) := fun h => ⟨rfl, fun i v => rfl⟩
theorem arC0_83 (ad ac : Nat → Nat) (dA : Nat → ClassId) : AR (wC0 ad ac dA) 3 83 (ac 83) 48 (dA 0) := fun h => ⟨rfl, fun i v => rfl⟩
theorem fiC0_80_0 (ad ac : Nat → Nat) (dA : Nat → ClassId) : FI (wC0 ad ac dA) 0 80 (ac 80) 12 0 := fun h => ⟨_, rfl, rfl, Nat.le_of_ble_eq_true rfl, fun v => rfl⟩
theorem fiC0_80_1 (ad ac : Nat → Nat) (dA : Nat → ClassId) : FI (wC0 ad ac dA) 0 80 (ac 80) 12 1 := fun h => ⟨_, rfl, rfl, Nat.le_of_ble_eq_true rfl, fun v => rfl⟩
theorem fiC0_80_2 (ad ac : Nat → Nat) (dA : Nat → ClassId) : FI (wC0 ad ac dA) 0 80 (ac 80) 12 2 := fun h => ⟨_, rfl, rfl, Nat.le_of_ble_eq_true rfl, fun v => rfl⟩
theorem fiC0_80_3 (ad ac : Nat → Nat) (dA : Nat → ClassId) : FI (wC0 ad ac dA) 0 80 (ac 80) 12 3 := fun h => ⟨_, rfl, rfl, Nat.le_of_ble_eq_true rfl, fun v => rfl⟩
theorem frC0_80_4 (ad ac : Nat → Nat) (dA : Nat → ClassId) (h : Hp) : FR (wC0 ad ac dA h) 0 (ac 80) 12 4 (ad 100) := ⟨_, rfl, rfl⟩
theorem frC0_80_5 (ad ac : Nat → Nat) (dA : Nat → ClassId) (h : Hp) : FR (wC0 ad ac dA h) 0 (ac 80) 12 5 (ac 81) := ⟨_, rfl, rfl⟩
theorem fiC0_80_6 (ad ac : Nat → Nat) (dA : Nat → ClassId) : FI (wC0 ad ac dA) 0 80 (ac 80) 12 6 := fun h => ⟨_, rfl, rfl, Nat.le_of_ble_eq_true rfl, fun v => rfl⟩
theorem fiC0_80_7 (ad ac : Nat → Nat) (dA : Nat → ClassId) : FI (wC0 ad ac dA) 0 80 (ac 80) 12 7 := fun h => ⟨_, rfl, rfl, Nat.le_of_ble_eq_true rfl, fun v => rfl⟩
theorem frC0_80_8 (ad ac : Nat → Nat) (dA : Nat → ClassId) (h : Hp) : FR (wC0 ad ac dA h) 0 (ac 80) 12 8 (ad 100) := ⟨_, rfl, rfl⟩
theorem ar2C0_82 (ad ac : Nat → Nat) (dA : Nat → ClassId) : AR2 (wC0 ad ac dA) 2 82 ac 48 (dA 0) := AR2.of (arC0_82 ad ac dA) (arC0_83 ad ac dA)
/-- the world of G0 -/
def wG0 (ad ac : Nat → Nat) (dA : Nat → ClassId) (h : Hp) : va_W := [
  ((ac 85), .inr (13, [.int (h 85 0), .int (h 85 1), .int (h 85 2), .int (h 85 3), .ref (ad 100), .ref (ac 86), .int (h 85 6), .int (h 85 7), .ref (ad 100)])),
  ((ac 86), .inl (dA 0, 48, .inl (h 86)))]
theorem arG0_86 (ad ac : Nat → Nat) (dA : Nat → ClassId) : AR (wG0 ad ac dA) 1 86 (ac 86) 48 (dA 0) := fun h => ⟨rfl, fun i v => rfl⟩
theorem fiG0_85_0 (ad ac : Nat → Nat) (dA : Nat → ClassId) : FI (wG0 ad ac dA) 0 85 (ac 85) 13 0 := fun h => ⟨_, rfl, rfl, Nat.le_of_ble_eq_true rfl, fun v => rfl⟩
theorem fiG0_85_1 (ad ac : Nat → Nat) (dA : Nat → ClassId) : FI (wG0 ad ac dA) 0 85 (ac 85) 13 1 := fun h => ⟨_, rfl, rfl, Nat.le_of_ble_eq_true rfl, fun v => rfl⟩
theorem fiG0_85_2 (ad ac : Nat → Nat) (dA : Nat → ClassId) : FI (wG0 ad ac dA) 0 85 (ac 85) 13 2 := fun h => ⟨_, rfl, rfl, Nat.le_of_ble_eq_true rfl, fun v => rfl⟩
theorem fiG0_85_3 (ad ac : Nat → Nat) (dA : Nat → ClassId) : FI (wG0 ad ac dA) 0 85 (ac 85) 13 3 := fun h => ⟨_, rfl, rfl, Nat.le_of_ble_eq_true rfl, fun v => rfl⟩
theorem frG0_85_4 (ad ac : Nat → Nat) (dA : Nat → ClassId) (h : Hp) : FR (wG0 ad ac dA h) 0 (ac 85) 13 4 (ad 100) := ⟨_, rfl, rfl⟩
theorem frG0_85_5 (ad ac : Nat → Nat) (dA : Nat → ClassId) (h : Hp) : FR (wG0 ad ac dA h) 0 (ac 85) 13 5 (ac 86) := ⟨_, rfl, rfl⟩
theorem fiG0_85_6 (ad ac : Nat → Nat) (dA : Nat → ClassId) : FI (wG0 ad ac dA) 0 85 (ac 85) 13 6 := fun h => ⟨_, rfl, rfl, Nat.le_of_ble_eq_true rfl, fun v => rfl⟩
theorem fiG0_85_7 (ad ac : Nat → Nat) (dA : Nat → ClassId) : FI (wG0 ad ac dA) 0 85 (ac 85) 13 7 := fun h => ⟨_, rfl, rfl, Nat.le_of_ble_eq_true rfl, fun v => rfl⟩
theorem frG0_85_8 (ad ac : Nat → Nat) (dA : Nat → ClassId) (h : Hp) : FR (wG0 ad ac dA h) 0 (ac 85) 13 8 (ad 100) := ⟨_, rfl, rfl⟩
