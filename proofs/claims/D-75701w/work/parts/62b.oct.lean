/-! toBear -/
set_option maxRecDepth 100000
def oct (x : Int32) : Nat := (x.toBitVec &&& 255#32).toNat
theorem oct_lt (x : Int32) : oct x < 256 := by
  unfold oct
  rw [BitVec.toNat_and]
  exact Nat.lt_of_le_of_lt Nat.and_le_right (by decide)
theorem oct_e (x : Int32) : x &&& 255 = nI (oct x) := by
  apply Int32.toBitVec_inj.mp
  rw [Int32.toBitVec_and]
  unfold oct nI
  rw [Int32.toBitVec_ofNat', BitVec.ofNat_toNat, BitVec.setWidth_eq]
  rfl
theorem sub1_of {x : Int32} {p : Nat} (h : x - 1 = nI p) : x = nI (p + 1) := by
  rw [← nI_1, ← h, Int32.sub_add_cancel]
theorem X_oct {h : Hp} {i : Nat} (hi : i < 260) : mX0_fed h (nI i) = some (nI (oct (h 8 i))) := by rw [X_fed hi, oct_e]
theorem M_oct {h : Hp} {i : Nat} (hi : i < 260) : mX5_octet h (nI i) = some (nI (oct (h 205 i))) := by rw [M_octet hi, oct_e]
