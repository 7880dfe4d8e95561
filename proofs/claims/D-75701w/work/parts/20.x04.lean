set_option maxRecDepth 100000
def mX0_greatestSum (h : Hp)  : Option (Int32) :=
nm ((h 18 0)) (fun v1 =>
fx FU (fun _ _ => none) (fun k18 (x1_2 : Int32) (x4_3 : Int32) =>
if (48 : Int32) ≤ x4_3 then (
some x1_2) else (
ck x4_3 48 (
nm ((h 18 x4_3.toNatClampNeg)) (fun v4 =>
nm ((jmax x1_2 v4)) (fun v5 =>
k18 v5 (x4_3 + (1 : Int32))))))) v1 (0 : Int32))
theorem cyX0_greatestSum : Callee yX0_greatestSum 0 := by unfold Callee; decide +kernel
set_option maxHeartbeats 4000000 in
theorem ctX0_greatestSum (l : Launch) (D : va_G) (ad : Nat → Nat) (dA : Nat → ClassId) (tt : (Nat → Option Nat) × (Nat → Option Nat) × va_W) (h : Hp)  (r : Int32) (hm : mX0_greatestSum h = some r) : CT l yX0_greatestSum cX0_greatestSum 6 (some .int) D dA 1 21 0 0 (wX ad dA tt h) [.ref (ad 100)] (some (.int r)) (wX ad dA tt h) := by
  refine ct_open (by decide) (Nat.le_of_ble_eq_true rfl) ?_
  intro G X hI hZ hV hR
  have hRet := hI rfl r rfl
  refine (show TM G r (mX0_greatestSum h) (wX ad dA tt h) 0 0 0 [(0, .ref (ad 100))] [] from ?_) hm
  clear hm hI hZ hV hR
  unfold mX0_greatestSum
  refine tm_aload_n X 0 dX0_greatestSum_0 rfl rfl ?_
  refine tm_getR X (frX_100_18 ad dA tt h) in_X0 rfl (Nat.le_of_ble_eq_true rfl) q258 rfl dX0_greatestSum_1 ?_
  refine tm_iconst X (0 : Int32) dX0_greatestSum_4 (by decide) ?_
  refine tm_ialoadL (j := 0) X (arX_18 ad dA tt) (by unfold vp_in; decide) (by decide) dX0_greatestSum_5 ?_
  refine tm_nmI (fun v1 => ?_)
  refine tm_istore_n X [(1, .int v1), (0, .ref (ad 100))] dX0_greatestSum_6 rfl (Nat.le_of_ble_eq_true rfl) rfl ?_
  refine tm_aload_n X 1 dX0_greatestSum_7 rfl rfl ?_
  refine tm_getR X (frX_100_18 ad dA tt h) in_X0 rfl (Nat.le_of_ble_eq_true rfl) q258 rfl dX0_greatestSum_8 ?_
  refine tm_astore_n X [(2, .ref (ad 18)), (1, .int v1), (0, .ref (ad 100))] dX0_greatestSum_11 rfl (Nat.le_of_ble_eq_true rfl) rfl ?_
  refine tm_aload_n X 0 dX0_greatestSum_12 rfl rfl ?_
  refine tm_arraylength (tt := 0) (v := (48 : Int32)) X (arX_18 ad dA tt) rfl (by decide) dX0_greatestSum_13 ?_
  refine tm_istore_n X [(3, .int (48 : Int32)), (2, .ref (ad 18)), (1, .int v1), (0, .ref (ad 100))] dX0_greatestSum_14 rfl (Nat.le_of_ble_eq_true rfl) rfl ?_
  refine tm_iconst X (0 : Int32) dX0_greatestSum_15 (by decide) ?_
  refine tm_istore X [(4, .int (0 : Int32)), (3, .int (48 : Int32)), (2, .ref (ad 18)), (1, .int v1), (0, .ref (ad 100))] dX0_greatestSum_16 (Nat.le_of_ble_eq_true rfl) rfl ?_
  refine tm_lv X [3, 2, 1, 0] rfl ?_
  refine fx_P (fun (k : Int32 → Int32 → Option (Int32)) => ∀ (x1_2 : Int32) (x4_3 : Int32), TM G r (k x1_2 x4_3) (wX ad dA tt h) 0 0 18 [(1, .int x1_2), (2, .ref (ad 18)), (3, .int (48 : Int32)), (4, .int x4_3)] []) (fun _ _ => tm_none) (fun k18 hk18 x1_2 x4_3 => ?_) FU v1 (0 : Int32)
  refine tm_iload X 3 dX0_greatestSum_18 rfl ?_
  refine tm_iload_n X 2 dX0_greatestSum_20 rfl rfl ?_
  refine tm_ic_ge X 43 dX0_greatestSum_21 rfl ?_ ?_
  · skip
    refine tm_iload_n X 0 dX0_greatestSum_43 rfl rfl ?_
    exact tm_retI hRet dX0_greatestSum_44
  · skip
    refine tm_aload_n X 1 dX0_greatestSum_24 rfl rfl ?_
    refine tm_iload X 3 dX0_greatestSum_25 rfl ?_
    refine tm_iaload X (arX_18 ad dA tt) dX0_greatestSum_27 ?_
    refine tm_nmI (fun v4 => ?_)
    refine tm_istore X [(5, .int v4), (1, .int x1_2), (2, .ref (ad 18)), (3, .int (48 : Int32)), (4, .int x4_3)] dX0_greatestSum_28 (Nat.le_of_ble_eq_true rfl) rfl ?_
    refine tm_iload_n X 1 dX0_greatestSum_30 rfl rfl ?_
    refine tm_iload X 0 dX0_greatestSum_31 rfl ?_
    refine tm_mmax X q878 (Nat.le_of_ble_eq_true rfl) (Nat.le_of_ble_eq_true rfl) ⟨Nat.le_of_ble_eq_true rfl, Nat.le_of_ble_eq_true rfl⟩ dX0_greatestSum_33 ?_
    refine tm_nmI (fun v5 => ?_)
    refine tm_istore_n X [(1, .int v5), (5, .int v4), (2, .ref (ad 18)), (3, .int (48 : Int32)), (4, .int x4_3)] dX0_greatestSum_36 rfl (Nat.le_of_ble_eq_true rfl) rfl ?_
    refine tm_iinc (v := (1 : Int32)) X 4 [(4, .int (x4_3 + (1 : Int32))), (1, .int v5), (5, .int v4), (2, .ref (ad 18)), (3, .int (48 : Int32))] dX0_greatestSum_37 rfl (by decide) (Nat.le_of_ble_eq_true rfl) rfl ?_
    refine tm_goto X 18 dX0_greatestSum_40 rfl ?_
    refine tm_lv X [1, 3, 4, 0] rfl ?_
    exact hk18 v5 (x4_3 + (1 : Int32))
def mX0_touching (h : Hp)  : Option (Int32) :=
cl1 (mX0_greatestSum h) (fun r2 =>
fx FU (fun _ _ => none) (fun k19 (x2_3 : Int32) (x5_4 : Int32) =>
if (48 : Int32) ≤ x5_4 then (
some x2_3) else (
ck x5_4 48 (
nm ((h 18 x5_4.toNatClampNeg)) (fun v5 =>
nm (fun (s6 : Int32) =>
nm ((x2_3 + s6)) (fun v7 =>
k19 v7 (x5_4 + (1 : Int32)))) (fun k44 =>
if v5 = r2 then (
k44 (1 : Int32)) else (
k44 (0 : Int32))))))) (0 : Int32) (0 : Int32))
theorem cyX0_touching : Callee yX0_touching 0 := by unfold Callee; decide +kernel
set_option maxHeartbeats 4000000 in
theorem ctX0_touching (l : Launch) (D : va_G) (ad : Nat → Nat) (dA : Nat → ClassId) (tt : (Nat → Option Nat) × (Nat → Option Nat) × va_W) (h : Hp)  (r : Int32) (hm : mX0_touching h = some r) : CT l yX0_touching cX0_touching 7 (some .int) D dA 2 46 0 0 (wX ad dA tt h) [.ref (ad 100)] (some (.int r)) (wX ad dA tt h) := by
  refine ct_open (by decide) (Nat.le_of_ble_eq_true rfl) ?_
  intro G X hI hZ hV hR
  have hRet := hI rfl r rfl
  refine (show TM G r (mX0_touching h) (wX ad dA tt h) 0 0 0 [(0, .ref (ad 100))] [] from ?_) hm
  clear hm hI hZ hV hR
  unfold mX0_touching
  refine tm_aload_n X 0 dX0_touching_0 rfl rfl ?_
  refine tm_cl1 (fun r2 e1 => ?_)
  refine tm_callVi (As := []) (rest := []) (q0 := 0) X (ctX0_greatestSum l D ad dA tt h r2 e1) (lw_V q974 q976 qs35 q117 q977) cyX0_greatestSum rfl rfl rfl ⟨(Nat.le_of_ble_eq_true rfl), (Nat.le_of_ble_eq_true rfl)⟩ (Nat.le_of_ble_eq_true rfl) dX0_touching_1 ⟨Nat.le_of_ble_eq_true rfl, Nat.le_of_ble_eq_true rfl⟩ rfl ?_
  refine tm_istore_n X [(1, .int r2), (0, .ref (ad 100))] dX0_touching_4 rfl (Nat.le_of_ble_eq_true rfl) rfl ?_
  refine tm_iconst X (0 : Int32) dX0_touching_5 (by decide) ?_
  refine tm_istore_n X [(2, .int (0 : Int32)), (1, .int r2), (0, .ref (ad 100))] dX0_touching_6 rfl (Nat.le_of_ble_eq_true rfl) rfl ?_
  refine tm_aload_n X 2 dX0_touching_7 rfl rfl ?_
  refine tm_getR X (frX_100_18 ad dA tt h) in_X0 rfl (Nat.le_of_ble_eq_true rfl) q258 rfl dX0_touching_8 ?_
  refine tm_astore_n X [(3, .ref (ad 18)), (2, .int (0 : Int32)), (1, .int r2), (0, .ref (ad 100))] dX0_touching_11 rfl (Nat.le_of_ble_eq_true rfl) rfl ?_
  refine tm_aload_n X 0 dX0_touching_12 rfl rfl ?_
  refine tm_arraylength (tt := 0) (v := (48 : Int32)) X (arX_18 ad dA tt) rfl (by decide) dX0_touching_13 ?_
  refine tm_istore X [(4, .int (48 : Int32)), (3, .ref (ad 18)), (2, .int (0 : Int32)), (1, .int r2), (0, .ref (ad 100))] dX0_touching_14 (Nat.le_of_ble_eq_true rfl) rfl ?_
  refine tm_iconst X (0 : Int32) dX0_touching_16 (by decide) ?_
  refine tm_istore X [(5, .int (0 : Int32)), (4, .int (48 : Int32)), (3, .ref (ad 18)), (2, .int (0 : Int32)), (1, .int r2), (0, .ref (ad 100))] dX0_touching_17 (Nat.le_of_ble_eq_true rfl) rfl ?_
  refine tm_lv X [4, 3, 2, 1, 0] rfl ?_
  refine fx_P (fun (k : Int32 → Int32 → Option (Int32)) => ∀ (x2_3 : Int32) (x5_4 : Int32), TM G r (k x2_3 x5_4) (wX ad dA tt h) 0 0 19 [(1, .int r2), (2, .int x2_3), (3, .ref (ad 18)), (4, .int (48 : Int32)), (5, .int x5_4)] []) (fun _ _ => tm_none) (fun k19 hk19 x2_3 x5_4 => ?_) FU (0 : Int32) (0 : Int32)
  refine tm_iload X 4 dX0_touching_19 rfl ?_
  refine tm_iload X 3 dX0_touching_21 rfl ?_
  refine tm_ic_ge X 52 dX0_touching_23 rfl ?_ ?_
  · skip
    refine tm_iload_n X 1 dX0_touching_52 rfl rfl ?_
    exact tm_retI hRet dX0_touching_53
  · skip
    refine tm_aload_n X 2 dX0_touching_26 rfl rfl ?_
    refine tm_iload X 4 dX0_touching_27 rfl ?_
    refine tm_iaload X (arX_18 ad dA tt) dX0_touching_29 ?_
    refine tm_nmI (fun v5 => ?_)
    refine tm_istore X [(6, .int v5), (1, .int r2), (2, .int x2_3), (3, .ref (ad 18)), (4, .int (48 : Int32)), (5, .int x5_4)] dX0_touching_30 (Nat.le_of_ble_eq_true rfl) rfl ?_
    refine tm_iload_n X 2 dX0_touching_32 rfl rfl ?_
    refine tm_iload X 0 dX0_touching_33 rfl ?_
    refine tm_iload_n X 1 dX0_touching_35 rfl rfl ?_
    refine tm_let (fun k => ∀ (s6 : Int32), TM G r (k s6) (wX ad dA tt h) 0 0 44 [(1, .int r2), (3, .ref (ad 18)), (4, .int (48 : Int32)), (5, .int x5_4)] [.int s6, .int x2_3]) ?_ (fun k44 hk44 => ?_)
    · intro s6
      refine tm_iadd X dX0_touching_44 ?_
      refine tm_nmI (fun v7 => ?_)
      refine tm_istore_n X [(2, .int v7), (1, .int r2), (3, .ref (ad 18)), (4, .int (48 : Int32)), (5, .int x5_4)] dX0_touching_45 rfl (Nat.le_of_ble_eq_true rfl) rfl ?_
      refine tm_iinc (v := (1 : Int32)) X 4 [(5, .int (x5_4 + (1 : Int32))), (2, .int v7), (1, .int r2), (3, .ref (ad 18)), (4, .int (48 : Int32))] dX0_touching_46 rfl (by decide) (Nat.le_of_ble_eq_true rfl) rfl ?_
      refine tm_goto X 19 dX0_touching_49 rfl ?_
      refine tm_lv X [2, 1, 3, 4, 0] rfl ?_
      exact hk19 v7 (x5_4 + (1 : Int32))
    · skip
      refine tm_ic_ne X 43 dX0_touching_36 rfl ?_ ?_
      · skip
        refine tm_iconst X (0 : Int32) dX0_touching_43 (by decide) ?_
        refine tm_lv X [1, 3, 4, 5] rfl ?_
        exact hk44 (0 : Int32)
      · skip
        refine tm_iconst X (1 : Int32) dX0_touching_39 (by decide) ?_
        refine tm_goto X 44 dX0_touching_40 rfl ?_
        refine tm_lv X [1, 3, 4, 5] rfl ?_
        exact hk44 (1 : Int32)
def mX0_touchingBy (h : Hp) (x1 : Int32) : Option (Int32 × Hp) :=
fx FU (fun _ _ => none) (fun k2 (x2_1 : Int32) (h2 : Hp) =>
if (48 : Int32) ≤ x2_1 then (
cl1 (mX0_touching h2) (fun r4 =>
some (r4, h2))) else (
cl1 (mX3_sumAt 40 h2 x2_1 (31 : Int32)) (fun r6 =>
ck x2_1 48 (nm (u2 h2 18 x2_1.toNatClampNeg (r6 + (x1 * (jrem x2_1 (8 : Int32))))) (fun h7 =>
k2 (x2_1 + (1 : Int32)) h7))))) (0 : Int32) h
theorem cyX0_touchingBy : Callee yX0_touchingBy 1 := by unfold Callee; decide +kernel
set_option maxHeartbeats 4000000 in
theorem ctX0_touchingBy (l : Launch) (D : va_G) (ad : Nat → Nat) (dA : Nat → ClassId) (tt : (Nat → Option Nat) × (Nat → Option Nat) × va_W) (h : Hp) (x1 : Int32) (r : Int32) (h' : Hp) (hm : mX0_touchingBy h x1 = some (r, h')) : CT l yX0_touchingBy cX0_touchingBy 3 (some .int) D dA 4 85 0 0 (wX ad dA tt h) [.ref (ad 100), .int x1] (some (.int r)) (wX ad dA tt h') := by
  refine ct_open (by decide) (Nat.le_of_ble_eq_true rfl) ?_
  intro G X hI hZ hV hR
  have hRet := hI rfl r rfl
  refine (show TM G (r, h') (mX0_touchingBy h x1) (wX ad dA tt h) 0 0 0 [(0, .ref (ad 100)), (1, .int x1)] [] from ?_) hm
  clear hm hI hZ hV hR
  unfold mX0_touchingBy
  refine tm_iconst X (0 : Int32) dX0_touchingBy_0 (by decide) ?_
  refine tm_istore_n X [(2, .int (0 : Int32)), (0, .ref (ad 100)), (1, .int x1)] dX0_touchingBy_1 rfl (Nat.le_of_ble_eq_true rfl) rfl ?_
  refine tm_lv X [1, 2, 0] rfl ?_
  refine fx_P (fun (k : Int32 → Hp → Option (Int32 × Hp)) => ∀ (x2_1 : Int32) (h2 : Hp), TM G (r, h') (k x2_1 h2) (wX ad dA tt h2) 0 0 2 [(0, .ref (ad 100)), (1, .int x1), (2, .int x2_1)] []) (fun _ _ => tm_none) (fun k2 hk2 x2_1 h2 => ?_) FU (0 : Int32) h
  refine tm_iload_n X 2 dX0_touchingBy_2 rfl rfl ?_
  refine tm_bipush X (48 : Int32) dX0_touchingBy_3 (by decide) ?_
  refine tm_ic_ge X 37 dX0_touchingBy_5 rfl ?_ ?_
  · skip
    refine tm_aload_n X 0 dX0_touchingBy_37 rfl rfl ?_
    refine tm_cl1 (fun r4 e3 => ?_)
    refine tm_callVi (As := []) (rest := []) (q0 := 0) X (ctX0_touching l D ad dA tt h2 r4 e3) (lw_V q970 q972 qs34 q117 q973) cyX0_touching rfl rfl rfl ⟨(Nat.le_of_ble_eq_true rfl), (Nat.le_of_ble_eq_true rfl)⟩ (Nat.le_of_ble_eq_true rfl) dX0_touchingBy_38 ⟨Nat.le_of_ble_eq_true rfl, Nat.le_of_ble_eq_true rfl⟩ rfl ?_
    exact tm_retIH (wf := wX ad dA tt) hRet dX0_touchingBy_41
  · skip
    refine tm_aload_n X 0 dX0_touchingBy_8 rfl rfl ?_
    refine tm_getR X (frX_100_18 ad dA tt h2) in_X0 rfl (Nat.le_of_ble_eq_true rfl) q258 rfl dX0_touchingBy_9 ?_
    refine tm_iload_n X 2 dX0_touchingBy_12 rfl rfl ?_
    refine tm_aload_n X 0 dX0_touchingBy_13 rfl rfl ?_
    refine tm_getR X (frX_100_5 ad dA tt h2) in_X0 rfl (Nat.le_of_ble_eq_true rfl) q242 rfl dX0_touchingBy_14 ?_
    refine tm_iload_n X 2 dX0_touchingBy_17 rfl rfl ?_
    refine tm_bipush X (31 : Int32) dX0_touchingBy_18 (by decide) ?_
    refine tm_cl1 (fun r6 e5 => ?_)
    refine tm_callVi (As := [.int x2_1, .int (31 : Int32)]) (rest := [.int x2_1, .ref (ad 18)]) (q0 := 3) X (ctX3_sumAt_40 l D ad dA tt h2 x2_1 (31 : Int32) r6 e5) (lw_V q848 q829 q830 q120 q831) cyX3_sumAt rfl rfl rfl ⟨(Nat.le_of_ble_eq_true rfl), (Nat.le_of_ble_eq_true rfl)⟩ (Nat.le_of_ble_eq_true rfl) dX0_touchingBy_20 ⟨Nat.le_of_ble_eq_true rfl, Nat.le_of_ble_eq_true rfl⟩ rfl ?_
    refine tm_iload_n X 1 dX0_touchingBy_23 rfl rfl ?_
    refine tm_iload_n X 2 dX0_touchingBy_24 rfl rfl ?_
    refine tm_bipush X (8 : Int32) dX0_touchingBy_25 (by decide) ?_
    refine tm_irem X dX0_touchingBy_27 (by decide) ?_
    refine tm_imul X dX0_touchingBy_28 ?_
    refine tm_iadd X dX0_touchingBy_29 ?_
    refine tm_iastore X (arX_18 ad dA tt) dX0_touchingBy_30 (fun h7 => ?_)
    refine tm_iinc (v := (1 : Int32)) X 2 [(2, .int (x2_1 + (1 : Int32))), (0, .ref (ad 100)), (1, .int x1)] dX0_touchingBy_31 rfl (by decide) (Nat.le_of_ble_eq_true rfl) rfl ?_
    refine tm_goto X 2 dX0_touchingBy_34 rfl ?_
    refine tm_lv X [1, 2, 0] rfl ?_
    exact hk2 (x2_1 + (1 : Int32)) h7
def mX0_lean (h : Hp) (x1 : Int32) : Option (Int32 × Hp) :=
cl1 (mX0_in x1 (2 : Int32)) (fun r1 =>
if r1 = 0 then (
some ((-1 : Int32), h)) else (
fx FU (fun _ _ _ => none) (fun k14 (x2_3 : Int32) (x3_4 : Int32) (h5 : Hp) =>
if (3 : Int32) < x3_4 then (
nm (fun (s6 : Int32) (h7 : Hp) =>
some (s6, h7)) (fun k72 =>
if x1 = 0 then (
k72 (x2_3 + (3 : Int32)) h5) else (
cl2 (mX0_touchingBy h5 x2_3) (fun r9 h10 =>
k72 r9 h10)))) else (
cl2 (mX0_touchingBy h5 (-x3_4)) (fun r12 h13 =>
cl2 (mX0_touchingBy h13 x2_3) (fun r15 h16 =>
nm (fun (x2_17 : Int32) =>
cl2 (mX0_touchingBy h16 x3_4) (fun r19 h20 =>
cl2 (mX0_touchingBy h20 x2_17) (fun r22 h23 =>
nm (fun (x2_24 : Int32) =>
k14 x2_24 (x3_4 + (1 : Int32)) h23) (fun k51 =>
if r19 ≤ r22 then (
k51 x2_17) else (
k51 x3_4))))) (fun k36 =>
if r12 ≤ r15 then (
k36 x2_3) else (
nm ((-x3_4)) (fun v25 =>
k36 v25))))))) (0 : Int32) (1 : Int32) h))
theorem cyX0_lean : Callee yX0_lean 1 := by unfold Callee; decide +kernel
set_option maxHeartbeats 4000000 in
theorem ctX0_lean (l : Launch) (D : va_G) (ad : Nat → Nat) (dA : Nat → ClassId) (tt : (Nat → Option Nat) × (Nat → Option Nat) × va_W) (h : Hp) (x1 : Int32) (r : Int32) (h' : Hp) (hm : mX0_lean h x1 = some (r, h')) : CT l yX0_lean cX0_lean 4 (some .int) D dA 5 107 0 0 (wX ad dA tt h) [.ref (ad 100), .int x1] (some (.int r)) (wX ad dA tt h') := by
  refine ct_open (by decide) (Nat.le_of_ble_eq_true rfl) ?_
  intro G X hI hZ hV hR
  have hRet := hI rfl r rfl
  refine (show TM G (r, h') (mX0_lean h x1) (wX ad dA tt h) 0 0 0 [(0, .ref (ad 100)), (1, .int x1)] [] from ?_) hm
  clear hm hI hZ hV hR
  unfold mX0_lean
  refine tm_iload_n X 1 dX0_lean_0 rfl rfl ?_
  refine tm_iconst X (2 : Int32) dX0_lean_1 (by decide) ?_
  refine tm_cl1 (fun r1 e2 => ?_)
  refine tm_callSi (As := [.int x1, .int (2 : Int32)]) (rest := []) X (ctX0_in l D dA x1 (2 : Int32) r1 e2) (lw_S q311 q312 q117 q313) cyX0_in rfl ⟨(Nat.le_of_ble_eq_true rfl), (Nat.le_of_ble_eq_true rfl)⟩ (Nat.le_of_ble_eq_true rfl) dX0_lean_2 ⟨Nat.le_of_ble_eq_true rfl, Nat.le_of_ble_eq_true rfl⟩ rfl ?_
  refine tm_if_ne X 10 dX0_lean_5 rfl ?_ ?_
  · skip
    refine tm_iconst X (0 : Int32) dX0_lean_10 (by decide) ?_
    refine tm_istore_n X [(2, .int (0 : Int32)), (0, .ref (ad 100)), (1, .int x1)] dX0_lean_11 rfl (Nat.le_of_ble_eq_true rfl) rfl ?_
    refine tm_iconst X (1 : Int32) dX0_lean_12 (by decide) ?_
    refine tm_istore_n X [(3, .int (1 : Int32)), (2, .int (0 : Int32)), (0, .ref (ad 100)), (1, .int x1)] dX0_lean_13 rfl (Nat.le_of_ble_eq_true rfl) rfl ?_
    refine tm_lv X [2, 3, 1, 0] rfl ?_
    refine fx_P (fun (k : Int32 → Int32 → Hp → Option (Int32 × Hp)) => ∀ (x2_3 : Int32) (x3_4 : Int32) (h5 : Hp), TM G (r, h') (k x2_3 x3_4 h5) (wX ad dA tt h5) 0 0 14 [(0, .ref (ad 100)), (1, .int x1), (2, .int x2_3), (3, .int x3_4)] []) (fun _ _ _ => tm_none) (fun k14 hk14 x2_3 x3_4 h5 => ?_) FU (0 : Int32) (1 : Int32) h
    refine tm_iload_n X 3 dX0_lean_14 rfl rfl ?_
    refine tm_iconst X (3 : Int32) dX0_lean_15 (by decide) ?_
    refine tm_ic_gt X 57 dX0_lean_16 rfl ?_ ?_
    · skip
      refine tm_iload_n X 1 dX0_lean_57 rfl rfl ?_
      refine tm_let (fun k => ∀ (s6 : Int32) (h7 : Hp), TM G (r, h') (k s6 h7) (wX ad dA tt h7) 0 0 72 [] [.int s6]) ?_ (fun k72 hk72 => ?_)
      · intro s6 h7
        exact tm_retIH (wf := wX ad dA tt) hRet dX0_lean_72
      · skip
        refine tm_if_ne X 67 dX0_lean_58 rfl ?_ ?_
        · skip
          refine tm_aload_n X 0 dX0_lean_67 rfl rfl ?_
          refine tm_iload_n X 2 dX0_lean_68 rfl rfl ?_
          refine tm_cl2 (fun r9 h10 e8 => ?_)
          refine tm_callVi (As := [.int x2_3]) (rest := []) (q0 := 0) X (ctX0_touchingBy l D ad dA tt h5 x2_3 r9 h10 e8) (lw_V q966 q968 qs33 q117 q969) cyX0_touchingBy rfl rfl rfl ⟨(Nat.le_of_ble_eq_true rfl), (Nat.le_of_ble_eq_true rfl)⟩ (Nat.le_of_ble_eq_true rfl) dX0_lean_69 ⟨Nat.le_of_ble_eq_true rfl, Nat.le_of_ble_eq_true rfl⟩ rfl ?_
          refine tm_lv X [] rfl ?_
          exact hk72 r9 h10
        · skip
          refine tm_iload_n X 2 dX0_lean_61 rfl rfl ?_
          refine tm_iconst X (3 : Int32) dX0_lean_62 (by decide) ?_
          refine tm_iadd X dX0_lean_63 ?_
          refine tm_goto X 72 dX0_lean_64 rfl ?_
          refine tm_lv X [] rfl ?_
          exact hk72 (x2_3 + (3 : Int32)) h5
    · skip
      refine tm_aload_n X 0 dX0_lean_19 rfl rfl ?_
      refine tm_iload_n X 3 dX0_lean_20 rfl rfl ?_
      refine tm_ineg X dX0_lean_21 ?_
      refine tm_cl2 (fun r12 h13 e11 => ?_)
      refine tm_callVi (As := [.int (-x3_4)]) (rest := []) (q0 := 0) X (ctX0_touchingBy l D ad dA tt h5 (-x3_4) r12 h13 e11) (lw_V q966 q968 qs33 q117 q969) cyX0_touchingBy rfl rfl rfl ⟨(Nat.le_of_ble_eq_true rfl), (Nat.le_of_ble_eq_true rfl)⟩ (Nat.le_of_ble_eq_true rfl) dX0_lean_22 ⟨Nat.le_of_ble_eq_true rfl, Nat.le_of_ble_eq_true rfl⟩ rfl ?_
      refine tm_aload_n X 0 dX0_lean_25 rfl rfl ?_
      refine tm_iload_n X 2 dX0_lean_26 rfl rfl ?_
      refine tm_cl2 (fun r15 h16 e14 => ?_)
      refine tm_callVi (As := [.int x2_3]) (rest := [.int r12]) (q0 := 0) X (ctX0_touchingBy l D ad dA tt h13 x2_3 r15 h16 e14) (lw_V q966 q968 qs33 q117 q969) cyX0_touchingBy rfl rfl rfl ⟨(Nat.le_of_ble_eq_true rfl), (Nat.le_of_ble_eq_true rfl)⟩ (Nat.le_of_ble_eq_true rfl) dX0_lean_27 ⟨Nat.le_of_ble_eq_true rfl, Nat.le_of_ble_eq_true rfl⟩ rfl ?_
      refine tm_let (fun k => ∀ (x2_17 : Int32), TM G (r, h') (k x2_17) (wX ad dA tt h16) 0 0 36 [(0, .ref (ad 100)), (1, .int x1), (2, .int x2_17), (3, .int x3_4)] []) ?_ (fun k36 hk36 => ?_)
      · intro x2_17
        refine tm_aload_n X 0 dX0_lean_36 rfl rfl ?_
        refine tm_iload_n X 3 dX0_lean_37 rfl rfl ?_
        refine tm_cl2 (fun r19 h20 e18 => ?_)
        refine tm_callVi (As := [.int x3_4]) (rest := []) (q0 := 0) X (ctX0_touchingBy l D ad dA tt h16 x3_4 r19 h20 e18) (lw_V q966 q968 qs33 q117 q969) cyX0_touchingBy rfl rfl rfl ⟨(Nat.le_of_ble_eq_true rfl), (Nat.le_of_ble_eq_true rfl)⟩ (Nat.le_of_ble_eq_true rfl) dX0_lean_38 ⟨Nat.le_of_ble_eq_true rfl, Nat.le_of_ble_eq_true rfl⟩ rfl ?_
        refine tm_aload_n X 0 dX0_lean_41 rfl rfl ?_
        refine tm_iload_n X 2 dX0_lean_42 rfl rfl ?_
        refine tm_cl2 (fun r22 h23 e21 => ?_)
        refine tm_callVi (As := [.int x2_17]) (rest := [.int r19]) (q0 := 0) X (ctX0_touchingBy l D ad dA tt h20 x2_17 r22 h23 e21) (lw_V q966 q968 qs33 q117 q969) cyX0_touchingBy rfl rfl rfl ⟨(Nat.le_of_ble_eq_true rfl), (Nat.le_of_ble_eq_true rfl)⟩ (Nat.le_of_ble_eq_true rfl) dX0_lean_43 ⟨Nat.le_of_ble_eq_true rfl, Nat.le_of_ble_eq_true rfl⟩ rfl ?_
        refine tm_let (fun k => ∀ (x2_24 : Int32), TM G (r, h') (k x2_24) (wX ad dA tt h23) 0 0 51 [(0, .ref (ad 100)), (1, .int x1), (2, .int x2_24), (3, .int x3_4)] []) ?_ (fun k51 hk51 => ?_)
        · intro x2_24
          refine tm_iinc (v := (1 : Int32)) X 3 [(3, .int (x3_4 + (1 : Int32))), (0, .ref (ad 100)), (1, .int x1), (2, .int x2_24)] dX0_lean_51 rfl (by decide) (Nat.le_of_ble_eq_true rfl) rfl ?_
          refine tm_goto X 14 dX0_lean_54 rfl ?_
          refine tm_lv X [1, 2, 3, 0] rfl ?_
          exact hk14 x2_24 (x3_4 + (1 : Int32)) h23
        · skip
          refine tm_ic_le X 51 dX0_lean_46 rfl ?_ ?_
          · skip
            exact hk51 x2_17
          · skip
            refine tm_iload_n X 3 dX0_lean_49 rfl rfl ?_
            refine tm_istore_n X [(2, .int x3_4), (0, .ref (ad 100)), (1, .int x1), (3, .int x3_4)] dX0_lean_50 rfl (Nat.le_of_ble_eq_true rfl) rfl ?_
            refine tm_lv X [1, 2, 0, 3] rfl ?_
            exact hk51 x3_4
      · skip
        refine tm_ic_le X 36 dX0_lean_30 rfl ?_ ?_
        · skip
          exact hk36 x2_3
        · skip
          refine tm_iload_n X 3 dX0_lean_33 rfl rfl ?_
          refine tm_ineg X dX0_lean_34 ?_
          refine tm_nmI (fun v25 => ?_)
          refine tm_istore_n X [(2, .int v25), (0, .ref (ad 100)), (1, .int x1), (3, .int x3_4)] dX0_lean_35 rfl (Nat.le_of_ble_eq_true rfl) rfl ?_
          refine tm_lv X [1, 2, 0, 3] rfl ?_
          exact hk36 v25
  · skip
    refine tm_iconst X (-1 : Int32) dX0_lean_8 (by decide) ?_
    exact tm_retIH (wf := wX ad dA tt) hRet dX0_lean_9
def mX0_splint (h : Hp) (x1 : Int32) (x2 : Int32) : Option (Int32) :=
cl1 (mX0_within x1 (0 : Int32) (20 : Int32)) (fun r1 =>
nm (
some (-1 : Int32)) (fun k22 =>
if r1 = 0 then (
k22) else (
nm (
cl1 (mX3_opening 40 h (31 : Int32)) (fun r4 =>
nm ((r4 + x1)) (fun v5 =>
if x2 = (-1 : Int32) then (
fx FU (fun _ _ => none) (fun k60 (x4_6 : Int32) (x5_7 : Int32) =>
if (48 : Int32) ≤ x5_7 then (
some x4_6) else (
cl1 (mX3_sumAt 40 h x5_7 (31 : Int32)) (fun r9 =>
nm ((x4_6 + (v5 - r9))) (fun v10 =>
k60 v10 (x5_7 + (1 : Int32)))))) (0 : Int32) (0 : Int32)) else (
cl1 (mX3_sumAt 40 h x2 (31 : Int32)) (fun r12 =>
some (v5 - r12)))))) (fun k24 =>
if x2 = (-1 : Int32) then (
k24) else (
cl1 (mX0_isPlace x2) (fun r13 =>
if r13 = 0 then (
k22) else (
k24)))))))
theorem cyX0_splint : Callee yX0_splint 2 := by unfold Callee; decide +kernel
set_option maxHeartbeats 4000000 in
theorem ctX0_splint (l : Launch) (D : va_G) (ad : Nat → Nat) (dA : Nat → ClassId) (tt : (Nat → Option Nat) × (Nat → Option Nat) × va_W) (h : Hp) (x1 : Int32) (x2 : Int32) (r : Int32) (hm : mX0_splint h x1 x2 = some r) : CT l yX0_splint cX0_splint 6 (some .int) D dA 5 108 0 0 (wX ad dA tt h) [.ref (ad 100), .int x1, .int x2] (some (.int r)) (wX ad dA tt h) := by
  refine ct_open (by decide) (Nat.le_of_ble_eq_true rfl) ?_
  intro G X hI hZ hV hR
  have hRet := hI rfl r rfl
  refine (show TM G r (mX0_splint h x1 x2) (wX ad dA tt h) 0 0 0 [(0, .ref (ad 100)), (1, .int x1), (2, .int x2)] [] from ?_) hm
  clear hm hI hZ hV hR
  unfold mX0_splint
  refine tm_iload_n X 1 dX0_splint_0 rfl rfl ?_
  refine tm_iconst X (0 : Int32) dX0_splint_1 (by decide) ?_
  refine tm_bipush X (20 : Int32) dX0_splint_2 (by decide) ?_
  refine tm_cl1 (fun r1 e2 => ?_)
  refine tm_callSi (As := [.int x1, .int (0 : Int32), .int (20 : Int32)]) (rest := []) X (ctX0_within l D dA x1 (0 : Int32) (20 : Int32) r1 e2) (lw_S q317 q318 q117 q319) cyX0_within rfl ⟨(Nat.le_of_ble_eq_true rfl), (Nat.le_of_ble_eq_true rfl)⟩ (Nat.le_of_ble_eq_true rfl) dX0_splint_4 ⟨Nat.le_of_ble_eq_true rfl, Nat.le_of_ble_eq_true rfl⟩ rfl ?_
  refine tm_let (fun k => TM G r k (wX ad dA tt h) 0 0 22 [] []) ?_ (fun k22 hk22 => ?_)
  · skip
    refine tm_iconst X (-1 : Int32) dX0_splint_22 (by decide) ?_
    exact tm_retI hRet dX0_splint_23
  · skip
    refine tm_if_eq X 22 dX0_splint_7 rfl ?_ ?_
    · skip
      refine tm_lv X [] rfl ?_
      exact hk22
    · skip
      refine tm_iload_n X 2 dX0_splint_10 rfl rfl ?_
      refine tm_iconst X (-1 : Int32) dX0_splint_11 (by decide) ?_
      refine tm_let (fun k => TM G r k (wX ad dA tt h) 0 0 24 [(0, .ref (ad 100)), (1, .int x1), (2, .int x2)] []) ?_ (fun k24 hk24 => ?_)
      · skip
        refine tm_aload_n X 0 dX0_splint_24 rfl rfl ?_
        refine tm_getR X (frX_100_5 ad dA tt h) in_X0 rfl (Nat.le_of_ble_eq_true rfl) q242 rfl dX0_splint_25 ?_
        refine tm_bipush X (31 : Int32) dX0_splint_28 (by decide) ?_
        refine tm_cl1 (fun r4 e3 => ?_)
        refine tm_callVi (As := [.int (31 : Int32)]) (rest := []) (q0 := 3) X (ctX3_opening_40 l D ad dA tt h (31 : Int32) r4 e3) (lw_V q833 q819 q820 q120 q821) cyX3_opening rfl rfl rfl ⟨(Nat.le_of_ble_eq_true rfl), (Nat.le_of_ble_eq_true rfl)⟩ (Nat.le_of_ble_eq_true rfl) dX0_splint_30 ⟨Nat.le_of_ble_eq_true rfl, Nat.le_of_ble_eq_true rfl⟩ rfl ?_
        refine tm_iload_n X 1 dX0_splint_33 rfl rfl ?_
        refine tm_iadd X dX0_splint_34 ?_
        refine tm_nmI (fun v5 => ?_)
        refine tm_istore_n X [(3, .int v5), (0, .ref (ad 100)), (1, .int x1), (2, .int x2)] dX0_splint_35 rfl (Nat.le_of_ble_eq_true rfl) rfl ?_
        refine tm_iload_n X 3 dX0_splint_36 rfl rfl ?_
        refine tm_iconst X (-1 : Int32) dX0_splint_37 (by decide) ?_
        refine tm_ic_eq X 54 dX0_splint_38 rfl ?_ ?_
        · skip
          refine tm_iconst X (0 : Int32) dX0_splint_54 (by decide) ?_
          refine tm_istore X [(4, .int (0 : Int32)), (3, .int v5), (0, .ref (ad 100)), (1, .int x1), (2, .int x2)] dX0_splint_55 (Nat.le_of_ble_eq_true rfl) rfl ?_
          refine tm_iconst X (0 : Int32) dX0_splint_57 (by decide) ?_
          refine tm_istore X [(5, .int (0 : Int32)), (4, .int (0 : Int32)), (3, .int v5), (0, .ref (ad 100)), (1, .int x1), (2, .int x2)] dX0_splint_58 (Nat.le_of_ble_eq_true rfl) rfl ?_
          refine tm_lv X [3, 2, 1, 0] rfl ?_
          refine fx_P (fun (k : Int32 → Int32 → Option (Int32)) => ∀ (x4_6 : Int32) (x5_7 : Int32), TM G r (k x4_6 x5_7) (wX ad dA tt h) 0 0 60 [(0, .ref (ad 100)), (3, .int v5), (4, .int x4_6), (5, .int x5_7)] []) (fun _ _ => tm_none) (fun k60 hk60 x4_6 x5_7 => ?_) FU (0 : Int32) (0 : Int32)
          refine tm_iload X 3 dX0_splint_60 rfl ?_
          refine tm_bipush X (48 : Int32) dX0_splint_62 (by decide) ?_
          refine tm_ic_ge X 91 dX0_splint_64 rfl ?_ ?_
          · skip
            refine tm_iload X 2 dX0_splint_91 rfl ?_
            exact tm_retI hRet dX0_splint_93
          · skip
            refine tm_iload X 2 dX0_splint_67 rfl ?_
            refine tm_iload_n X 1 dX0_splint_69 rfl rfl ?_
            refine tm_aload_n X 0 dX0_splint_70 rfl rfl ?_
            refine tm_getR X (frX_100_5 ad dA tt h) in_X0 rfl (Nat.le_of_ble_eq_true rfl) q242 rfl dX0_splint_71 ?_
            refine tm_iload X 3 dX0_splint_74 rfl ?_
            refine tm_bipush X (31 : Int32) dX0_splint_76 (by decide) ?_
            refine tm_cl1 (fun r9 e8 => ?_)
            refine tm_callVi (As := [.int x5_7, .int (31 : Int32)]) (rest := [.int v5, .int x4_6]) (q0 := 3) X (ctX3_sumAt_40 l D ad dA tt h x5_7 (31 : Int32) r9 e8) (lw_V q848 q829 q830 q120 q831) cyX3_sumAt rfl rfl rfl ⟨(Nat.le_of_ble_eq_true rfl), (Nat.le_of_ble_eq_true rfl)⟩ (Nat.le_of_ble_eq_true rfl) dX0_splint_78 ⟨Nat.le_of_ble_eq_true rfl, Nat.le_of_ble_eq_true rfl⟩ rfl ?_
            refine tm_isub X dX0_splint_81 ?_
            refine tm_iadd X dX0_splint_82 ?_
            refine tm_nmI (fun v10 => ?_)
            refine tm_istore X [(4, .int v10), (0, .ref (ad 100)), (3, .int v5), (5, .int x5_7)] dX0_splint_83 (Nat.le_of_ble_eq_true rfl) rfl ?_
            refine tm_iinc (v := (1 : Int32)) X 3 [(5, .int (x5_7 + (1 : Int32))), (4, .int v10), (0, .ref (ad 100)), (3, .int v5)] dX0_splint_85 rfl (by decide) (Nat.le_of_ble_eq_true rfl) rfl ?_
            refine tm_goto X 60 dX0_splint_88 rfl ?_
            refine tm_lv X [2, 3, 1, 0] rfl ?_
            exact hk60 v10 (x5_7 + (1 : Int32))
        · skip
          refine tm_iload_n X 0 dX0_splint_41 rfl rfl ?_
          refine tm_aload_n X 1 dX0_splint_42 rfl rfl ?_
          refine tm_getR X (frX_100_5 ad dA tt h) in_X0 rfl (Nat.le_of_ble_eq_true rfl) q242 rfl dX0_splint_43 ?_
          refine tm_iload_n X 3 dX0_splint_46 rfl rfl ?_
          refine tm_bipush X (31 : Int32) dX0_splint_47 (by decide) ?_
          refine tm_cl1 (fun r12 e11 => ?_)
          refine tm_callVi (As := [.int x2, .int (31 : Int32)]) (rest := [.int v5]) (q0 := 3) X (ctX3_sumAt_40 l D ad dA tt h x2 (31 : Int32) r12 e11) (lw_V q848 q829 q830 q120 q831) cyX3_sumAt rfl rfl rfl ⟨(Nat.le_of_ble_eq_true rfl), (Nat.le_of_ble_eq_true rfl)⟩ (Nat.le_of_ble_eq_true rfl) dX0_splint_49 ⟨Nat.le_of_ble_eq_true rfl, Nat.le_of_ble_eq_true rfl⟩ rfl ?_
          refine tm_isub X dX0_splint_52 ?_
          exact tm_retI hRet dX0_splint_53
      · skip
        refine tm_ic_eq X 24 dX0_splint_12 rfl ?_ ?_
        · skip
          exact hk24
        · skip
          refine tm_iload_n X 2 dX0_splint_15 rfl rfl ?_
          refine tm_cl1 (fun r13 e14 => ?_)
          refine tm_callSi (As := [.int x2]) (rest := []) X (ctX0_isPlace l D dA x2 r13 e14) (lw_S q314 q315 q117 q316) cyX0_isPlace rfl ⟨(Nat.le_of_ble_eq_true rfl), (Nat.le_of_ble_eq_true rfl)⟩ (Nat.le_of_ble_eq_true rfl) dX0_splint_16 ⟨Nat.le_of_ble_eq_true rfl, Nat.le_of_ble_eq_true rfl⟩ rfl ?_
          refine tm_if_ne X 24 dX0_splint_19 rfl ?_ ?_
          · skip
            exact hk24
          · skip
            refine tm_lv X [] rfl ?_
            exact hk22
def mX0_turnedOver (h : Hp) (x1 : Int32) : Option (Int32 × Hp) :=
cl1 (mX0_in x1 (2 : Int32)) (fun r1 =>
if r1 = 0 then (
some ((-1 : Int32), h)) else (
fx FU (fun _ _ => none) (fun k12 (x2_3 : Int32) (h4 : Hp) =>
if (48 : Int32) ≤ x2_3 then (
nm (fun (s5 : Int32) =>
some (s5, h4)) (fun k81 =>
if x1 = 0 then (
cl1 (mX0_greatestSum h4) (fun r9 =>
k81 r9)) else (
cl1 (mX0_touching h4) (fun r7 =>
k81 r7)))) else (
ck x2_3 48 (
cl1 (mX0_placeAt ((7 : Int32) - (jrem x2_3 (8 : Int32))) (x2_3 / (8 : Int32))) (fun r10 =>
ck r10 48 (
ck x2_3 48 (nm (u2 h4 18 x2_3.toNatClampNeg ((h4 43 x2_3.toNatClampNeg) + (h4 42 r10.toNatClampNeg))) (fun h12 =>
k12 (x2_3 + (1 : Int32)) h12))))))) (0 : Int32) h))
theorem cyX0_turnedOver : Callee yX0_turnedOver 1 := by unfold Callee; decide +kernel
set_option maxHeartbeats 4000000 in
theorem ctX0_turnedOver (l : Launch) (D : va_G) (ad : Nat → Nat) (dA : Nat → ClassId) (tt : (Nat → Option Nat) × (Nat → Option Nat) × va_W) (h : Hp) (x1 : Int32) (r : Int32) (h' : Hp) (hm : mX0_turnedOver h x1 = some (r, h')) : CT l yX0_turnedOver cX0_turnedOver 3 (some .int) D dA 3 72 0 0 (wX ad dA tt h) [.ref (ad 100), .int x1] (some (.int r)) (wX ad dA tt h') := by
  refine ct_open (by decide) (Nat.le_of_ble_eq_true rfl) ?_
  intro G X hI hZ hV hR
  have hRet := hI rfl r rfl
  refine (show TM G (r, h') (mX0_turnedOver h x1) (wX ad dA tt h) 0 0 0 [(0, .ref (ad 100)), (1, .int x1)] [] from ?_) hm
  clear hm hI hZ hV hR
  unfold mX0_turnedOver
  refine tm_iload_n X 1 dX0_turnedOver_0 rfl rfl ?_
  refine tm_iconst X (2 : Int32) dX0_turnedOver_1 (by decide) ?_
  refine tm_cl1 (fun r1 e2 => ?_)
  refine tm_callSi (As := [.int x1, .int (2 : Int32)]) (rest := []) X (ctX0_in l D dA x1 (2 : Int32) r1 e2) (lw_S q311 q312 q117 q313) cyX0_in rfl ⟨(Nat.le_of_ble_eq_true rfl), (Nat.le_of_ble_eq_true rfl)⟩ (Nat.le_of_ble_eq_true rfl) dX0_turnedOver_2 ⟨Nat.le_of_ble_eq_true rfl, Nat.le_of_ble_eq_true rfl⟩ rfl ?_
  refine tm_if_ne X 10 dX0_turnedOver_5 rfl ?_ ?_
  · skip
    refine tm_iconst X (0 : Int32) dX0_turnedOver_10 (by decide) ?_
    refine tm_istore_n X [(2, .int (0 : Int32)), (0, .ref (ad 100)), (1, .int x1)] dX0_turnedOver_11 rfl (Nat.le_of_ble_eq_true rfl) rfl ?_
    refine tm_lv X [1, 2, 0] rfl ?_
    refine fx_P (fun (k : Int32 → Hp → Option (Int32 × Hp)) => ∀ (x2_3 : Int32) (h4 : Hp), TM G (r, h') (k x2_3 h4) (wX ad dA tt h4) 0 0 12 [(0, .ref (ad 100)), (1, .int x1), (2, .int x2_3)] []) (fun _ _ => tm_none) (fun k12 hk12 x2_3 h4 => ?_) FU (0 : Int32) h
    refine tm_iload_n X 2 dX0_turnedOver_12 rfl rfl ?_
    refine tm_bipush X (48 : Int32) dX0_turnedOver_13 (by decide) ?_
    refine tm_ic_ge X 66 dX0_turnedOver_15 rfl ?_ ?_
    · skip
      refine tm_iload_n X 1 dX0_turnedOver_66 rfl rfl ?_
      refine tm_let (fun k => ∀ (s5 : Int32), TM G (r, h') (k s5) (wX ad dA tt h4) 0 0 81 [] [.int s5]) ?_ (fun k81 hk81 => ?_)
      · intro s5
        exact tm_retIH (wf := wX ad dA tt) hRet dX0_turnedOver_81
      · skip
        refine tm_if_ne X 77 dX0_turnedOver_67 rfl ?_ ?_
        · skip
          refine tm_aload_n X 0 dX0_turnedOver_77 rfl rfl ?_
          refine tm_cl1 (fun r7 e6 => ?_)
          refine tm_callVi (As := []) (rest := []) (q0 := 0) X (ctX0_touching l D ad dA tt h4 r7 e6) (lw_V q970 q972 qs34 q117 q973) cyX0_touching rfl rfl rfl ⟨(Nat.le_of_ble_eq_true rfl), (Nat.le_of_ble_eq_true rfl)⟩ (Nat.le_of_ble_eq_true rfl) dX0_turnedOver_78 ⟨Nat.le_of_ble_eq_true rfl, Nat.le_of_ble_eq_true rfl⟩ rfl ?_
          refine tm_lv X [] rfl ?_
          exact hk81 r7
        · skip
          refine tm_aload_n X 0 dX0_turnedOver_70 rfl rfl ?_
          refine tm_cl1 (fun r9 e8 => ?_)
          refine tm_callVi (As := []) (rest := []) (q0 := 0) X (ctX0_greatestSum l D ad dA tt h4 r9 e8) (lw_V q974 q976 qs35 q117 q977) cyX0_greatestSum rfl rfl rfl ⟨(Nat.le_of_ble_eq_true rfl), (Nat.le_of_ble_eq_true rfl)⟩ (Nat.le_of_ble_eq_true rfl) dX0_turnedOver_71 ⟨Nat.le_of_ble_eq_true rfl, Nat.le_of_ble_eq_true rfl⟩ rfl ?_
          refine tm_goto X 81 dX0_turnedOver_74 rfl ?_
          refine tm_lv X [] rfl ?_
          exact hk81 r9
    · skip
      refine tm_aload_n X 0 dX0_turnedOver_18 rfl rfl ?_
      refine tm_getR X (frX_100_18 ad dA tt h4) in_X0 rfl (Nat.le_of_ble_eq_true rfl) q258 rfl dX0_turnedOver_19 ?_
      refine tm_iload_n X 2 dX0_turnedOver_22 rfl rfl ?_
      refine tm_aload_n X 0 dX0_turnedOver_23 rfl rfl ?_
      refine tm_getR X (frX_100_5 ad dA tt h4) in_X0 rfl (Nat.le_of_ble_eq_true rfl) q242 rfl dX0_turnedOver_24 ?_
      refine tm_getRN X (frX_40_0 ad dA tt h4) in_X3 rfl (Nat.le_of_ble_eq_true rfl) q179 rfl dX0_turnedOver_27 ?_
      refine tm_iconst X (1 : Int32) dX0_turnedOver_30 (by decide) ?_
      refine tm_aaloadL (j := 1) X (aaX_41 ad dA tt h4) (by unfold vp_in; decide) (by decide) dX0_turnedOver_31 ?_
      refine tm_iload_n X 2 dX0_turnedOver_32 rfl rfl ?_
      refine tm_iaload X (arX_43 ad dA tt) dX0_turnedOver_33 ?_
      refine tm_aload_n X 0 dX0_turnedOver_34 rfl rfl ?_
      refine tm_getR X (frX_100_5 ad dA tt h4) in_X0 rfl (Nat.le_of_ble_eq_true rfl) q242 rfl dX0_turnedOver_35 ?_
      refine tm_getRN X (frX_40_0 ad dA tt h4) in_X3 rfl (Nat.le_of_ble_eq_true rfl) q179 rfl dX0_turnedOver_38 ?_
      refine tm_iconst X (0 : Int32) dX0_turnedOver_41 (by decide) ?_
      refine tm_aaloadL (j := 0) X (aaX_41 ad dA tt h4) (by unfold vp_in; decide) (by decide) dX0_turnedOver_42 ?_
      refine tm_bipush X (7 : Int32) dX0_turnedOver_43 (by decide) ?_
      refine tm_iload_n X 2 dX0_turnedOver_45 rfl rfl ?_
      refine tm_bipush X (8 : Int32) dX0_turnedOver_46 (by decide) ?_
      refine tm_irem X dX0_turnedOver_48 (by decide) ?_
      refine tm_isub X dX0_turnedOver_49 ?_
      refine tm_iload_n X 2 dX0_turnedOver_50 rfl rfl ?_
      refine tm_bipush X (8 : Int32) dX0_turnedOver_51 (by decide) ?_
      refine tm_idiv X dX0_turnedOver_53 (by decide) ?_
      refine tm_cl1 (fun r10 e11 => ?_)
      refine tm_callSi (As := [.int ((7 : Int32) - (jrem x2_3 (8 : Int32))), .int (x2_3 / (8 : Int32))]) (rest := [.ref (ad 42), .int (h4 43 x2_3.toNatClampNeg), .int x2_3, .ref (ad 18)]) X (ctX0_placeAt l D dA ((7 : Int32) - (jrem x2_3 (8 : Int32))) (x2_3 / (8 : Int32)) r10 e11) (lw_S q825 q826 q117 q827) cyX0_placeAt rfl ⟨(Nat.le_of_ble_eq_true rfl), (Nat.le_of_ble_eq_true rfl)⟩ (Nat.le_of_ble_eq_true rfl) dX0_turnedOver_54 ⟨Nat.le_of_ble_eq_true rfl, Nat.le_of_ble_eq_true rfl⟩ rfl ?_
      refine tm_iaload X (arX_42 ad dA tt) dX0_turnedOver_57 ?_
      refine tm_iadd X dX0_turnedOver_58 ?_
      refine tm_iastore X (arX_18 ad dA tt) dX0_turnedOver_59 (fun h12 => ?_)
      refine tm_iinc (v := (1 : Int32)) X 2 [(2, .int (x2_3 + (1 : Int32))), (0, .ref (ad 100)), (1, .int x1)] dX0_turnedOver_60 rfl (by decide) (Nat.le_of_ble_eq_true rfl) rfl ?_
      refine tm_goto X 12 dX0_turnedOver_63 rfl ?_
      refine tm_lv X [1, 2, 0] rfl ?_
      exact hk12 (x2_3 + (1 : Int32)) h12
  · skip
    refine tm_iconst X (-1 : Int32) dX0_turnedOver_8 (by decide) ?_
    exact tm_retIH (wf := wX ad dA tt) hRet dX0_turnedOver_9
def mX0_isAbove (h : Hp) (x1 : Int32) (x2 : Int32) (x3 : Int32) : Option (Int32) :=
fx FU (fun _ => none) (fun k3 (x4_1 : Int32) =>
if (4 : Int32) ≤ x4_1 then (
bz (1 : Int32) (some (1 : Int32))) else (
cl1 (mX0_beside x2 x4_1) (fun r2 =>
nm (fun (s4 : Int32) =>
nm (
k3 (x4_1 + (1 : Int32))) (fun k78 =>
if r2 = (-1 : Int32) then (
k78) else (
nm (
bz (0 : Int32) (some (0 : Int32))) (fun k76 =>
if x3 = 0 then (
if s4 < 0 then (
k78) else (
k76)) else (
if 0 < s4 then (
k78) else (
k76)))))) (fun k51 =>
if r2 = (-1 : Int32) then (
k51 (0 : Int32)) else (
ck x1 2 (
ck x2 48 (
ck x1 2 (
ck r2 48 (
k51 ((h (42 + x1.toNatClampNeg) x2.toNatClampNeg) - (h (42 + x1.toNatClampNeg) r2.toNatClampNeg))))))))))) (0 : Int32)
theorem cyX0_isAbove : Callee yX0_isAbove 3 := by unfold Callee; decide +kernel
set_option maxHeartbeats 4000000 in
theorem ctX0_isAbove (l : Launch) (D : va_G) (ad : Nat → Nat) (dA : Nat → ClassId) (tt : (Nat → Option Nat) × (Nat → Option Nat) × va_W) (h : Hp) (x1 : Int32) (x2 : Int32) (x3 : Int32) (r : Int32) (hm : mX0_isAbove h x1 x2 x3 = some r) : CT l yX0_isAbove cX0_isAbove 7 (some .boolean) D dA 3 63 0 0 (wX ad dA tt h) [.ref (ad 100), .int x1, .int x2, .int x3] (some (.int r)) (wX ad dA tt h) := by
  refine ct_open (by decide) (Nat.le_of_ble_eq_true rfl) ?_
  intro G X hI hZ hV hR
  have hRet := fun hv => hZ rfl r hv rfl
  refine (show TM G r (mX0_isAbove h x1 x2 x3) (wX ad dA tt h) 0 0 0 [(0, .ref (ad 100)), (1, .int x1), (2, .int x2), (3, .int x3)] [] from ?_) hm
  clear hm hI hZ hV hR
  unfold mX0_isAbove
  refine tm_iconst X (0 : Int32) dX0_isAbove_0 (by decide) ?_
  refine tm_istore X [(4, .int (0 : Int32)), (0, .ref (ad 100)), (1, .int x1), (2, .int x2), (3, .int x3)] dX0_isAbove_1 (Nat.le_of_ble_eq_true rfl) rfl ?_
  refine tm_lv X [1, 2, 3, 4, 0] rfl ?_
  refine fx_P (fun (k : Int32 → Option (Int32)) => ∀ (x4_1 : Int32), TM G r (k x4_1) (wX ad dA tt h) 0 0 3 [(0, .ref (ad 100)), (1, .int x1), (2, .int x2), (3, .int x3), (4, .int x4_1)] []) (fun _ => tm_none) (fun k3 hk3 x4_1 => ?_) FU (0 : Int32)
  refine tm_iload X 4 dX0_isAbove_3 rfl ?_
  refine tm_iconst X (4 : Int32) dX0_isAbove_5 (by decide) ?_
  refine tm_ic_ge X 84 dX0_isAbove_6 rfl ?_ ?_
  · skip
    refine tm_iconst X (1 : Int32) dX0_isAbove_84 (by decide) ?_
    exact tm_retZ hRet dX0_isAbove_85
  · skip
    refine tm_iload_n X 2 dX0_isAbove_9 rfl rfl ?_
    refine tm_iload X 4 dX0_isAbove_10 rfl ?_
    refine tm_cl1 (fun r2 e3 => ?_)
    refine tm_callSi (As := [.int x2, .int x4_1]) (rest := []) X (ctX0_beside l D dA x2 x4_1 r2 e3) (lw_S q932 q933 q117 q934) cyX0_beside rfl ⟨(Nat.le_of_ble_eq_true rfl), (Nat.le_of_ble_eq_true rfl)⟩ (Nat.le_of_ble_eq_true rfl) dX0_isAbove_12 ⟨Nat.le_of_ble_eq_true rfl, Nat.le_of_ble_eq_true rfl⟩ rfl ?_
    refine tm_istore X [(5, .int r2), (0, .ref (ad 100)), (1, .int x1), (2, .int x2), (3, .int x3), (4, .int x4_1)] dX0_isAbove_15 (Nat.le_of_ble_eq_true rfl) rfl ?_
    refine tm_iload X 0 dX0_isAbove_17 rfl ?_
    refine tm_iconst X (-1 : Int32) dX0_isAbove_19 (by decide) ?_
    refine tm_let (fun k => ∀ (s4 : Int32), TM G r (k s4) (wX ad dA tt h) 0 0 51 [(0, .ref (ad 100)), (1, .int x1), (2, .int x2), (3, .int x3), (4, .int x4_1), (5, .int r2)] [.int s4]) ?_ (fun k51 hk51 => ?_)
    · intro s4
      refine tm_istore X [(6, .int s4), (0, .ref (ad 100)), (1, .int x1), (2, .int x2), (3, .int x3), (4, .int x4_1), (5, .int r2)] dX0_isAbove_51 (Nat.le_of_ble_eq_true rfl) rfl ?_
      refine tm_iload X 6 dX0_isAbove_53 rfl ?_
      refine tm_iconst X (-1 : Int32) dX0_isAbove_55 (by decide) ?_
      refine tm_let (fun k => TM G r k (wX ad dA tt h) 0 0 78 [(0, .ref (ad 100)), (1, .int x1), (2, .int x2), (3, .int x3), (4, .int x4_1)] []) ?_ (fun k78 hk78 => ?_)
      · skip
        refine tm_iinc (v := (1 : Int32)) X 4 [(4, .int (x4_1 + (1 : Int32))), (0, .ref (ad 100)), (1, .int x1), (2, .int x2), (3, .int x3)] dX0_isAbove_78 rfl (by decide) (Nat.le_of_ble_eq_true rfl) rfl ?_
        refine tm_goto X 3 dX0_isAbove_81 rfl ?_
        refine tm_lv X [1, 2, 3, 4, 0] rfl ?_
        exact hk3 (x4_1 + (1 : Int32))
      · skip
        refine tm_ic_eq X 78 dX0_isAbove_56 rfl ?_ ?_
        · skip
          refine tm_lv X [1, 2, 3, 4, 5] rfl ?_
          exact hk78
        · skip
          refine tm_iload_n X 4 dX0_isAbove_59 rfl rfl ?_
          refine tm_let (fun k => TM G r k (wX ad dA tt h) 0 0 76 [] []) ?_ (fun k76 hk76 => ?_)
          · skip
            refine tm_iconst X (0 : Int32) dX0_isAbove_76 (by decide) ?_
            exact tm_retZ hRet dX0_isAbove_77
          · skip
            refine tm_if_eq X 71 dX0_isAbove_60 rfl ?_ ?_
            · skip
              refine tm_iload X 0 dX0_isAbove_71 rfl ?_
              refine tm_if_lt X 78 dX0_isAbove_73 rfl ?_ ?_
              · skip
                refine tm_lv X [1, 2, 3, 4, 5] rfl ?_
                exact hk78
              · skip
                refine tm_lv X [] rfl ?_
                exact hk76
            · skip
              refine tm_iload X 0 dX0_isAbove_63 rfl ?_
              refine tm_if_gt X 78 dX0_isAbove_65 rfl ?_ ?_
              · skip
                refine tm_lv X [1, 2, 3, 4, 5] rfl ?_
                exact hk78
              · skip
                refine tm_goto X 76 dX0_isAbove_68 rfl ?_
                refine tm_lv X [] rfl ?_
                exact hk76
    · skip
      refine tm_ic_ne X 27 dX0_isAbove_20 rfl ?_ ?_
      · skip
        refine tm_aload_n X 1 dX0_isAbove_27 rfl rfl ?_
        refine tm_getR X (frX_100_5 ad dA tt h) in_X0 rfl (Nat.le_of_ble_eq_true rfl) q242 rfl dX0_isAbove_28 ?_
        refine tm_getRN X (frX_40_0 ad dA tt h) in_X3 rfl (Nat.le_of_ble_eq_true rfl) q179 rfl dX0_isAbove_31 ?_
        refine tm_iload_n X 2 dX0_isAbove_34 rfl rfl ?_
        refine tm_aaloadX X (aaX_41 ad dA tt h) dX0_isAbove_35 (fun hb5 => ?_)
        refine tm_iload_n X 3 dX0_isAbove_36 rfl rfl ?_
        refine tm_iaload X (ar2X_42 ad dA tt _ hb5) dX0_isAbove_37 ?_
        refine tm_aload_n X 1 dX0_isAbove_38 rfl rfl ?_
        refine tm_getR X (frX_100_5 ad dA tt h) in_X0 rfl (Nat.le_of_ble_eq_true rfl) q242 rfl dX0_isAbove_39 ?_
        refine tm_getRN X (frX_40_0 ad dA tt h) in_X3 rfl (Nat.le_of_ble_eq_true rfl) q179 rfl dX0_isAbove_42 ?_
        refine tm_iload_n X 2 dX0_isAbove_45 rfl rfl ?_
        refine tm_aaloadX X (aaX_41 ad dA tt h) dX0_isAbove_46 (fun hb6 => ?_)
        refine tm_iload X 0 dX0_isAbove_47 rfl ?_
        refine tm_iaload X (ar2X_42 ad dA tt _ hb6) dX0_isAbove_49 ?_
        refine tm_isub X dX0_isAbove_50 ?_
        refine tm_lv X [1, 2, 3, 4, 5, 0] rfl ?_
        exact hk51 ((h (42 + x1.toNatClampNeg) x2.toNatClampNeg) - (h (42 + x1.toNatClampNeg) r2.toNatClampNeg))
      · skip
        refine tm_iconst X (0 : Int32) dX0_isAbove_23 (by decide) ?_
        refine tm_goto X 51 dX0_isAbove_24 rfl ?_
        refine tm_lv X [1, 2, 3, 4, 5, 0] rfl ?_
        exact hk51 (0 : Int32)
def mX0_extremes (h : Hp) (x1 : Int32) (x2 : Int32) : Option (Int32) :=
fx FU (fun _ _ => none) (fun k5 (x3_1 : Int32) (x4_2 : Int32) =>
if (48 : Int32) ≤ x4_2 then (
some x3_1) else (
cl1 (mX0_isAbove h x1 x4_2 x2) (fun r4 =>
nm (fun (s5 : Int32) =>
nm ((x3_1 + s5)) (fun v6 =>
k5 v6 (x4_2 + (1 : Int32)))) (fun k29 =>
if r4 = 0 then (
k29 (0 : Int32)) else (
k29 (1 : Int32)))))) (0 : Int32) (0 : Int32)
theorem cyX0_extremes : Callee yX0_extremes 2 := by unfold Callee; decide +kernel
set_option maxHeartbeats 4000000 in
theorem ctX0_extremes (l : Launch) (D : va_G) (ad : Nat → Nat) (dA : Nat → ClassId) (tt : (Nat → Option Nat) × (Nat → Option Nat) × va_W) (h : Hp) (x1 : Int32) (x2 : Int32) (r : Int32) (hm : mX0_extremes h x1 x2 = some r) : CT l yX0_extremes cX0_extremes 5 (some .int) D dA 4 89 0 0 (wX ad dA tt h) [.ref (ad 100), .int x1, .int x2] (some (.int r)) (wX ad dA tt h) := by
  refine ct_open (by decide) (Nat.le_of_ble_eq_true rfl) ?_
  intro G X hI hZ hV hR
  have hRet := hI rfl r rfl
  refine (show TM G r (mX0_extremes h x1 x2) (wX ad dA tt h) 0 0 0 [(0, .ref (ad 100)), (1, .int x1), (2, .int x2)] [] from ?_) hm
  clear hm hI hZ hV hR
  unfold mX0_extremes
  refine tm_iconst X (0 : Int32) dX0_extremes_0 (by decide) ?_
  refine tm_istore_n X [(3, .int (0 : Int32)), (0, .ref (ad 100)), (1, .int x1), (2, .int x2)] dX0_extremes_1 rfl (Nat.le_of_ble_eq_true rfl) rfl ?_
  refine tm_iconst X (0 : Int32) dX0_extremes_2 (by decide) ?_
  refine tm_istore X [(4, .int (0 : Int32)), (3, .int (0 : Int32)), (0, .ref (ad 100)), (1, .int x1), (2, .int x2)] dX0_extremes_3 (Nat.le_of_ble_eq_true rfl) rfl ?_
  refine tm_lv X [2, 3, 4, 1, 0] rfl ?_
  refine fx_P (fun (k : Int32 → Int32 → Option (Int32)) => ∀ (x3_1 : Int32) (x4_2 : Int32), TM G r (k x3_1 x4_2) (wX ad dA tt h) 0 0 5 [(0, .ref (ad 100)), (1, .int x1), (2, .int x2), (3, .int x3_1), (4, .int x4_2)] []) (fun _ _ => tm_none) (fun k5 hk5 x3_1 x4_2 => ?_) FU (0 : Int32) (0 : Int32)
  refine tm_iload X 4 dX0_extremes_5 rfl ?_
  refine tm_bipush X (48 : Int32) dX0_extremes_7 (by decide) ?_
  refine tm_ic_ge X 37 dX0_extremes_9 rfl ?_ ?_
  · skip
    refine tm_iload_n X 3 dX0_extremes_37 rfl rfl ?_
    exact tm_retI hRet dX0_extremes_38
  · skip
    refine tm_iload_n X 3 dX0_extremes_12 rfl rfl ?_
    refine tm_aload_n X 0 dX0_extremes_13 rfl rfl ?_
    refine tm_iload_n X 1 dX0_extremes_14 rfl rfl ?_
    refine tm_iload X 4 dX0_extremes_15 rfl ?_
    refine tm_iload_n X 2 dX0_extremes_17 rfl rfl ?_
    refine tm_cl1 (fun r4 e3 => ?_)
    refine tm_callVi (As := [.int x1, .int x4_2, .int x2]) (rest := [.int x3_1]) (q0 := 0) X (ctX0_isAbove l D ad dA tt h x1 x4_2 x2 r4 e3) (lw_V q994 q996 qs37 q117 q997) cyX0_isAbove rfl rfl rfl ⟨(Nat.le_of_ble_eq_true rfl), (Nat.le_of_ble_eq_true rfl)⟩ (Nat.le_of_ble_eq_true rfl) dX0_extremes_18 ⟨Nat.le_of_ble_eq_true rfl, Nat.le_of_ble_eq_true rfl⟩ rfl ?_
    refine tm_let (fun k => ∀ (s5 : Int32), TM G r (k s5) (wX ad dA tt h) 0 0 29 [(0, .ref (ad 100)), (1, .int x1), (2, .int x2), (4, .int x4_2)] [.int s5, .int x3_1]) ?_ (fun k29 hk29 => ?_)
    · intro s5
      refine tm_iadd X dX0_extremes_29 ?_
      refine tm_nmI (fun v6 => ?_)
      refine tm_istore_n X [(3, .int v6), (0, .ref (ad 100)), (1, .int x1), (2, .int x2), (4, .int x4_2)] dX0_extremes_30 rfl (Nat.le_of_ble_eq_true rfl) rfl ?_
      refine tm_iinc (v := (1 : Int32)) X 4 [(4, .int (x4_2 + (1 : Int32))), (3, .int v6), (0, .ref (ad 100)), (1, .int x1), (2, .int x2)] dX0_extremes_31 rfl (by decide) (Nat.le_of_ble_eq_true rfl) rfl ?_
      refine tm_goto X 5 dX0_extremes_34 rfl ?_
      refine tm_lv X [2, 3, 4, 1, 0] rfl ?_
      exact hk5 v6 (x4_2 + (1 : Int32))
    · skip
      refine tm_if_eq X 28 dX0_extremes_21 rfl ?_ ?_
      · skip
        refine tm_iconst X (0 : Int32) dX0_extremes_28 (by decide) ?_
        refine tm_lv X [0, 1, 2, 4] rfl ?_
        exact hk29 (0 : Int32)
      · skip
        refine tm_iconst X (1 : Int32) dX0_extremes_24 (by decide) ?_
        refine tm_goto X 29 dX0_extremes_25 rfl ?_
        refine tm_lv X [0, 1, 2, 4] rfl ?_
        exact hk29 (1 : Int32)
def mX0_highestPlace (h : Hp) (x1 : Int32) : Option (Int32) :=
fx FU (fun _ _ => none) (fun k4 (x2_1 : Int32) (x3_2 : Int32) =>
if (48 : Int32) ≤ x3_2 then (
some x2_1) else (
ck x1 2 (
ck x3_2 48 (
ck x1 2 (
ck x2_1 48 (
nm (fun (x2_5 : Int32) =>
k4 x2_5 (x3_2 + (1 : Int32))) (fun k37 =>
if (h (42 + x1.toNatClampNeg) x3_2.toNatClampNeg) ≤ (h (42 + x1.toNatClampNeg) x2_1.toNatClampNeg) then (
k37 x2_1) else (
k37 x3_2)))))))) (0 : Int32) (1 : Int32)
theorem cyX0_highestPlace : Callee yX0_highestPlace 1 := by unfold Callee; decide +kernel
set_option maxHeartbeats 4000000 in
theorem ctX0_highestPlace (l : Launch) (D : va_G) (ad : Nat → Nat) (dA : Nat → ClassId) (tt : (Nat → Option Nat) × (Nat → Option Nat) × va_W) (h : Hp) (x1 : Int32) (r : Int32) (hm : mX0_highestPlace h x1 = some r) : CT l yX0_highestPlace cX0_highestPlace 4 (some .int) D dA 0 0 0 0 (wX ad dA tt h) [.ref (ad 100), .int x1] (some (.int r)) (wX ad dA tt h) := by
  refine ct_open (by decide) (Nat.le_of_ble_eq_true rfl) ?_
  intro G X hI hZ hV hR
  have hRet := hI rfl r rfl
  refine (show TM G r (mX0_highestPlace h x1) (wX ad dA tt h) 0 0 0 [(0, .ref (ad 100)), (1, .int x1)] [] from ?_) hm
  clear hm hI hZ hV hR
  unfold mX0_highestPlace
  refine tm_iconst X (0 : Int32) dX0_highestPlace_0 (by decide) ?_
  refine tm_istore_n X [(2, .int (0 : Int32)), (0, .ref (ad 100)), (1, .int x1)] dX0_highestPlace_1 rfl (Nat.le_of_ble_eq_true rfl) rfl ?_
  refine tm_iconst X (1 : Int32) dX0_highestPlace_2 (by decide) ?_
  refine tm_istore_n X [(3, .int (1 : Int32)), (2, .int (0 : Int32)), (0, .ref (ad 100)), (1, .int x1)] dX0_highestPlace_3 rfl (Nat.le_of_ble_eq_true rfl) rfl ?_
  refine tm_lv X [2, 3, 1, 0] rfl ?_
  refine fx_P (fun (k : Int32 → Int32 → Option (Int32)) => ∀ (x2_1 : Int32) (x3_2 : Int32), TM G r (k x2_1 x3_2) (wX ad dA tt h) 0 0 4 [(0, .ref (ad 100)), (1, .int x1), (2, .int x2_1), (3, .int x3_2)] []) (fun _ _ => tm_none) (fun k4 hk4 x2_1 x3_2 => ?_) FU (0 : Int32) (1 : Int32)
  refine tm_iload_n X 3 dX0_highestPlace_4 rfl rfl ?_
  refine tm_bipush X (48 : Int32) dX0_highestPlace_5 (by decide) ?_
  refine tm_ic_ge X 43 dX0_highestPlace_7 rfl ?_ ?_
  · skip
    refine tm_iload_n X 2 dX0_highestPlace_43 rfl rfl ?_
    exact tm_retI hRet dX0_highestPlace_44
  · skip
    refine tm_aload_n X 0 dX0_highestPlace_10 rfl rfl ?_
    refine tm_getR X (frX_100_5 ad dA tt h) in_X0 rfl (Nat.le_of_ble_eq_true rfl) q242 rfl dX0_highestPlace_11 ?_
    refine tm_getRN X (frX_40_0 ad dA tt h) in_X3 rfl (Nat.le_of_ble_eq_true rfl) q179 rfl dX0_highestPlace_14 ?_
    refine tm_iload_n X 1 dX0_highestPlace_17 rfl rfl ?_
    refine tm_aaloadX X (aaX_41 ad dA tt h) dX0_highestPlace_18 (fun hb3 => ?_)
    refine tm_iload_n X 3 dX0_highestPlace_19 rfl rfl ?_
    refine tm_iaload X (ar2X_42 ad dA tt _ hb3) dX0_highestPlace_20 ?_
    refine tm_aload_n X 0 dX0_highestPlace_21 rfl rfl ?_
    refine tm_getR X (frX_100_5 ad dA tt h) in_X0 rfl (Nat.le_of_ble_eq_true rfl) q242 rfl dX0_highestPlace_22 ?_
    refine tm_getRN X (frX_40_0 ad dA tt h) in_X3 rfl (Nat.le_of_ble_eq_true rfl) q179 rfl dX0_highestPlace_25 ?_
    refine tm_iload_n X 1 dX0_highestPlace_28 rfl rfl ?_
    refine tm_aaloadX X (aaX_41 ad dA tt h) dX0_highestPlace_29 (fun hb4 => ?_)
    refine tm_iload_n X 2 dX0_highestPlace_30 rfl rfl ?_
    refine tm_iaload X (ar2X_42 ad dA tt _ hb4) dX0_highestPlace_31 ?_
    refine tm_let (fun k => ∀ (x2_5 : Int32), TM G r (k x2_5) (wX ad dA tt h) 0 0 37 [(0, .ref (ad 100)), (1, .int x1), (2, .int x2_5), (3, .int x3_2)] []) ?_ (fun k37 hk37 => ?_)
    · intro x2_5
      refine tm_iinc (v := (1 : Int32)) X 3 [(3, .int (x3_2 + (1 : Int32))), (0, .ref (ad 100)), (1, .int x1), (2, .int x2_5)] dX0_highestPlace_37 rfl (by decide) (Nat.le_of_ble_eq_true rfl) rfl ?_
      refine tm_goto X 4 dX0_highestPlace_40 rfl ?_
      refine tm_lv X [1, 2, 3, 0] rfl ?_
      exact hk4 x2_5 (x3_2 + (1 : Int32))
    · skip
      refine tm_ic_le X 37 dX0_highestPlace_32 rfl ?_ ?_
      · skip
        exact hk37 x2_1
      · skip
        refine tm_iload_n X 3 dX0_highestPlace_35 rfl rfl ?_
        refine tm_istore_n X [(2, .int x3_2), (0, .ref (ad 100)), (1, .int x1), (3, .int x3_2)] dX0_highestPlace_36 rfl (Nat.le_of_ble_eq_true rfl) rfl ?_
        refine tm_lv X [1, 2, 0, 3] rfl ?_
        exact hk37 x3_2
def mX0_castIs (h : Hp) (x1 : Int32) (x2 : Int32) : Option (Int32) :=
cl1 (mX0_isCast x1) (fun r1 =>
if r1 = 0 then (
some (-1 : Int32)) else (
if x2 = (0 : Int32) then (
cl1 (mX0_extremes h x1 (1 : Int32)) (fun r4 =>
some r4)) else (
if x2 = (1 : Int32) then (
cl1 (mX0_extremes h x1 (0 : Int32)) (fun r7 =>
some r7)) else (
if x2 = (2 : Int32) then (
cl1 (mX0_overOf h x1 (0 : Int32)) (fun r10 =>
some r10)) else (
if x2 = (3 : Int32) then (
cl1 (mX0_highestPlace h x1) (fun r13 =>
some r13)) else (
if x2 = (4 : Int32) then (
ck x1 2 (
some (h 44 x1.toNatClampNeg))) else (
some (-1 : Int32))))))))
theorem cyX0_castIs : Callee yX0_castIs 2 := by unfold Callee; decide +kernel
set_option maxHeartbeats 4000000 in
theorem ctX0_castIs (l : Launch) (D : va_G) (ad : Nat → Nat) (dA : Nat → ClassId) (tt : (Nat → Option Nat) × (Nat → Option Nat) × va_W) (h : Hp) (x1 : Int32) (x2 : Int32) (r : Int32) (hm : mX0_castIs h x1 x2 = some r) : CT l yX0_castIs cX0_castIs 3 (some .int) D dA 5 113 0 0 (wX ad dA tt h) [.ref (ad 100), .int x1, .int x2] (some (.int r)) (wX ad dA tt h) := by
  refine ct_open (by decide) (Nat.le_of_ble_eq_true rfl) ?_
  intro G X hI hZ hV hR
  have hRet := hI rfl r rfl
  refine (show TM G r (mX0_castIs h x1 x2) (wX ad dA tt h) 0 0 0 [(0, .ref (ad 100)), (1, .int x1), (2, .int x2)] [] from ?_) hm
  clear hm hI hZ hV hR
  unfold mX0_castIs
  refine tm_iload_n X 1 dX0_castIs_0 rfl rfl ?_
  refine tm_cl1 (fun r1 e2 => ?_)
  refine tm_callSi (As := [.int x1]) (rest := []) X (ctX0_isCast l D dA x1 r1 e2) (lw_S q308 q309 q117 q310) cyX0_isCast rfl ⟨(Nat.le_of_ble_eq_true rfl), (Nat.le_of_ble_eq_true rfl)⟩ (Nat.le_of_ble_eq_true rfl) dX0_castIs_1 ⟨Nat.le_of_ble_eq_true rfl, Nat.le_of_ble_eq_true rfl⟩ rfl ?_
  refine tm_if_ne X 9 dX0_castIs_4 rfl ?_ ?_
  · skip
    refine tm_iload_n X 2 dX0_castIs_9 rfl rfl ?_
    refine tm_sw (j := 0) (0 : Int32) 44 X dX0_castIs_10 (by decide) (by decide) rfl rfl ?_ (fun hs5 => ?_)
    · skip
      refine tm_aload_n X 0 dX0_castIs_44 rfl rfl ?_
      refine tm_iload_n X 1 dX0_castIs_45 rfl rfl ?_
      refine tm_iconst X (1 : Int32) dX0_castIs_46 (by decide) ?_
      refine tm_cl1 (fun r4 e3 => ?_)
      refine tm_callVi (As := [.int x1, .int (1 : Int32)]) (rest := []) (q0 := 0) X (ctX0_extremes l D ad dA tt h x1 (1 : Int32) r4 e3) (lw_V q990 q992 qs36 q117 q993) cyX0_extremes rfl rfl rfl ⟨(Nat.le_of_ble_eq_true rfl), (Nat.le_of_ble_eq_true rfl)⟩ (Nat.le_of_ble_eq_true rfl) dX0_castIs_47 ⟨Nat.le_of_ble_eq_true rfl, Nat.le_of_ble_eq_true rfl⟩ rfl ?_
      exact tm_retI hRet dX0_castIs_50
    refine tm_sw (j := 1) (1 : Int32) 51 X dX0_castIs_10 (by decide) (by decide) rfl rfl ?_ (fun hs8 => ?_)
    · skip
      refine tm_aload_n X 0 dX0_castIs_51 rfl rfl ?_
      refine tm_iload_n X 1 dX0_castIs_52 rfl rfl ?_
      refine tm_iconst X (0 : Int32) dX0_castIs_53 (by decide) ?_
      refine tm_cl1 (fun r7 e6 => ?_)
      refine tm_callVi (As := [.int x1, .int (0 : Int32)]) (rest := []) (q0 := 0) X (ctX0_extremes l D ad dA tt h x1 (0 : Int32) r7 e6) (lw_V q990 q992 qs36 q117 q993) cyX0_extremes rfl rfl rfl ⟨(Nat.le_of_ble_eq_true rfl), (Nat.le_of_ble_eq_true rfl)⟩ (Nat.le_of_ble_eq_true rfl) dX0_castIs_54 ⟨Nat.le_of_ble_eq_true rfl, Nat.le_of_ble_eq_true rfl⟩ rfl ?_
      exact tm_retI hRet dX0_castIs_57
    refine tm_sw (j := 2) (2 : Int32) 58 X dX0_castIs_10 (by decide) (by decide) rfl rfl ?_ (fun hs11 => ?_)
    · skip
      refine tm_aload_n X 0 dX0_castIs_58 rfl rfl ?_
      refine tm_iload_n X 1 dX0_castIs_59 rfl rfl ?_
      refine tm_iconst X (0 : Int32) dX0_castIs_60 (by decide) ?_
      refine tm_cl1 (fun r10 e9 => ?_)
      refine tm_callVi (As := [.int x1, .int (0 : Int32)]) (rest := []) (q0 := 0) X (ctX0_overOf l D ad dA tt h x1 (0 : Int32) r10 e9) (lw_V q899 q901 qs28 q117 q902) cyX0_overOf rfl rfl rfl ⟨(Nat.le_of_ble_eq_true rfl), (Nat.le_of_ble_eq_true rfl)⟩ (Nat.le_of_ble_eq_true rfl) dX0_castIs_61 ⟨Nat.le_of_ble_eq_true rfl, Nat.le_of_ble_eq_true rfl⟩ rfl ?_
      exact tm_retI hRet dX0_castIs_64
    refine tm_sw (j := 3) (3 : Int32) 65 X dX0_castIs_10 (by decide) (by decide) rfl rfl ?_ (fun hs14 => ?_)
    · skip
      refine tm_aload_n X 0 dX0_castIs_65 rfl rfl ?_
      refine tm_iload_n X 1 dX0_castIs_66 rfl rfl ?_
      refine tm_cl1 (fun r13 e12 => ?_)
      refine tm_callVi (As := [.int x1]) (rest := []) (q0 := 0) X (ctX0_highestPlace l D ad dA tt h x1 r13 e12) (lw_V q998 q1000 qs38 q117 q1001) cyX0_highestPlace rfl rfl rfl ⟨(Nat.le_of_ble_eq_true rfl), (Nat.le_of_ble_eq_true rfl)⟩ (Nat.le_of_ble_eq_true rfl) dX0_castIs_67 ⟨Nat.le_of_ble_eq_true rfl, Nat.le_of_ble_eq_true rfl⟩ rfl ?_
      exact tm_retI hRet dX0_castIs_70
    refine tm_sw (j := 4) (4 : Int32) 71 X dX0_castIs_10 (by decide) (by decide) rfl rfl ?_ (fun hs15 => ?_)
    · skip
      refine tm_aload_n X 0 dX0_castIs_71 rfl rfl ?_
      refine tm_getR X (frX_100_5 ad dA tt h) in_X0 rfl (Nat.le_of_ble_eq_true rfl) q242 rfl dX0_castIs_72 ?_
      refine tm_getRN X (frX_40_1 ad dA tt h) in_X3 rfl (Nat.le_of_ble_eq_true rfl) q181 rfl dX0_castIs_75 ?_
      refine tm_iload_n X 1 dX0_castIs_78 rfl rfl ?_
      refine tm_iaload X (arX_44 ad dA tt) dX0_castIs_79 ?_
      exact tm_retI hRet dX0_castIs_80
    refine tm_swd 81 X dX0_castIs_10 (by have := ne_toInt hs5 (n := 0) (by decide); have := ne_toInt hs8 (n := 1) (by decide); have := ne_toInt hs11 (n := 2) (by decide); have := ne_toInt hs14 (n := 3) (by decide); have := ne_toInt hs15 (n := 4) (by decide); omega) rfl ?_
    refine tm_iconst X (-1 : Int32) dX0_castIs_81 (by decide) ?_
    exact tm_retI hRet dX0_castIs_82
  · skip
    refine tm_iconst X (-1 : Int32) dX0_castIs_7 (by decide) ?_
    exact tm_retI hRet dX0_castIs_8
def mX0_climbFrom : Nat → Hp → Int32 → Int32 → Option (Int32 × Hp)
  | 0, _, _, _ => none
  | d + 1, h, x1, x2 =>
    ck x2 48 (
    if (h 19 x2.toNatClampNeg) ≤ 0 then (
    fx FU (fun _ _ _ => none) (fun k21 (x3_1 : Int32) (x4_2 : Int32) (h3 : Hp) =>
    if (4 : Int32) ≤ x4_2 then (
    ck x2 48 (nm (u2 h3 19 x2.toNatClampNeg x3_1) (fun h4 =>
    some (x3_1, h4)))) else (
    cl1 (mX0_beside x2 x4_2) (fun r5 =>
    nm (fun (x3_7 : Int32) (h8 : Hp) =>
    k21 x3_7 (x4_2 + (1 : Int32)) h8) (fun k81 =>
    if r5 = (-1 : Int32) then (
    k81 x3_1 h3) else (
    ck x1 2 (
    ck r5 48 (
    ck x1 2 (
    ck x2 48 (
    if (h3 (42 + x1.toNatClampNeg) r5.toNatClampNeg) ≤ (h3 (42 + x1.toNatClampNeg) x2.toNatClampNeg) then (
    k81 x3_1 h3) else (
    cl2 (mX0_climbFrom d h3 x1 r5) (fun r12 h13 =>
    nm ((jmax x3_1 ((1 : Int32) + r12))) (fun v14 =>
    k81 v14 h13)))))))))))) (1 : Int32) (0 : Int32) h) else (
    ck x2 48 (
    some ((h 19 x2.toNatClampNeg), h))))
theorem cyX0_climbFrom : Callee yX0_climbFrom 2 := by unfold Callee; decide +kernel
set_option maxHeartbeats 4000000 in
theorem ctX0_climbFrom : ∀ (d : Nat) (l : Launch) (D : va_G) (ad : Nat → Nat) (dA : Nat → ClassId) (tt : (Nat → Option Nat) × (Nat → Option Nat) × va_W) (h : Hp) (x1 : Int32) (x2 : Int32) (r : Int32) (h' : Hp) (hm : mX0_climbFrom d h x1 x2 = some (r, h')), CT l yX0_climbFrom cX0_climbFrom 6 (some .int) D dA (3 + d * 1) (63 + d * 25) 0 0 (wX ad dA tt h) [.ref (ad 100), .int x1, .int x2] (some (.int r)) (wX ad dA tt h') := by
  intro d
  induction d with
  | zero =>
    intro l D ad dA tt h x1 x2 r h' hm
    cases hm
  | succ d ih =>
    intro l D ad dA tt h x1 x2 r h' hm
    refine ct_open (by decide) (Nat.le_of_ble_eq_true rfl) ?_
    intro G X hI hZ hV hR
    have hRet := hI rfl r rfl
    refine (show TM G (r, h') (mX0_climbFrom (d + 1) h x1 x2) (wX ad dA tt h) 0 0 0 [(0, .ref (ad 100)), (1, .int x1), (2, .int x2)] [] from ?_) hm
    clear hm hI hZ hV hR
    unfold mX0_climbFrom
    refine tm_aload_n X 0 dX0_climbFrom_0 rfl rfl ?_
    refine tm_getR X (frX_100_19 ad dA tt h) in_X0 rfl (Nat.le_of_ble_eq_true rfl) q259 rfl dX0_climbFrom_1 ?_
    refine tm_iload_n X 2 dX0_climbFrom_4 rfl rfl ?_
    refine tm_iaload X (arX_19 ad dA tt) dX0_climbFrom_5 ?_
    refine tm_if_le X 16 dX0_climbFrom_6 rfl ?_ ?_
    · skip
      refine tm_iconst X (1 : Int32) dX0_climbFrom_16 (by decide) ?_
      refine tm_istore_n X [(3, .int (1 : Int32)), (0, .ref (ad 100)), (1, .int x1), (2, .int x2)] dX0_climbFrom_17 rfl (Nat.le_of_ble_eq_true rfl) rfl ?_
      refine tm_iconst X (0 : Int32) dX0_climbFrom_18 (by decide) ?_
      refine tm_istore X [(4, .int (0 : Int32)), (3, .int (1 : Int32)), (0, .ref (ad 100)), (1, .int x1), (2, .int x2)] dX0_climbFrom_19 (Nat.le_of_ble_eq_true rfl) rfl ?_
      refine tm_lv X [2, 3, 4, 1, 0] rfl ?_
      refine fx_P (fun (k : Int32 → Int32 → Hp → Option (Int32 × Hp)) => ∀ (x3_1 : Int32) (x4_2 : Int32) (h3 : Hp), TM G (r, h') (k x3_1 x4_2 h3) (wX ad dA tt h3) 0 0 21 [(0, .ref (ad 100)), (1, .int x1), (2, .int x2), (3, .int x3_1), (4, .int x4_2)] []) (fun _ _ _ => tm_none) (fun k21 hk21 x3_1 x4_2 h3 => ?_) FU (1 : Int32) (0 : Int32) h
      refine tm_iload X 4 dX0_climbFrom_21 rfl ?_
      refine tm_iconst X (4 : Int32) dX0_climbFrom_23 (by decide) ?_
      refine tm_ic_ge X 87 dX0_climbFrom_24 rfl ?_ ?_
      · skip
        refine tm_aload_n X 0 dX0_climbFrom_87 rfl rfl ?_
        refine tm_getR X (frX_100_19 ad dA tt h3) in_X0 rfl (Nat.le_of_ble_eq_true rfl) q259 rfl dX0_climbFrom_88 ?_
        refine tm_iload_n X 2 dX0_climbFrom_91 rfl rfl ?_
        refine tm_iload_n X 3 dX0_climbFrom_92 rfl rfl ?_
        refine tm_iastore X (arX_19 ad dA tt) dX0_climbFrom_93 (fun h4 => ?_)
        refine tm_iload_n X 3 dX0_climbFrom_94 rfl rfl ?_
        exact tm_retIH (wf := wX ad dA tt) hRet dX0_climbFrom_95
      · skip
        refine tm_iload_n X 2 dX0_climbFrom_27 rfl rfl ?_
        refine tm_iload X 4 dX0_climbFrom_28 rfl ?_
        refine tm_cl1 (fun r5 e6 => ?_)
        refine tm_callSi (As := [.int x2, .int x4_2]) (rest := []) X (ctX0_beside l D dA x2 x4_2 r5 e6) (lw_S q932 q933 q117 q934) cyX0_beside rfl ⟨(by omega), (by omega)⟩ (Nat.le_of_ble_eq_true rfl) dX0_climbFrom_30 ⟨Nat.le_of_ble_eq_true rfl, Nat.le_of_ble_eq_true rfl⟩ rfl ?_
        refine tm_istore X [(5, .int r5), (0, .ref (ad 100)), (1, .int x1), (2, .int x2), (3, .int x3_1), (4, .int x4_2)] dX0_climbFrom_33 (Nat.le_of_ble_eq_true rfl) rfl ?_
        refine tm_iload X 0 dX0_climbFrom_35 rfl ?_
        refine tm_iconst X (-1 : Int32) dX0_climbFrom_37 (by decide) ?_
        refine tm_let (fun k => ∀ (x3_7 : Int32) (h8 : Hp), TM G (r, h') (k x3_7 h8) (wX ad dA tt h8) 0 0 81 [(0, .ref (ad 100)), (1, .int x1), (2, .int x2), (3, .int x3_7), (4, .int x4_2)] []) ?_ (fun k81 hk81 => ?_)
        · intro x3_7 h8
          refine tm_iinc (v := (1 : Int32)) X 4 [(4, .int (x4_2 + (1 : Int32))), (0, .ref (ad 100)), (1, .int x1), (2, .int x2), (3, .int x3_7)] dX0_climbFrom_81 rfl (by decide) (Nat.le_of_ble_eq_true rfl) rfl ?_
          refine tm_goto X 21 dX0_climbFrom_84 rfl ?_
          refine tm_lv X [1, 2, 3, 4, 0] rfl ?_
          exact hk21 x3_7 (x4_2 + (1 : Int32)) h8
        · skip
          refine tm_ic_eq X 81 dX0_climbFrom_38 rfl ?_ ?_
          · skip
            refine tm_lv X [1, 2, 3, 4, 5] rfl ?_
            exact hk81 x3_1 h3
          · skip
            refine tm_aload_n X 1 dX0_climbFrom_41 rfl rfl ?_
            refine tm_getR X (frX_100_5 ad dA tt h3) in_X0 rfl (Nat.le_of_ble_eq_true rfl) q242 rfl dX0_climbFrom_42 ?_
            refine tm_getRN X (frX_40_0 ad dA tt h3) in_X3 rfl (Nat.le_of_ble_eq_true rfl) q179 rfl dX0_climbFrom_45 ?_
            refine tm_iload_n X 2 dX0_climbFrom_48 rfl rfl ?_
            refine tm_aaloadX X (aaX_41 ad dA tt h3) dX0_climbFrom_49 (fun hb9 => ?_)
            refine tm_iload X 0 dX0_climbFrom_50 rfl ?_
            refine tm_iaload X (ar2X_42 ad dA tt _ hb9) dX0_climbFrom_52 ?_
            refine tm_aload_n X 1 dX0_climbFrom_53 rfl rfl ?_
            refine tm_getR X (frX_100_5 ad dA tt h3) in_X0 rfl (Nat.le_of_ble_eq_true rfl) q242 rfl dX0_climbFrom_54 ?_
            refine tm_getRN X (frX_40_0 ad dA tt h3) in_X3 rfl (Nat.le_of_ble_eq_true rfl) q179 rfl dX0_climbFrom_57 ?_
            refine tm_iload_n X 2 dX0_climbFrom_60 rfl rfl ?_
            refine tm_aaloadX X (aaX_41 ad dA tt h3) dX0_climbFrom_61 (fun hb10 => ?_)
            refine tm_iload_n X 3 dX0_climbFrom_62 rfl rfl ?_
            refine tm_iaload X (ar2X_42 ad dA tt _ hb10) dX0_climbFrom_63 ?_
            refine tm_ic_le X 81 dX0_climbFrom_64 rfl ?_ ?_
            · skip
              refine tm_lv X [1, 2, 3, 4, 5] rfl ?_
              exact hk81 x3_1 h3
            · skip
              refine tm_iload_n X 4 dX0_climbFrom_67 rfl rfl ?_
              refine tm_iconst X (1 : Int32) dX0_climbFrom_68 (by decide) ?_
              refine tm_aload_n X 1 dX0_climbFrom_69 rfl rfl ?_
              refine tm_iload_n X 2 dX0_climbFrom_70 rfl rfl ?_
              refine tm_iload X 0 dX0_climbFrom_71 rfl ?_
              refine tm_cl2 (fun r12 h13 e11 => ?_)
              refine tm_callVi (As := [.int x1, .int r5]) (rest := [.int (1 : Int32), .int x3_1]) (q0 := 0) X (ih l D ad dA tt h3 x1 r5 r12 h13 e11) (lw_V q1006 q1008 qs39 q117 q1009) cyX0_climbFrom rfl rfl rfl ⟨(by omega), (by omega)⟩ (Nat.le_of_ble_eq_true rfl) dX0_climbFrom_73 ⟨Nat.le_of_ble_eq_true rfl, Nat.le_of_ble_eq_true rfl⟩ rfl ?_
              refine tm_iadd X dX0_climbFrom_76 ?_
              refine tm_mmax X q878 (by omega) (Nat.le_trans (m := 21) (Nat.le_of_ble_eq_true rfl) (by omega)) ⟨Nat.le_of_ble_eq_true rfl, Nat.le_of_ble_eq_true rfl⟩ dX0_climbFrom_77 ?_
              refine tm_nmI (fun v14 => ?_)
              refine tm_istore_n X [(3, .int v14), (5, .int r5), (0, .ref (ad 100)), (1, .int x1), (2, .int x2), (4, .int x4_2)] dX0_climbFrom_80 rfl (Nat.le_of_ble_eq_true rfl) rfl ?_
              refine tm_lv X [2, 3, 4, 0, 5] rfl ?_
              exact hk81 v14 h13
    · skip
      refine tm_aload_n X 0 dX0_climbFrom_9 rfl rfl ?_
      refine tm_getR X (frX_100_19 ad dA tt h) in_X0 rfl (Nat.le_of_ble_eq_true rfl) q259 rfl dX0_climbFrom_10 ?_
      refine tm_iload_n X 2 dX0_climbFrom_13 rfl rfl ?_
      refine tm_iaload X (arX_19 ad dA tt) dX0_climbFrom_14 ?_
      exact tm_retIH (wf := wX ad dA tt) hRet dX0_climbFrom_15
