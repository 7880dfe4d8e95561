set_option maxRecDepth 100000
def mX0_beside (x0 : Int32) (x1 : Int32) : Option (Int32) :=
nm (fun (s1 : Int32) =>
nm (fun (s2 : Int32) =>
cl1 (mX0_placeAt ((jrem x0 (8 : Int32)) + s1) ((x0 / (8 : Int32)) + s2)) (fun r3 =>
some r3)) (fun k46 =>
if x1 = (2 : Int32) then (
k46 (-1 : Int32)) else (
if x1 = (3 : Int32) then (
k46 (1 : Int32)) else (
k46 (0 : Int32))))) (fun k22 =>
if x1 = 0 then (
k22 (-1 : Int32)) else (
if x1 = (1 : Int32) then (
k22 (1 : Int32)) else (
k22 (0 : Int32))))
theorem cyX0_beside : Callee yX0_beside 2 := by unfold Callee; decide +kernel
set_option maxHeartbeats 4000000 in
theorem ctX0_beside (l : Launch) (D : va_G) (dA : Nat → ClassId) (x0 : Int32) (x1 : Int32) (r : Int32) (hm : mX0_beside x0 x1 = some r) : CT l yX0_beside cX0_beside 2 (some .int) D dA 2 42 0 0 [] [.int x0, .int x1] (some (.int r)) [] := by
  refine ct_open (by decide) (Nat.le_of_ble_eq_true rfl) ?_
  intro G X hI hZ hV hR
  have hRet := hI rfl r rfl
  refine (show TM G r (mX0_beside x0 x1) [] 0 0 0 [(0, .int x0), (1, .int x1)] [] from ?_) hm
  clear hm hI hZ hV hR
  unfold mX0_beside
  refine tm_iload_n X 0 dX0_beside_0 rfl rfl ?_
  refine tm_bipush X (8 : Int32) dX0_beside_1 (by decide) ?_
  refine tm_irem X dX0_beside_3 (by decide) ?_
  refine tm_iload_n X 1 dX0_beside_4 rfl rfl ?_
  refine tm_let (fun k => ∀ (s1 : Int32), TM G r (k s1) [] 0 0 22 [(0, .int x0), (1, .int x1)] [.int s1, .int (jrem x0 (8 : Int32))]) ?_ (fun k22 hk22 => ?_)
  · intro s1
    refine tm_iadd X dX0_beside_22 ?_
    refine tm_iload_n X 0 dX0_beside_23 rfl rfl ?_
    refine tm_bipush X (8 : Int32) dX0_beside_24 (by decide) ?_
    refine tm_idiv X dX0_beside_26 (by decide) ?_
    refine tm_iload_n X 1 dX0_beside_27 rfl rfl ?_
    refine tm_iconst X (2 : Int32) dX0_beside_28 (by decide) ?_
    refine tm_let (fun k => ∀ (s2 : Int32), TM G r (k s2) [] 0 0 46 [] [.int s2, .int (x0 / (8 : Int32)), .int ((jrem x0 (8 : Int32)) + s1)]) ?_ (fun k46 hk46 => ?_)
    · intro s2
      refine tm_iadd X dX0_beside_46 ?_
      refine tm_cl1 (fun r3 e4 => ?_)
      refine tm_callSi (As := [.int ((jrem x0 (8 : Int32)) + s1), .int ((x0 / (8 : Int32)) + s2)]) (rest := []) X (ctX0_placeAt l D dA ((jrem x0 (8 : Int32)) + s1) ((x0 / (8 : Int32)) + s2) r3 e4) (lw_S q825 q826 q117 q827) cyX0_placeAt rfl ⟨(Nat.le_of_ble_eq_true rfl), (Nat.le_of_ble_eq_true rfl)⟩ (Nat.le_of_ble_eq_true rfl) dX0_beside_47 ⟨Nat.le_of_ble_eq_true rfl, Nat.le_of_ble_eq_true rfl⟩ rfl ?_
      exact tm_retI hRet dX0_beside_50
    · skip
      refine tm_ic_ne X 36 dX0_beside_29 rfl ?_ ?_
      · skip
        refine tm_iload_n X 1 dX0_beside_36 rfl rfl ?_
        refine tm_iconst X (3 : Int32) dX0_beside_37 (by decide) ?_
        refine tm_ic_ne X 45 dX0_beside_38 rfl ?_ ?_
        · skip
          refine tm_iconst X (0 : Int32) dX0_beside_45 (by decide) ?_
          refine tm_lv X [] rfl ?_
          exact hk46 (0 : Int32)
        · skip
          refine tm_iconst X (1 : Int32) dX0_beside_41 (by decide) ?_
          refine tm_goto X 46 dX0_beside_42 rfl ?_
          refine tm_lv X [] rfl ?_
          exact hk46 (1 : Int32)
      · skip
        refine tm_iconst X (-1 : Int32) dX0_beside_32 (by decide) ?_
        refine tm_goto X 46 dX0_beside_33 rfl ?_
        refine tm_lv X [] rfl ?_
        exact hk46 (-1 : Int32)
  · skip
    refine tm_if_ne X 12 dX0_beside_5 rfl ?_ ?_
    · skip
      refine tm_iload_n X 1 dX0_beside_12 rfl rfl ?_
      refine tm_iconst X (1 : Int32) dX0_beside_13 (by decide) ?_
      refine tm_ic_ne X 21 dX0_beside_14 rfl ?_ ?_
      · skip
        refine tm_iconst X (0 : Int32) dX0_beside_21 (by decide) ?_
        exact hk22 (0 : Int32)
      · skip
        refine tm_iconst X (1 : Int32) dX0_beside_17 (by decide) ?_
        refine tm_goto X 22 dX0_beside_18 rfl ?_
        exact hk22 (1 : Int32)
    · skip
      refine tm_iconst X (-1 : Int32) dX0_beside_8 (by decide) ?_
      refine tm_goto X 22 dX0_beside_9 rfl ?_
      exact hk22 (-1 : Int32)
def mX0_takesSpot (h : Hp) (x1 : Int32) : Option (Int32 × Hp) :=
nm (u2 h 17 0 x1) (fun h1 =>
ck x1 48 (nm (u2 h1 16 x1.toNatClampNeg (vp_nar .boolean (1 : Int32))) (fun h2 =>
fx FU (fun _ _ _ => none) (fun k18 (x2_3 : Int32) (x3_4 : Int32) (h5 : Hp) =>
if x2_3 ≤ x3_4 then (
some (x2_3, h5)) else (
fx FU (fun _ _ _ => none) (fun k26 (x2_6 : Int32) (x4_7 : Int32) (h8 : Hp) =>
if (4 : Int32) ≤ x4_7 then (
k18 x2_6 (x3_4 + (1 : Int32)) h8) else (
ck x3_4 48 (
cl1 (mX0_beside (h8 17 x3_4.toNatClampNeg) x4_7) (fun r9 =>
nm (fun (x2_11 : Int32) (h12 : Hp) =>
k26 x2_11 (x4_7 + (1 : Int32)) h12) (fun k93 =>
if r9 = (-1 : Int32) then (
k93 x2_6 h8) else (
ck r9 48 (
if (h8 16 r9.toNatClampNeg) = 0 then (
ck r9 48 (
if (h8 2 r9.toNatClampNeg) = 0 then (
k93 x2_6 h8) else (
ck r9 48 (nm (u2 h8 16 r9.toNatClampNeg (vp_nar .boolean (1 : Int32))) (fun h13 =>
ck x2_6 48 (nm (u2 h13 17 x2_6.toNatClampNeg r9) (fun h14 =>
k93 (x2_6 + (1 : Int32)) h14))))))) else (
k93 x2_6 h8)))))))) x2_3 (0 : Int32) h5)) (1 : Int32) (0 : Int32) h2)))
theorem cyX0_takesSpot : Callee yX0_takesSpot 1 := by unfold Callee; decide +kernel
set_option maxHeartbeats 4000000 in
theorem ctX0_takesSpot (l : Launch) (D : va_G) (ad : Nat → Nat) (dA : Nat → ClassId) (tt : (Nat → Option Nat) × (Nat → Option Nat) × va_W) (h : Hp) (x1 : Int32) (r : Int32) (h' : Hp) (hm : mX0_takesSpot h x1 = some (r, h')) : CT l yX0_takesSpot cX0_takesSpot 6 (some .int) D dA 3 63 0 0 (wX ad dA tt h) [.ref (ad 100), .int x1] (some (.int r)) (wX ad dA tt h') := by
  refine ct_open (by decide) (Nat.le_of_ble_eq_true rfl) ?_
  intro G X hI hZ hV hR
  have hRet := hI rfl r rfl
  refine (show TM G (r, h') (mX0_takesSpot h x1) (wX ad dA tt h) 0 0 0 [(0, .ref (ad 100)), (1, .int x1)] [] from ?_) hm
  clear hm hI hZ hV hR
  unfold mX0_takesSpot
  refine tm_aload_n X 0 dX0_takesSpot_0 rfl rfl ?_
  refine tm_getR X (frX_100_17 ad dA tt h) in_X0 rfl (Nat.le_of_ble_eq_true rfl) q257 rfl dX0_takesSpot_1 ?_
  refine tm_iconst X (0 : Int32) dX0_takesSpot_4 (by decide) ?_
  refine tm_iload_n X 1 dX0_takesSpot_5 rfl rfl ?_
  refine tm_iastoreL (j := 0) X (arX_17 ad dA tt) (by unfold vp_in; decide) (by decide) dX0_takesSpot_6 (fun h1 => ?_)
  refine tm_aload_n X 0 dX0_takesSpot_7 rfl rfl ?_
  refine tm_getR X (frX_100_16 ad dA tt h1) in_X0 rfl (Nat.le_of_ble_eq_true rfl) q256 rfl dX0_takesSpot_8 ?_
  refine tm_iload_n X 1 dX0_takesSpot_11 rfl rfl ?_
  refine tm_iconst X (1 : Int32) dX0_takesSpot_12 (by decide) ?_
  refine tm_bastoreZ X (arX_16 ad dA tt) dX0_takesSpot_13 (fun h2 => ?_)
  refine tm_iconst X (1 : Int32) dX0_takesSpot_14 (by decide) ?_
  refine tm_istore_n X [(2, .int (1 : Int32)), (0, .ref (ad 100)), (1, .int x1)] dX0_takesSpot_15 rfl (Nat.le_of_ble_eq_true rfl) rfl ?_
  refine tm_iconst X (0 : Int32) dX0_takesSpot_16 (by decide) ?_
  refine tm_istore_n X [(3, .int (0 : Int32)), (2, .int (1 : Int32)), (0, .ref (ad 100)), (1, .int x1)] dX0_takesSpot_17 rfl (Nat.le_of_ble_eq_true rfl) rfl ?_
  refine tm_lv X [2, 1, 0] rfl ?_
  refine fx_P (fun (k : Int32 → Int32 → Hp → Option (Int32 × Hp)) => ∀ (x2_3 : Int32) (x3_4 : Int32) (h5 : Hp), TM G (r, h') (k x2_3 x3_4 h5) (wX ad dA tt h5) 0 0 18 [(0, .ref (ad 100)), (2, .int x2_3), (3, .int x3_4)] []) (fun _ _ _ => tm_none) (fun k18 hk18 x2_3 x3_4 h5 => ?_) FU (1 : Int32) (0 : Int32) h2
  refine tm_iload_n X 2 dX0_takesSpot_18 rfl rfl ?_
  refine tm_iload_n X 1 dX0_takesSpot_19 rfl rfl ?_
  refine tm_ic_ge X 105 dX0_takesSpot_20 rfl ?_ ?_
  · skip
    refine tm_iload_n X 1 dX0_takesSpot_105 rfl rfl ?_
    exact tm_retIH (wf := wX ad dA tt) hRet dX0_takesSpot_106
  · skip
    refine tm_iconst X (0 : Int32) dX0_takesSpot_23 (by decide) ?_
    refine tm_istore X [(4, .int (0 : Int32)), (0, .ref (ad 100)), (2, .int x2_3), (3, .int x3_4)] dX0_takesSpot_24 (Nat.le_of_ble_eq_true rfl) rfl ?_
    refine tm_lv X [1, 2, 3, 0] rfl ?_
    refine fx_P (fun (k : Int32 → Int32 → Hp → Option (Int32 × Hp)) => ∀ (x2_6 : Int32) (x4_7 : Int32) (h8 : Hp), TM G (r, h') (k x2_6 x4_7 h8) (wX ad dA tt h8) 0 0 26 [(0, .ref (ad 100)), (2, .int x2_6), (3, .int x3_4), (4, .int x4_7)] []) (fun _ _ _ => tm_none) (fun k26 hk26 x2_6 x4_7 h8 => ?_) FU x2_3 (0 : Int32) h5
    refine tm_iload X 3 dX0_takesSpot_26 rfl ?_
    refine tm_iconst X (4 : Int32) dX0_takesSpot_28 (by decide) ?_
    refine tm_ic_ge X 99 dX0_takesSpot_29 rfl ?_ ?_
    · skip
      refine tm_iinc (v := (1 : Int32)) X 2 [(3, .int (x3_4 + (1 : Int32))), (0, .ref (ad 100)), (2, .int x2_6), (4, .int x4_7)] dX0_takesSpot_99 rfl (by decide) (Nat.le_of_ble_eq_true rfl) rfl ?_
      refine tm_goto X 18 dX0_takesSpot_102 rfl ?_
      refine tm_lv X [1, 2, 0] rfl ?_
      exact hk18 x2_6 (x3_4 + (1 : Int32)) h8
    · skip
      refine tm_aload_n X 0 dX0_takesSpot_32 rfl rfl ?_
      refine tm_getR X (frX_100_17 ad dA tt h8) in_X0 rfl (Nat.le_of_ble_eq_true rfl) q257 rfl dX0_takesSpot_33 ?_
      refine tm_iload_n X 2 dX0_takesSpot_36 rfl rfl ?_
      refine tm_iaload X (arX_17 ad dA tt) dX0_takesSpot_37 ?_
      refine tm_iload X 3 dX0_takesSpot_38 rfl ?_
      refine tm_cl1 (fun r9 e10 => ?_)
      refine tm_callSi (As := [.int (h8 17 x3_4.toNatClampNeg), .int x4_7]) (rest := []) X (ctX0_beside l D dA (h8 17 x3_4.toNatClampNeg) x4_7 r9 e10) (lw_S q932 q933 q117 q934) cyX0_beside rfl ⟨(Nat.le_of_ble_eq_true rfl), (Nat.le_of_ble_eq_true rfl)⟩ (Nat.le_of_ble_eq_true rfl) dX0_takesSpot_40 ⟨Nat.le_of_ble_eq_true rfl, Nat.le_of_ble_eq_true rfl⟩ rfl ?_
      refine tm_istore X [(5, .int r9), (0, .ref (ad 100)), (2, .int x2_6), (3, .int x3_4), (4, .int x4_7)] dX0_takesSpot_43 (Nat.le_of_ble_eq_true rfl) rfl ?_
      refine tm_iload X 0 dX0_takesSpot_45 rfl ?_
      refine tm_iconst X (-1 : Int32) dX0_takesSpot_47 (by decide) ?_
      refine tm_let (fun k => ∀ (x2_11 : Int32) (h12 : Hp), TM G (r, h') (k x2_11 h12) (wX ad dA tt h12) 0 0 93 [(0, .ref (ad 100)), (2, .int x2_11), (3, .int x3_4), (4, .int x4_7)] []) ?_ (fun k93 hk93 => ?_)
      · intro x2_11 h12
        refine tm_iinc (v := (1 : Int32)) X 3 [(4, .int (x4_7 + (1 : Int32))), (0, .ref (ad 100)), (2, .int x2_11), (3, .int x3_4)] dX0_takesSpot_93 rfl (by decide) (Nat.le_of_ble_eq_true rfl) rfl ?_
        refine tm_goto X 26 dX0_takesSpot_96 rfl ?_
        refine tm_lv X [1, 2, 3, 0] rfl ?_
        exact hk26 x2_11 (x4_7 + (1 : Int32)) h12
      · skip
        refine tm_ic_eq X 93 dX0_takesSpot_48 rfl ?_ ?_
        · skip
          refine tm_lv X [1, 2, 3, 4] rfl ?_
          exact hk93 x2_6 h8
        · skip
          refine tm_aload_n X 1 dX0_takesSpot_51 rfl rfl ?_
          refine tm_getR X (frX_100_16 ad dA tt h8) in_X0 rfl (Nat.le_of_ble_eq_true rfl) q256 rfl dX0_takesSpot_52 ?_
          refine tm_iload X 0 dX0_takesSpot_55 rfl ?_
          refine tm_baloadZ X (arX_16 ad dA tt) dX0_takesSpot_57 ?_
          refine tm_if_ne X 93 dX0_takesSpot_58 rfl ?_ ?_
          · skip
            refine tm_lv X [1, 2, 3, 4] rfl ?_
            exact hk93 x2_6 h8
          · skip
            refine tm_aload_n X 1 dX0_takesSpot_61 rfl rfl ?_
            refine tm_getR X (frX_100_2 ad dA tt h8) in_X0 rfl (Nat.le_of_ble_eq_true rfl) q237 rfl dX0_takesSpot_62 ?_
            refine tm_iload X 0 dX0_takesSpot_65 rfl ?_
            refine tm_baloadZ X (arX_2 ad dA tt) dX0_takesSpot_67 ?_
            refine tm_if_ne X 74 dX0_takesSpot_68 rfl ?_ ?_
            · skip
              refine tm_aload_n X 1 dX0_takesSpot_74 rfl rfl ?_
              refine tm_getR X (frX_100_16 ad dA tt h8) in_X0 rfl (Nat.le_of_ble_eq_true rfl) q256 rfl dX0_takesSpot_75 ?_
              refine tm_iload X 0 dX0_takesSpot_78 rfl ?_
              refine tm_iconst X (1 : Int32) dX0_takesSpot_80 (by decide) ?_
              refine tm_bastoreZ X (arX_16 ad dA tt) dX0_takesSpot_81 (fun h13 => ?_)
              refine tm_aload_n X 1 dX0_takesSpot_82 rfl rfl ?_
              refine tm_getR X (frX_100_17 ad dA tt h13) in_X0 rfl (Nat.le_of_ble_eq_true rfl) q257 rfl dX0_takesSpot_83 ?_
              refine tm_iload_n X 2 dX0_takesSpot_86 rfl rfl ?_
              refine tm_iload X 0 dX0_takesSpot_87 rfl ?_
              refine tm_iastore X (arX_17 ad dA tt) dX0_takesSpot_89 (fun h14 => ?_)
              refine tm_iinc (v := (1 : Int32)) X 2 [(2, .int (x2_6 + (1 : Int32))), (5, .int r9), (0, .ref (ad 100)), (3, .int x3_4), (4, .int x4_7)] dX0_takesSpot_90 rfl (by decide) (Nat.le_of_ble_eq_true rfl) rfl ?_
              refine tm_lv X [2, 0, 3, 4] rfl ?_
              exact hk93 (x2_6 + (1 : Int32)) h14
            · skip
              refine tm_goto X 93 dX0_takesSpot_71 rfl ?_
              refine tm_lv X [1, 2, 3, 4] rfl ?_
              exact hk93 x2_6 h8
def mX0_groups (h : Hp) (x1 : Int32) : Option (Int32 × Hp) :=
fx FU (fun _ _ => none) (fun k2 (x2_1 : Int32) (h2 : Hp) =>
if (48 : Int32) ≤ x2_1 then (
fx FU (fun _ _ _ _ => none) (fun k28 (x2_3 : Int32) (x3_4 : Int32) (x4_5 : Int32) (h6 : Hp) =>
if (48 : Int32) ≤ x4_5 then (
nm (fun (s7 : Int32) =>
some (s7, h6)) (fun k87 =>
if x1 = 0 then (
k87 x2_3) else (
k87 x3_4))) else (
ck x4_5 48 (
nm (fun (x2_8 : Int32) (x3_9 : Int32) (h10 : Hp) =>
k28 x2_8 x3_9 (x4_5 + (1 : Int32)) h10) (fun k72 =>
if (h6 2 x4_5.toNatClampNeg) = 0 then (
k72 x2_3 x3_4 h6) else (
ck x4_5 48 (
if (h6 16 x4_5.toNatClampNeg) = 0 then (
cl2 (mX0_takesSpot h6 x4_5) (fun r12 h13 =>
nm ((jmax x3_4 r12)) (fun v14 =>
k72 (x2_3 + (1 : Int32)) v14 h13))) else (
k72 x2_3 x3_4 h6))))))) (0 : Int32) (0 : Int32) (0 : Int32) h2) else (
ck x2_1 48 (nm (u2 h2 16 x2_1.toNatClampNeg (vp_nar .boolean (0 : Int32))) (fun h15 =>
k2 (x2_1 + (1 : Int32)) h15)))) (0 : Int32) h
theorem cyX0_groups : Callee yX0_groups 1 := by unfold Callee; decide +kernel
set_option maxHeartbeats 4000000 in
theorem ctX0_groups (l : Launch) (D : va_G) (ad : Nat → Nat) (dA : Nat → ClassId) (tt : (Nat → Option Nat) × (Nat → Option Nat) × va_W) (h : Hp) (x1 : Int32) (r : Int32) (h' : Hp) (hm : mX0_groups h x1 = some (r, h')) : CT l yX0_groups cX0_groups 5 (some .int) D dA 4 88 0 0 (wX ad dA tt h) [.ref (ad 100), .int x1] (some (.int r)) (wX ad dA tt h') := by
  refine ct_open (by decide) (Nat.le_of_ble_eq_true rfl) ?_
  intro G X hI hZ hV hR
  have hRet := hI rfl r rfl
  refine (show TM G (r, h') (mX0_groups h x1) (wX ad dA tt h) 0 0 0 [(0, .ref (ad 100)), (1, .int x1)] [] from ?_) hm
  clear hm hI hZ hV hR
  unfold mX0_groups
  refine tm_iconst X (0 : Int32) dX0_groups_0 (by decide) ?_
  refine tm_istore_n X [(2, .int (0 : Int32)), (0, .ref (ad 100)), (1, .int x1)] dX0_groups_1 rfl (Nat.le_of_ble_eq_true rfl) rfl ?_
  refine tm_lv X [1, 2, 0] rfl ?_
  refine fx_P (fun (k : Int32 → Hp → Option (Int32 × Hp)) => ∀ (x2_1 : Int32) (h2 : Hp), TM G (r, h') (k x2_1 h2) (wX ad dA tt h2) 0 0 2 [(0, .ref (ad 100)), (1, .int x1), (2, .int x2_1)] []) (fun _ _ => tm_none) (fun k2 hk2 x2_1 h2 => ?_) FU (0 : Int32) h
  refine tm_iload_n X 2 dX0_groups_2 rfl rfl ?_
  refine tm_bipush X (48 : Int32) dX0_groups_3 (by decide) ?_
  refine tm_ic_ge X 21 dX0_groups_5 rfl ?_ ?_
  · skip
    refine tm_iconst X (0 : Int32) dX0_groups_21 (by decide) ?_
    refine tm_istore_n X [(2, .int (0 : Int32)), (0, .ref (ad 100)), (1, .int x1)] dX0_groups_22 rfl (Nat.le_of_ble_eq_true rfl) rfl ?_
    refine tm_iconst X (0 : Int32) dX0_groups_23 (by decide) ?_
    refine tm_istore_n X [(3, .int (0 : Int32)), (2, .int (0 : Int32)), (0, .ref (ad 100)), (1, .int x1)] dX0_groups_24 rfl (Nat.le_of_ble_eq_true rfl) rfl ?_
    refine tm_iconst X (0 : Int32) dX0_groups_25 (by decide) ?_
    refine tm_istore X [(4, .int (0 : Int32)), (3, .int (0 : Int32)), (2, .int (0 : Int32)), (0, .ref (ad 100)), (1, .int x1)] dX0_groups_26 (Nat.le_of_ble_eq_true rfl) rfl ?_
    refine tm_lv X [3, 4, 2, 1, 0] rfl ?_
    refine fx_P (fun (k : Int32 → Int32 → Int32 → Hp → Option (Int32 × Hp)) => ∀ (x2_3 : Int32) (x3_4 : Int32) (x4_5 : Int32) (h6 : Hp), TM G (r, h') (k x2_3 x3_4 x4_5 h6) (wX ad dA tt h6) 0 0 28 [(0, .ref (ad 100)), (1, .int x1), (2, .int x2_3), (3, .int x3_4), (4, .int x4_5)] []) (fun _ _ _ _ => tm_none) (fun k28 hk28 x2_3 x3_4 x4_5 h6 => ?_) FU (0 : Int32) (0 : Int32) (0 : Int32) h2
    refine tm_iload X 4 dX0_groups_28 rfl ?_
    refine tm_bipush X (48 : Int32) dX0_groups_30 (by decide) ?_
    refine tm_ic_ge X 78 dX0_groups_32 rfl ?_ ?_
    · skip
      refine tm_iload_n X 1 dX0_groups_78 rfl rfl ?_
      refine tm_let (fun k => ∀ (s7 : Int32), TM G (r, h') (k s7) (wX ad dA tt h6) 0 0 87 [] [.int s7]) ?_ (fun k87 hk87 => ?_)
      · intro s7
        exact tm_retIH (wf := wX ad dA tt) hRet dX0_groups_87
      · skip
        refine tm_if_ne X 86 dX0_groups_79 rfl ?_ ?_
        · skip
          refine tm_iload_n X 3 dX0_groups_86 rfl rfl ?_
          refine tm_lv X [] rfl ?_
          exact hk87 x3_4
        · skip
          refine tm_iload_n X 2 dX0_groups_82 rfl rfl ?_
          refine tm_goto X 87 dX0_groups_83 rfl ?_
          refine tm_lv X [] rfl ?_
          exact hk87 x2_3
    · skip
      refine tm_aload_n X 0 dX0_groups_35 rfl rfl ?_
      refine tm_getR X (frX_100_2 ad dA tt h6) in_X0 rfl (Nat.le_of_ble_eq_true rfl) q237 rfl dX0_groups_36 ?_
      refine tm_iload X 4 dX0_groups_39 rfl ?_
      refine tm_baloadZ X (arX_2 ad dA tt) dX0_groups_41 ?_
      refine tm_let (fun k => ∀ (x2_8 : Int32) (x3_9 : Int32) (h10 : Hp), TM G (r, h') (k x2_8 x3_9 h10) (wX ad dA tt h10) 0 0 72 [(0, .ref (ad 100)), (1, .int x1), (2, .int x2_8), (3, .int x3_9), (4, .int x4_5)] []) ?_ (fun k72 hk72 => ?_)
      · intro x2_8 x3_9 h10
        refine tm_iinc (v := (1 : Int32)) X 4 [(4, .int (x4_5 + (1 : Int32))), (0, .ref (ad 100)), (1, .int x1), (2, .int x2_8), (3, .int x3_9)] dX0_groups_72 rfl (by decide) (Nat.le_of_ble_eq_true rfl) rfl ?_
        refine tm_goto X 28 dX0_groups_75 rfl ?_
        refine tm_lv X [1, 2, 3, 4, 0] rfl ?_
        exact hk28 x2_8 x3_9 (x4_5 + (1 : Int32)) h10
      · skip
        refine tm_if_eq X 72 dX0_groups_42 rfl ?_ ?_
        · skip
          exact hk72 x2_3 x3_4 h6
        · skip
          refine tm_aload_n X 0 dX0_groups_45 rfl rfl ?_
          refine tm_getR X (frX_100_16 ad dA tt h6) in_X0 rfl (Nat.le_of_ble_eq_true rfl) q256 rfl dX0_groups_46 ?_
          refine tm_iload X 4 dX0_groups_49 rfl ?_
          refine tm_baloadZ X (arX_16 ad dA tt) dX0_groups_51 ?_
          refine tm_if_eq X 58 dX0_groups_52 rfl ?_ ?_
          · skip
            refine tm_iinc (v := (1 : Int32)) X 2 [(2, .int (x2_3 + (1 : Int32))), (0, .ref (ad 100)), (1, .int x1), (3, .int x3_4), (4, .int x4_5)] dX0_groups_58 rfl (by decide) (Nat.le_of_ble_eq_true rfl) rfl ?_
            refine tm_iload_n X 3 dX0_groups_61 rfl rfl ?_
            refine tm_aload_n X 1 dX0_groups_62 rfl rfl ?_
            refine tm_iload X 4 dX0_groups_63 rfl ?_
            refine tm_cl2 (fun r12 h13 e11 => ?_)
            refine tm_callVi (As := [.int x4_5]) (rest := [.int x3_4]) (q0 := 0) X (ctX0_takesSpot l D ad dA tt h6 x4_5 r12 h13 e11) (lw_V q928 q930 qs31 q117 q931) cyX0_takesSpot rfl rfl rfl ⟨(Nat.le_of_ble_eq_true rfl), (Nat.le_of_ble_eq_true rfl)⟩ (Nat.le_of_ble_eq_true rfl) dX0_groups_65 ⟨Nat.le_of_ble_eq_true rfl, Nat.le_of_ble_eq_true rfl⟩ rfl ?_
            refine tm_mmax X q878 (Nat.le_of_ble_eq_true rfl) (Nat.le_of_ble_eq_true rfl) ⟨Nat.le_of_ble_eq_true rfl, Nat.le_of_ble_eq_true rfl⟩ dX0_groups_68 ?_
            refine tm_nmI (fun v14 => ?_)
            refine tm_istore_n X [(3, .int v14), (2, .int (x2_3 + (1 : Int32))), (0, .ref (ad 100)), (1, .int x1), (4, .int x4_5)] dX0_groups_71 rfl (Nat.le_of_ble_eq_true rfl) rfl ?_
            refine tm_lv X [2, 3, 1, 0, 4] rfl ?_
            exact hk72 (x2_3 + (1 : Int32)) v14 h13
          · skip
            refine tm_goto X 72 dX0_groups_55 rfl ?_
            exact hk72 x2_3 x3_4 h6
  · skip
    refine tm_aload_n X 0 dX0_groups_8 rfl rfl ?_
    refine tm_getR X (frX_100_16 ad dA tt h2) in_X0 rfl (Nat.le_of_ble_eq_true rfl) q256 rfl dX0_groups_9 ?_
    refine tm_iload_n X 2 dX0_groups_12 rfl rfl ?_
    refine tm_iconst X (0 : Int32) dX0_groups_13 (by decide) ?_
    refine tm_bastoreZ X (arX_16 ad dA tt) dX0_groups_14 (fun h15 => ?_)
    refine tm_iinc (v := (1 : Int32)) X 2 [(2, .int (x2_1 + (1 : Int32))), (0, .ref (ad 100)), (1, .int x1)] dX0_groups_15 rfl (by decide) (Nat.le_of_ble_eq_true rfl) rfl ?_
    refine tm_goto X 2 dX0_groups_18 rfl ?_
    refine tm_lv X [1, 2, 0] rfl ?_
    exact hk2 (x2_1 + (1 : Int32)) h15
def mX0_spots (h : Hp) (x1 : Int32) (x2 : Int32) (x3 : Int32) (x4 : Int32) : Option (Int32 × Hp) :=
cl1 (mX0_isGlide x1 x2) (fun r1 =>
nm (
some ((-1 : Int32), h)) (fun k27 =>
if r1 = 0 then (
k27) else (
cl1 (mX0_within x3 (0 : Int32) (50 : Int32)) (fun r3 =>
if r3 = 0 then (
k27) else (
cl1 (mX0_in x4 (2 : Int32)) (fun r5 =>
if r5 = 0 then (
k27) else (
cl1 (mX0_glideAt x1 x2) (fun r7 =>
cl2 (mX3_marks 40 h r7 x3) (fun r10 h11 =>
cl2 (mX0_groups h11 x4) (fun r13 h14 =>
some (r13, h14)))))))))))
theorem cyX0_spots : Callee yX0_spots 4 := by unfold Callee; decide +kernel
set_option maxHeartbeats 4000000 in
theorem ctX0_spots (l : Launch) (D : va_G) (ad : Nat → Nat) (dA : Nat → ClassId) (tt : (Nat → Option Nat) × (Nat → Option Nat) × va_W) (h : Hp) (x1 : Int32) (x2 : Int32) (x3 : Int32) (x4 : Int32) (r : Int32) (h' : Hp) (hm : mX0_spots h x1 x2 x3 x4 = some (r, h')) : CT l yX0_spots cX0_spots 5 (some .int) D dA 6 133 0 0 (wX ad dA tt h) [.ref (ad 100), .int x1, .int x2, .int x3, .int x4] (some (.int r)) (wX ad dA tt h') := by
  refine ct_open (by decide) (Nat.le_of_ble_eq_true rfl) ?_
  intro G X hI hZ hV hR
  have hRet := hI rfl r rfl
  refine (show TM G (r, h') (mX0_spots h x1 x2 x3 x4) (wX ad dA tt h) 0 0 0 [(0, .ref (ad 100)), (1, .int x1), (2, .int x2), (3, .int x3), (4, .int x4)] [] from ?_) hm
  clear hm hI hZ hV hR
  unfold mX0_spots
  refine tm_iload_n X 1 dX0_spots_0 rfl rfl ?_
  refine tm_iload_n X 2 dX0_spots_1 rfl rfl ?_
  refine tm_cl1 (fun r1 e2 => ?_)
  refine tm_callSi (As := [.int x1, .int x2]) (rest := []) X (ctX0_isGlide l D dA x1 x2 r1 e2) (lw_S q804 q805 q117 q806) cyX0_isGlide rfl ⟨(Nat.le_of_ble_eq_true rfl), (Nat.le_of_ble_eq_true rfl)⟩ (Nat.le_of_ble_eq_true rfl) dX0_spots_2 ⟨Nat.le_of_ble_eq_true rfl, Nat.le_of_ble_eq_true rfl⟩ rfl ?_
  refine tm_let (fun k => TM G (r, h') k (wX ad dA tt h) 0 0 27 [] []) ?_ (fun k27 hk27 => ?_)
  · skip
    refine tm_iconst X (-1 : Int32) dX0_spots_27 (by decide) ?_
    exact tm_retIH (wf := wX ad dA tt) hRet dX0_spots_28
  · skip
    refine tm_if_eq X 27 dX0_spots_5 rfl ?_ ?_
    · skip
      refine tm_lv X [] rfl ?_
      exact hk27
    · skip
      refine tm_iload_n X 3 dX0_spots_8 rfl rfl ?_
      refine tm_iconst X (0 : Int32) dX0_spots_9 (by decide) ?_
      refine tm_bipush X (50 : Int32) dX0_spots_10 (by decide) ?_
      refine tm_cl1 (fun r3 e4 => ?_)
      refine tm_callSi (As := [.int x3, .int (0 : Int32), .int (50 : Int32)]) (rest := []) X (ctX0_within l D dA x3 (0 : Int32) (50 : Int32) r3 e4) (lw_S q317 q318 q117 q319) cyX0_within rfl ⟨(Nat.le_of_ble_eq_true rfl), (Nat.le_of_ble_eq_true rfl)⟩ (Nat.le_of_ble_eq_true rfl) dX0_spots_12 ⟨Nat.le_of_ble_eq_true rfl, Nat.le_of_ble_eq_true rfl⟩ rfl ?_
      refine tm_if_eq X 27 dX0_spots_15 rfl ?_ ?_
      · skip
        refine tm_lv X [] rfl ?_
        exact hk27
      · skip
        refine tm_iload X 4 dX0_spots_18 rfl ?_
        refine tm_iconst X (2 : Int32) dX0_spots_20 (by decide) ?_
        refine tm_cl1 (fun r5 e6 => ?_)
        refine tm_callSi (As := [.int x4, .int (2 : Int32)]) (rest := []) X (ctX0_in l D dA x4 (2 : Int32) r5 e6) (lw_S q311 q312 q117 q313) cyX0_in rfl ⟨(Nat.le_of_ble_eq_true rfl), (Nat.le_of_ble_eq_true rfl)⟩ (Nat.le_of_ble_eq_true rfl) dX0_spots_21 ⟨Nat.le_of_ble_eq_true rfl, Nat.le_of_ble_eq_true rfl⟩ rfl ?_
        refine tm_if_ne X 29 dX0_spots_24 rfl ?_ ?_
        · skip
          refine tm_aload_n X 0 dX0_spots_29 rfl rfl ?_
          refine tm_getR X (frX_100_5 ad dA tt h) in_X0 rfl (Nat.le_of_ble_eq_true rfl) q242 rfl dX0_spots_30 ?_
          refine tm_iload_n X 1 dX0_spots_33 rfl rfl ?_
          refine tm_iload_n X 2 dX0_spots_34 rfl rfl ?_
          refine tm_cl1 (fun r7 e8 => ?_)
          refine tm_callSi (As := [.int x1, .int x2]) (rest := [.ref (ad 40)]) X (ctX0_glideAt l D dA x1 x2 r7 e8) (lw_S q807 q808 q117 q809) cyX0_glideAt rfl ⟨(Nat.le_of_ble_eq_true rfl), (Nat.le_of_ble_eq_true rfl)⟩ (Nat.le_of_ble_eq_true rfl) dX0_spots_35 ⟨Nat.le_of_ble_eq_true rfl, Nat.le_of_ble_eq_true rfl⟩ rfl ?_
          refine tm_iload_n X 3 dX0_spots_38 rfl rfl ?_
          refine tm_cl2 (fun r10 h11 e9 => ?_)
          refine tm_callVi (As := [.int r7, .int x3]) (rest := []) (q0 := 3) X (ctX3_marks_40 l D ad dA tt h r7 x3 r10 h11 e9) (lw_V q814 q815 q816 q120 q817) cyX3_marks rfl rfl rfl ⟨(Nat.le_of_ble_eq_true rfl), (Nat.le_of_ble_eq_true rfl)⟩ (Nat.le_of_ble_eq_true rfl) dX0_spots_39 ⟨Nat.le_of_ble_eq_true rfl, Nat.le_of_ble_eq_true rfl⟩ rfl ?_
          refine tm_pop X dX0_spots_42 rfl ?_
          refine tm_aload_n X 0 dX0_spots_43 rfl rfl ?_
          refine tm_iload X 4 dX0_spots_44 rfl ?_
          refine tm_cl2 (fun r13 h14 e12 => ?_)
          refine tm_callVi (As := [.int x4]) (rest := []) (q0 := 0) X (ctX0_groups l D ad dA tt h11 x4 r13 h14 e12) (lw_V q924 q926 qs30 q117 q927) cyX0_groups rfl rfl rfl ⟨(Nat.le_of_ble_eq_true rfl), (Nat.le_of_ble_eq_true rfl)⟩ (Nat.le_of_ble_eq_true rfl) dX0_spots_46 ⟨Nat.le_of_ble_eq_true rfl, Nat.le_of_ble_eq_true rfl⟩ rfl ?_
          exact tm_retIH (wf := wX ad dA tt) hRet dX0_spots_49
        · skip
          refine tm_lv X [] rfl ?_
          exact hk27
def mX0_turn (x0 : Int32) (x1 : Int32) (x2 : Int32) : Option (Int32) :=
some ((((jrem x1 (8 : Int32)) - (jrem x0 (8 : Int32))) * ((x2 / (8 : Int32)) - (x0 / (8 : Int32)))) - (((x1 / (8 : Int32)) - (x0 / (8 : Int32))) * ((jrem x2 (8 : Int32)) - (jrem x0 (8 : Int32)))))
theorem cyX0_turn : Callee yX0_turn 3 := by unfold Callee; decide +kernel
set_option maxHeartbeats 4000000 in
theorem ctX0_turn (l : Launch) (D : va_G) (dA : Nat → ClassId) (x0 : Int32) (x1 : Int32) (x2 : Int32) (r : Int32) (hm : mX0_turn x0 x1 x2 = some r) : CT l yX0_turn cX0_turn 3 (some .int) D dA 0 0 0 0 [] [.int x0, .int x1, .int x2] (some (.int r)) [] := by
  refine ct_open (by decide) (Nat.le_of_ble_eq_true rfl) ?_
  intro G X hI hZ hV hR
  have hRet := hI rfl r rfl
  refine (show TM G r (mX0_turn x0 x1 x2) [] 0 0 0 [(0, .int x0), (1, .int x1), (2, .int x2)] [] from ?_) hm
  clear hm hI hZ hV hR
  unfold mX0_turn
  refine tm_iload_n X 1 dX0_turn_0 rfl rfl ?_
  refine tm_bipush X (8 : Int32) dX0_turn_1 (by decide) ?_
  refine tm_irem X dX0_turn_3 (by decide) ?_
  refine tm_iload_n X 0 dX0_turn_4 rfl rfl ?_
  refine tm_bipush X (8 : Int32) dX0_turn_5 (by decide) ?_
  refine tm_irem X dX0_turn_7 (by decide) ?_
  refine tm_isub X dX0_turn_8 ?_
  refine tm_iload_n X 2 dX0_turn_9 rfl rfl ?_
  refine tm_bipush X (8 : Int32) dX0_turn_10 (by decide) ?_
  refine tm_idiv X dX0_turn_12 (by decide) ?_
  refine tm_iload_n X 0 dX0_turn_13 rfl rfl ?_
  refine tm_bipush X (8 : Int32) dX0_turn_14 (by decide) ?_
  refine tm_idiv X dX0_turn_16 (by decide) ?_
  refine tm_isub X dX0_turn_17 ?_
  refine tm_imul X dX0_turn_18 ?_
  refine tm_iload_n X 1 dX0_turn_19 rfl rfl ?_
  refine tm_bipush X (8 : Int32) dX0_turn_20 (by decide) ?_
  refine tm_idiv X dX0_turn_22 (by decide) ?_
  refine tm_iload_n X 0 dX0_turn_23 rfl rfl ?_
  refine tm_bipush X (8 : Int32) dX0_turn_24 (by decide) ?_
  refine tm_idiv X dX0_turn_26 (by decide) ?_
  refine tm_isub X dX0_turn_27 ?_
  refine tm_iload_n X 2 dX0_turn_28 rfl rfl ?_
  refine tm_bipush X (8 : Int32) dX0_turn_29 (by decide) ?_
  refine tm_irem X dX0_turn_31 (by decide) ?_
  refine tm_iload_n X 0 dX0_turn_32 rfl rfl ?_
  refine tm_bipush X (8 : Int32) dX0_turn_33 (by decide) ?_
  refine tm_irem X dX0_turn_35 (by decide) ?_
  refine tm_isub X dX0_turn_36 ?_
  refine tm_imul X dX0_turn_37 ?_
  refine tm_isub X dX0_turn_38 ?_
  exact tm_retI hRet dX0_turn_39
def mX0_farOff (x0 : Int32) (x1 : Int32) : Option (Int32) :=
some ((((jrem x0 (8 : Int32)) - (jrem x1 (8 : Int32))) * ((jrem x0 (8 : Int32)) - (jrem x1 (8 : Int32)))) + (((x0 / (8 : Int32)) - (x1 / (8 : Int32))) * ((x0 / (8 : Int32)) - (x1 / (8 : Int32)))))
theorem cyX0_farOff : Callee yX0_farOff 2 := by unfold Callee; decide +kernel
set_option maxHeartbeats 4000000 in
theorem ctX0_farOff (l : Launch) (D : va_G) (dA : Nat → ClassId) (x0 : Int32) (x1 : Int32) (r : Int32) (hm : mX0_farOff x0 x1 = some r) : CT l yX0_farOff cX0_farOff 2 (some .int) D dA 0 0 0 0 [] [.int x0, .int x1] (some (.int r)) [] := by
  refine ct_open (by decide) (Nat.le_of_ble_eq_true rfl) ?_
  intro G X hI hZ hV hR
  have hRet := hI rfl r rfl
  refine (show TM G r (mX0_farOff x0 x1) [] 0 0 0 [(0, .int x0), (1, .int x1)] [] from ?_) hm
  clear hm hI hZ hV hR
  unfold mX0_farOff
  refine tm_iload_n X 0 dX0_farOff_0 rfl rfl ?_
  refine tm_bipush X (8 : Int32) dX0_farOff_1 (by decide) ?_
  refine tm_irem X dX0_farOff_3 (by decide) ?_
  refine tm_iload_n X 1 dX0_farOff_4 rfl rfl ?_
  refine tm_bipush X (8 : Int32) dX0_farOff_5 (by decide) ?_
  refine tm_irem X dX0_farOff_7 (by decide) ?_
  refine tm_isub X dX0_farOff_8 ?_
  refine tm_iload_n X 0 dX0_farOff_9 rfl rfl ?_
  refine tm_bipush X (8 : Int32) dX0_farOff_10 (by decide) ?_
  refine tm_irem X dX0_farOff_12 (by decide) ?_
  refine tm_iload_n X 1 dX0_farOff_13 rfl rfl ?_
  refine tm_bipush X (8 : Int32) dX0_farOff_14 (by decide) ?_
  refine tm_irem X dX0_farOff_16 (by decide) ?_
  refine tm_isub X dX0_farOff_17 ?_
  refine tm_imul X dX0_farOff_18 ?_
  refine tm_iload_n X 0 dX0_farOff_19 rfl rfl ?_
  refine tm_bipush X (8 : Int32) dX0_farOff_20 (by decide) ?_
  refine tm_idiv X dX0_farOff_22 (by decide) ?_
  refine tm_iload_n X 1 dX0_farOff_23 rfl rfl ?_
  refine tm_bipush X (8 : Int32) dX0_farOff_24 (by decide) ?_
  refine tm_idiv X dX0_farOff_26 (by decide) ?_
  refine tm_isub X dX0_farOff_27 ?_
  refine tm_iload_n X 0 dX0_farOff_28 rfl rfl ?_
  refine tm_bipush X (8 : Int32) dX0_farOff_29 (by decide) ?_
  refine tm_idiv X dX0_farOff_31 (by decide) ?_
  refine tm_iload_n X 1 dX0_farOff_32 rfl rfl ?_
  refine tm_bipush X (8 : Int32) dX0_farOff_33 (by decide) ?_
  refine tm_idiv X dX0_farOff_35 (by decide) ?_
  refine tm_isub X dX0_farOff_36 ?_
  refine tm_imul X dX0_farOff_37 ?_
  refine tm_iadd X dX0_farOff_38 ?_
  exact tm_retI hRet dX0_farOff_39
def mX0_nextCorner (h : Hp) (x1 : Int32) : Option (Int32) :=
fx FU (fun _ _ => none) (fun k4 (x2_1 : Int32) (x3_2 : Int32) =>
if (48 : Int32) ≤ x3_2 then (
some x2_1) else (
ck x3_2 48 (
nm (fun (x2_3 : Int32) =>
k4 x2_3 (x3_2 + (1 : Int32))) (fun k69 =>
if (h 2 x3_2.toNatClampNeg) = 0 then (
k69 x2_1) else (
if x3_2 = x1 then (
k69 x2_1) else (
nm (fun (s4 : Int32) =>
nm (
k69 x3_2) (fun k67 =>
if s4 < 0 then (
k67) else (
if s4 = 0 then (
cl1 (mX0_farOff x1 x3_2) (fun r5 =>
cl1 (mX0_farOff x1 x2_1) (fun r7 =>
if r5 ≤ r7 then (
k69 x2_1) else (
k67)))) else (
k69 x2_1)))) (fun k42 =>
if x2_1 = (-1 : Int32) then (
k42 (-1 : Int32)) else (
cl1 (mX0_turn x1 x2_1 x3_2) (fun r9 =>
k42 r9))))))))) (-1 : Int32) (0 : Int32)
theorem cyX0_nextCorner : Callee yX0_nextCorner 1 := by unfold Callee; decide +kernel
set_option maxHeartbeats 4000000 in
theorem ctX0_nextCorner (l : Launch) (D : va_G) (ad : Nat → Nat) (dA : Nat → ClassId) (tt : (Nat → Option Nat) × (Nat → Option Nat) × va_W) (h : Hp) (x1 : Int32) (r : Int32) (hm : mX0_nextCorner h x1 = some r) : CT l yX0_nextCorner cX0_nextCorner 5 (some .int) D dA 1 22 0 0 (wX ad dA tt h) [.ref (ad 100), .int x1] (some (.int r)) (wX ad dA tt h) := by
  refine ct_open (by decide) (Nat.le_of_ble_eq_true rfl) ?_
  intro G X hI hZ hV hR
  have hRet := hI rfl r rfl
  refine (show TM G r (mX0_nextCorner h x1) (wX ad dA tt h) 0 0 0 [(0, .ref (ad 100)), (1, .int x1)] [] from ?_) hm
  clear hm hI hZ hV hR
  unfold mX0_nextCorner
  refine tm_iconst X (-1 : Int32) dX0_nextCorner_0 (by decide) ?_
  refine tm_istore_n X [(2, .int (-1 : Int32)), (0, .ref (ad 100)), (1, .int x1)] dX0_nextCorner_1 rfl (Nat.le_of_ble_eq_true rfl) rfl ?_
  refine tm_iconst X (0 : Int32) dX0_nextCorner_2 (by decide) ?_
  refine tm_istore_n X [(3, .int (0 : Int32)), (2, .int (-1 : Int32)), (0, .ref (ad 100)), (1, .int x1)] dX0_nextCorner_3 rfl (Nat.le_of_ble_eq_true rfl) rfl ?_
  refine tm_lv X [2, 3, 1, 0] rfl ?_
  refine fx_P (fun (k : Int32 → Int32 → Option (Int32)) => ∀ (x2_1 : Int32) (x3_2 : Int32), TM G r (k x2_1 x3_2) (wX ad dA tt h) 0 0 4 [(0, .ref (ad 100)), (1, .int x1), (2, .int x2_1), (3, .int x3_2)] []) (fun _ _ => tm_none) (fun k4 hk4 x2_1 x3_2 => ?_) FU (-1 : Int32) (0 : Int32)
  refine tm_iload_n X 3 dX0_nextCorner_4 rfl rfl ?_
  refine tm_bipush X (48 : Int32) dX0_nextCorner_5 (by decide) ?_
  refine tm_ic_ge X 75 dX0_nextCorner_7 rfl ?_ ?_
  · skip
    refine tm_iload_n X 2 dX0_nextCorner_75 rfl rfl ?_
    exact tm_retI hRet dX0_nextCorner_76
  · skip
    refine tm_aload_n X 0 dX0_nextCorner_10 rfl rfl ?_
    refine tm_getR X (frX_100_2 ad dA tt h) in_X0 rfl (Nat.le_of_ble_eq_true rfl) q237 rfl dX0_nextCorner_11 ?_
    refine tm_iload_n X 3 dX0_nextCorner_14 rfl rfl ?_
    refine tm_baloadZ X (arX_2 ad dA tt) dX0_nextCorner_15 ?_
    refine tm_let (fun k => ∀ (x2_3 : Int32), TM G r (k x2_3) (wX ad dA tt h) 0 0 69 [(0, .ref (ad 100)), (1, .int x1), (2, .int x2_3), (3, .int x3_2)] []) ?_ (fun k69 hk69 => ?_)
    · intro x2_3
      refine tm_iinc (v := (1 : Int32)) X 3 [(3, .int (x3_2 + (1 : Int32))), (0, .ref (ad 100)), (1, .int x1), (2, .int x2_3)] dX0_nextCorner_69 rfl (by decide) (Nat.le_of_ble_eq_true rfl) rfl ?_
      refine tm_goto X 4 dX0_nextCorner_72 rfl ?_
      refine tm_lv X [1, 2, 3, 0] rfl ?_
      exact hk4 x2_3 (x3_2 + (1 : Int32))
    · skip
      refine tm_if_eq X 69 dX0_nextCorner_16 rfl ?_ ?_
      · skip
        exact hk69 x2_1
      · skip
        refine tm_iload_n X 3 dX0_nextCorner_19 rfl rfl ?_
        refine tm_iload_n X 1 dX0_nextCorner_20 rfl rfl ?_
        refine tm_ic_ne X 27 dX0_nextCorner_21 rfl ?_ ?_
        · skip
          refine tm_iload_n X 2 dX0_nextCorner_27 rfl rfl ?_
          refine tm_iconst X (-1 : Int32) dX0_nextCorner_28 (by decide) ?_
          refine tm_let (fun k => ∀ (s4 : Int32), TM G r (k s4) (wX ad dA tt h) 0 0 42 [(0, .ref (ad 100)), (1, .int x1), (2, .int x2_1), (3, .int x3_2)] [.int s4]) ?_ (fun k42 hk42 => ?_)
          · intro s4
            refine tm_istore X [(4, .int s4), (0, .ref (ad 100)), (1, .int x1), (2, .int x2_1), (3, .int x3_2)] dX0_nextCorner_42 (Nat.le_of_ble_eq_true rfl) rfl ?_
            refine tm_iload X 0 dX0_nextCorner_44 rfl ?_
            refine tm_let (fun k => TM G r k (wX ad dA tt h) 0 0 67 [(0, .ref (ad 100)), (1, .int x1), (3, .int x3_2)] []) ?_ (fun k67 hk67 => ?_)
            · skip
              refine tm_iload_n X 2 dX0_nextCorner_67 rfl rfl ?_
              refine tm_istore_n X [(2, .int x3_2), (0, .ref (ad 100)), (1, .int x1), (3, .int x3_2)] dX0_nextCorner_68 rfl (Nat.le_of_ble_eq_true rfl) rfl ?_
              refine tm_lv X [1, 2, 0, 3] rfl ?_
              exact hk69 x3_2
            · skip
              refine tm_if_lt X 67 dX0_nextCorner_46 rfl ?_ ?_
              · skip
                refine tm_lv X [1, 2, 4] rfl ?_
                exact hk67
              · skip
                refine tm_iload X 0 dX0_nextCorner_49 rfl ?_
                refine tm_if_ne X 69 dX0_nextCorner_51 rfl ?_ ?_
                · skip
                  refine tm_lv X [1, 2, 3, 4] rfl ?_
                  exact hk69 x2_1
                · skip
                  refine tm_iload_n X 2 dX0_nextCorner_54 rfl rfl ?_
                  refine tm_iload_n X 4 dX0_nextCorner_55 rfl rfl ?_
                  refine tm_cl1 (fun r5 e6 => ?_)
                  refine tm_callSi (As := [.int x1, .int x3_2]) (rest := []) X (ctX0_farOff l D dA x1 x3_2 r5 e6) (lw_S q946 q947 q117 q948) cyX0_farOff rfl ⟨(Nat.le_of_ble_eq_true rfl), (Nat.le_of_ble_eq_true rfl)⟩ (Nat.le_of_ble_eq_true rfl) dX0_nextCorner_56 ⟨Nat.le_of_ble_eq_true rfl, Nat.le_of_ble_eq_true rfl⟩ rfl ?_
                  refine tm_iload_n X 2 dX0_nextCorner_59 rfl rfl ?_
                  refine tm_iload_n X 3 dX0_nextCorner_60 rfl rfl ?_
                  refine tm_cl1 (fun r7 e8 => ?_)
                  refine tm_callSi (As := [.int x1, .int x2_1]) (rest := [.int r5]) X (ctX0_farOff l D dA x1 x2_1 r7 e8) (lw_S q946 q947 q117 q948) cyX0_farOff rfl ⟨(Nat.le_of_ble_eq_true rfl), (Nat.le_of_ble_eq_true rfl)⟩ (Nat.le_of_ble_eq_true rfl) dX0_nextCorner_61 ⟨Nat.le_of_ble_eq_true rfl, Nat.le_of_ble_eq_true rfl⟩ rfl ?_
                  refine tm_ic_le X 69 dX0_nextCorner_64 rfl ?_ ?_
                  · skip
                    refine tm_lv X [1, 2, 3, 4] rfl ?_
                    exact hk69 x2_1
                  · skip
                    refine tm_lv X [1, 2, 4] rfl ?_
                    exact hk67
          · skip
            refine tm_ic_ne X 36 dX0_nextCorner_29 rfl ?_ ?_
            · skip
              refine tm_iload_n X 1 dX0_nextCorner_36 rfl rfl ?_
              refine tm_iload_n X 2 dX0_nextCorner_37 rfl rfl ?_
              refine tm_iload_n X 3 dX0_nextCorner_38 rfl rfl ?_
              refine tm_cl1 (fun r9 e10 => ?_)
              refine tm_callSi (As := [.int x1, .int x2_1, .int x3_2]) (rest := []) X (ctX0_turn l D dA x1 x2_1 x3_2 r9 e10) (lw_S q943 q944 q117 q945) cyX0_turn rfl ⟨(Nat.le_of_ble_eq_true rfl), (Nat.le_of_ble_eq_true rfl)⟩ (Nat.le_of_ble_eq_true rfl) dX0_nextCorner_39 ⟨Nat.le_of_ble_eq_true rfl, Nat.le_of_ble_eq_true rfl⟩ rfl ?_
              exact hk42 r9
            · skip
              refine tm_iconst X (-1 : Int32) dX0_nextCorner_32 (by decide) ?_
              refine tm_goto X 42 dX0_nextCorner_33 rfl ?_
              exact hk42 (-1 : Int32)
        · skip
          refine tm_goto X 69 dX0_nextCorner_24 rfl ?_
          exact hk69 x2_1
def mX0_figure (h : Hp)  : Option (Int32 × Hp) :=
cl2 (mX3_marks 40 h (31 : Int32) (0 : Int32)) (fun r2 h3 =>
if (3 : Int32) ≤ r2 then (
cl1 (mX0_firstMarked h3) (fun r5 =>
fx FU (fun _ _ _ => none) (fun k28 (x2_6 : Int32) (x3_7 : Int32) (x4_8 : Int32) =>
nm (
some ((jabs x2_6), h3)) (fun k71 =>
if (48 : Int32) ≤ x4_8 then (
k71) else (
nm (
cl1 (mX0_nextCorner h3 x3_7) (fun r10 =>
cl1 (mX0_turn r5 x3_7 r10) (fun r11 =>
nm ((x2_6 + r11)) (fun v13 =>
k28 v13 r10 (x4_8 + (1 : Int32)))))) (fun k45 =>
if x4_8 = 0 then (
k45) else (
if x3_7 = r5 then (
k71) else (
k45)))))) (0 : Int32) r5 (0 : Int32))) else (
some ((0 : Int32), h3)))
theorem cyX0_figure : Callee yX0_figure 0 := by unfold Callee; decide +kernel
set_option maxHeartbeats 4000000 in
theorem ctX0_figure (l : Launch) (D : va_G) (ad : Nat → Nat) (dA : Nat → ClassId) (tt : (Nat → Option Nat) × (Nat → Option Nat) × va_W) (h : Hp)  (r : Int32) (h' : Hp) (hm : mX0_figure h = some (r, h')) : CT l yX0_figure cX0_figure 6 (some .int) D dA 6 133 0 0 (wX ad dA tt h) [.ref (ad 100)] (some (.int r)) (wX ad dA tt h') := by
  refine ct_open (by decide) (Nat.le_of_ble_eq_true rfl) ?_
  intro G X hI hZ hV hR
  have hRet := hI rfl r rfl
  refine (show TM G (r, h') (mX0_figure h) (wX ad dA tt h) 0 0 0 [(0, .ref (ad 100))] [] from ?_) hm
  clear hm hI hZ hV hR
  unfold mX0_figure
  refine tm_aload_n X 0 dX0_figure_0 rfl rfl ?_
  refine tm_getR X (frX_100_5 ad dA tt h) in_X0 rfl (Nat.le_of_ble_eq_true rfl) q242 rfl dX0_figure_1 ?_
  refine tm_bipush X (31 : Int32) dX0_figure_4 (by decide) ?_
  refine tm_iconst X (0 : Int32) dX0_figure_6 (by decide) ?_
  refine tm_cl2 (fun r2 h3 e1 => ?_)
  refine tm_callVi (As := [.int (31 : Int32), .int (0 : Int32)]) (rest := []) (q0 := 3) X (ctX3_marks_40 l D ad dA tt h (31 : Int32) (0 : Int32) r2 h3 e1) (lw_V q814 q815 q816 q120 q817) cyX3_marks rfl rfl rfl ⟨(Nat.le_of_ble_eq_true rfl), (Nat.le_of_ble_eq_true rfl)⟩ (Nat.le_of_ble_eq_true rfl) dX0_figure_7 ⟨Nat.le_of_ble_eq_true rfl, Nat.le_of_ble_eq_true rfl⟩ rfl ?_
  refine tm_iconst X (3 : Int32) dX0_figure_10 (by decide) ?_
  refine tm_ic_ge X 16 dX0_figure_11 rfl ?_ ?_
  · skip
    refine tm_aload_n X 0 dX0_figure_16 rfl rfl ?_
    refine tm_cl1 (fun r5 e4 => ?_)
    refine tm_callVi (As := []) (rest := []) (q0 := 0) X (ctX0_firstMarked l D ad dA tt h3 r5 e4) (lw_V q834 q836 qs20 q117 q837) cyX0_firstMarked rfl rfl rfl ⟨(Nat.le_of_ble_eq_true rfl), (Nat.le_of_ble_eq_true rfl)⟩ (Nat.le_of_ble_eq_true rfl) dX0_figure_17 ⟨Nat.le_of_ble_eq_true rfl, Nat.le_of_ble_eq_true rfl⟩ rfl ?_
    refine tm_istore_n X [(1, .int r5), (0, .ref (ad 100))] dX0_figure_20 rfl (Nat.le_of_ble_eq_true rfl) rfl ?_
    refine tm_iconst X (0 : Int32) dX0_figure_21 (by decide) ?_
    refine tm_istore_n X [(2, .int (0 : Int32)), (1, .int r5), (0, .ref (ad 100))] dX0_figure_22 rfl (Nat.le_of_ble_eq_true rfl) rfl ?_
    refine tm_iload_n X 1 dX0_figure_23 rfl rfl ?_
    refine tm_istore_n X [(3, .int r5), (2, .int (0 : Int32)), (1, .int r5), (0, .ref (ad 100))] dX0_figure_24 rfl (Nat.le_of_ble_eq_true rfl) rfl ?_
    refine tm_iconst X (0 : Int32) dX0_figure_25 (by decide) ?_
    refine tm_istore X [(4, .int (0 : Int32)), (3, .int r5), (2, .int (0 : Int32)), (1, .int r5), (0, .ref (ad 100))] dX0_figure_26 (Nat.le_of_ble_eq_true rfl) rfl ?_
    refine tm_lv X [4, 3, 2, 1, 0] rfl ?_
    refine fx_P (fun (k : Int32 → Int32 → Int32 → Option (Int32 × Hp)) => ∀ (x2_6 : Int32) (x3_7 : Int32) (x4_8 : Int32), TM G (r, h') (k x2_6 x3_7 x4_8) (wX ad dA tt h3) 0 0 28 [(0, .ref (ad 100)), (1, .int r5), (2, .int x2_6), (3, .int x3_7), (4, .int x4_8)] []) (fun _ _ _ => tm_none) (fun k28 hk28 x2_6 x3_7 x4_8 => ?_) FU (0 : Int32) r5 (0 : Int32)
    refine tm_iload X 4 dX0_figure_28 rfl ?_
    refine tm_bipush X (48 : Int32) dX0_figure_30 (by decide) ?_
    refine tm_let (fun k => TM G (r, h') k (wX ad dA tt h3) 0 0 71 [(2, .int x2_6)] []) ?_ (fun k71 hk71 => ?_)
    · skip
      refine tm_iload_n X 0 dX0_figure_71 rfl rfl ?_
      refine tm_mabs X q949 (Nat.le_of_ble_eq_true rfl) (Nat.le_of_ble_eq_true rfl) ⟨Nat.le_of_ble_eq_true rfl, Nat.le_of_ble_eq_true rfl⟩ dX0_figure_72 ?_
      exact tm_retIH (wf := wX ad dA tt) hRet dX0_figure_75
    · skip
      refine tm_ic_ge X 71 dX0_figure_32 rfl ?_ ?_
      · skip
        refine tm_lv X [2] rfl ?_
        exact hk71
      · skip
        refine tm_iload X 4 dX0_figure_35 rfl ?_
        refine tm_let (fun k => TM G (r, h') k (wX ad dA tt h3) 0 0 45 [(0, .ref (ad 100)), (1, .int r5), (2, .int x2_6), (3, .int x3_7), (4, .int x4_8)] []) ?_ (fun k45 hk45 => ?_)
        · skip
          refine tm_aload_n X 0 dX0_figure_45 rfl rfl ?_
          refine tm_iload_n X 3 dX0_figure_46 rfl rfl ?_
          refine tm_cl1 (fun r10 e9 => ?_)
          refine tm_callVi (As := [.int x3_7]) (rest := []) (q0 := 0) X (ctX0_nextCorner l D ad dA tt h3 x3_7 r10 e9) (lw_V q939 q941 qs32 q117 q942) cyX0_nextCorner rfl rfl rfl ⟨(Nat.le_of_ble_eq_true rfl), (Nat.le_of_ble_eq_true rfl)⟩ (Nat.le_of_ble_eq_true rfl) dX0_figure_47 ⟨Nat.le_of_ble_eq_true rfl, Nat.le_of_ble_eq_true rfl⟩ rfl ?_
          refine tm_istore X [(5, .int r10), (0, .ref (ad 100)), (1, .int r5), (2, .int x2_6), (3, .int x3_7), (4, .int x4_8)] dX0_figure_50 (Nat.le_of_ble_eq_true rfl) rfl ?_
          refine tm_iload_n X 3 dX0_figure_52 rfl rfl ?_
          refine tm_iload_n X 2 dX0_figure_53 rfl rfl ?_
          refine tm_iload_n X 4 dX0_figure_54 rfl rfl ?_
          refine tm_iload X 0 dX0_figure_55 rfl ?_
          refine tm_cl1 (fun r11 e12 => ?_)
          refine tm_callSi (As := [.int r5, .int x3_7, .int r10]) (rest := [.int x2_6]) X (ctX0_turn l D dA r5 x3_7 r10 r11 e12) (lw_S q943 q944 q117 q945) cyX0_turn rfl ⟨(Nat.le_of_ble_eq_true rfl), (Nat.le_of_ble_eq_true rfl)⟩ (Nat.le_of_ble_eq_true rfl) dX0_figure_57 ⟨Nat.le_of_ble_eq_true rfl, Nat.le_of_ble_eq_true rfl⟩ rfl ?_
          refine tm_iadd X dX0_figure_60 ?_
          refine tm_nmI (fun v13 => ?_)
          refine tm_istore_n X [(2, .int v13), (5, .int r10), (0, .ref (ad 100)), (1, .int r5), (3, .int x3_7), (4, .int x4_8)] dX0_figure_61 rfl (Nat.le_of_ble_eq_true rfl) rfl ?_
          refine tm_iload X 1 dX0_figure_62 rfl ?_
          refine tm_istore_n X [(3, .int r10), (2, .int v13), (5, .int r10), (0, .ref (ad 100)), (1, .int r5), (4, .int x4_8)] dX0_figure_64 rfl (Nat.le_of_ble_eq_true rfl) rfl ?_
          refine tm_iinc (v := (1 : Int32)) X 5 [(4, .int (x4_8 + (1 : Int32))), (3, .int r10), (2, .int v13), (5, .int r10), (0, .ref (ad 100)), (1, .int r5)] dX0_figure_65 rfl (by decide) (Nat.le_of_ble_eq_true rfl) rfl ?_
          refine tm_goto X 28 dX0_figure_68 rfl ?_
          refine tm_lv X [4, 5, 2, 1, 0] rfl ?_
          exact hk28 v13 r10 (x4_8 + (1 : Int32))
        · skip
          refine tm_if_eq X 45 dX0_figure_37 rfl ?_ ?_
          · skip
            exact hk45
          · skip
            refine tm_iload_n X 3 dX0_figure_40 rfl rfl ?_
            refine tm_iload_n X 1 dX0_figure_41 rfl rfl ?_
            refine tm_ic_eq X 71 dX0_figure_42 rfl ?_ ?_
            · skip
              refine tm_lv X [2] rfl ?_
              exact hk71
            · skip
              exact hk45
  · skip
    refine tm_iconst X (0 : Int32) dX0_figure_14 (by decide) ?_
    exact tm_retIH (wf := wX ad dA tt) hRet dX0_figure_15
def mX0_aboutMiddle (x0 : Int32) (x1 : Int32) : Option (Int32) :=
some (((((2 : Int32) * (jrem x0 (8 : Int32))) - (7 : Int32)) * (((2 : Int32) * (x1 / (8 : Int32))) - (5 : Int32))) - ((((2 : Int32) * (x0 / (8 : Int32))) - (5 : Int32)) * (((2 : Int32) * (jrem x1 (8 : Int32))) - (7 : Int32))))
theorem cyX0_aboutMiddle : Callee yX0_aboutMiddle 2 := by unfold Callee; decide +kernel
set_option maxHeartbeats 4000000 in
theorem ctX0_aboutMiddle (l : Launch) (D : va_G) (dA : Nat → ClassId) (x0 : Int32) (x1 : Int32) (r : Int32) (hm : mX0_aboutMiddle x0 x1 = some r) : CT l yX0_aboutMiddle cX0_aboutMiddle 2 (some .int) D dA 0 0 0 0 [] [.int x0, .int x1] (some (.int r)) [] := by
  refine ct_open (by decide) (Nat.le_of_ble_eq_true rfl) ?_
  intro G X hI hZ hV hR
  have hRet := hI rfl r rfl
  refine (show TM G r (mX0_aboutMiddle x0 x1) [] 0 0 0 [(0, .int x0), (1, .int x1)] [] from ?_) hm
  clear hm hI hZ hV hR
  unfold mX0_aboutMiddle
  refine tm_iconst X (2 : Int32) dX0_aboutMiddle_0 (by decide) ?_
  refine tm_iload_n X 0 dX0_aboutMiddle_1 rfl rfl ?_
  refine tm_bipush X (8 : Int32) dX0_aboutMiddle_2 (by decide) ?_
  refine tm_irem X dX0_aboutMiddle_4 (by decide) ?_
  refine tm_imul X dX0_aboutMiddle_5 ?_
  refine tm_bipush X (7 : Int32) dX0_aboutMiddle_6 (by decide) ?_
  refine tm_isub X dX0_aboutMiddle_8 ?_
  refine tm_iconst X (2 : Int32) dX0_aboutMiddle_9 (by decide) ?_
  refine tm_iload_n X 1 dX0_aboutMiddle_10 rfl rfl ?_
  refine tm_bipush X (8 : Int32) dX0_aboutMiddle_11 (by decide) ?_
  refine tm_idiv X dX0_aboutMiddle_13 (by decide) ?_
  refine tm_imul X dX0_aboutMiddle_14 ?_
  refine tm_iconst X (5 : Int32) dX0_aboutMiddle_15 (by decide) ?_
  refine tm_isub X dX0_aboutMiddle_16 ?_
  refine tm_imul X dX0_aboutMiddle_17 ?_
  refine tm_iconst X (2 : Int32) dX0_aboutMiddle_18 (by decide) ?_
  refine tm_iload_n X 0 dX0_aboutMiddle_19 rfl rfl ?_
  refine tm_bipush X (8 : Int32) dX0_aboutMiddle_20 (by decide) ?_
  refine tm_idiv X dX0_aboutMiddle_22 (by decide) ?_
  refine tm_imul X dX0_aboutMiddle_23 ?_
  refine tm_iconst X (5 : Int32) dX0_aboutMiddle_24 (by decide) ?_
  refine tm_isub X dX0_aboutMiddle_25 ?_
  refine tm_iconst X (2 : Int32) dX0_aboutMiddle_26 (by decide) ?_
  refine tm_iload_n X 1 dX0_aboutMiddle_27 rfl rfl ?_
  refine tm_bipush X (8 : Int32) dX0_aboutMiddle_28 (by decide) ?_
  refine tm_irem X dX0_aboutMiddle_30 (by decide) ?_
  refine tm_imul X dX0_aboutMiddle_31 ?_
  refine tm_bipush X (7 : Int32) dX0_aboutMiddle_32 (by decide) ?_
  refine tm_isub X dX0_aboutMiddle_34 ?_
  refine tm_imul X dX0_aboutMiddle_35 ?_
  refine tm_isub X dX0_aboutMiddle_36 ?_
  exact tm_retI hRet dX0_aboutMiddle_37
def mX0_isTripod (x0 : Int32) (x1 : Int32) (x2 : Int32) : Option (Int32) :=
cl1 (mX0_turn x0 x1 x2) (fun r1 =>
if r1 = 0 then (
bz (0 : Int32) (some (0 : Int32))) else (
cl1 (mX0_aboutMiddle x0 x1) (fun r3 =>
cl1 (mX0_aboutMiddle x1 x2) (fun r5 =>
cl1 (mX0_aboutMiddle x2 x0) (fun r7 =>
nm (fun (s9 : Int32) =>
bz s9 (some s9)) (fun k64 =>
nm (
k64 (1 : Int32)) (fun k59 =>
nm (
nm (
k64 (0 : Int32)) (fun k63 =>
if 0 < r3 then (
k63) else (
if 0 < r5 then (
k63) else (
if 0 < r7 then (
k63) else (
k59))))) (fun k45 =>
if r3 < 0 then (
k45) else (
if r5 < 0 then (
k45) else (
if 0 ≤ r7 then (
k59) else (
k45)))))))))))
theorem cyX0_isTripod : Callee yX0_isTripod 3 := by unfold Callee; decide +kernel
set_option maxHeartbeats 4000000 in
theorem ctX0_isTripod (l : Launch) (D : va_G) (dA : Nat → ClassId) (x0 : Int32) (x1 : Int32) (x2 : Int32) (r : Int32) (hm : mX0_isTripod x0 x1 x2 = some r) : CT l yX0_isTripod cX0_isTripod 6 (some .boolean) D dA 1 22 0 0 [] [.int x0, .int x1, .int x2] (some (.int r)) [] := by
  refine ct_open (by decide) (Nat.le_of_ble_eq_true rfl) ?_
  intro G X hI hZ hV hR
  have hRet := fun hv => hZ rfl r hv rfl
  refine (show TM G r (mX0_isTripod x0 x1 x2) [] 0 0 0 [(0, .int x0), (1, .int x1), (2, .int x2)] [] from ?_) hm
  clear hm hI hZ hV hR
  unfold mX0_isTripod
  refine tm_iload_n X 0 dX0_isTripod_0 rfl rfl ?_
  refine tm_iload_n X 1 dX0_isTripod_1 rfl rfl ?_
  refine tm_iload_n X 2 dX0_isTripod_2 rfl rfl ?_
  refine tm_cl1 (fun r1 e2 => ?_)
  refine tm_callSi (As := [.int x0, .int x1, .int x2]) (rest := []) X (ctX0_turn l D dA x0 x1 x2 r1 e2) (lw_S q943 q944 q117 q945) cyX0_turn rfl ⟨(Nat.le_of_ble_eq_true rfl), (Nat.le_of_ble_eq_true rfl)⟩ (Nat.le_of_ble_eq_true rfl) dX0_isTripod_3 ⟨Nat.le_of_ble_eq_true rfl, Nat.le_of_ble_eq_true rfl⟩ rfl ?_
  refine tm_if_ne X 11 dX0_isTripod_6 rfl ?_ ?_
  · skip
    refine tm_iload_n X 0 dX0_isTripod_11 rfl rfl ?_
    refine tm_iload_n X 1 dX0_isTripod_12 rfl rfl ?_
    refine tm_cl1 (fun r3 e4 => ?_)
    refine tm_callSi (As := [.int x0, .int x1]) (rest := []) X (ctX0_aboutMiddle l D dA x0 x1 r3 e4) (lw_S q959 q960 q117 q961) cyX0_aboutMiddle rfl ⟨(Nat.le_of_ble_eq_true rfl), (Nat.le_of_ble_eq_true rfl)⟩ (Nat.le_of_ble_eq_true rfl) dX0_isTripod_13 ⟨Nat.le_of_ble_eq_true rfl, Nat.le_of_ble_eq_true rfl⟩ rfl ?_
    refine tm_istore_n X [(3, .int r3), (0, .int x0), (1, .int x1), (2, .int x2)] dX0_isTripod_16 rfl (Nat.le_of_ble_eq_true rfl) rfl ?_
    refine tm_iload_n X 2 dX0_isTripod_17 rfl rfl ?_
    refine tm_iload_n X 3 dX0_isTripod_18 rfl rfl ?_
    refine tm_cl1 (fun r5 e6 => ?_)
    refine tm_callSi (As := [.int x1, .int x2]) (rest := []) X (ctX0_aboutMiddle l D dA x1 x2 r5 e6) (lw_S q959 q960 q117 q961) cyX0_aboutMiddle rfl ⟨(Nat.le_of_ble_eq_true rfl), (Nat.le_of_ble_eq_true rfl)⟩ (Nat.le_of_ble_eq_true rfl) dX0_isTripod_19 ⟨Nat.le_of_ble_eq_true rfl, Nat.le_of_ble_eq_true rfl⟩ rfl ?_
    refine tm_istore X [(4, .int r5), (3, .int r3), (0, .int x0), (1, .int x1), (2, .int x2)] dX0_isTripod_22 (Nat.le_of_ble_eq_true rfl) rfl ?_
    refine tm_iload_n X 4 dX0_isTripod_24 rfl rfl ?_
    refine tm_iload_n X 2 dX0_isTripod_25 rfl rfl ?_
    refine tm_cl1 (fun r7 e8 => ?_)
    refine tm_callSi (As := [.int x2, .int x0]) (rest := []) X (ctX0_aboutMiddle l D dA x2 x0 r7 e8) (lw_S q959 q960 q117 q961) cyX0_aboutMiddle rfl ⟨(Nat.le_of_ble_eq_true rfl), (Nat.le_of_ble_eq_true rfl)⟩ (Nat.le_of_ble_eq_true rfl) dX0_isTripod_26 ⟨Nat.le_of_ble_eq_true rfl, Nat.le_of_ble_eq_true rfl⟩ rfl ?_
    refine tm_istore X [(5, .int r7), (4, .int r5), (3, .int r3), (0, .int x0), (1, .int x1), (2, .int x2)] dX0_isTripod_29 (Nat.le_of_ble_eq_true rfl) rfl ?_
    refine tm_iload_n X 2 dX0_isTripod_31 rfl rfl ?_
    refine tm_let (fun k => ∀ (s9 : Int32), TM G r (k s9) [] 0 0 64 [] [.int s9]) ?_ (fun k64 hk64 => ?_)
    · intro s9
      exact tm_retZ hRet dX0_isTripod_64
    · skip
      refine tm_let (fun k => TM G r k [] 0 0 59 [] []) ?_ (fun k59 hk59 => ?_)
      · skip
        refine tm_iconst X (1 : Int32) dX0_isTripod_59 (by decide) ?_
        refine tm_goto X 64 dX0_isTripod_60 rfl ?_
        exact hk64 (1 : Int32)
      · skip
        refine tm_let (fun k => TM G r k [] 0 0 45 [(3, .int r3), (4, .int r5), (5, .int r7)] []) ?_ (fun k45 hk45 => ?_)
        · skip
          refine tm_iload_n X 0 dX0_isTripod_45 rfl rfl ?_
          refine tm_let (fun k => TM G r k [] 0 0 63 [] []) ?_ (fun k63 hk63 => ?_)
          · skip
            refine tm_iconst X (0 : Int32) dX0_isTripod_63 (by decide) ?_
            exact hk64 (0 : Int32)
          · skip
            refine tm_if_gt X 63 dX0_isTripod_46 rfl ?_ ?_
            · skip
              refine tm_lv X [] rfl ?_
              exact hk63
            · skip
              refine tm_iload X 1 dX0_isTripod_49 rfl ?_
              refine tm_if_gt X 63 dX0_isTripod_51 rfl ?_ ?_
              · skip
                refine tm_lv X [] rfl ?_
                exact hk63
              · skip
                refine tm_iload X 2 dX0_isTripod_54 rfl ?_
                refine tm_if_gt X 63 dX0_isTripod_56 rfl ?_ ?_
                · skip
                  refine tm_lv X [] rfl ?_
                  exact hk63
                · skip
                  refine tm_lv X [] rfl ?_
                  exact hk59
        · skip
          refine tm_if_lt X 45 dX0_isTripod_32 rfl ?_ ?_
          · skip
            refine tm_lv X [2, 1, 0] rfl ?_
            exact hk45
          · skip
            refine tm_iload X 1 dX0_isTripod_35 rfl ?_
            refine tm_if_lt X 45 dX0_isTripod_37 rfl ?_ ?_
            · skip
              refine tm_lv X [2, 1, 0] rfl ?_
              exact hk45
            · skip
              refine tm_iload X 0 dX0_isTripod_40 rfl ?_
              refine tm_if_ge X 59 dX0_isTripod_42 rfl ?_ ?_
              · skip
                refine tm_lv X [] rfl ?_
                exact hk59
              · skip
                refine tm_lv X [2, 1, 0] rfl ?_
                exact hk45
  · skip
    refine tm_iconst X (0 : Int32) dX0_isTripod_9 (by decide) ?_
    exact tm_retZ hRet dX0_isTripod_10
def mX0_tripods (h : Hp)  : Option (Int32 × Hp) :=
cl2 (mX3_marks 40 h (31 : Int32) (0 : Int32)) (fun r2 h3 =>
fx FU (fun _ _ => none) (fun k15 (x1_4 : Int32) (x2_5 : Int32) =>
if (48 : Int32) ≤ x2_5 then (
some (x1_4, h3)) else (
fx FU (fun _ _ => none) (fun k23 (x1_6 : Int32) (x3_7 : Int32) =>
if x2_5 ≤ x3_7 then (
k15 x1_6 (x2_5 + (1 : Int32))) else (
fx FU (fun _ _ => none) (fun k31 (x1_8 : Int32) (x4_9 : Int32) =>
nm (
k23 x1_8 (x3_7 + (1 : Int32))) (fun k89 =>
if x3_7 ≤ x4_9 then (
k89) else (
ck x2_5 48 (
if (h3 2 x2_5.toNatClampNeg) = 0 then (
k89) else (
ck x3_7 48 (
if (h3 2 x3_7.toNatClampNeg) = 0 then (
k89) else (
ck x4_9 48 (
nm (fun (s10 : Int32) =>
nm ((x1_8 + s10)) (fun v11 =>
k31 v11 (x4_9 + (1 : Int32)))) (fun k81 =>
nm (
k81 (0 : Int32)) (fun k80 =>
if (h3 2 x4_9.toNatClampNeg) = 0 then (
k80) else (
cl1 (mX0_isTripod x2_5 x3_7 x4_9) (fun r12 =>
if r12 = 0 then (
k80) else (
k81 (1 : Int32)))))))))))))) x1_6 (0 : Int32))) x1_4 (0 : Int32))) (0 : Int32) (0 : Int32))
theorem cyX0_tripods : Callee yX0_tripods 0 := by unfold Callee; decide +kernel
set_option maxHeartbeats 4000000 in
theorem ctX0_tripods (l : Launch) (D : va_G) (ad : Nat → Nat) (dA : Nat → ClassId) (tt : (Nat → Option Nat) × (Nat → Option Nat) × va_W) (h : Hp)  (r : Int32) (h' : Hp) (hm : mX0_tripods h = some (r, h')) : CT l yX0_tripods cX0_tripods 5 (some .int) D dA 6 133 0 0 (wX ad dA tt h) [.ref (ad 100)] (some (.int r)) (wX ad dA tt h') := by
  refine ct_open (by decide) (Nat.le_of_ble_eq_true rfl) ?_
  intro G X hI hZ hV hR
  have hRet := hI rfl r rfl
  refine (show TM G (r, h') (mX0_tripods h) (wX ad dA tt h) 0 0 0 [(0, .ref (ad 100))] [] from ?_) hm
  clear hm hI hZ hV hR
  unfold mX0_tripods
  refine tm_aload_n X 0 dX0_tripods_0 rfl rfl ?_
  refine tm_getR X (frX_100_5 ad dA tt h) in_X0 rfl (Nat.le_of_ble_eq_true rfl) q242 rfl dX0_tripods_1 ?_
  refine tm_bipush X (31 : Int32) dX0_tripods_4 (by decide) ?_
  refine tm_iconst X (0 : Int32) dX0_tripods_6 (by decide) ?_
  refine tm_cl2 (fun r2 h3 e1 => ?_)
  refine tm_callVi (As := [.int (31 : Int32), .int (0 : Int32)]) (rest := []) (q0 := 3) X (ctX3_marks_40 l D ad dA tt h (31 : Int32) (0 : Int32) r2 h3 e1) (lw_V q814 q815 q816 q120 q817) cyX3_marks rfl rfl rfl ⟨(Nat.le_of_ble_eq_true rfl), (Nat.le_of_ble_eq_true rfl)⟩ (Nat.le_of_ble_eq_true rfl) dX0_tripods_7 ⟨Nat.le_of_ble_eq_true rfl, Nat.le_of_ble_eq_true rfl⟩ rfl ?_
  refine tm_pop X dX0_tripods_10 rfl ?_
  refine tm_iconst X (0 : Int32) dX0_tripods_11 (by decide) ?_
  refine tm_istore_n X [(1, .int (0 : Int32)), (0, .ref (ad 100))] dX0_tripods_12 rfl (Nat.le_of_ble_eq_true rfl) rfl ?_
  refine tm_iconst X (0 : Int32) dX0_tripods_13 (by decide) ?_
  refine tm_istore_n X [(2, .int (0 : Int32)), (1, .int (0 : Int32)), (0, .ref (ad 100))] dX0_tripods_14 rfl (Nat.le_of_ble_eq_true rfl) rfl ?_
  refine tm_lv X [2, 1, 0] rfl ?_
  refine fx_P (fun (k : Int32 → Int32 → Option (Int32 × Hp)) => ∀ (x1_4 : Int32) (x2_5 : Int32), TM G (r, h') (k x1_4 x2_5) (wX ad dA tt h3) 0 0 15 [(0, .ref (ad 100)), (1, .int x1_4), (2, .int x2_5)] []) (fun _ _ => tm_none) (fun k15 hk15 x1_4 x2_5 => ?_) FU (0 : Int32) (0 : Int32)
  refine tm_iload_n X 2 dX0_tripods_15 rfl rfl ?_
  refine tm_bipush X (48 : Int32) dX0_tripods_16 (by decide) ?_
  refine tm_ic_ge X 101 dX0_tripods_18 rfl ?_ ?_
  · skip
    refine tm_iload_n X 1 dX0_tripods_101 rfl rfl ?_
    exact tm_retIH (wf := wX ad dA tt) hRet dX0_tripods_102
  · skip
    refine tm_iconst X (0 : Int32) dX0_tripods_21 (by decide) ?_
    refine tm_istore_n X [(3, .int (0 : Int32)), (0, .ref (ad 100)), (1, .int x1_4), (2, .int x2_5)] dX0_tripods_22 rfl (Nat.le_of_ble_eq_true rfl) rfl ?_
    refine tm_lv X [1, 2, 3, 0] rfl ?_
    refine fx_P (fun (k : Int32 → Int32 → Option (Int32 × Hp)) => ∀ (x1_6 : Int32) (x3_7 : Int32), TM G (r, h') (k x1_6 x3_7) (wX ad dA tt h3) 0 0 23 [(0, .ref (ad 100)), (1, .int x1_6), (2, .int x2_5), (3, .int x3_7)] []) (fun _ _ => tm_none) (fun k23 hk23 x1_6 x3_7 => ?_) FU x1_4 (0 : Int32)
    refine tm_iload_n X 3 dX0_tripods_23 rfl rfl ?_
    refine tm_iload_n X 2 dX0_tripods_24 rfl rfl ?_
    refine tm_ic_ge X 95 dX0_tripods_25 rfl ?_ ?_
    · skip
      refine tm_iinc (v := (1 : Int32)) X 2 [(2, .int (x2_5 + (1 : Int32))), (0, .ref (ad 100)), (1, .int x1_6), (3, .int x3_7)] dX0_tripods_95 rfl (by decide) (Nat.le_of_ble_eq_true rfl) rfl ?_
      refine tm_goto X 15 dX0_tripods_98 rfl ?_
      refine tm_lv X [1, 2, 0] rfl ?_
      exact hk15 x1_6 (x2_5 + (1 : Int32))
    · skip
      refine tm_iconst X (0 : Int32) dX0_tripods_28 (by decide) ?_
      refine tm_istore X [(4, .int (0 : Int32)), (0, .ref (ad 100)), (1, .int x1_6), (2, .int x2_5), (3, .int x3_7)] dX0_tripods_29 (Nat.le_of_ble_eq_true rfl) rfl ?_
      refine tm_lv X [1, 2, 3, 4, 0] rfl ?_
      refine fx_P (fun (k : Int32 → Int32 → Option (Int32 × Hp)) => ∀ (x1_8 : Int32) (x4_9 : Int32), TM G (r, h') (k x1_8 x4_9) (wX ad dA tt h3) 0 0 31 [(0, .ref (ad 100)), (1, .int x1_8), (2, .int x2_5), (3, .int x3_7), (4, .int x4_9)] []) (fun _ _ => tm_none) (fun k31 hk31 x1_8 x4_9 => ?_) FU x1_6 (0 : Int32)
      refine tm_iload X 4 dX0_tripods_31 rfl ?_
      refine tm_iload_n X 3 dX0_tripods_33 rfl rfl ?_
      refine tm_let (fun k => TM G (r, h') k (wX ad dA tt h3) 0 0 89 [(0, .ref (ad 100)), (1, .int x1_8), (2, .int x2_5), (3, .int x3_7)] []) ?_ (fun k89 hk89 => ?_)
      · skip
        refine tm_iinc (v := (1 : Int32)) X 3 [(3, .int (x3_7 + (1 : Int32))), (0, .ref (ad 100)), (1, .int x1_8), (2, .int x2_5)] dX0_tripods_89 rfl (by decide) (Nat.le_of_ble_eq_true rfl) rfl ?_
        refine tm_goto X 23 dX0_tripods_92 rfl ?_
        refine tm_lv X [1, 2, 3, 0] rfl ?_
        exact hk23 x1_8 (x3_7 + (1 : Int32))
      · skip
        refine tm_ic_ge X 89 dX0_tripods_34 rfl ?_ ?_
        · skip
          refine tm_lv X [0, 1, 2, 3] rfl ?_
          exact hk89
        · skip
          refine tm_aload_n X 0 dX0_tripods_37 rfl rfl ?_
          refine tm_getR X (frX_100_2 ad dA tt h3) in_X0 rfl (Nat.le_of_ble_eq_true rfl) q237 rfl dX0_tripods_38 ?_
          refine tm_iload_n X 2 dX0_tripods_41 rfl rfl ?_
          refine tm_baloadZ X (arX_2 ad dA tt) dX0_tripods_42 ?_
          refine tm_if_eq X 89 dX0_tripods_43 rfl ?_ ?_
          · skip
            refine tm_lv X [0, 1, 2, 3] rfl ?_
            exact hk89
          · skip
            refine tm_aload_n X 0 dX0_tripods_46 rfl rfl ?_
            refine tm_getR X (frX_100_2 ad dA tt h3) in_X0 rfl (Nat.le_of_ble_eq_true rfl) q237 rfl dX0_tripods_47 ?_
            refine tm_iload_n X 3 dX0_tripods_50 rfl rfl ?_
            refine tm_baloadZ X (arX_2 ad dA tt) dX0_tripods_51 ?_
            refine tm_if_eq X 89 dX0_tripods_52 rfl ?_ ?_
            · skip
              refine tm_lv X [0, 1, 2, 3] rfl ?_
              exact hk89
            · skip
              refine tm_iload_n X 1 dX0_tripods_55 rfl rfl ?_
              refine tm_aload_n X 0 dX0_tripods_56 rfl rfl ?_
              refine tm_getR X (frX_100_2 ad dA tt h3) in_X0 rfl (Nat.le_of_ble_eq_true rfl) q237 rfl dX0_tripods_57 ?_
              refine tm_iload X 4 dX0_tripods_60 rfl ?_
              refine tm_baloadZ X (arX_2 ad dA tt) dX0_tripods_62 ?_
              refine tm_let (fun k => ∀ (s10 : Int32), TM G (r, h') (k s10) (wX ad dA tt h3) 0 0 81 [(0, .ref (ad 100)), (2, .int x2_5), (3, .int x3_7), (4, .int x4_9)] [.int s10, .int x1_8]) ?_ (fun k81 hk81 => ?_)
              · intro s10
                refine tm_iadd X dX0_tripods_81 ?_
                refine tm_nmI (fun v11 => ?_)
                refine tm_istore_n X [(1, .int v11), (0, .ref (ad 100)), (2, .int x2_5), (3, .int x3_7), (4, .int x4_9)] dX0_tripods_82 rfl (Nat.le_of_ble_eq_true rfl) rfl ?_
                refine tm_iinc (v := (1 : Int32)) X 4 [(4, .int (x4_9 + (1 : Int32))), (1, .int v11), (0, .ref (ad 100)), (2, .int x2_5), (3, .int x3_7)] dX0_tripods_83 rfl (by decide) (Nat.le_of_ble_eq_true rfl) rfl ?_
                refine tm_goto X 31 dX0_tripods_86 rfl ?_
                refine tm_lv X [2, 1, 3, 4, 0] rfl ?_
                exact hk31 v11 (x4_9 + (1 : Int32))
              · skip
                refine tm_let (fun k => TM G (r, h') k (wX ad dA tt h3) 0 0 80 [(0, .ref (ad 100)), (2, .int x2_5), (3, .int x3_7), (4, .int x4_9)] [.int x1_8]) ?_ (fun k80 hk80 => ?_)
                · skip
                  refine tm_iconst X (0 : Int32) dX0_tripods_80 (by decide) ?_
                  exact hk81 (0 : Int32)
                · skip
                  refine tm_if_eq X 80 dX0_tripods_63 rfl ?_ ?_
                  · skip
                    refine tm_lv X [0, 2, 3, 4] rfl ?_
                    exact hk80
                  · skip
                    refine tm_iload_n X 2 dX0_tripods_66 rfl rfl ?_
                    refine tm_iload_n X 3 dX0_tripods_67 rfl rfl ?_
                    refine tm_iload X 4 dX0_tripods_68 rfl ?_
                    refine tm_cl1 (fun r12 e13 => ?_)
                    refine tm_callSi (As := [.int x2_5, .int x3_7, .int x4_9]) (rest := [.int x1_8]) X (ctX0_isTripod l D dA x2_5 x3_7 x4_9 r12 e13) (lw_S q956 q957 q117 q958) cyX0_isTripod rfl ⟨(Nat.le_of_ble_eq_true rfl), (Nat.le_of_ble_eq_true rfl)⟩ (Nat.le_of_ble_eq_true rfl) dX0_tripods_70 ⟨Nat.le_of_ble_eq_true rfl, Nat.le_of_ble_eq_true rfl⟩ rfl ?_
                    refine tm_if_eq X 80 dX0_tripods_73 rfl ?_ ?_
                    · skip
                      refine tm_lv X [0, 2, 3, 4] rfl ?_
                      exact hk80
                    · skip
                      refine tm_iconst X (1 : Int32) dX0_tripods_76 (by decide) ?_
                      refine tm_goto X 81 dX0_tripods_77 rfl ?_
                      refine tm_lv X [0, 2, 3, 4] rfl ?_
                      exact hk81 (1 : Int32)
