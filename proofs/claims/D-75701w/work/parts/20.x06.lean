set_option maxRecDepth 100000
def mX0_gapsOf (h : Hp) (x1 : Int32) (x2 : Int32) (x3 : Int32) : Option (Int32) :=
fx FU (fun _ _ _ _ => none) (fun k12 (x4_1 : Int32) (x5_2 : Int32) (x6_3 : Int32) (x7_4 : Int32) =>
if (8 : Int32) ≤ x7_4 then (
some ((x6_3 * x4_1) - x5_2)) else (
cl1 (mX0_in (x7_4 - x3) (8 : Int32)) (fun r5 =>
nm (fun (x4_7 : Int32) (x5_8 : Int32) (x6_9 : Int32) =>
k12 x4_7 x5_8 x6_9 (x7_4 + (1 : Int32))) (fun k86 =>
if r5 = 0 then (
k86 x4_1 x5_2 x6_3) else (
nm ((((8 : Int32) * x2) + x7_4)) (fun v10 =>
ck v10 48 (
cl1 (mX0_fed h ((((8 : Int32) * x1) + x7_4) - x3)) (fun r12 =>
nm (((h 43 v10.toNatClampNeg) + r12)) (fun v13 =>
nm ((jmax x4_1 v13)) (fun v14 =>
nm ((x5_2 + v13)) (fun v15 =>
k86 v14 v15 (x6_3 + (1 : Int32))))))))))))) (0 : Int32) (0 : Int32) (0 : Int32) (0 : Int32)
theorem cyX0_gapsOf : Callee yX0_gapsOf 3 := by unfold Callee; decide +kernel
set_option maxHeartbeats 4000000 in
theorem ctX0_gapsOf (l : Launch) (D : va_G) (ad : Nat → Nat) (dA : Nat → ClassId) (tt : (Nat → Option Nat) × (Nat → Option Nat) × va_W) (h : Hp) (x1 : Int32) (x2 : Int32) (x3 : Int32) (r : Int32) (hm : mX0_gapsOf h x1 x2 x3 = some r) : CT l yX0_gapsOf cX0_gapsOf 9 (some .int) D dA 1 21 0 0 (wX ad dA tt h) [.ref (ad 100), .int x1, .int x2, .int x3] (some (.int r)) (wX ad dA tt h) := by
  refine ct_open (by decide) (Nat.le_of_ble_eq_true rfl) ?_
  intro G X hI hZ hV hR
  have hRet := hI rfl r rfl
  refine (show TM G r (mX0_gapsOf h x1 x2 x3) (wX ad dA tt h) 0 0 0 [(0, .ref (ad 100)), (1, .int x1), (2, .int x2), (3, .int x3)] [] from ?_) hm
  clear hm hI hZ hV hR
  unfold mX0_gapsOf
  refine tm_iconst X (0 : Int32) dX0_gapsOf_0 (by decide) ?_
  refine tm_istore X [(4, .int (0 : Int32)), (0, .ref (ad 100)), (1, .int x1), (2, .int x2), (3, .int x3)] dX0_gapsOf_1 (Nat.le_of_ble_eq_true rfl) rfl ?_
  refine tm_iconst X (0 : Int32) dX0_gapsOf_3 (by decide) ?_
  refine tm_istore X [(5, .int (0 : Int32)), (4, .int (0 : Int32)), (0, .ref (ad 100)), (1, .int x1), (2, .int x2), (3, .int x3)] dX0_gapsOf_4 (Nat.le_of_ble_eq_true rfl) rfl ?_
  refine tm_iconst X (0 : Int32) dX0_gapsOf_6 (by decide) ?_
  refine tm_istore X [(6, .int (0 : Int32)), (5, .int (0 : Int32)), (4, .int (0 : Int32)), (0, .ref (ad 100)), (1, .int x1), (2, .int x2), (3, .int x3)] dX0_gapsOf_7 (Nat.le_of_ble_eq_true rfl) rfl ?_
  refine tm_iconst X (0 : Int32) dX0_gapsOf_9 (by decide) ?_
  refine tm_istore X [(7, .int (0 : Int32)), (6, .int (0 : Int32)), (5, .int (0 : Int32)), (4, .int (0 : Int32)), (0, .ref (ad 100)), (1, .int x1), (2, .int x2), (3, .int x3)] dX0_gapsOf_10 (Nat.le_of_ble_eq_true rfl) rfl ?_
  refine tm_lv X [4, 5, 6, 7, 3, 2, 1, 0] rfl ?_
  refine fx_P (fun (k : Int32 → Int32 → Int32 → Int32 → Option (Int32)) => ∀ (x4_1 : Int32) (x5_2 : Int32) (x6_3 : Int32) (x7_4 : Int32), TM G r (k x4_1 x5_2 x6_3 x7_4) (wX ad dA tt h) 0 0 12 [(0, .ref (ad 100)), (1, .int x1), (2, .int x2), (3, .int x3), (4, .int x4_1), (5, .int x5_2), (6, .int x6_3), (7, .int x7_4)] []) (fun _ _ _ _ => tm_none) (fun k12 hk12 x4_1 x5_2 x6_3 x7_4 => ?_) FU (0 : Int32) (0 : Int32) (0 : Int32) (0 : Int32)
  refine tm_iload X 7 dX0_gapsOf_12 rfl ?_
  refine tm_bipush X (8 : Int32) dX0_gapsOf_14 (by decide) ?_
  refine tm_ic_ge X 92 dX0_gapsOf_16 rfl ?_ ?_
  · skip
    refine tm_iload X 6 dX0_gapsOf_92 rfl ?_
    refine tm_iload X 4 dX0_gapsOf_94 rfl ?_
    refine tm_imul X dX0_gapsOf_96 ?_
    refine tm_iload X 5 dX0_gapsOf_97 rfl ?_
    refine tm_isub X dX0_gapsOf_99 ?_
    exact tm_retI hRet dX0_gapsOf_100
  · skip
    refine tm_iload X 7 dX0_gapsOf_19 rfl ?_
    refine tm_iload_n X 3 dX0_gapsOf_21 rfl rfl ?_
    refine tm_isub X dX0_gapsOf_22 ?_
    refine tm_bipush X (8 : Int32) dX0_gapsOf_23 (by decide) ?_
    refine tm_cl1 (fun r5 e6 => ?_)
    refine tm_callSi (As := [.int (x7_4 - x3), .int (8 : Int32)]) (rest := []) X (ctX0_in l D dA (x7_4 - x3) (8 : Int32) r5 e6) (lw_S q311 q312 q117 q313) cyX0_in rfl ⟨(Nat.le_of_ble_eq_true rfl), (Nat.le_of_ble_eq_true rfl)⟩ (Nat.le_of_ble_eq_true rfl) dX0_gapsOf_25 ⟨Nat.le_of_ble_eq_true rfl, Nat.le_of_ble_eq_true rfl⟩ rfl ?_
    refine tm_let (fun k => ∀ (x4_7 : Int32) (x5_8 : Int32) (x6_9 : Int32), TM G r (k x4_7 x5_8 x6_9) (wX ad dA tt h) 0 0 86 [(0, .ref (ad 100)), (1, .int x1), (2, .int x2), (3, .int x3), (4, .int x4_7), (5, .int x5_8), (6, .int x6_9), (7, .int x7_4)] []) ?_ (fun k86 hk86 => ?_)
    · intro x4_7 x5_8 x6_9
      refine tm_iinc (v := (1 : Int32)) X 7 [(7, .int (x7_4 + (1 : Int32))), (0, .ref (ad 100)), (1, .int x1), (2, .int x2), (3, .int x3), (4, .int x4_7), (5, .int x5_8), (6, .int x6_9)] dX0_gapsOf_86 rfl (by decide) (Nat.le_of_ble_eq_true rfl) rfl ?_
      refine tm_goto X 12 dX0_gapsOf_89 rfl ?_
      refine tm_lv X [1, 2, 3, 4, 5, 6, 7, 0] rfl ?_
      exact hk12 x4_7 x5_8 x6_9 (x7_4 + (1 : Int32))
    · skip
      refine tm_if_ne X 34 dX0_gapsOf_28 rfl ?_ ?_
      · skip
        refine tm_aload_n X 0 dX0_gapsOf_34 rfl rfl ?_
        refine tm_getR X (frX_100_5 ad dA tt h) in_X0 rfl (Nat.le_of_ble_eq_true rfl) q242 rfl dX0_gapsOf_35 ?_
        refine tm_getRN X (frX_40_0 ad dA tt h) in_X3 rfl (Nat.le_of_ble_eq_true rfl) q179 rfl dX0_gapsOf_38 ?_
        refine tm_iconst X (1 : Int32) dX0_gapsOf_41 (by decide) ?_
        refine tm_aaloadL (j := 1) X (aaX_41 ad dA tt h) (by unfold vp_in; decide) (by decide) dX0_gapsOf_42 ?_
        refine tm_bipush X (8 : Int32) dX0_gapsOf_43 (by decide) ?_
        refine tm_iload_n X 2 dX0_gapsOf_45 rfl rfl ?_
        refine tm_imul X dX0_gapsOf_46 ?_
        refine tm_iload X 7 dX0_gapsOf_47 rfl ?_
        refine tm_iadd X dX0_gapsOf_49 ?_
        refine tm_nmI (fun v10 => ?_)
        refine tm_iaload X (arX_43 ad dA tt) dX0_gapsOf_50 ?_
        refine tm_aload_n X 0 dX0_gapsOf_51 rfl rfl ?_
        refine tm_bipush X (8 : Int32) dX0_gapsOf_52 (by decide) ?_
        refine tm_iload_n X 1 dX0_gapsOf_54 rfl rfl ?_
        refine tm_imul X dX0_gapsOf_55 ?_
        refine tm_iload X 7 dX0_gapsOf_56 rfl ?_
        refine tm_iadd X dX0_gapsOf_58 ?_
        refine tm_iload_n X 3 dX0_gapsOf_59 rfl rfl ?_
        refine tm_isub X dX0_gapsOf_60 ?_
        refine tm_cl1 (fun r12 e11 => ?_)
        refine tm_callVi (As := [.int ((((8 : Int32) * x1) + x7_4) - x3)]) (rest := [.int (h 43 v10.toNatClampNeg)]) (q0 := 0) X (ctX0_fed l D ad dA tt h ((((8 : Int32) * x1) + x7_4) - x3) r12 e11) (lw_V q883 q885 qs26 q117 q886) cyX0_fed rfl rfl rfl ⟨(Nat.le_of_ble_eq_true rfl), (Nat.le_of_ble_eq_true rfl)⟩ (Nat.le_of_ble_eq_true rfl) dX0_gapsOf_61 ⟨Nat.le_of_ble_eq_true rfl, Nat.le_of_ble_eq_true rfl⟩ rfl ?_
        refine tm_iadd X dX0_gapsOf_64 ?_
        refine tm_nmI (fun v13 => ?_)
        refine tm_istore X [(8, .int v13), (0, .ref (ad 100)), (1, .int x1), (2, .int x2), (3, .int x3), (4, .int x4_1), (5, .int x5_2), (6, .int x6_3), (7, .int x7_4)] dX0_gapsOf_65 (Nat.le_of_ble_eq_true rfl) rfl ?_
        refine tm_iload X 5 dX0_gapsOf_67 rfl ?_
        refine tm_iload X 0 dX0_gapsOf_69 rfl ?_
        refine tm_mmax X q878 (Nat.le_of_ble_eq_true rfl) (Nat.le_of_ble_eq_true rfl) ⟨Nat.le_of_ble_eq_true rfl, Nat.le_of_ble_eq_true rfl⟩ dX0_gapsOf_71 ?_
        refine tm_nmI (fun v14 => ?_)
        refine tm_istore X [(4, .int v14), (8, .int v13), (0, .ref (ad 100)), (1, .int x1), (2, .int x2), (3, .int x3), (5, .int x5_2), (6, .int x6_3), (7, .int x7_4)] dX0_gapsOf_74 (Nat.le_of_ble_eq_true rfl) rfl ?_
        refine tm_iload X 6 dX0_gapsOf_76 rfl ?_
        refine tm_iload X 1 dX0_gapsOf_78 rfl ?_
        refine tm_iadd X dX0_gapsOf_80 ?_
        refine tm_nmI (fun v15 => ?_)
        refine tm_istore X [(5, .int v15), (4, .int v14), (8, .int v13), (0, .ref (ad 100)), (1, .int x1), (2, .int x2), (3, .int x3), (6, .int x6_3), (7, .int x7_4)] dX0_gapsOf_81 (Nat.le_of_ble_eq_true rfl) rfl ?_
        refine tm_iinc (v := (1 : Int32)) X 7 [(6, .int (x6_3 + (1 : Int32))), (5, .int v15), (4, .int v14), (8, .int v13), (0, .ref (ad 100)), (1, .int x1), (2, .int x2), (3, .int x3), (7, .int x7_4)] dX0_gapsOf_83 rfl (by decide) (Nat.le_of_ble_eq_true rfl) rfl ?_
        refine tm_lv X [4, 5, 6, 7, 2, 1, 0, 8] rfl ?_
        exact hk86 v14 v15 (x6_3 + (1 : Int32))
      · skip
        refine tm_goto X 86 dX0_gapsOf_31 rfl ?_
        exact hk86 x4_1 x5_2 x6_3
def mX0_belongs (h : Hp) (x1 : Int32) (x2 : Int32) (x3 : Int32) : Option (Int32 × Hp) :=
cl1 (mX0_within x1 (1 : Int32) (16 : Int32)) (fun r1 =>
nm (
some ((-1 : Int32), h)) (fun k38 =>
if r1 = 0 then (
k38) else (
cl1 (mX0_in x2 (6 : Int32)) (fun r3 =>
if r3 = 0 then (
k38) else (
cl1 (mX0_in x3 (2 : Int32)) (fun r5 =>
if r5 = 0 then (
k38) else (
if ((8 : Int32) * x1) ≤ (h 100 10) then (
nm (u2 h 100 10 (0 : Int32)) (fun h7 =>
fx FU (fun _ => none) (fun k48 (x4_8 : Int32) =>
if ((8 : Int32) * x1) ≤ x4_8 then (
fx FU (fun _ _ _ => none) (fun k87 (x4_9 : Int32) (x5_10 : Int32) (x6_11 : Int32) =>
if x1 ≤ x6_11 then (
nm (fun (s12 : Int32) =>
some (s12, h7)) (fun k158 =>
if x3 = 0 then (
k158 x4_9) else (
k158 x5_10))) else (
fx FU (fun _ _ _ => none) (fun k97 (x4_13 : Int32) (x5_14 : Int32) (x7_15 : Int32) =>
if (2 : Int32) < x7_15 then (
k87 x4_13 x5_14 (x6_11 + (1 : Int32))) else (
cl1 (mX0_gapsOf h7 x6_11 x2 x7_15) (fun r17 =>
nm (fun (x4_18 : Int32) (x5_19 : Int32) =>
k97 x4_18 x5_19 (x7_15 + (1 : Int32))) (fun k135 =>
if r17 < x5_14 then (
cl1 (mX0_gapsOf h7 x6_11 x2 x7_15) (fun r21 =>
k135 x6_11 r21)) else (
k135 x4_13 x5_14))))) x4_9 x5_10 (-2 : Int32))) (0 : Int32) (268435456 : Int32) (0 : Int32)) else (
cl1 (mX0_fed h7 x4_8) (fun r23 =>
if r23 ≤ (25 : Int32) then (
k48 (x4_8 + (1 : Int32))) else (
some ((-3 : Int32), h7))))) (0 : Int32))) else (
k38))))))))
theorem cyX0_belongs : Callee yX0_belongs 3 := by unfold Callee; decide +kernel
set_option maxHeartbeats 4000000 in
theorem ctX0_belongs (l : Launch) (D : va_G) (ad : Nat → Nat) (dA : Nat → ClassId) (tt : (Nat → Option Nat) × (Nat → Option Nat) × va_W) (h : Hp) (x1 : Int32) (x2 : Int32) (x3 : Int32) (r : Int32) (h' : Hp) (hm : mX0_belongs h x1 x2 x3 = some (r, h')) : CT l yX0_belongs cX0_belongs 8 (some .int) D dA 2 49 0 0 (wX ad dA tt h) [.ref (ad 100), .int x1, .int x2, .int x3] (some (.int r)) (wX ad dA tt h') := by
  refine ct_open (by decide) (Nat.le_of_ble_eq_true rfl) ?_
  intro G X hI hZ hV hR
  have hRet := hI rfl r rfl
  refine (show TM G (r, h') (mX0_belongs h x1 x2 x3) (wX ad dA tt h) 0 0 0 [(0, .ref (ad 100)), (1, .int x1), (2, .int x2), (3, .int x3)] [] from ?_) hm
  clear hm hI hZ hV hR
  unfold mX0_belongs
  refine tm_iload_n X 1 dX0_belongs_0 rfl rfl ?_
  refine tm_iconst X (1 : Int32) dX0_belongs_1 (by decide) ?_
  refine tm_bipush X (16 : Int32) dX0_belongs_2 (by decide) ?_
  refine tm_cl1 (fun r1 e2 => ?_)
  refine tm_callSi (As := [.int x1, .int (1 : Int32), .int (16 : Int32)]) (rest := []) X (ctX0_within l D dA x1 (1 : Int32) (16 : Int32) r1 e2) (lw_S q317 q318 q117 q319) cyX0_within rfl ⟨(Nat.le_of_ble_eq_true rfl), (Nat.le_of_ble_eq_true rfl)⟩ (Nat.le_of_ble_eq_true rfl) dX0_belongs_4 ⟨Nat.le_of_ble_eq_true rfl, Nat.le_of_ble_eq_true rfl⟩ rfl ?_
  refine tm_let (fun k => TM G (r, h') k (wX ad dA tt h) 0 0 38 [] []) ?_ (fun k38 hk38 => ?_)
  · skip
    refine tm_iconst X (-1 : Int32) dX0_belongs_38 (by decide) ?_
    exact tm_retIH (wf := wX ad dA tt) hRet dX0_belongs_39
  · skip
    refine tm_if_eq X 38 dX0_belongs_7 rfl ?_ ?_
    · skip
      refine tm_lv X [] rfl ?_
      exact hk38
    · skip
      refine tm_iload_n X 2 dX0_belongs_10 rfl rfl ?_
      refine tm_bipush X (6 : Int32) dX0_belongs_11 (by decide) ?_
      refine tm_cl1 (fun r3 e4 => ?_)
      refine tm_callSi (As := [.int x2, .int (6 : Int32)]) (rest := []) X (ctX0_in l D dA x2 (6 : Int32) r3 e4) (lw_S q311 q312 q117 q313) cyX0_in rfl ⟨(Nat.le_of_ble_eq_true rfl), (Nat.le_of_ble_eq_true rfl)⟩ (Nat.le_of_ble_eq_true rfl) dX0_belongs_13 ⟨Nat.le_of_ble_eq_true rfl, Nat.le_of_ble_eq_true rfl⟩ rfl ?_
      refine tm_if_eq X 38 dX0_belongs_16 rfl ?_ ?_
      · skip
        refine tm_lv X [] rfl ?_
        exact hk38
      · skip
        refine tm_iload_n X 3 dX0_belongs_19 rfl rfl ?_
        refine tm_iconst X (2 : Int32) dX0_belongs_20 (by decide) ?_
        refine tm_cl1 (fun r5 e6 => ?_)
        refine tm_callSi (As := [.int x3, .int (2 : Int32)]) (rest := []) X (ctX0_in l D dA x3 (2 : Int32) r5 e6) (lw_S q311 q312 q117 q313) cyX0_in rfl ⟨(Nat.le_of_ble_eq_true rfl), (Nat.le_of_ble_eq_true rfl)⟩ (Nat.le_of_ble_eq_true rfl) dX0_belongs_21 ⟨Nat.le_of_ble_eq_true rfl, Nat.le_of_ble_eq_true rfl⟩ rfl ?_
        refine tm_if_eq X 38 dX0_belongs_24 rfl ?_ ?_
        · skip
          refine tm_lv X [] rfl ?_
          exact hk38
        · skip
          refine tm_bipush X (8 : Int32) dX0_belongs_27 (by decide) ?_
          refine tm_iload_n X 1 dX0_belongs_29 rfl rfl ?_
          refine tm_imul X dX0_belongs_30 ?_
          refine tm_aload_n X 0 dX0_belongs_31 rfl rfl ?_
          refine tm_getI X (fiX_100_10 ad dA tt) in_X0 rfl (Nat.le_of_ble_eq_true rfl) q250 rfl dX0_belongs_32 ?_
          refine tm_ic_le X 40 dX0_belongs_35 rfl ?_ ?_
          · skip
            refine tm_aload_n X 0 dX0_belongs_40 rfl rfl ?_
            refine tm_iconst X (0 : Int32) dX0_belongs_41 (by decide) ?_
            refine tm_putI X (fiX_100_10 ad dA tt) in_X0 rfl (Nat.le_of_ble_eq_true rfl) tyX0 tyX0_ok nmX0 rfl rfl q250 rfl dX0_belongs_42 (fun h7 => ?_)
            refine tm_iconst X (0 : Int32) dX0_belongs_45 (by decide) ?_
            refine tm_istore X [(4, .int (0 : Int32)), (0, .ref (ad 100)), (1, .int x1), (2, .int x2), (3, .int x3)] dX0_belongs_46 (Nat.le_of_ble_eq_true rfl) rfl ?_
            refine tm_lv X [1, 2, 3, 4, 0] rfl ?_
            refine fx_P (fun (k : Int32 → Option (Int32 × Hp)) => ∀ (x4_8 : Int32), TM G (r, h') (k x4_8) (wX ad dA tt h7) 0 0 48 [(0, .ref (ad 100)), (1, .int x1), (2, .int x2), (3, .int x3), (4, .int x4_8)] []) (fun _ => tm_none) (fun k48 hk48 x4_8 => ?_) FU (0 : Int32)
            refine tm_iload X 4 dX0_belongs_48 rfl ?_
            refine tm_bipush X (8 : Int32) dX0_belongs_50 (by decide) ?_
            refine tm_iload_n X 1 dX0_belongs_52 rfl rfl ?_
            refine tm_imul X dX0_belongs_53 ?_
            refine tm_ic_ge X 77 dX0_belongs_54 rfl ?_ ?_
            · skip
              refine tm_iconst X (0 : Int32) dX0_belongs_77 (by decide) ?_
              refine tm_istore X [(4, .int (0 : Int32)), (0, .ref (ad 100)), (1, .int x1), (2, .int x2), (3, .int x3)] dX0_belongs_78 (Nat.le_of_ble_eq_true rfl) rfl ?_
              refine tm_ldc X (268435456 : Int32) q847 dX0_belongs_80 ?_
              refine tm_istore X [(5, .int (268435456 : Int32)), (4, .int (0 : Int32)), (0, .ref (ad 100)), (1, .int x1), (2, .int x2), (3, .int x3)] dX0_belongs_82 (Nat.le_of_ble_eq_true rfl) rfl ?_
              refine tm_iconst X (0 : Int32) dX0_belongs_84 (by decide) ?_
              refine tm_istore X [(6, .int (0 : Int32)), (5, .int (268435456 : Int32)), (4, .int (0 : Int32)), (0, .ref (ad 100)), (1, .int x1), (2, .int x2), (3, .int x3)] dX0_belongs_85 (Nat.le_of_ble_eq_true rfl) rfl ?_
              refine tm_lv X [3, 4, 5, 6, 2, 1, 0] rfl ?_
              refine fx_P (fun (k : Int32 → Int32 → Int32 → Option (Int32 × Hp)) => ∀ (x4_9 : Int32) (x5_10 : Int32) (x6_11 : Int32), TM G (r, h') (k x4_9 x5_10 x6_11) (wX ad dA tt h7) 0 0 87 [(0, .ref (ad 100)), (1, .int x1), (2, .int x2), (3, .int x3), (4, .int x4_9), (5, .int x5_10), (6, .int x6_11)] []) (fun _ _ _ => tm_none) (fun k87 hk87 x4_9 x5_10 x6_11 => ?_) FU (0 : Int32) (268435456 : Int32) (0 : Int32)
              refine tm_iload X 6 dX0_belongs_87 rfl ?_
              refine tm_iload_n X 1 dX0_belongs_89 rfl rfl ?_
              refine tm_ic_ge X 147 dX0_belongs_90 rfl ?_ ?_
              · skip
                refine tm_iload_n X 3 dX0_belongs_147 rfl rfl ?_
                refine tm_let (fun k => ∀ (s12 : Int32), TM G (r, h') (k s12) (wX ad dA tt h7) 0 0 158 [] [.int s12]) ?_ (fun k158 hk158 => ?_)
                · intro s12
                  exact tm_retIH (wf := wX ad dA tt) hRet dX0_belongs_158
                · skip
                  refine tm_if_ne X 156 dX0_belongs_148 rfl ?_ ?_
                  · skip
                    refine tm_iload X 5 dX0_belongs_156 rfl ?_
                    refine tm_lv X [] rfl ?_
                    exact hk158 x5_10
                  · skip
                    refine tm_iload X 4 dX0_belongs_151 rfl ?_
                    refine tm_goto X 158 dX0_belongs_153 rfl ?_
                    refine tm_lv X [] rfl ?_
                    exact hk158 x4_9
              · skip
                refine tm_bipush X (-2 : Int32) dX0_belongs_93 (by decide) ?_
                refine tm_istore X [(7, .int (-2 : Int32)), (0, .ref (ad 100)), (1, .int x1), (2, .int x2), (3, .int x3), (4, .int x4_9), (5, .int x5_10), (6, .int x6_11)] dX0_belongs_95 (Nat.le_of_ble_eq_true rfl) rfl ?_
                refine tm_lv X [1, 2, 3, 4, 5, 6, 7, 0] rfl ?_
                refine fx_P (fun (k : Int32 → Int32 → Int32 → Option (Int32 × Hp)) => ∀ (x4_13 : Int32) (x5_14 : Int32) (x7_15 : Int32), TM G (r, h') (k x4_13 x5_14 x7_15) (wX ad dA tt h7) 0 0 97 [(0, .ref (ad 100)), (1, .int x1), (2, .int x2), (3, .int x3), (4, .int x4_13), (5, .int x5_14), (6, .int x6_11), (7, .int x7_15)] []) (fun _ _ _ => tm_none) (fun k97 hk97 x4_13 x5_14 x7_15 => ?_) FU x4_9 x5_10 (-2 : Int32)
                refine tm_iload X 7 dX0_belongs_97 rfl ?_
                refine tm_iconst X (2 : Int32) dX0_belongs_99 (by decide) ?_
                refine tm_ic_gt X 141 dX0_belongs_100 rfl ?_ ?_
                · skip
                  refine tm_iinc (v := (1 : Int32)) X 6 [(6, .int (x6_11 + (1 : Int32))), (0, .ref (ad 100)), (1, .int x1), (2, .int x2), (3, .int x3), (4, .int x4_13), (5, .int x5_14), (7, .int x7_15)] dX0_belongs_141 rfl (by decide) (Nat.le_of_ble_eq_true rfl) rfl ?_
                  refine tm_goto X 87 dX0_belongs_144 rfl ?_
                  refine tm_lv X [1, 2, 3, 4, 5, 6, 0] rfl ?_
                  exact hk87 x4_13 x5_14 (x6_11 + (1 : Int32))
                · skip
                  refine tm_aload_n X 0 dX0_belongs_103 rfl rfl ?_
                  refine tm_iload X 6 dX0_belongs_104 rfl ?_
                  refine tm_iload_n X 2 dX0_belongs_106 rfl rfl ?_
                  refine tm_iload X 7 dX0_belongs_107 rfl ?_
                  refine tm_cl1 (fun r17 e16 => ?_)
                  refine tm_callVi (As := [.int x6_11, .int x2, .int x7_15]) (rest := []) (q0 := 0) X (ctX0_gapsOf l D ad dA tt h7 x6_11 x2 x7_15 r17 e16) (lw_V q1041 q1043 qs42 q117 q1044) cyX0_gapsOf rfl rfl rfl ⟨(Nat.le_of_ble_eq_true rfl), (Nat.le_of_ble_eq_true rfl)⟩ (Nat.le_of_ble_eq_true rfl) dX0_belongs_109 ⟨Nat.le_of_ble_eq_true rfl, Nat.le_of_ble_eq_true rfl⟩ rfl ?_
                  refine tm_iload X 5 dX0_belongs_112 rfl ?_
                  refine tm_let (fun k => ∀ (x4_18 : Int32) (x5_19 : Int32), TM G (r, h') (k x4_18 x5_19) (wX ad dA tt h7) 0 0 135 [(0, .ref (ad 100)), (1, .int x1), (2, .int x2), (3, .int x3), (4, .int x4_18), (5, .int x5_19), (6, .int x6_11), (7, .int x7_15)] []) ?_ (fun k135 hk135 => ?_)
                  · intro x4_18 x5_19
                    refine tm_iinc (v := (1 : Int32)) X 7 [(7, .int (x7_15 + (1 : Int32))), (0, .ref (ad 100)), (1, .int x1), (2, .int x2), (3, .int x3), (4, .int x4_18), (5, .int x5_19), (6, .int x6_11)] dX0_belongs_135 rfl (by decide) (Nat.le_of_ble_eq_true rfl) rfl ?_
                    refine tm_goto X 97 dX0_belongs_138 rfl ?_
                    refine tm_lv X [1, 2, 3, 4, 5, 6, 7, 0] rfl ?_
                    exact hk97 x4_18 x5_19 (x7_15 + (1 : Int32))
                  · skip
                    refine tm_ic_lt X 120 dX0_belongs_114 rfl ?_ ?_
                    · skip
                      refine tm_aload_n X 0 dX0_belongs_120 rfl rfl ?_
                      refine tm_iload X 6 dX0_belongs_121 rfl ?_
                      refine tm_iload_n X 2 dX0_belongs_123 rfl rfl ?_
                      refine tm_iload X 7 dX0_belongs_124 rfl ?_
                      refine tm_cl1 (fun r21 e20 => ?_)
                      refine tm_callVi (As := [.int x6_11, .int x2, .int x7_15]) (rest := []) (q0 := 0) X (ctX0_gapsOf l D ad dA tt h7 x6_11 x2 x7_15 r21 e20) (lw_V q1041 q1043 qs42 q117 q1044) cyX0_gapsOf rfl rfl rfl ⟨(Nat.le_of_ble_eq_true rfl), (Nat.le_of_ble_eq_true rfl)⟩ (Nat.le_of_ble_eq_true rfl) dX0_belongs_126 ⟨Nat.le_of_ble_eq_true rfl, Nat.le_of_ble_eq_true rfl⟩ rfl ?_
                      refine tm_istore X [(5, .int r21), (0, .ref (ad 100)), (1, .int x1), (2, .int x2), (3, .int x3), (4, .int x4_13), (6, .int x6_11), (7, .int x7_15)] dX0_belongs_129 (Nat.le_of_ble_eq_true rfl) rfl ?_
                      refine tm_iload X 6 dX0_belongs_131 rfl ?_
                      refine tm_istore X [(4, .int x6_11), (5, .int r21), (0, .ref (ad 100)), (1, .int x1), (2, .int x2), (3, .int x3), (6, .int x6_11), (7, .int x7_15)] dX0_belongs_133 (Nat.le_of_ble_eq_true rfl) rfl ?_
                      refine tm_lv X [2, 3, 4, 5, 0, 1, 6, 7] rfl ?_
                      exact hk135 x6_11 r21
                    · skip
                      refine tm_goto X 135 dX0_belongs_117 rfl ?_
                      exact hk135 x4_13 x5_14
            · skip
              refine tm_aload_n X 0 dX0_belongs_57 rfl rfl ?_
              refine tm_iload X 4 dX0_belongs_58 rfl ?_
              refine tm_cl1 (fun r23 e22 => ?_)
              refine tm_callVi (As := [.int x4_8]) (rest := []) (q0 := 0) X (ctX0_fed l D ad dA tt h7 x4_8 r23 e22) (lw_V q883 q885 qs26 q117 q886) cyX0_fed rfl rfl rfl ⟨(Nat.le_of_ble_eq_true rfl), (Nat.le_of_ble_eq_true rfl)⟩ (Nat.le_of_ble_eq_true rfl) dX0_belongs_60 ⟨Nat.le_of_ble_eq_true rfl, Nat.le_of_ble_eq_true rfl⟩ rfl ?_
              refine tm_bipush X (25 : Int32) dX0_belongs_63 (by decide) ?_
              refine tm_ic_le X 71 dX0_belongs_65 rfl ?_ ?_
              · skip
                refine tm_iinc (v := (1 : Int32)) X 4 [(4, .int (x4_8 + (1 : Int32))), (0, .ref (ad 100)), (1, .int x1), (2, .int x2), (3, .int x3)] dX0_belongs_71 rfl (by decide) (Nat.le_of_ble_eq_true rfl) rfl ?_
                refine tm_goto X 48 dX0_belongs_74 rfl ?_
                refine tm_lv X [1, 2, 3, 4, 0] rfl ?_
                exact hk48 (x4_8 + (1 : Int32))
              · skip
                refine tm_bipush X (-3 : Int32) dX0_belongs_68 (by decide) ?_
                exact tm_retIH (wf := wX ad dA tt) hRet dX0_belongs_70
          · skip
            refine tm_lv X [] rfl ?_
            exact hk38
def mX0_stopped (h : Hp) (x1 : Int32) : Option (Int32) :=
fx FU (fun _ _ _ => none) (fun k8 (x2_1 : Int32) (x3_2 : Int32) (x4_3 : Int32) =>
if (h 100 4) ≤ x4_3 then (
some x2_1) else (
ck x4_3 48 (
cl1 (mX3_opening 40 h (h 3 x4_3.toNatClampNeg)) (fun r5 =>
cl1 (mX3_opening 40 h x3_2) (fun r7 =>
nm (fun (s8 : Int32) =>
nm ((x2_1 + s8)) (fun v9 =>
ck x4_3 48 (
nm ((h 3 x4_3.toNatClampNeg)) (fun v10 =>
k8 v9 v10 (x4_3 + (1 : Int32)))))) (fun k50 =>
if (r5 - r7) ≤ x1 then (
k50 (0 : Int32)) else (
k50 (1 : Int32)))))))) (0 : Int32) (31 : Int32) (0 : Int32)
theorem cyX0_stopped : Callee yX0_stopped 1 := by unfold Callee; decide +kernel
set_option maxHeartbeats 4000000 in
theorem ctX0_stopped (l : Launch) (D : va_G) (ad : Nat → Nat) (dA : Nat → ClassId) (tt : (Nat → Option Nat) × (Nat → Option Nat) × va_W) (h : Hp) (x1 : Int32) (r : Int32) (hm : mX0_stopped h x1 = some r) : CT l yX0_stopped cX0_stopped 5 (some .int) D dA 5 108 0 0 (wX ad dA tt h) [.ref (ad 100), .int x1] (some (.int r)) (wX ad dA tt h) := by
  refine ct_open (by decide) (Nat.le_of_ble_eq_true rfl) ?_
  intro G X hI hZ hV hR
  have hRet := hI rfl r rfl
  refine (show TM G r (mX0_stopped h x1) (wX ad dA tt h) 0 0 0 [(0, .ref (ad 100)), (1, .int x1)] [] from ?_) hm
  clear hm hI hZ hV hR
  unfold mX0_stopped
  refine tm_iconst X (0 : Int32) dX0_stopped_0 (by decide) ?_
  refine tm_istore_n X [(2, .int (0 : Int32)), (0, .ref (ad 100)), (1, .int x1)] dX0_stopped_1 rfl (Nat.le_of_ble_eq_true rfl) rfl ?_
  refine tm_bipush X (31 : Int32) dX0_stopped_2 (by decide) ?_
  refine tm_istore_n X [(3, .int (31 : Int32)), (2, .int (0 : Int32)), (0, .ref (ad 100)), (1, .int x1)] dX0_stopped_4 rfl (Nat.le_of_ble_eq_true rfl) rfl ?_
  refine tm_iconst X (0 : Int32) dX0_stopped_5 (by decide) ?_
  refine tm_istore X [(4, .int (0 : Int32)), (3, .int (31 : Int32)), (2, .int (0 : Int32)), (0, .ref (ad 100)), (1, .int x1)] dX0_stopped_6 (Nat.le_of_ble_eq_true rfl) rfl ?_
  refine tm_lv X [3, 4, 2, 1, 0] rfl ?_
  refine fx_P (fun (k : Int32 → Int32 → Int32 → Option (Int32)) => ∀ (x2_1 : Int32) (x3_2 : Int32) (x4_3 : Int32), TM G r (k x2_1 x3_2 x4_3) (wX ad dA tt h) 0 0 8 [(0, .ref (ad 100)), (1, .int x1), (2, .int x2_1), (3, .int x3_2), (4, .int x4_3)] []) (fun _ _ _ => tm_none) (fun k8 hk8 x2_1 x3_2 x4_3 => ?_) FU (0 : Int32) (31 : Int32) (0 : Int32)
  refine tm_iload X 4 dX0_stopped_8 rfl ?_
  refine tm_aload_n X 0 dX0_stopped_10 rfl rfl ?_
  refine tm_getI X (fiX_100_4 ad dA tt) in_X0 rfl (Nat.le_of_ble_eq_true rfl) q241 rfl dX0_stopped_11 ?_
  refine tm_ic_ge X 66 dX0_stopped_14 rfl ?_ ?_
  · skip
    refine tm_iload_n X 2 dX0_stopped_66 rfl rfl ?_
    exact tm_retI hRet dX0_stopped_67
  · skip
    refine tm_iload_n X 2 dX0_stopped_17 rfl rfl ?_
    refine tm_aload_n X 0 dX0_stopped_18 rfl rfl ?_
    refine tm_getR X (frX_100_5 ad dA tt h) in_X0 rfl (Nat.le_of_ble_eq_true rfl) q242 rfl dX0_stopped_19 ?_
    refine tm_aload_n X 0 dX0_stopped_22 rfl rfl ?_
    refine tm_getR X (frX_100_3 ad dA tt h) in_X0 rfl (Nat.le_of_ble_eq_true rfl) q239 rfl dX0_stopped_23 ?_
    refine tm_iload X 4 dX0_stopped_26 rfl ?_
    refine tm_iaload X (arX_3 ad dA tt) dX0_stopped_28 ?_
    refine tm_cl1 (fun r5 e4 => ?_)
    refine tm_callVi (As := [.int (h 3 x4_3.toNatClampNeg)]) (rest := [.int x2_1]) (q0 := 3) X (ctX3_opening_40 l D ad dA tt h (h 3 x4_3.toNatClampNeg) r5 e4) (lw_V q833 q819 q820 q120 q821) cyX3_opening rfl rfl rfl ⟨(Nat.le_of_ble_eq_true rfl), (Nat.le_of_ble_eq_true rfl)⟩ (Nat.le_of_ble_eq_true rfl) dX0_stopped_29 ⟨Nat.le_of_ble_eq_true rfl, Nat.le_of_ble_eq_true rfl⟩ rfl ?_
    refine tm_aload_n X 0 dX0_stopped_32 rfl rfl ?_
    refine tm_getR X (frX_100_5 ad dA tt h) in_X0 rfl (Nat.le_of_ble_eq_true rfl) q242 rfl dX0_stopped_33 ?_
    refine tm_iload_n X 3 dX0_stopped_36 rfl rfl ?_
    refine tm_cl1 (fun r7 e6 => ?_)
    refine tm_callVi (As := [.int x3_2]) (rest := [.int r5, .int x2_1]) (q0 := 3) X (ctX3_opening_40 l D ad dA tt h x3_2 r7 e6) (lw_V q833 q819 q820 q120 q821) cyX3_opening rfl rfl rfl ⟨(Nat.le_of_ble_eq_true rfl), (Nat.le_of_ble_eq_true rfl)⟩ (Nat.le_of_ble_eq_true rfl) dX0_stopped_37 ⟨Nat.le_of_ble_eq_true rfl, Nat.le_of_ble_eq_true rfl⟩ rfl ?_
    refine tm_isub X dX0_stopped_40 ?_
    refine tm_iload_n X 1 dX0_stopped_41 rfl rfl ?_
    refine tm_let (fun k => ∀ (s8 : Int32), TM G r (k s8) (wX ad dA tt h) 0 0 50 [(0, .ref (ad 100)), (1, .int x1), (4, .int x4_3)] [.int s8, .int x2_1]) ?_ (fun k50 hk50 => ?_)
    · intro s8
      refine tm_iadd X dX0_stopped_50 ?_
      refine tm_nmI (fun v9 => ?_)
      refine tm_istore_n X [(2, .int v9), (0, .ref (ad 100)), (1, .int x1), (4, .int x4_3)] dX0_stopped_51 rfl (Nat.le_of_ble_eq_true rfl) rfl ?_
      refine tm_aload_n X 1 dX0_stopped_52 rfl rfl ?_
      refine tm_getR X (frX_100_3 ad dA tt h) in_X0 rfl (Nat.le_of_ble_eq_true rfl) q239 rfl dX0_stopped_53 ?_
      refine tm_iload X 3 dX0_stopped_56 rfl ?_
      refine tm_iaload X (arX_3 ad dA tt) dX0_stopped_58 ?_
      refine tm_nmI (fun v10 => ?_)
      refine tm_istore_n X [(3, .int v10), (2, .int v9), (0, .ref (ad 100)), (1, .int x1), (4, .int x4_3)] dX0_stopped_59 rfl (Nat.le_of_ble_eq_true rfl) rfl ?_
      refine tm_iinc (v := (1 : Int32)) X 4 [(4, .int (x4_3 + (1 : Int32))), (3, .int v10), (2, .int v9), (0, .ref (ad 100)), (1, .int x1)] dX0_stopped_60 rfl (by decide) (Nat.le_of_ble_eq_true rfl) rfl ?_
      refine tm_goto X 8 dX0_stopped_63 rfl ?_
      refine tm_lv X [3, 4, 2, 1, 0] rfl ?_
      exact hk8 v9 v10 (x4_3 + (1 : Int32))
    · skip
      refine tm_ic_le X 49 dX0_stopped_42 rfl ?_ ?_
      · skip
        refine tm_iconst X (0 : Int32) dX0_stopped_49 (by decide) ?_
        refine tm_lv X [0, 1, 4] rfl ?_
        exact hk50 (0 : Int32)
      · skip
        refine tm_iconst X (1 : Int32) dX0_stopped_45 (by decide) ?_
        refine tm_goto X 50 dX0_stopped_46 rfl ?_
        refine tm_lv X [0, 1, 4] rfl ?_
        exact hk50 (1 : Int32)
def mX0_unlikeGlides (h : Hp)  : Option (Int32) :=
fx FU (fun _ _ => none) (fun k4 (x1_1 : Int32) (x2_2 : Int32) =>
if (63 : Int32) ≤ x2_2 then (
some x1_1) else (
nm (fun (s3 : Int32) =>
fx FU (fun _ _ => none) (fun k25 (x3_4 : Int32) (x4_5 : Int32) =>
if (h 100 4) ≤ x4_5 then (
nm (fun (s6 : Int32) =>
nm ((x1_1 + s6)) (fun v7 =>
k4 v7 (x2_2 + (1 : Int32)))) (fun k71 =>
if x3_4 = 0 then (
k71 (0 : Int32)) else (
k71 (1 : Int32)))) else (
nm (fun (s8 : Int32) =>
k25 s8 (x4_5 + (1 : Int32))) (fun k54 =>
nm (
k54 (1 : Int32)) (fun k49 =>
if x3_4 = 0 then (
ck x4_5 48 (
if (h 3 x4_5.toNatClampNeg) = x2_2 then (
k49) else (
k54 (0 : Int32)))) else (
k49))))) s3 (0 : Int32)) (fun k21 =>
if x2_2 = (31 : Int32) then (
k21 (1 : Int32)) else (
k21 (0 : Int32))))) (0 : Int32) (0 : Int32)
theorem cyX0_unlikeGlides : Callee yX0_unlikeGlides 0 := by unfold Callee; decide +kernel
set_option maxHeartbeats 4000000 in
theorem ctX0_unlikeGlides (l : Launch) (D : va_G) (ad : Nat → Nat) (dA : Nat → ClassId) (tt : (Nat → Option Nat) × (Nat → Option Nat) × va_W) (h : Hp)  (r : Int32) (hm : mX0_unlikeGlides h = some r) : CT l yX0_unlikeGlides cX0_unlikeGlides 5 (some .int) D dA 0 0 0 0 (wX ad dA tt h) [.ref (ad 100)] (some (.int r)) (wX ad dA tt h) := by
  refine ct_open (by decide) (Nat.le_of_ble_eq_true rfl) ?_
  intro G X hI hZ hV hR
  have hRet := hI rfl r rfl
  refine (show TM G r (mX0_unlikeGlides h) (wX ad dA tt h) 0 0 0 [(0, .ref (ad 100))] [] from ?_) hm
  clear hm hI hZ hV hR
  unfold mX0_unlikeGlides
  refine tm_iconst X (0 : Int32) dX0_unlikeGlides_0 (by decide) ?_
  refine tm_istore_n X [(1, .int (0 : Int32)), (0, .ref (ad 100))] dX0_unlikeGlides_1 rfl (Nat.le_of_ble_eq_true rfl) rfl ?_
  refine tm_iconst X (0 : Int32) dX0_unlikeGlides_2 (by decide) ?_
  refine tm_istore_n X [(2, .int (0 : Int32)), (1, .int (0 : Int32)), (0, .ref (ad 100))] dX0_unlikeGlides_3 rfl (Nat.le_of_ble_eq_true rfl) rfl ?_
  refine tm_lv X [2, 1, 0] rfl ?_
  refine fx_P (fun (k : Int32 → Int32 → Option (Int32)) => ∀ (x1_1 : Int32) (x2_2 : Int32), TM G r (k x1_1 x2_2) (wX ad dA tt h) 0 0 4 [(0, .ref (ad 100)), (1, .int x1_1), (2, .int x2_2)] []) (fun _ _ => tm_none) (fun k4 hk4 x1_1 x2_2 => ?_) FU (0 : Int32) (0 : Int32)
  refine tm_iload_n X 2 dX0_unlikeGlides_4 rfl rfl ?_
  refine tm_bipush X (63 : Int32) dX0_unlikeGlides_5 (by decide) ?_
  refine tm_ic_ge X 79 dX0_unlikeGlides_7 rfl ?_ ?_
  · skip
    refine tm_iload_n X 1 dX0_unlikeGlides_79 rfl rfl ?_
    exact tm_retI hRet dX0_unlikeGlides_80
  · skip
    refine tm_iload_n X 2 dX0_unlikeGlides_10 rfl rfl ?_
    refine tm_bipush X (31 : Int32) dX0_unlikeGlides_11 (by decide) ?_
    refine tm_let (fun k => ∀ (s3 : Int32), TM G r (k s3) (wX ad dA tt h) 0 0 21 [(0, .ref (ad 100)), (1, .int x1_1), (2, .int x2_2)] [.int s3]) ?_ (fun k21 hk21 => ?_)
    · intro s3
      refine tm_istore_n X [(3, .int s3), (0, .ref (ad 100)), (1, .int x1_1), (2, .int x2_2)] dX0_unlikeGlides_21 rfl (Nat.le_of_ble_eq_true rfl) rfl ?_
      refine tm_iconst X (0 : Int32) dX0_unlikeGlides_22 (by decide) ?_
      refine tm_istore X [(4, .int (0 : Int32)), (3, .int s3), (0, .ref (ad 100)), (1, .int x1_1), (2, .int x2_2)] dX0_unlikeGlides_23 (Nat.le_of_ble_eq_true rfl) rfl ?_
      refine tm_lv X [2, 3, 4, 1, 0] rfl ?_
      refine fx_P (fun (k : Int32 → Int32 → Option (Int32)) => ∀ (x3_4 : Int32) (x4_5 : Int32), TM G r (k x3_4 x4_5) (wX ad dA tt h) 0 0 25 [(0, .ref (ad 100)), (1, .int x1_1), (2, .int x2_2), (3, .int x3_4), (4, .int x4_5)] []) (fun _ _ => tm_none) (fun k25 hk25 x3_4 x4_5 => ?_) FU s3 (0 : Int32)
      refine tm_iload X 4 dX0_unlikeGlides_25 rfl ?_
      refine tm_aload_n X 0 dX0_unlikeGlides_27 rfl rfl ?_
      refine tm_getI X (fiX_100_4 ad dA tt) in_X0 rfl (Nat.le_of_ble_eq_true rfl) q241 rfl dX0_unlikeGlides_28 ?_
      refine tm_ic_ge X 61 dX0_unlikeGlides_31 rfl ?_ ?_
      · skip
        refine tm_iload_n X 1 dX0_unlikeGlides_61 rfl rfl ?_
        refine tm_iload_n X 3 dX0_unlikeGlides_62 rfl rfl ?_
        refine tm_let (fun k => ∀ (s6 : Int32), TM G r (k s6) (wX ad dA tt h) 0 0 71 [(0, .ref (ad 100)), (2, .int x2_2)] [.int s6, .int x1_1]) ?_ (fun k71 hk71 => ?_)
        · intro s6
          refine tm_iadd X dX0_unlikeGlides_71 ?_
          refine tm_nmI (fun v7 => ?_)
          refine tm_istore_n X [(1, .int v7), (0, .ref (ad 100)), (2, .int x2_2)] dX0_unlikeGlides_72 rfl (Nat.le_of_ble_eq_true rfl) rfl ?_
          refine tm_iinc (v := (1 : Int32)) X 2 [(2, .int (x2_2 + (1 : Int32))), (1, .int v7), (0, .ref (ad 100))] dX0_unlikeGlides_73 rfl (by decide) (Nat.le_of_ble_eq_true rfl) rfl ?_
          refine tm_goto X 4 dX0_unlikeGlides_76 rfl ?_
          refine tm_lv X [2, 1, 0] rfl ?_
          exact hk4 v7 (x2_2 + (1 : Int32))
        · skip
          refine tm_if_eq X 70 dX0_unlikeGlides_63 rfl ?_ ?_
          · skip
            refine tm_iconst X (0 : Int32) dX0_unlikeGlides_70 (by decide) ?_
            refine tm_lv X [0, 2] rfl ?_
            exact hk71 (0 : Int32)
          · skip
            refine tm_iconst X (1 : Int32) dX0_unlikeGlides_66 (by decide) ?_
            refine tm_goto X 71 dX0_unlikeGlides_67 rfl ?_
            refine tm_lv X [0, 2] rfl ?_
            exact hk71 (1 : Int32)
      · skip
        refine tm_iload_n X 3 dX0_unlikeGlides_34 rfl rfl ?_
        refine tm_let (fun k => ∀ (s8 : Int32), TM G r (k s8) (wX ad dA tt h) 0 0 54 [(0, .ref (ad 100)), (1, .int x1_1), (2, .int x2_2), (4, .int x4_5)] [.int s8]) ?_ (fun k54 hk54 => ?_)
        · intro s8
          refine tm_istore_n X [(3, .int s8), (0, .ref (ad 100)), (1, .int x1_1), (2, .int x2_2), (4, .int x4_5)] dX0_unlikeGlides_54 rfl (Nat.le_of_ble_eq_true rfl) rfl ?_
          refine tm_iinc (v := (1 : Int32)) X 4 [(4, .int (x4_5 + (1 : Int32))), (3, .int s8), (0, .ref (ad 100)), (1, .int x1_1), (2, .int x2_2)] dX0_unlikeGlides_55 rfl (by decide) (Nat.le_of_ble_eq_true rfl) rfl ?_
          refine tm_goto X 25 dX0_unlikeGlides_58 rfl ?_
          refine tm_lv X [2, 3, 4, 1, 0] rfl ?_
          exact hk25 s8 (x4_5 + (1 : Int32))
        · skip
          refine tm_let (fun k => TM G r k (wX ad dA tt h) 0 0 49 [(0, .ref (ad 100)), (1, .int x1_1), (2, .int x2_2), (4, .int x4_5)] []) ?_ (fun k49 hk49 => ?_)
          · skip
            refine tm_iconst X (1 : Int32) dX0_unlikeGlides_49 (by decide) ?_
            refine tm_goto X 54 dX0_unlikeGlides_50 rfl ?_
            exact hk54 (1 : Int32)
          · skip
            refine tm_if_ne X 49 dX0_unlikeGlides_35 rfl ?_ ?_
            · skip
              refine tm_lv X [0, 1, 2, 4] rfl ?_
              exact hk49
            · skip
              refine tm_aload_n X 0 dX0_unlikeGlides_38 rfl rfl ?_
              refine tm_getR X (frX_100_3 ad dA tt h) in_X0 rfl (Nat.le_of_ble_eq_true rfl) q239 rfl dX0_unlikeGlides_39 ?_
              refine tm_iload X 4 dX0_unlikeGlides_42 rfl ?_
              refine tm_iaload X (arX_3 ad dA tt) dX0_unlikeGlides_44 ?_
              refine tm_iload_n X 2 dX0_unlikeGlides_45 rfl rfl ?_
              refine tm_ic_ne X 53 dX0_unlikeGlides_46 rfl ?_ ?_
              · skip
                refine tm_iconst X (0 : Int32) dX0_unlikeGlides_53 (by decide) ?_
                refine tm_lv X [0, 1, 2, 4] rfl ?_
                exact hk54 (0 : Int32)
              · skip
                refine tm_lv X [0, 1, 2, 4] rfl ?_
                exact hk49
    · skip
      refine tm_ic_ne X 20 dX0_unlikeGlides_13 rfl ?_ ?_
      · skip
        refine tm_iconst X (0 : Int32) dX0_unlikeGlides_20 (by decide) ?_
        exact hk21 (0 : Int32)
      · skip
        refine tm_iconst X (1 : Int32) dX0_unlikeGlides_16 (by decide) ?_
        refine tm_goto X 21 dX0_unlikeGlides_17 rfl ?_
        exact hk21 (1 : Int32)
def mX0_along (h : Hp) (x1 : Int32) (x2 : Int32) : Option (Int32) :=
cl1 (mX0_within x1 (0 : Int32) (50 : Int32)) (fun r1 =>
nm (
some (-1 : Int32)) (fun k18 =>
if r1 = 0 then (
k18) else (
cl1 (mX0_in x2 (5 : Int32)) (fun r3 =>
if r3 = 0 then (
k18) else (
if x2 = 0 then (
some (h 100 4)) else (
if x2 ≤ (2 : Int32) then (
cl1 (mX3_opening 40 h (31 : Int32)) (fun r6 =>
fx FU (fun _ _ => none) (fun k65 (x3_7 : Int32) (x4_8 : Int32) =>
if (h 100 4) ≤ x4_8 then (
some x3_7) else (
nm (fun (s9 : Int32) =>
k65 s9 (x4_8 + (1 : Int32))) (fun k118 =>
if x2 = (1 : Int32) then (
ck x4_8 48 (
cl1 (mX3_opening 40 h (h 3 x4_8.toNatClampNeg)) (fun r13 =>
k118 (jmax x3_7 r13)))) else (
ck x4_8 48 (
cl1 (mX3_opening 40 h (h 3 x4_8.toNatClampNeg)) (fun r11 =>
k118 (jmin x3_7 r11))))))) r6 (0 : Int32))) else (
nm (fun (s14 : Int32) =>
some s14) (fun k51 =>
if x2 = (3 : Int32) then (
cl1 (mX0_stopped h x1) (fun r18 =>
k51 r18)) else (
cl1 (mX0_unlikeGlides h) (fun r16 =>
k51 r16))))))))))
theorem cyX0_along : Callee yX0_along 2 := by unfold Callee; decide +kernel
set_option maxHeartbeats 4000000 in
theorem ctX0_along (l : Launch) (D : va_G) (ad : Nat → Nat) (dA : Nat → ClassId) (tt : (Nat → Option Nat) × (Nat → Option Nat) × va_W) (h : Hp) (x1 : Int32) (x2 : Int32) (r : Int32) (hm : mX0_along h x1 x2 = some r) : CT l yX0_along cX0_along 5 (some .int) D dA 6 132 0 0 (wX ad dA tt h) [.ref (ad 100), .int x1, .int x2] (some (.int r)) (wX ad dA tt h) := by
  refine ct_open (by decide) (Nat.le_of_ble_eq_true rfl) ?_
  intro G X hI hZ hV hR
  have hRet := hI rfl r rfl
  refine (show TM G r (mX0_along h x1 x2) (wX ad dA tt h) 0 0 0 [(0, .ref (ad 100)), (1, .int x1), (2, .int x2)] [] from ?_) hm
  clear hm hI hZ hV hR
  unfold mX0_along
  refine tm_iload_n X 1 dX0_along_0 rfl rfl ?_
  refine tm_iconst X (0 : Int32) dX0_along_1 (by decide) ?_
  refine tm_bipush X (50 : Int32) dX0_along_2 (by decide) ?_
  refine tm_cl1 (fun r1 e2 => ?_)
  refine tm_callSi (As := [.int x1, .int (0 : Int32), .int (50 : Int32)]) (rest := []) X (ctX0_within l D dA x1 (0 : Int32) (50 : Int32) r1 e2) (lw_S q317 q318 q117 q319) cyX0_within rfl ⟨(Nat.le_of_ble_eq_true rfl), (Nat.le_of_ble_eq_true rfl)⟩ (Nat.le_of_ble_eq_true rfl) dX0_along_4 ⟨Nat.le_of_ble_eq_true rfl, Nat.le_of_ble_eq_true rfl⟩ rfl ?_
  refine tm_let (fun k => TM G r k (wX ad dA tt h) 0 0 18 [] []) ?_ (fun k18 hk18 => ?_)
  · skip
    refine tm_iconst X (-1 : Int32) dX0_along_18 (by decide) ?_
    exact tm_retI hRet dX0_along_19
  · skip
    refine tm_if_eq X 18 dX0_along_7 rfl ?_ ?_
    · skip
      refine tm_lv X [] rfl ?_
      exact hk18
    · skip
      refine tm_iload_n X 2 dX0_along_10 rfl rfl ?_
      refine tm_iconst X (5 : Int32) dX0_along_11 (by decide) ?_
      refine tm_cl1 (fun r3 e4 => ?_)
      refine tm_callSi (As := [.int x2, .int (5 : Int32)]) (rest := []) X (ctX0_in l D dA x2 (5 : Int32) r3 e4) (lw_S q311 q312 q117 q313) cyX0_in rfl ⟨(Nat.le_of_ble_eq_true rfl), (Nat.le_of_ble_eq_true rfl)⟩ (Nat.le_of_ble_eq_true rfl) dX0_along_12 ⟨Nat.le_of_ble_eq_true rfl, Nat.le_of_ble_eq_true rfl⟩ rfl ?_
      refine tm_if_ne X 20 dX0_along_15 rfl ?_ ?_
      · skip
        refine tm_iload_n X 2 dX0_along_20 rfl rfl ?_
        refine tm_if_ne X 29 dX0_along_21 rfl ?_ ?_
        · skip
          refine tm_iload_n X 2 dX0_along_29 rfl rfl ?_
          refine tm_iconst X (2 : Int32) dX0_along_30 (by decide) ?_
          refine tm_ic_le X 52 dX0_along_31 rfl ?_ ?_
          · skip
            refine tm_aload_n X 0 dX0_along_52 rfl rfl ?_
            refine tm_getR X (frX_100_5 ad dA tt h) in_X0 rfl (Nat.le_of_ble_eq_true rfl) q242 rfl dX0_along_53 ?_
            refine tm_bipush X (31 : Int32) dX0_along_56 (by decide) ?_
            refine tm_cl1 (fun r6 e5 => ?_)
            refine tm_callVi (As := [.int (31 : Int32)]) (rest := []) (q0 := 3) X (ctX3_opening_40 l D ad dA tt h (31 : Int32) r6 e5) (lw_V q833 q819 q820 q120 q821) cyX3_opening rfl rfl rfl ⟨(Nat.le_of_ble_eq_true rfl), (Nat.le_of_ble_eq_true rfl)⟩ (Nat.le_of_ble_eq_true rfl) dX0_along_58 ⟨Nat.le_of_ble_eq_true rfl, Nat.le_of_ble_eq_true rfl⟩ rfl ?_
            refine tm_istore_n X [(3, .int r6), (0, .ref (ad 100)), (1, .int x1), (2, .int x2)] dX0_along_61 rfl (Nat.le_of_ble_eq_true rfl) rfl ?_
            refine tm_iconst X (0 : Int32) dX0_along_62 (by decide) ?_
            refine tm_istore X [(4, .int (0 : Int32)), (3, .int r6), (0, .ref (ad 100)), (1, .int x1), (2, .int x2)] dX0_along_63 (Nat.le_of_ble_eq_true rfl) rfl ?_
            refine tm_lv X [2, 4, 1, 0] rfl ?_
            refine fx_P (fun (k : Int32 → Int32 → Option (Int32)) => ∀ (x3_7 : Int32) (x4_8 : Int32), TM G r (k x3_7 x4_8) (wX ad dA tt h) 0 0 65 [(0, .ref (ad 100)), (2, .int x2), (3, .int x3_7), (4, .int x4_8)] []) (fun _ _ => tm_none) (fun k65 hk65 x3_7 x4_8 => ?_) FU r6 (0 : Int32)
            refine tm_iload X 3 dX0_along_65 rfl ?_
            refine tm_aload_n X 0 dX0_along_67 rfl rfl ?_
            refine tm_getI X (fiX_100_4 ad dA tt) in_X0 rfl (Nat.le_of_ble_eq_true rfl) q241 rfl dX0_along_68 ?_
            refine tm_ic_ge X 125 dX0_along_71 rfl ?_ ?_
            · skip
              refine tm_iload_n X 2 dX0_along_125 rfl rfl ?_
              exact tm_retI hRet dX0_along_126
            · skip
              refine tm_iload_n X 1 dX0_along_74 rfl rfl ?_
              refine tm_iconst X (1 : Int32) dX0_along_75 (by decide) ?_
              refine tm_let (fun k => ∀ (s9 : Int32), TM G r (k s9) (wX ad dA tt h) 0 0 118 [(0, .ref (ad 100)), (2, .int x2), (4, .int x4_8)] [.int s9]) ?_ (fun k118 hk118 => ?_)
              · intro s9
                refine tm_istore_n X [(3, .int s9), (0, .ref (ad 100)), (2, .int x2), (4, .int x4_8)] dX0_along_118 rfl (Nat.le_of_ble_eq_true rfl) rfl ?_
                refine tm_iinc (v := (1 : Int32)) X 3 [(4, .int (x4_8 + (1 : Int32))), (3, .int s9), (0, .ref (ad 100)), (2, .int x2)] dX0_along_119 rfl (by decide) (Nat.le_of_ble_eq_true rfl) rfl ?_
                refine tm_goto X 65 dX0_along_122 rfl ?_
                refine tm_lv X [2, 3, 1, 0] rfl ?_
                exact hk65 s9 (x4_8 + (1 : Int32))
              · skip
                refine tm_ic_ne X 100 dX0_along_76 rfl ?_ ?_
                · skip
                  refine tm_iload_n X 2 dX0_along_100 rfl rfl ?_
                  refine tm_aload_n X 0 dX0_along_101 rfl rfl ?_
                  refine tm_getR X (frX_100_5 ad dA tt h) in_X0 rfl (Nat.le_of_ble_eq_true rfl) q242 rfl dX0_along_102 ?_
                  refine tm_aload_n X 0 dX0_along_105 rfl rfl ?_
                  refine tm_getR X (frX_100_3 ad dA tt h) in_X0 rfl (Nat.le_of_ble_eq_true rfl) q239 rfl dX0_along_106 ?_
                  refine tm_iload X 3 dX0_along_109 rfl ?_
                  refine tm_iaload X (arX_3 ad dA tt) dX0_along_111 ?_
                  refine tm_cl1 (fun r11 e10 => ?_)
                  refine tm_callVi (As := [.int (h 3 x4_8.toNatClampNeg)]) (rest := [.int x3_7]) (q0 := 3) X (ctX3_opening_40 l D ad dA tt h (h 3 x4_8.toNatClampNeg) r11 e10) (lw_V q833 q819 q820 q120 q821) cyX3_opening rfl rfl rfl ⟨(Nat.le_of_ble_eq_true rfl), (Nat.le_of_ble_eq_true rfl)⟩ (Nat.le_of_ble_eq_true rfl) dX0_along_112 ⟨Nat.le_of_ble_eq_true rfl, Nat.le_of_ble_eq_true rfl⟩ rfl ?_
                  refine tm_mmin X q849 (Nat.le_of_ble_eq_true rfl) (Nat.le_of_ble_eq_true rfl) ⟨Nat.le_of_ble_eq_true rfl, Nat.le_of_ble_eq_true rfl⟩ dX0_along_115 ?_
                  refine tm_lv X [0, 1, 3] rfl ?_
                  exact hk118 (jmin x3_7 r11)
                · skip
                  refine tm_iload_n X 2 dX0_along_79 rfl rfl ?_
                  refine tm_aload_n X 0 dX0_along_80 rfl rfl ?_
                  refine tm_getR X (frX_100_5 ad dA tt h) in_X0 rfl (Nat.le_of_ble_eq_true rfl) q242 rfl dX0_along_81 ?_
                  refine tm_aload_n X 0 dX0_along_84 rfl rfl ?_
                  refine tm_getR X (frX_100_3 ad dA tt h) in_X0 rfl (Nat.le_of_ble_eq_true rfl) q239 rfl dX0_along_85 ?_
                  refine tm_iload X 3 dX0_along_88 rfl ?_
                  refine tm_iaload X (arX_3 ad dA tt) dX0_along_90 ?_
                  refine tm_cl1 (fun r13 e12 => ?_)
                  refine tm_callVi (As := [.int (h 3 x4_8.toNatClampNeg)]) (rest := [.int x3_7]) (q0 := 3) X (ctX3_opening_40 l D ad dA tt h (h 3 x4_8.toNatClampNeg) r13 e12) (lw_V q833 q819 q820 q120 q821) cyX3_opening rfl rfl rfl ⟨(Nat.le_of_ble_eq_true rfl), (Nat.le_of_ble_eq_true rfl)⟩ (Nat.le_of_ble_eq_true rfl) dX0_along_91 ⟨Nat.le_of_ble_eq_true rfl, Nat.le_of_ble_eq_true rfl⟩ rfl ?_
                  refine tm_mmax X q878 (Nat.le_of_ble_eq_true rfl) (Nat.le_of_ble_eq_true rfl) ⟨Nat.le_of_ble_eq_true rfl, Nat.le_of_ble_eq_true rfl⟩ dX0_along_94 ?_
                  refine tm_goto X 118 dX0_along_97 rfl ?_
                  refine tm_lv X [0, 1, 3] rfl ?_
                  exact hk118 (jmax x3_7 r13)
          · skip
            refine tm_iload_n X 2 dX0_along_34 rfl rfl ?_
            refine tm_iconst X (3 : Int32) dX0_along_35 (by decide) ?_
            refine tm_let (fun k => ∀ (s14 : Int32), TM G r (k s14) (wX ad dA tt h) 0 0 51 [] [.int s14]) ?_ (fun k51 hk51 => ?_)
            · intro s14
              exact tm_retI hRet dX0_along_51
            · skip
              refine tm_ic_ne X 47 dX0_along_36 rfl ?_ ?_
              · skip
                refine tm_aload_n X 0 dX0_along_47 rfl rfl ?_
                refine tm_cl1 (fun r16 e15 => ?_)
                refine tm_callVi (As := []) (rest := []) (q0 := 0) X (ctX0_unlikeGlides l D ad dA tt h r16 e15) (lw_V q1053 q1055 qs44 q117 q1056) cyX0_unlikeGlides rfl rfl rfl ⟨(Nat.le_of_ble_eq_true rfl), (Nat.le_of_ble_eq_true rfl)⟩ (Nat.le_of_ble_eq_true rfl) dX0_along_48 ⟨Nat.le_of_ble_eq_true rfl, Nat.le_of_ble_eq_true rfl⟩ rfl ?_
                refine tm_lv X [] rfl ?_
                exact hk51 r16
              · skip
                refine tm_aload_n X 0 dX0_along_39 rfl rfl ?_
                refine tm_iload_n X 1 dX0_along_40 rfl rfl ?_
                refine tm_cl1 (fun r18 e17 => ?_)
                refine tm_callVi (As := [.int x1]) (rest := []) (q0 := 0) X (ctX0_stopped l D ad dA tt h x1 r18 e17) (lw_V q1049 q1051 qs43 q117 q1052) cyX0_stopped rfl rfl rfl ⟨(Nat.le_of_ble_eq_true rfl), (Nat.le_of_ble_eq_true rfl)⟩ (Nat.le_of_ble_eq_true rfl) dX0_along_41 ⟨Nat.le_of_ble_eq_true rfl, Nat.le_of_ble_eq_true rfl⟩ rfl ?_
                refine tm_goto X 51 dX0_along_44 rfl ?_
                refine tm_lv X [] rfl ?_
                exact hk51 r18
        · skip
          refine tm_aload_n X 0 dX0_along_24 rfl rfl ?_
          refine tm_getI X (fiX_100_4 ad dA tt) in_X0 rfl (Nat.le_of_ble_eq_true rfl) q241 rfl dX0_along_25 ?_
          exact tm_retI hRet dX0_along_28
      · skip
        refine tm_lv X [] rfl ?_
        exact hk18
def mX2_is (h : Hp) (x1 : Int32) (x2 : Int32) : Option (Hp) :=
ck x1 128 (nm (u2 h 31 x1.toNatClampNeg x2) (fun h1 =>
some h1))
theorem cyX2_is : Callee yX2_is 2 := by unfold Callee; decide +kernel
set_option maxHeartbeats 4000000 in
theorem ctX2_is (l : Launch) (D : va_G) (ad : Nat → Nat) (dA : Nat → ClassId) (tt : (Nat → Option Nat) × (Nat → Option Nat) × va_W) (h : Hp) (x1 : Int32) (x2 : Int32) (h' : Hp) (hm : mX2_is h x1 x2 = some h') : CT l yX2_is cX2_is 3 none D dA 0 0 0 0 (wX ad dA tt h) [.ref (ad 30), .int x1, .int x2] none (wX ad dA tt h') := by
  refine ct_open (by decide) (Nat.le_of_ble_eq_true rfl) ?_
  intro G X hI hZ hV hR
  have hRet := hV rfl rfl
  refine (show TM G h' (mX2_is h x1 x2) (wX ad dA tt h) 0 0 0 [(0, .ref (ad 30)), (1, .int x1), (2, .int x2)] [] from ?_) hm
  clear hm hI hZ hV hR
  unfold mX2_is
  refine tm_aload_n X 0 dX2_is_0 rfl rfl ?_
  refine tm_getRN X (frX_30_0 ad dA tt h) in_X2 rfl (Nat.le_of_ble_eq_true rfl) q159 rfl dX2_is_1 ?_
  refine tm_iload_n X 1 dX2_is_4 rfl rfl ?_
  refine tm_iload_n X 2 dX2_is_5 rfl rfl ?_
  refine tm_iastore X (arX_31 ad dA tt) dX2_is_6 (fun h1 => ?_)
  exact tm_retV (wf := wX ad dA tt) hRet dX2_is_7
def mX2_of (h : Hp) (x1 : Int32) (x2 : Int32) (x3 : Int32) (x4 : Int32) : Option (Hp) :=
cl1 (mX2_is h (117 : Int32) x1) (fun h2 =>
cl1 (mX2_is h2 (108 : Int32) x2) (fun h4 =>
cl1 (mX2_is h4 (99 : Int32) (jrem x3 (8 : Int32))) (fun h6 =>
cl1 (mX2_is h6 (101 : Int32) (x3 / (8 : Int32))) (fun h8 =>
cl1 (mX0_sideOf x4) (fun r9 =>
cl1 (mX2_is h8 (97 : Int32) (r9 + (4 : Int32))) (fun h12 =>
cl1 (mX0_aheadOf x4) (fun r13 =>
cl1 (mX2_is h12 (98 : Int32) (r13 + (3 : Int32))) (fun h16 =>
some h16))))))))
theorem cyX2_of : Callee yX2_of 4 := by unfold Callee; decide +kernel
set_option maxHeartbeats 4000000 in
theorem ctX2_of (l : Launch) (D : va_G) (ad : Nat → Nat) (dA : Nat → ClassId) (tt : (Nat → Option Nat) × (Nat → Option Nat) × va_W) (h : Hp) (x1 : Int32) (x2 : Int32) (x3 : Int32) (x4 : Int32) (h' : Hp) (hm : mX2_of h x1 x2 x3 x4 = some h') : CT l yX2_of cX2_of 5 (some (.object "HighSpots$Moment")) D dA 1 22 0 0 (wX ad dA tt h) [.ref (ad 30), .int x1, .int x2, .int x3, .int x4] (some (.ref (ad 30))) (wX ad dA tt h') := by
  refine ct_open (by decide) (Nat.le_of_ble_eq_true rfl) ?_
  intro G X hI hZ hV hR
  have hRet := hR ⟨_, rfl⟩ _ (Or.inr ⟨_, rfl⟩) rfl
  refine (show TM G h' (mX2_of h x1 x2 x3 x4) (wX ad dA tt h) 0 0 0 [(0, .ref (ad 30)), (1, .int x1), (2, .int x2), (3, .int x3), (4, .int x4)] [] from ?_) hm
  clear hm hI hZ hV hR
  unfold mX2_of
  refine tm_aload_n X 0 dX2_of_0 rfl rfl ?_
  refine tm_bipush X (117 : Int32) dX2_of_1 (by decide) ?_
  refine tm_iload_n X 1 dX2_of_3 rfl rfl ?_
  refine tm_cl1 (fun h2 e1 => ?_)
  refine tm_callVv (As := [.int (117 : Int32), .int x1]) (rest := []) (q0 := 1) X (ctX2_is l D ad dA tt h (117 : Int32) x1 h2 e1) (lw_V q1078 q1080 qs46 q119 q1081) cyX2_is rfl rfl rfl ⟨(Nat.le_of_ble_eq_true rfl), (Nat.le_of_ble_eq_true rfl)⟩ (Nat.le_of_ble_eq_true rfl) dX2_of_4 ⟨Nat.le_of_ble_eq_true rfl, Nat.le_of_ble_eq_true rfl⟩ rfl ?_
  refine tm_aload_n X 0 dX2_of_7 rfl rfl ?_
  refine tm_bipush X (108 : Int32) dX2_of_8 (by decide) ?_
  refine tm_iload_n X 2 dX2_of_10 rfl rfl ?_
  refine tm_cl1 (fun h4 e3 => ?_)
  refine tm_callVv (As := [.int (108 : Int32), .int x2]) (rest := []) (q0 := 1) X (ctX2_is l D ad dA tt h2 (108 : Int32) x2 h4 e3) (lw_V q1078 q1080 qs46 q119 q1081) cyX2_is rfl rfl rfl ⟨(Nat.le_of_ble_eq_true rfl), (Nat.le_of_ble_eq_true rfl)⟩ (Nat.le_of_ble_eq_true rfl) dX2_of_11 ⟨Nat.le_of_ble_eq_true rfl, Nat.le_of_ble_eq_true rfl⟩ rfl ?_
  refine tm_aload_n X 0 dX2_of_14 rfl rfl ?_
  refine tm_bipush X (99 : Int32) dX2_of_15 (by decide) ?_
  refine tm_iload_n X 3 dX2_of_17 rfl rfl ?_
  refine tm_bipush X (8 : Int32) dX2_of_18 (by decide) ?_
  refine tm_irem X dX2_of_20 (by decide) ?_
  refine tm_cl1 (fun h6 e5 => ?_)
  refine tm_callVv (As := [.int (99 : Int32), .int (jrem x3 (8 : Int32))]) (rest := []) (q0 := 1) X (ctX2_is l D ad dA tt h4 (99 : Int32) (jrem x3 (8 : Int32)) h6 e5) (lw_V q1078 q1080 qs46 q119 q1081) cyX2_is rfl rfl rfl ⟨(Nat.le_of_ble_eq_true rfl), (Nat.le_of_ble_eq_true rfl)⟩ (Nat.le_of_ble_eq_true rfl) dX2_of_21 ⟨Nat.le_of_ble_eq_true rfl, Nat.le_of_ble_eq_true rfl⟩ rfl ?_
  refine tm_aload_n X 0 dX2_of_24 rfl rfl ?_
  refine tm_bipush X (101 : Int32) dX2_of_25 (by decide) ?_
  refine tm_iload_n X 3 dX2_of_27 rfl rfl ?_
  refine tm_bipush X (8 : Int32) dX2_of_28 (by decide) ?_
  refine tm_idiv X dX2_of_30 (by decide) ?_
  refine tm_cl1 (fun h8 e7 => ?_)
  refine tm_callVv (As := [.int (101 : Int32), .int (x3 / (8 : Int32))]) (rest := []) (q0 := 1) X (ctX2_is l D ad dA tt h6 (101 : Int32) (x3 / (8 : Int32)) h8 e7) (lw_V q1078 q1080 qs46 q119 q1081) cyX2_is rfl rfl rfl ⟨(Nat.le_of_ble_eq_true rfl), (Nat.le_of_ble_eq_true rfl)⟩ (Nat.le_of_ble_eq_true rfl) dX2_of_31 ⟨Nat.le_of_ble_eq_true rfl, Nat.le_of_ble_eq_true rfl⟩ rfl ?_
  refine tm_aload_n X 0 dX2_of_34 rfl rfl ?_
  refine tm_bipush X (97 : Int32) dX2_of_35 (by decide) ?_
  refine tm_iload X 4 dX2_of_37 rfl ?_
  refine tm_cl1 (fun r9 e10 => ?_)
  refine tm_callSNi (As := [.int x4]) (rest := [.int (97 : Int32), .ref (ad 30)]) X (ctX0_sideOf l D dA x4 r9 e10) q1082 q799 q117 q800 cyX0_sideOf rfl ⟨(Nat.le_of_ble_eq_true rfl), (Nat.le_of_ble_eq_true rfl)⟩ (Nat.le_of_ble_eq_true rfl) dX2_of_39 ⟨Nat.le_of_ble_eq_true rfl, Nat.le_of_ble_eq_true rfl⟩ rfl ?_
  refine tm_iconst X (4 : Int32) dX2_of_42 (by decide) ?_
  refine tm_iadd X dX2_of_43 ?_
  refine tm_cl1 (fun h12 e11 => ?_)
  refine tm_callVv (As := [.int (97 : Int32), .int (r9 + (4 : Int32))]) (rest := []) (q0 := 1) X (ctX2_is l D ad dA tt h8 (97 : Int32) (r9 + (4 : Int32)) h12 e11) (lw_V q1078 q1080 qs46 q119 q1081) cyX2_is rfl rfl rfl ⟨(Nat.le_of_ble_eq_true rfl), (Nat.le_of_ble_eq_true rfl)⟩ (Nat.le_of_ble_eq_true rfl) dX2_of_44 ⟨Nat.le_of_ble_eq_true rfl, Nat.le_of_ble_eq_true rfl⟩ rfl ?_
  refine tm_aload_n X 0 dX2_of_47 rfl rfl ?_
  refine tm_bipush X (98 : Int32) dX2_of_48 (by decide) ?_
  refine tm_iload X 4 dX2_of_50 rfl ?_
  refine tm_cl1 (fun r13 e14 => ?_)
  refine tm_callSNi (As := [.int x4]) (rest := [.int (98 : Int32), .ref (ad 30)]) X (ctX0_aheadOf l D dA x4 r13 e14) q1083 q802 q117 q803 cyX0_aheadOf rfl ⟨(Nat.le_of_ble_eq_true rfl), (Nat.le_of_ble_eq_true rfl)⟩ (Nat.le_of_ble_eq_true rfl) dX2_of_52 ⟨Nat.le_of_ble_eq_true rfl, Nat.le_of_ble_eq_true rfl⟩ rfl ?_
  refine tm_iconst X (3 : Int32) dX2_of_55 (by decide) ?_
  refine tm_iadd X dX2_of_56 ?_
  refine tm_cl1 (fun h16 e15 => ?_)
  refine tm_callVv (As := [.int (98 : Int32), .int (r13 + (3 : Int32))]) (rest := []) (q0 := 1) X (ctX2_is l D ad dA tt h12 (98 : Int32) (r13 + (3 : Int32)) h16 e15) (lw_V q1078 q1080 qs46 q119 q1081) cyX2_is rfl rfl rfl ⟨(Nat.le_of_ble_eq_true rfl), (Nat.le_of_ble_eq_true rfl)⟩ (Nat.le_of_ble_eq_true rfl) dX2_of_57 ⟨Nat.le_of_ble_eq_true rfl, Nat.le_of_ble_eq_true rfl⟩ rfl ?_
  refine tm_aload_n X 0 dX2_of_60 rfl rfl ?_
  exact tm_retA (wf := wX ad dA tt) hRet dX2_of_61
def mX3_draw (b : Nat) (h : Hp)  : Option (Int32 × Hp) :=
nm (u2 h b 3 (jrem (((25173 : Int32) * (h b 3)) + (13849 : Int32)) (65536 : Int32))) (fun h1 =>
some ((jrem (h1 b 3) (10 : Int32)), h1))
theorem cyX3_draw : Callee yX3_draw 0 := by unfold Callee; decide +kernel
set_option maxHeartbeats 4000000 in
theorem ctX3_draw_40 (l : Launch) (D : va_G) (ad : Nat → Nat) (dA : Nat → ClassId) (tt : (Nat → Option Nat) × (Nat → Option Nat) × va_W) (h : Hp)  (r : Int32) (h' : Hp) (hm : mX3_draw 40 h = some (r, h')) : CT l yX3_draw cX3_draw 1 (some .int) D dA 0 0 0 0 (wX ad dA tt h) [.ref (ad 40)] (some (.int r)) (wX ad dA tt h') := by
  refine ct_open (by decide) (Nat.le_of_ble_eq_true rfl) ?_
  intro G X hI hZ hV hR
  have hRet := hI rfl r rfl
  refine (show TM G (r, h') (mX3_draw 40 h) (wX ad dA tt h) 0 0 0 [(0, .ref (ad 40))] [] from ?_) hm
  clear hm hI hZ hV hR
  unfold mX3_draw
  refine tm_aload_n X 0 dX3_draw_0 rfl rfl ?_
  refine tm_sipush X (25173 : Int32) dX3_draw_1 (by decide) ?_
  refine tm_aload_n X 0 dX3_draw_4 rfl rfl ?_
  refine tm_getI X (fiX_40_3 ad dA tt) in_X3 rfl (Nat.le_of_ble_eq_true rfl) q184 rfl dX3_draw_5 ?_
  refine tm_imul X dX3_draw_8 ?_
  refine tm_sipush X (13849 : Int32) dX3_draw_9 (by decide) ?_
  refine tm_iadd X dX3_draw_12 ?_
  refine tm_ldc X (65536 : Int32) q1088 dX3_draw_13 ?_
  refine tm_irem X dX3_draw_15 (by decide) ?_
  refine tm_putI X (fiX_40_3 ad dA tt) in_X3 rfl (Nat.le_of_ble_eq_true rfl) tyX3 tyX3_ok nmX3 rfl rfl q184 rfl dX3_draw_16 (fun h1 => ?_)
  refine tm_aload_n X 0 dX3_draw_19 rfl rfl ?_
  refine tm_getI X (fiX_40_3 ad dA tt) in_X3 rfl (Nat.le_of_ble_eq_true rfl) q184 rfl dX3_draw_20 ?_
  refine tm_bipush X (10 : Int32) dX3_draw_23 (by decide) ?_
  refine tm_irem X dX3_draw_25 (by decide) ?_
  exact tm_retIH (wf := wX ad dA tt) hRet dX3_draw_26
set_option maxHeartbeats 4000000 in
theorem ctX3_draw_50 (l : Launch) (D : va_G) (ad : Nat → Nat) (dA : Nat → ClassId) (tt : (Nat → Option Nat) × (Nat → Option Nat) × va_W) (h : Hp)  (r : Int32) (h' : Hp) (hm : mX3_draw 50 h = some (r, h')) : CT l yX3_draw cX3_draw 1 (some .int) D dA 0 0 0 0 (wX ad dA tt h) [.ref (ad 50)] (some (.int r)) (wX ad dA tt h') := by
  refine ct_open (by decide) (Nat.le_of_ble_eq_true rfl) ?_
  intro G X hI hZ hV hR
  have hRet := hI rfl r rfl
  refine (show TM G (r, h') (mX3_draw 50 h) (wX ad dA tt h) 0 0 0 [(0, .ref (ad 50))] [] from ?_) hm
  clear hm hI hZ hV hR
  unfold mX3_draw
  refine tm_aload_n X 0 dX3_draw_0 rfl rfl ?_
  refine tm_sipush X (25173 : Int32) dX3_draw_1 (by decide) ?_
  refine tm_aload_n X 0 dX3_draw_4 rfl rfl ?_
  refine tm_getI X (fiX_50_3 ad dA tt) in_X3 rfl (Nat.le_of_ble_eq_true rfl) q184 rfl dX3_draw_5 ?_
  refine tm_imul X dX3_draw_8 ?_
  refine tm_sipush X (13849 : Int32) dX3_draw_9 (by decide) ?_
  refine tm_iadd X dX3_draw_12 ?_
  refine tm_ldc X (65536 : Int32) q1088 dX3_draw_13 ?_
  refine tm_irem X dX3_draw_15 (by decide) ?_
  refine tm_putI X (fiX_50_3 ad dA tt) in_X3 rfl (Nat.le_of_ble_eq_true rfl) tyX3 tyX3_ok nmX3 rfl rfl q184 rfl dX3_draw_16 (fun h1 => ?_)
  refine tm_aload_n X 0 dX3_draw_19 rfl rfl ?_
  refine tm_getI X (fiX_50_3 ad dA tt) in_X3 rfl (Nat.le_of_ble_eq_true rfl) q184 rfl dX3_draw_20 ?_
  refine tm_bipush X (10 : Int32) dX3_draw_23 (by decide) ?_
  refine tm_irem X dX3_draw_25 (by decide) ?_
  exact tm_retIH (wf := wX ad dA tt) hRet dX3_draw_26
def mX2_on (h : Hp) (x1 : Int32) (x2 : Int32) (x3 : Int32) (x4 : Int32) : Option (Hp) :=
cl1 (mX2_is h (104 : Int32) x1) (fun h2 =>
cl1 (mX2_is h2 (107 : Int32) (jrem x2 (100 : Int32))) (fun h4 =>
cl1 (mX2_is h4 (116 : Int32) (jrem x3 (100 : Int32))) (fun h6 =>
cl1 (mX2_is h6 (119 : Int32) x4) (fun h8 =>
some h8))))
theorem cyX2_on : Callee yX2_on 4 := by unfold Callee; decide +kernel
set_option maxHeartbeats 4000000 in
theorem ctX2_on (l : Launch) (D : va_G) (ad : Nat → Nat) (dA : Nat → ClassId) (tt : (Nat → Option Nat) × (Nat → Option Nat) × va_W) (h : Hp) (x1 : Int32) (x2 : Int32) (x3 : Int32) (x4 : Int32) (h' : Hp) (hm : mX2_on h x1 x2 x3 x4 = some h') : CT l yX2_on cX2_on 5 (some (.object "HighSpots$Moment")) D dA 1 22 0 0 (wX ad dA tt h) [.ref (ad 30), .int x1, .int x2, .int x3, .int x4] (some (.ref (ad 30))) (wX ad dA tt h') := by
  refine ct_open (by decide) (Nat.le_of_ble_eq_true rfl) ?_
  intro G X hI hZ hV hR
  have hRet := hR ⟨_, rfl⟩ _ (Or.inr ⟨_, rfl⟩) rfl
  refine (show TM G h' (mX2_on h x1 x2 x3 x4) (wX ad dA tt h) 0 0 0 [(0, .ref (ad 30)), (1, .int x1), (2, .int x2), (3, .int x3), (4, .int x4)] [] from ?_) hm
  clear hm hI hZ hV hR
  unfold mX2_on
  refine tm_aload_n X 0 dX2_on_0 rfl rfl ?_
  refine tm_bipush X (104 : Int32) dX2_on_1 (by decide) ?_
  refine tm_iload_n X 1 dX2_on_3 rfl rfl ?_
  refine tm_cl1 (fun h2 e1 => ?_)
  refine tm_callVv (As := [.int (104 : Int32), .int x1]) (rest := []) (q0 := 1) X (ctX2_is l D ad dA tt h (104 : Int32) x1 h2 e1) (lw_V q1078 q1080 qs46 q119 q1081) cyX2_is rfl rfl rfl ⟨(Nat.le_of_ble_eq_true rfl), (Nat.le_of_ble_eq_true rfl)⟩ (Nat.le_of_ble_eq_true rfl) dX2_on_4 ⟨Nat.le_of_ble_eq_true rfl, Nat.le_of_ble_eq_true rfl⟩ rfl ?_
  refine tm_aload_n X 0 dX2_on_7 rfl rfl ?_
  refine tm_bipush X (107 : Int32) dX2_on_8 (by decide) ?_
  refine tm_iload_n X 2 dX2_on_10 rfl rfl ?_
  refine tm_bipush X (100 : Int32) dX2_on_11 (by decide) ?_
  refine tm_irem X dX2_on_13 (by decide) ?_
  refine tm_cl1 (fun h4 e3 => ?_)
  refine tm_callVv (As := [.int (107 : Int32), .int (jrem x2 (100 : Int32))]) (rest := []) (q0 := 1) X (ctX2_is l D ad dA tt h2 (107 : Int32) (jrem x2 (100 : Int32)) h4 e3) (lw_V q1078 q1080 qs46 q119 q1081) cyX2_is rfl rfl rfl ⟨(Nat.le_of_ble_eq_true rfl), (Nat.le_of_ble_eq_true rfl)⟩ (Nat.le_of_ble_eq_true rfl) dX2_on_14 ⟨Nat.le_of_ble_eq_true rfl, Nat.le_of_ble_eq_true rfl⟩ rfl ?_
  refine tm_aload_n X 0 dX2_on_17 rfl rfl ?_
  refine tm_bipush X (116 : Int32) dX2_on_18 (by decide) ?_
  refine tm_iload_n X 3 dX2_on_20 rfl rfl ?_
  refine tm_bipush X (100 : Int32) dX2_on_21 (by decide) ?_
  refine tm_irem X dX2_on_23 (by decide) ?_
  refine tm_cl1 (fun h6 e5 => ?_)
  refine tm_callVv (As := [.int (116 : Int32), .int (jrem x3 (100 : Int32))]) (rest := []) (q0 := 1) X (ctX2_is l D ad dA tt h4 (116 : Int32) (jrem x3 (100 : Int32)) h6 e5) (lw_V q1078 q1080 qs46 q119 q1081) cyX2_is rfl rfl rfl ⟨(Nat.le_of_ble_eq_true rfl), (Nat.le_of_ble_eq_true rfl)⟩ (Nat.le_of_ble_eq_true rfl) dX2_on_24 ⟨Nat.le_of_ble_eq_true rfl, Nat.le_of_ble_eq_true rfl⟩ rfl ?_
  refine tm_aload_n X 0 dX2_on_27 rfl rfl ?_
  refine tm_bipush X (119 : Int32) dX2_on_28 (by decide) ?_
  refine tm_iload X 4 dX2_on_30 rfl ?_
  refine tm_cl1 (fun h8 e7 => ?_)
  refine tm_callVv (As := [.int (119 : Int32), .int x4]) (rest := []) (q0 := 1) X (ctX2_is l D ad dA tt h6 (119 : Int32) x4 h8 e7) (lw_V q1078 q1080 qs46 q119 q1081) cyX2_is rfl rfl rfl ⟨(Nat.le_of_ble_eq_true rfl), (Nat.le_of_ble_eq_true rfl)⟩ (Nat.le_of_ble_eq_true rfl) dX2_on_32 ⟨Nat.le_of_ble_eq_true rfl, Nat.le_of_ble_eq_true rfl⟩ rfl ?_
  refine tm_aload_n X 0 dX2_on_35 rfl rfl ?_
  exact tm_retA (wf := wX ad dA tt) hRet dX2_on_36
