set_option maxRecDepth 100000
def mX3_isRubbed (b : Nat) (tt : (Nat → Option Nat) × (Nat → Option Nat) × va_W) (h : Hp) (x1 : Int32) (x2 : Int32) (x3 : Int32) (x4 : Int32) : Option (Hp) :=
cl1 (mX0_facing x1 x2) (fun r1 =>
ck x1 48 (
ck r1 48 (
cl1 (mX2_of h (h (b + 3) x1.toNatClampNeg) (h (b + 2) r1.toNatClampNeg) x1 x2) (fun h4 =>
cl2 (mX3_draw b h4) (fun r6 h7 =>
cl1 (mX2_on h7 x3 x4 (h4 b 2) r6) (fun h9 =>
cl2 (mSays tt h9 (120 : Int32)) (fun r10 h11 =>
if r10 = 0 then (
cl2 (mTells tt h11 (118 : Int32) (0 : Int32)) (fun r13 h14 =>
cl1 (mX0_held r13 (25 : Int32)) (fun r16 =>
cl2 (mTells tt h14 (121 : Int32) (1 : Int32)) (fun r18 h19 =>
cl1 (mX0_held r18 (25 : Int32)) (fun r21 =>
cl1 (mX3_wears b h19 (1 : Int32) x1 r16) (fun h24 =>
cl1 (mX3_wears b h24 (0 : Int32) r1 r21) (fun h26 =>
some h26))))))) else (
some h11))))))))
theorem cyX3_isRubbed : Callee yX3_isRubbed 4 := by unfold Callee; decide +kernel
set_option maxHeartbeats 4000000 in
theorem ctX3_isRubbed_40 (l : Launch) (D : va_G) (ad : Nat → Nat) (dA : Nat → ClassId) (tt : (Nat → Option Nat) × (Nat → Option Nat) × va_W) (h : Hp) (x1 : Int32) (x2 : Int32) (x3 : Int32) (x4 : Int32) (h' : Hp) (hm : mX3_isRubbed 40 tt h x1 x2 x3 x4 = some h') : CT l yX3_isRubbed cX3_isRubbed 8 none D dA 43 1009 0 0 (wX ad dA tt h) [.ref (ad 40), .int x1, .int x2, .int x3, .int x4] none (wX ad dA tt h') := by
  refine ct_open (by decide) (Nat.le_of_ble_eq_true rfl) ?_
  intro G X hI hZ hV hR
  have hRet := hV rfl rfl
  refine (show TM G h' (mX3_isRubbed 40 tt h x1 x2 x3 x4) (wX ad dA tt h) 0 0 0 [(0, .ref (ad 40)), (1, .int x1), (2, .int x2), (3, .int x3), (4, .int x4)] [] from ?_) hm
  clear hm hI hZ hV hR
  unfold mX3_isRubbed
  refine tm_iload_n X 1 dX3_isRubbed_0 rfl rfl ?_
  refine tm_iload_n X 2 dX3_isRubbed_1 rfl rfl ?_
  refine tm_cl1 (fun r1 e2 => ?_)
  refine tm_callSNi (As := [.int x1, .int x2]) (rest := []) X (ctX0_facing l D dA x1 x2 r1 e2) q822 q823 q117 q824 cyX0_facing rfl ⟨(Nat.le_of_ble_eq_true rfl), (Nat.le_of_ble_eq_true rfl)⟩ (Nat.le_of_ble_eq_true rfl) dX3_isRubbed_2 ⟨Nat.le_of_ble_eq_true rfl, Nat.le_of_ble_eq_true rfl⟩ rfl ?_
  refine tm_istore X [(5, .int r1), (0, .ref (ad 40)), (1, .int x1), (2, .int x2), (3, .int x3), (4, .int x4)] dX3_isRubbed_5 (Nat.le_of_ble_eq_true rfl) rfl ?_
  refine tm_aload_n X 1 dX3_isRubbed_7 rfl rfl ?_
  refine tm_getR X (frX_40_5 ad dA tt h) in_X3 rfl (Nat.le_of_ble_eq_true rfl) q188 rfl dX3_isRubbed_8 ?_
  refine tm_getRN X (frX_100_0 ad dA tt h) in_X0 rfl (Nat.le_of_ble_eq_true rfl) q232 rfl dX3_isRubbed_11 ?_
  refine tm_aload_n X 1 dX3_isRubbed_14 rfl rfl ?_
  refine tm_getR X (frX_40_0 ad dA tt h) in_X3 rfl (Nat.le_of_ble_eq_true rfl) q178 rfl dX3_isRubbed_15 ?_
  refine tm_iconst X (1 : Int32) dX3_isRubbed_18 (by decide) ?_
  refine tm_aaloadL (j := 1) X (aaX_41 ad dA tt h) (by unfold vp_in; decide) (by decide) dX3_isRubbed_19 ?_
  refine tm_iload_n X 2 dX3_isRubbed_20 rfl rfl ?_
  refine tm_iaload X (arX_43 ad dA tt) dX3_isRubbed_21 ?_
  refine tm_aload_n X 1 dX3_isRubbed_22 rfl rfl ?_
  refine tm_getR X (frX_40_0 ad dA tt h) in_X3 rfl (Nat.le_of_ble_eq_true rfl) q178 rfl dX3_isRubbed_23 ?_
  refine tm_iconst X (0 : Int32) dX3_isRubbed_26 (by decide) ?_
  refine tm_aaloadL (j := 0) X (aaX_41 ad dA tt h) (by unfold vp_in; decide) (by decide) dX3_isRubbed_27 ?_
  refine tm_iload X 0 dX3_isRubbed_28 rfl ?_
  refine tm_iaload X (arX_42 ad dA tt) dX3_isRubbed_30 ?_
  refine tm_iload_n X 2 dX3_isRubbed_31 rfl rfl ?_
  refine tm_iload_n X 3 dX3_isRubbed_32 rfl rfl ?_
  refine tm_cl1 (fun h4 e3 => ?_)
  refine tm_callVr (As := [.int (h 43 x1.toNatClampNeg), .int (h 42 r1.toNatClampNeg), .int x1, .int x2]) (rest := []) (q0 := 1) X (ctX2_of l D ad dA tt h (h 43 x1.toNatClampNeg) (h 42 r1.toNatClampNeg) x1 x2 h4 e3) (lw_V q1074 q1075 q1076 q119 q1077) cyX2_of rfl rfl rfl ⟨(Nat.le_of_ble_eq_true rfl), (Nat.le_of_ble_eq_true rfl)⟩ (Nat.le_of_ble_eq_true rfl) dX3_isRubbed_33 ⟨Nat.le_of_ble_eq_true rfl, Nat.le_of_ble_eq_true rfl⟩ rfl ?_
  refine tm_iload_n X 4 dX3_isRubbed_36 rfl rfl ?_
  refine tm_iload X 5 dX3_isRubbed_37 rfl ?_
  refine tm_aload_n X 1 dX3_isRubbed_39 rfl rfl ?_
  refine tm_getI X (fiX_40_2 ad dA tt) in_X3 rfl (Nat.le_of_ble_eq_true rfl) q182 rfl dX3_isRubbed_40 ?_
  refine tm_aload_n X 1 dX3_isRubbed_43 rfl rfl ?_
  refine tm_cl2 (fun r6 h7 e5 => ?_)
  refine tm_callVi (As := []) (rest := [.int (h4 40 2), .int x4, .int x3, .ref (ad 30)]) (q0 := 3) X (ctX3_draw_40 l D ad dA tt h4 r6 h7 e5) (lw_V q1084 q1086 qs47 q120 q1087) cyX3_draw rfl rfl rfl ⟨(Nat.le_of_ble_eq_true rfl), (Nat.le_of_ble_eq_true rfl)⟩ (Nat.le_of_ble_eq_true rfl) dX3_isRubbed_44 ⟨Nat.le_of_ble_eq_true rfl, Nat.le_of_ble_eq_true rfl⟩ rfl ?_
  refine tm_cl1 (fun h9 e8 => ?_)
  refine tm_callVr (As := [.int x3, .int x4, .int (h4 40 2), .int r6]) (rest := []) (q0 := 1) X (ctX2_on l D ad dA tt h7 x3 x4 (h4 40 2) r6 h9 e8) (lw_V q1089 q1090 q1091 q119 q1092) cyX2_on rfl rfl rfl ⟨(Nat.le_of_ble_eq_true rfl), (Nat.le_of_ble_eq_true rfl)⟩ (Nat.le_of_ble_eq_true rfl) dX3_isRubbed_47 ⟨Nat.le_of_ble_eq_true rfl, Nat.le_of_ble_eq_true rfl⟩ rfl ?_
  refine tm_pop X dX3_isRubbed_50 rfl ?_
  refine tm_aload_n X 1 dX3_isRubbed_51 rfl rfl ?_
  refine tm_getR X (frX_40_5 ad dA tt h9) in_X3 rfl (Nat.le_of_ble_eq_true rfl) q188 rfl dX3_isRubbed_52 ?_
  refine tm_getRN X (frX_100_9 ad dA tt h9) in_X0 rfl (Nat.le_of_ble_eq_true rfl) q248 rfl dX3_isRubbed_55 ?_
  refine tm_bipush X (120 : Int32) dX3_isRubbed_58 (by decide) ?_
  refine tm_aload_n X 1 dX3_isRubbed_60 rfl rfl ?_
  refine tm_getR X (frX_40_5 ad dA tt h9) in_X3 rfl (Nat.le_of_ble_eq_true rfl) q188 rfl dX3_isRubbed_61 ?_
  refine tm_getRN X (frX_100_0 ad dA tt h9) in_X0 rfl (Nat.le_of_ble_eq_true rfl) q232 rfl dX3_isRubbed_64 ?_
  refine tm_cl2 (fun r10 h11 e12 => ?_)
  refine tm_callVi (As := [.int (120 : Int32), .ref (ad 30)]) (rest := []) (q0 := 31) X (ctSays l D ad dA tt h9 (120 : Int32) r10 h11 e12) (lw_V q1093 q1094 q1095 q121 q1096) cyX4_says rfl rfl rfl ⟨(Nat.le_of_ble_eq_true rfl), (Nat.le_of_ble_eq_true rfl)⟩ (Nat.le_of_ble_eq_true rfl) dX3_isRubbed_67 ⟨Nat.le_of_ble_eq_true rfl, Nat.le_of_ble_eq_true rfl⟩ rfl ?_
  refine tm_if_eq X 74 dX3_isRubbed_70 rfl ?_ ?_
  · skip
    refine tm_aload_n X 1 dX3_isRubbed_74 rfl rfl ?_
    refine tm_getR X (frX_40_5 ad dA tt h11) in_X3 rfl (Nat.le_of_ble_eq_true rfl) q188 rfl dX3_isRubbed_75 ?_
    refine tm_getRN X (frX_100_9 ad dA tt h11) in_X0 rfl (Nat.le_of_ble_eq_true rfl) q248 rfl dX3_isRubbed_78 ?_
    refine tm_bipush X (118 : Int32) dX3_isRubbed_81 (by decide) ?_
    refine tm_iconst X (0 : Int32) dX3_isRubbed_83 (by decide) ?_
    refine tm_aload_n X 1 dX3_isRubbed_84 rfl rfl ?_
    refine tm_getR X (frX_40_5 ad dA tt h11) in_X3 rfl (Nat.le_of_ble_eq_true rfl) q188 rfl dX3_isRubbed_85 ?_
    refine tm_getRN X (frX_100_0 ad dA tt h11) in_X0 rfl (Nat.le_of_ble_eq_true rfl) q232 rfl dX3_isRubbed_88 ?_
    refine tm_cl2 (fun r13 h14 e15 => ?_)
    refine tm_callVi (As := [.int (118 : Int32), .int (0 : Int32), .ref (ad 30)]) (rest := []) (q0 := 31) X (ctTells l D ad dA tt h11 (118 : Int32) (0 : Int32) r13 h14 e15) (lw_V q1127 q1128 q1129 q121 q1130) cyX4_tells rfl rfl rfl ⟨(Nat.le_of_ble_eq_true rfl), (Nat.le_of_ble_eq_true rfl)⟩ (Nat.le_of_ble_eq_true rfl) dX3_isRubbed_91 ⟨Nat.le_of_ble_eq_true rfl, Nat.le_of_ble_eq_true rfl⟩ rfl ?_
    refine tm_bipush X (25 : Int32) dX3_isRubbed_94 (by decide) ?_
    refine tm_cl1 (fun r16 e17 => ?_)
    refine tm_callSNi (As := [.int r13, .int (25 : Int32)]) (rest := []) X (ctX0_held l D dA r13 (25 : Int32) r16 e17) q1139 q1140 q117 q1141 cyX0_held rfl ⟨(Nat.le_of_ble_eq_true rfl), (Nat.le_of_ble_eq_true rfl)⟩ (Nat.le_of_ble_eq_true rfl) dX3_isRubbed_96 ⟨Nat.le_of_ble_eq_true rfl, Nat.le_of_ble_eq_true rfl⟩ rfl ?_
    refine tm_istore X [(6, .int r16), (5, .int r1), (0, .ref (ad 40)), (1, .int x1), (2, .int x2), (3, .int x3), (4, .int x4)] dX3_isRubbed_99 (Nat.le_of_ble_eq_true rfl) rfl ?_
    refine tm_aload_n X 2 dX3_isRubbed_101 rfl rfl ?_
    refine tm_getR X (frX_40_5 ad dA tt h14) in_X3 rfl (Nat.le_of_ble_eq_true rfl) q188 rfl dX3_isRubbed_102 ?_
    refine tm_getRN X (frX_100_9 ad dA tt h14) in_X0 rfl (Nat.le_of_ble_eq_true rfl) q248 rfl dX3_isRubbed_105 ?_
    refine tm_bipush X (121 : Int32) dX3_isRubbed_108 (by decide) ?_
    refine tm_iconst X (1 : Int32) dX3_isRubbed_110 (by decide) ?_
    refine tm_aload_n X 2 dX3_isRubbed_111 rfl rfl ?_
    refine tm_getR X (frX_40_5 ad dA tt h14) in_X3 rfl (Nat.le_of_ble_eq_true rfl) q188 rfl dX3_isRubbed_112 ?_
    refine tm_getRN X (frX_100_0 ad dA tt h14) in_X0 rfl (Nat.le_of_ble_eq_true rfl) q232 rfl dX3_isRubbed_115 ?_
    refine tm_cl2 (fun r18 h19 e20 => ?_)
    refine tm_callVi (As := [.int (121 : Int32), .int (1 : Int32), .ref (ad 30)]) (rest := []) (q0 := 31) X (ctTells l D ad dA tt h14 (121 : Int32) (1 : Int32) r18 h19 e20) (lw_V q1127 q1128 q1129 q121 q1130) cyX4_tells rfl rfl rfl ⟨(Nat.le_of_ble_eq_true rfl), (Nat.le_of_ble_eq_true rfl)⟩ (Nat.le_of_ble_eq_true rfl) dX3_isRubbed_118 ⟨Nat.le_of_ble_eq_true rfl, Nat.le_of_ble_eq_true rfl⟩ rfl ?_
    refine tm_bipush X (25 : Int32) dX3_isRubbed_121 (by decide) ?_
    refine tm_cl1 (fun r21 e22 => ?_)
    refine tm_callSNi (As := [.int r18, .int (25 : Int32)]) (rest := []) X (ctX0_held l D dA r18 (25 : Int32) r21 e22) q1139 q1140 q117 q1141 cyX0_held rfl ⟨(Nat.le_of_ble_eq_true rfl), (Nat.le_of_ble_eq_true rfl)⟩ (Nat.le_of_ble_eq_true rfl) dX3_isRubbed_123 ⟨Nat.le_of_ble_eq_true rfl, Nat.le_of_ble_eq_true rfl⟩ rfl ?_
    refine tm_istore X [(7, .int r21), (6, .int r16), (5, .int r1), (0, .ref (ad 40)), (1, .int x1), (2, .int x2), (3, .int x3), (4, .int x4)] dX3_isRubbed_126 (Nat.le_of_ble_eq_true rfl) rfl ?_
    refine tm_aload_n X 3 dX3_isRubbed_128 rfl rfl ?_
    refine tm_iconst X (1 : Int32) dX3_isRubbed_129 (by decide) ?_
    refine tm_iload_n X 4 dX3_isRubbed_130 rfl rfl ?_
    refine tm_iload X 1 dX3_isRubbed_131 rfl ?_
    refine tm_cl1 (fun h24 e23 => ?_)
    refine tm_callVv (As := [.int (1 : Int32), .int x1, .int r16]) (rest := []) (q0 := 3) X (ctX3_wears_40 l D ad dA tt h19 (1 : Int32) x1 r16 h24 e23) (lw_V q1142 q908 q909 q120 q910) cyX3_wears rfl rfl rfl ⟨(Nat.le_of_ble_eq_true rfl), (Nat.le_of_ble_eq_true rfl)⟩ (Nat.le_of_ble_eq_true rfl) dX3_isRubbed_133 ⟨Nat.le_of_ble_eq_true rfl, Nat.le_of_ble_eq_true rfl⟩ rfl ?_
    refine tm_aload_n X 3 dX3_isRubbed_136 rfl rfl ?_
    refine tm_iconst X (0 : Int32) dX3_isRubbed_137 (by decide) ?_
    refine tm_iload X 2 dX3_isRubbed_138 rfl ?_
    refine tm_iload X 0 dX3_isRubbed_140 rfl ?_
    refine tm_cl1 (fun h26 e25 => ?_)
    refine tm_callVv (As := [.int (0 : Int32), .int r1, .int r21]) (rest := []) (q0 := 3) X (ctX3_wears_40 l D ad dA tt h24 (0 : Int32) r1 r21 h26 e25) (lw_V q1142 q908 q909 q120 q910) cyX3_wears rfl rfl rfl ⟨(Nat.le_of_ble_eq_true rfl), (Nat.le_of_ble_eq_true rfl)⟩ (Nat.le_of_ble_eq_true rfl) dX3_isRubbed_142 ⟨Nat.le_of_ble_eq_true rfl, Nat.le_of_ble_eq_true rfl⟩ rfl ?_
    exact tm_retV (wf := wX ad dA tt) hRet dX3_isRubbed_145
  · skip
    exact tm_retV (wf := wX ad dA tt) hRet dX3_isRubbed_73
set_option maxHeartbeats 4000000 in
theorem ctX3_isRubbed_50 (l : Launch) (D : va_G) (ad : Nat → Nat) (dA : Nat → ClassId) (tt : (Nat → Option Nat) × (Nat → Option Nat) × va_W) (h : Hp) (x1 : Int32) (x2 : Int32) (x3 : Int32) (x4 : Int32) (h' : Hp) (hm : mX3_isRubbed 50 tt h x1 x2 x3 x4 = some h') : CT l yX3_isRubbed cX3_isRubbed 8 none D dA 43 1009 0 0 (wX ad dA tt h) [.ref (ad 50), .int x1, .int x2, .int x3, .int x4] none (wX ad dA tt h') := by
  refine ct_open (by decide) (Nat.le_of_ble_eq_true rfl) ?_
  intro G X hI hZ hV hR
  have hRet := hV rfl rfl
  refine (show TM G h' (mX3_isRubbed 50 tt h x1 x2 x3 x4) (wX ad dA tt h) 0 0 0 [(0, .ref (ad 50)), (1, .int x1), (2, .int x2), (3, .int x3), (4, .int x4)] [] from ?_) hm
  clear hm hI hZ hV hR
  unfold mX3_isRubbed
  refine tm_iload_n X 1 dX3_isRubbed_0 rfl rfl ?_
  refine tm_iload_n X 2 dX3_isRubbed_1 rfl rfl ?_
  refine tm_cl1 (fun r1 e2 => ?_)
  refine tm_callSNi (As := [.int x1, .int x2]) (rest := []) X (ctX0_facing l D dA x1 x2 r1 e2) q822 q823 q117 q824 cyX0_facing rfl ⟨(Nat.le_of_ble_eq_true rfl), (Nat.le_of_ble_eq_true rfl)⟩ (Nat.le_of_ble_eq_true rfl) dX3_isRubbed_2 ⟨Nat.le_of_ble_eq_true rfl, Nat.le_of_ble_eq_true rfl⟩ rfl ?_
  refine tm_istore X [(5, .int r1), (0, .ref (ad 50)), (1, .int x1), (2, .int x2), (3, .int x3), (4, .int x4)] dX3_isRubbed_5 (Nat.le_of_ble_eq_true rfl) rfl ?_
  refine tm_aload_n X 1 dX3_isRubbed_7 rfl rfl ?_
  refine tm_getR X (frX_50_5 ad dA tt h) in_X3 rfl (Nat.le_of_ble_eq_true rfl) q188 rfl dX3_isRubbed_8 ?_
  refine tm_getRN X (frX_100_0 ad dA tt h) in_X0 rfl (Nat.le_of_ble_eq_true rfl) q232 rfl dX3_isRubbed_11 ?_
  refine tm_aload_n X 1 dX3_isRubbed_14 rfl rfl ?_
  refine tm_getR X (frX_50_0 ad dA tt h) in_X3 rfl (Nat.le_of_ble_eq_true rfl) q178 rfl dX3_isRubbed_15 ?_
  refine tm_iconst X (1 : Int32) dX3_isRubbed_18 (by decide) ?_
  refine tm_aaloadL (j := 1) X (aaX_51 ad dA tt h) (by unfold vp_in; decide) (by decide) dX3_isRubbed_19 ?_
  refine tm_iload_n X 2 dX3_isRubbed_20 rfl rfl ?_
  refine tm_iaload X (arX_53 ad dA tt) dX3_isRubbed_21 ?_
  refine tm_aload_n X 1 dX3_isRubbed_22 rfl rfl ?_
  refine tm_getR X (frX_50_0 ad dA tt h) in_X3 rfl (Nat.le_of_ble_eq_true rfl) q178 rfl dX3_isRubbed_23 ?_
  refine tm_iconst X (0 : Int32) dX3_isRubbed_26 (by decide) ?_
  refine tm_aaloadL (j := 0) X (aaX_51 ad dA tt h) (by unfold vp_in; decide) (by decide) dX3_isRubbed_27 ?_
  refine tm_iload X 0 dX3_isRubbed_28 rfl ?_
  refine tm_iaload X (arX_52 ad dA tt) dX3_isRubbed_30 ?_
  refine tm_iload_n X 2 dX3_isRubbed_31 rfl rfl ?_
  refine tm_iload_n X 3 dX3_isRubbed_32 rfl rfl ?_
  refine tm_cl1 (fun h4 e3 => ?_)
  refine tm_callVr (As := [.int (h 53 x1.toNatClampNeg), .int (h 52 r1.toNatClampNeg), .int x1, .int x2]) (rest := []) (q0 := 1) X (ctX2_of l D ad dA tt h (h 53 x1.toNatClampNeg) (h 52 r1.toNatClampNeg) x1 x2 h4 e3) (lw_V q1074 q1075 q1076 q119 q1077) cyX2_of rfl rfl rfl ⟨(Nat.le_of_ble_eq_true rfl), (Nat.le_of_ble_eq_true rfl)⟩ (Nat.le_of_ble_eq_true rfl) dX3_isRubbed_33 ⟨Nat.le_of_ble_eq_true rfl, Nat.le_of_ble_eq_true rfl⟩ rfl ?_
  refine tm_iload_n X 4 dX3_isRubbed_36 rfl rfl ?_
  refine tm_iload X 5 dX3_isRubbed_37 rfl ?_
  refine tm_aload_n X 1 dX3_isRubbed_39 rfl rfl ?_
  refine tm_getI X (fiX_50_2 ad dA tt) in_X3 rfl (Nat.le_of_ble_eq_true rfl) q182 rfl dX3_isRubbed_40 ?_
  refine tm_aload_n X 1 dX3_isRubbed_43 rfl rfl ?_
  refine tm_cl2 (fun r6 h7 e5 => ?_)
  refine tm_callVi (As := []) (rest := [.int (h4 50 2), .int x4, .int x3, .ref (ad 30)]) (q0 := 8) X (ctX3_draw_50 l D ad dA tt h4 r6 h7 e5) (lw_V q1084 q1086 qs47 q120 q1087) cyX3_draw rfl rfl rfl ⟨(Nat.le_of_ble_eq_true rfl), (Nat.le_of_ble_eq_true rfl)⟩ (Nat.le_of_ble_eq_true rfl) dX3_isRubbed_44 ⟨Nat.le_of_ble_eq_true rfl, Nat.le_of_ble_eq_true rfl⟩ rfl ?_
  refine tm_cl1 (fun h9 e8 => ?_)
  refine tm_callVr (As := [.int x3, .int x4, .int (h4 50 2), .int r6]) (rest := []) (q0 := 1) X (ctX2_on l D ad dA tt h7 x3 x4 (h4 50 2) r6 h9 e8) (lw_V q1089 q1090 q1091 q119 q1092) cyX2_on rfl rfl rfl ⟨(Nat.le_of_ble_eq_true rfl), (Nat.le_of_ble_eq_true rfl)⟩ (Nat.le_of_ble_eq_true rfl) dX3_isRubbed_47 ⟨Nat.le_of_ble_eq_true rfl, Nat.le_of_ble_eq_true rfl⟩ rfl ?_
  refine tm_pop X dX3_isRubbed_50 rfl ?_
  refine tm_aload_n X 1 dX3_isRubbed_51 rfl rfl ?_
  refine tm_getR X (frX_50_5 ad dA tt h9) in_X3 rfl (Nat.le_of_ble_eq_true rfl) q188 rfl dX3_isRubbed_52 ?_
  refine tm_getRN X (frX_100_9 ad dA tt h9) in_X0 rfl (Nat.le_of_ble_eq_true rfl) q248 rfl dX3_isRubbed_55 ?_
  refine tm_bipush X (120 : Int32) dX3_isRubbed_58 (by decide) ?_
  refine tm_aload_n X 1 dX3_isRubbed_60 rfl rfl ?_
  refine tm_getR X (frX_50_5 ad dA tt h9) in_X3 rfl (Nat.le_of_ble_eq_true rfl) q188 rfl dX3_isRubbed_61 ?_
  refine tm_getRN X (frX_100_0 ad dA tt h9) in_X0 rfl (Nat.le_of_ble_eq_true rfl) q232 rfl dX3_isRubbed_64 ?_
  refine tm_cl2 (fun r10 h11 e12 => ?_)
  refine tm_callVi (As := [.int (120 : Int32), .ref (ad 30)]) (rest := []) (q0 := 31) X (ctSays l D ad dA tt h9 (120 : Int32) r10 h11 e12) (lw_V q1093 q1094 q1095 q121 q1096) cyX4_says rfl rfl rfl ⟨(Nat.le_of_ble_eq_true rfl), (Nat.le_of_ble_eq_true rfl)⟩ (Nat.le_of_ble_eq_true rfl) dX3_isRubbed_67 ⟨Nat.le_of_ble_eq_true rfl, Nat.le_of_ble_eq_true rfl⟩ rfl ?_
  refine tm_if_eq X 74 dX3_isRubbed_70 rfl ?_ ?_
  · skip
    refine tm_aload_n X 1 dX3_isRubbed_74 rfl rfl ?_
    refine tm_getR X (frX_50_5 ad dA tt h11) in_X3 rfl (Nat.le_of_ble_eq_true rfl) q188 rfl dX3_isRubbed_75 ?_
    refine tm_getRN X (frX_100_9 ad dA tt h11) in_X0 rfl (Nat.le_of_ble_eq_true rfl) q248 rfl dX3_isRubbed_78 ?_
    refine tm_bipush X (118 : Int32) dX3_isRubbed_81 (by decide) ?_
    refine tm_iconst X (0 : Int32) dX3_isRubbed_83 (by decide) ?_
    refine tm_aload_n X 1 dX3_isRubbed_84 rfl rfl ?_
    refine tm_getR X (frX_50_5 ad dA tt h11) in_X3 rfl (Nat.le_of_ble_eq_true rfl) q188 rfl dX3_isRubbed_85 ?_
    refine tm_getRN X (frX_100_0 ad dA tt h11) in_X0 rfl (Nat.le_of_ble_eq_true rfl) q232 rfl dX3_isRubbed_88 ?_
    refine tm_cl2 (fun r13 h14 e15 => ?_)
    refine tm_callVi (As := [.int (118 : Int32), .int (0 : Int32), .ref (ad 30)]) (rest := []) (q0 := 31) X (ctTells l D ad dA tt h11 (118 : Int32) (0 : Int32) r13 h14 e15) (lw_V q1127 q1128 q1129 q121 q1130) cyX4_tells rfl rfl rfl ⟨(Nat.le_of_ble_eq_true rfl), (Nat.le_of_ble_eq_true rfl)⟩ (Nat.le_of_ble_eq_true rfl) dX3_isRubbed_91 ⟨Nat.le_of_ble_eq_true rfl, Nat.le_of_ble_eq_true rfl⟩ rfl ?_
    refine tm_bipush X (25 : Int32) dX3_isRubbed_94 (by decide) ?_
    refine tm_cl1 (fun r16 e17 => ?_)
    refine tm_callSNi (As := [.int r13, .int (25 : Int32)]) (rest := []) X (ctX0_held l D dA r13 (25 : Int32) r16 e17) q1139 q1140 q117 q1141 cyX0_held rfl ⟨(Nat.le_of_ble_eq_true rfl), (Nat.le_of_ble_eq_true rfl)⟩ (Nat.le_of_ble_eq_true rfl) dX3_isRubbed_96 ⟨Nat.le_of_ble_eq_true rfl, Nat.le_of_ble_eq_true rfl⟩ rfl ?_
    refine tm_istore X [(6, .int r16), (5, .int r1), (0, .ref (ad 50)), (1, .int x1), (2, .int x2), (3, .int x3), (4, .int x4)] dX3_isRubbed_99 (Nat.le_of_ble_eq_true rfl) rfl ?_
    refine tm_aload_n X 2 dX3_isRubbed_101 rfl rfl ?_
    refine tm_getR X (frX_50_5 ad dA tt h14) in_X3 rfl (Nat.le_of_ble_eq_true rfl) q188 rfl dX3_isRubbed_102 ?_
    refine tm_getRN X (frX_100_9 ad dA tt h14) in_X0 rfl (Nat.le_of_ble_eq_true rfl) q248 rfl dX3_isRubbed_105 ?_
    refine tm_bipush X (121 : Int32) dX3_isRubbed_108 (by decide) ?_
    refine tm_iconst X (1 : Int32) dX3_isRubbed_110 (by decide) ?_
    refine tm_aload_n X 2 dX3_isRubbed_111 rfl rfl ?_
    refine tm_getR X (frX_50_5 ad dA tt h14) in_X3 rfl (Nat.le_of_ble_eq_true rfl) q188 rfl dX3_isRubbed_112 ?_
    refine tm_getRN X (frX_100_0 ad dA tt h14) in_X0 rfl (Nat.le_of_ble_eq_true rfl) q232 rfl dX3_isRubbed_115 ?_
    refine tm_cl2 (fun r18 h19 e20 => ?_)
    refine tm_callVi (As := [.int (121 : Int32), .int (1 : Int32), .ref (ad 30)]) (rest := []) (q0 := 31) X (ctTells l D ad dA tt h14 (121 : Int32) (1 : Int32) r18 h19 e20) (lw_V q1127 q1128 q1129 q121 q1130) cyX4_tells rfl rfl rfl ⟨(Nat.le_of_ble_eq_true rfl), (Nat.le_of_ble_eq_true rfl)⟩ (Nat.le_of_ble_eq_true rfl) dX3_isRubbed_118 ⟨Nat.le_of_ble_eq_true rfl, Nat.le_of_ble_eq_true rfl⟩ rfl ?_
    refine tm_bipush X (25 : Int32) dX3_isRubbed_121 (by decide) ?_
    refine tm_cl1 (fun r21 e22 => ?_)
    refine tm_callSNi (As := [.int r18, .int (25 : Int32)]) (rest := []) X (ctX0_held l D dA r18 (25 : Int32) r21 e22) q1139 q1140 q117 q1141 cyX0_held rfl ⟨(Nat.le_of_ble_eq_true rfl), (Nat.le_of_ble_eq_true rfl)⟩ (Nat.le_of_ble_eq_true rfl) dX3_isRubbed_123 ⟨Nat.le_of_ble_eq_true rfl, Nat.le_of_ble_eq_true rfl⟩ rfl ?_
    refine tm_istore X [(7, .int r21), (6, .int r16), (5, .int r1), (0, .ref (ad 50)), (1, .int x1), (2, .int x2), (3, .int x3), (4, .int x4)] dX3_isRubbed_126 (Nat.le_of_ble_eq_true rfl) rfl ?_
    refine tm_aload_n X 3 dX3_isRubbed_128 rfl rfl ?_
    refine tm_iconst X (1 : Int32) dX3_isRubbed_129 (by decide) ?_
    refine tm_iload_n X 4 dX3_isRubbed_130 rfl rfl ?_
    refine tm_iload X 1 dX3_isRubbed_131 rfl ?_
    refine tm_cl1 (fun h24 e23 => ?_)
    refine tm_callVv (As := [.int (1 : Int32), .int x1, .int r16]) (rest := []) (q0 := 8) X (ctX3_wears_50 l D ad dA tt h19 (1 : Int32) x1 r16 h24 e23) (lw_V q1142 q908 q909 q120 q910) cyX3_wears rfl rfl rfl ⟨(Nat.le_of_ble_eq_true rfl), (Nat.le_of_ble_eq_true rfl)⟩ (Nat.le_of_ble_eq_true rfl) dX3_isRubbed_133 ⟨Nat.le_of_ble_eq_true rfl, Nat.le_of_ble_eq_true rfl⟩ rfl ?_
    refine tm_aload_n X 3 dX3_isRubbed_136 rfl rfl ?_
    refine tm_iconst X (0 : Int32) dX3_isRubbed_137 (by decide) ?_
    refine tm_iload X 2 dX3_isRubbed_138 rfl ?_
    refine tm_iload X 0 dX3_isRubbed_140 rfl ?_
    refine tm_cl1 (fun h26 e25 => ?_)
    refine tm_callVv (As := [.int (0 : Int32), .int r1, .int r21]) (rest := []) (q0 := 8) X (ctX3_wears_50 l D ad dA tt h24 (0 : Int32) r1 r21 h26 e25) (lw_V q1142 q908 q909 q120 q910) cyX3_wears rfl rfl rfl ⟨(Nat.le_of_ble_eq_true rfl), (Nat.le_of_ble_eq_true rfl)⟩ (Nat.le_of_ble_eq_true rfl) dX3_isRubbed_142 ⟨Nat.le_of_ble_eq_true rfl, Nat.le_of_ble_eq_true rfl⟩ rfl ?_
    exact tm_retV (wf := wX ad dA tt) hRet dX3_isRubbed_145
  · skip
    exact tm_retV (wf := wX ad dA tt) hRet dX3_isRubbed_73
def mX3_nightGoes (b : Nat) (tt : (Nat → Option Nat) × (Nat → Option Nat) × va_W) (h : Hp) (x1 : Int32) : Option (Hp) :=
fx FU (fun _ _ => none) (fun k2 (x2_1 : Int32) (h2 : Hp) =>
if (h2 100 4) ≤ x2_1 then (
nm (u2 h2 b 2 ((h2 b 2) + (1 : Int32))) (fun h3 =>
some h3)) else (
ck x2_1 48 (
cl2 (mX3_marks b h2 (h2 3 x2_1.toNatClampNeg) x1) (fun r5 h6 =>
fx FU (fun _ _ => none) (fun k31 (x4_7 : Int32) (h8 : Hp) =>
if (48 : Int32) ≤ x4_7 then (
k2 (x2_1 + (1 : Int32)) h8) else (
ck x4_7 48 (
nm (fun (h9 : Hp) =>
k31 (x4_7 + (1 : Int32)) h9) (fun k68 =>
if (h8 2 x4_7.toNatClampNeg) = 0 then (
k68 h8) else (
ck x2_1 48 (
cl1 (mX3_isRubbed b tt h8 x4_7 (h8 3 x2_1.toNatClampNeg) r5 x2_1) (fun h11 =>
k68 h11))))))) (0 : Int32) h6)))) (0 : Int32) h
theorem cyX3_nightGoes : Callee yX3_nightGoes 1 := by unfold Callee; decide +kernel
set_option maxHeartbeats 4000000 in
theorem ctX3_nightGoes_40 (l : Launch) (D : va_G) (ad : Nat → Nat) (dA : Nat → ClassId) (tt : (Nat → Option Nat) × (Nat → Option Nat) × va_W) (h : Hp) (x1 : Int32) (h' : Hp) (hm : mX3_nightGoes 40 tt h x1 = some h') : CT l yX3_nightGoes cX3_nightGoes 5 none D dA 44 1036 0 0 (wX ad dA tt h) [.ref (ad 40), .int x1] none (wX ad dA tt h') := by
  refine ct_open (by decide) (Nat.le_of_ble_eq_true rfl) ?_
  intro G X hI hZ hV hR
  have hRet := hV rfl rfl
  refine (show TM G h' (mX3_nightGoes 40 tt h x1) (wX ad dA tt h) 0 0 0 [(0, .ref (ad 40)), (1, .int x1)] [] from ?_) hm
  clear hm hI hZ hV hR
  unfold mX3_nightGoes
  refine tm_iconst X (0 : Int32) dX3_nightGoes_0 (by decide) ?_
  refine tm_istore_n X [(2, .int (0 : Int32)), (0, .ref (ad 40)), (1, .int x1)] dX3_nightGoes_1 rfl (Nat.le_of_ble_eq_true rfl) rfl ?_
  refine tm_lv X [1, 2, 0] rfl ?_
  refine fx_P (fun (k : Int32 → Hp → Option (Hp)) => ∀ (x2_1 : Int32) (h2 : Hp), TM G h' (k x2_1 h2) (wX ad dA tt h2) 0 0 2 [(0, .ref (ad 40)), (1, .int x1), (2, .int x2_1)] []) (fun _ _ => tm_none) (fun k2 hk2 x2_1 h2 => ?_) FU (0 : Int32) h
  refine tm_iload_n X 2 dX3_nightGoes_2 rfl rfl ?_
  refine tm_aload_n X 0 dX3_nightGoes_3 rfl rfl ?_
  refine tm_getR X (frX_40_5 ad dA tt h2) in_X3 rfl (Nat.le_of_ble_eq_true rfl) q188 rfl dX3_nightGoes_4 ?_
  refine tm_getIN X (fiX_100_4 ad dA tt) in_X0 rfl (Nat.le_of_ble_eq_true rfl) q240 rfl dX3_nightGoes_7 ?_
  refine tm_ic_ge X 80 dX3_nightGoes_10 rfl ?_ ?_
  · skip
    refine tm_aload_n X 0 dX3_nightGoes_80 rfl rfl ?_
    refine tm_dup X dX3_nightGoes_81 rfl ?_
    refine tm_getI X (fiX_40_2 ad dA tt) in_X3 rfl (Nat.le_of_ble_eq_true rfl) q182 rfl dX3_nightGoes_82 ?_
    refine tm_iconst X (1 : Int32) dX3_nightGoes_85 (by decide) ?_
    refine tm_iadd X dX3_nightGoes_86 ?_
    refine tm_putI X (fiX_40_2 ad dA tt) in_X3 rfl (Nat.le_of_ble_eq_true rfl) tyX3 tyX3_ok nmX3 rfl rfl q182 rfl dX3_nightGoes_87 (fun h3 => ?_)
    exact tm_retV (wf := wX ad dA tt) hRet dX3_nightGoes_90
  · skip
    refine tm_aload_n X 0 dX3_nightGoes_13 rfl rfl ?_
    refine tm_aload_n X 0 dX3_nightGoes_14 rfl rfl ?_
    refine tm_getR X (frX_40_5 ad dA tt h2) in_X3 rfl (Nat.le_of_ble_eq_true rfl) q188 rfl dX3_nightGoes_15 ?_
    refine tm_getRN X (frX_100_3 ad dA tt h2) in_X0 rfl (Nat.le_of_ble_eq_true rfl) q238 rfl dX3_nightGoes_18 ?_
    refine tm_iload_n X 2 dX3_nightGoes_21 rfl rfl ?_
    refine tm_iaload X (arX_3 ad dA tt) dX3_nightGoes_22 ?_
    refine tm_iload_n X 1 dX3_nightGoes_23 rfl rfl ?_
    refine tm_cl2 (fun r5 h6 e4 => ?_)
    refine tm_callVi (As := [.int (h2 3 x2_1.toNatClampNeg), .int x1]) (rest := []) (q0 := 3) X (ctX3_marks_40 l D ad dA tt h2 (h2 3 x2_1.toNatClampNeg) x1 r5 h6 e4) (lw_V q1069 q815 q816 q120 q817) cyX3_marks rfl rfl rfl ⟨(Nat.le_of_ble_eq_true rfl), (Nat.le_of_ble_eq_true rfl)⟩ (Nat.le_of_ble_eq_true rfl) dX3_nightGoes_24 ⟨Nat.le_of_ble_eq_true rfl, Nat.le_of_ble_eq_true rfl⟩ rfl ?_
    refine tm_istore_n X [(3, .int r5), (0, .ref (ad 40)), (1, .int x1), (2, .int x2_1)] dX3_nightGoes_27 rfl (Nat.le_of_ble_eq_true rfl) rfl ?_
    refine tm_iconst X (0 : Int32) dX3_nightGoes_28 (by decide) ?_
    refine tm_istore X [(4, .int (0 : Int32)), (3, .int r5), (0, .ref (ad 40)), (1, .int x1), (2, .int x2_1)] dX3_nightGoes_29 (Nat.le_of_ble_eq_true rfl) rfl ?_
    refine tm_lv X [2, 3, 4, 1, 0] rfl ?_
    refine fx_P (fun (k : Int32 → Hp → Option (Hp)) => ∀ (x4_7 : Int32) (h8 : Hp), TM G h' (k x4_7 h8) (wX ad dA tt h8) 0 0 31 [(0, .ref (ad 40)), (1, .int x1), (2, .int x2_1), (3, .int r5), (4, .int x4_7)] []) (fun _ _ => tm_none) (fun k31 hk31 x4_7 h8 => ?_) FU (0 : Int32) h6
    refine tm_iload X 4 dX3_nightGoes_31 rfl ?_
    refine tm_bipush X (48 : Int32) dX3_nightGoes_33 (by decide) ?_
    refine tm_ic_ge X 74 dX3_nightGoes_35 rfl ?_ ?_
    · skip
      refine tm_iinc (v := (1 : Int32)) X 2 [(2, .int (x2_1 + (1 : Int32))), (0, .ref (ad 40)), (1, .int x1), (3, .int r5), (4, .int x4_7)] dX3_nightGoes_74 rfl (by decide) (Nat.le_of_ble_eq_true rfl) rfl ?_
      refine tm_goto X 2 dX3_nightGoes_77 rfl ?_
      refine tm_lv X [1, 2, 0] rfl ?_
      exact hk2 (x2_1 + (1 : Int32)) h8
    · skip
      refine tm_aload_n X 0 dX3_nightGoes_38 rfl rfl ?_
      refine tm_getR X (frX_40_5 ad dA tt h8) in_X3 rfl (Nat.le_of_ble_eq_true rfl) q188 rfl dX3_nightGoes_39 ?_
      refine tm_getRN X (frX_100_2 ad dA tt h8) in_X0 rfl (Nat.le_of_ble_eq_true rfl) q236 rfl dX3_nightGoes_42 ?_
      refine tm_iload X 4 dX3_nightGoes_45 rfl ?_
      refine tm_baloadZ X (arX_2 ad dA tt) dX3_nightGoes_47 ?_
      refine tm_let (fun k => ∀ (h9 : Hp), TM G h' (k h9) (wX ad dA tt h9) 0 0 68 [(0, .ref (ad 40)), (1, .int x1), (2, .int x2_1), (3, .int r5), (4, .int x4_7)] []) ?_ (fun k68 hk68 => ?_)
      · intro h9
        refine tm_iinc (v := (1 : Int32)) X 4 [(4, .int (x4_7 + (1 : Int32))), (0, .ref (ad 40)), (1, .int x1), (2, .int x2_1), (3, .int r5)] dX3_nightGoes_68 rfl (by decide) (Nat.le_of_ble_eq_true rfl) rfl ?_
        refine tm_goto X 31 dX3_nightGoes_71 rfl ?_
        refine tm_lv X [1, 2, 3, 4, 0] rfl ?_
        exact hk31 (x4_7 + (1 : Int32)) h9
      · skip
        refine tm_if_eq X 68 dX3_nightGoes_48 rfl ?_ ?_
        · skip
          exact hk68 h8
        · skip
          refine tm_aload_n X 0 dX3_nightGoes_51 rfl rfl ?_
          refine tm_iload X 4 dX3_nightGoes_52 rfl ?_
          refine tm_aload_n X 0 dX3_nightGoes_54 rfl rfl ?_
          refine tm_getR X (frX_40_5 ad dA tt h8) in_X3 rfl (Nat.le_of_ble_eq_true rfl) q188 rfl dX3_nightGoes_55 ?_
          refine tm_getRN X (frX_100_3 ad dA tt h8) in_X0 rfl (Nat.le_of_ble_eq_true rfl) q238 rfl dX3_nightGoes_58 ?_
          refine tm_iload_n X 2 dX3_nightGoes_61 rfl rfl ?_
          refine tm_iaload X (arX_3 ad dA tt) dX3_nightGoes_62 ?_
          refine tm_iload_n X 3 dX3_nightGoes_63 rfl rfl ?_
          refine tm_iload_n X 2 dX3_nightGoes_64 rfl rfl ?_
          refine tm_cl1 (fun h11 e10 => ?_)
          refine tm_callVv (As := [.int x4_7, .int (h8 3 x2_1.toNatClampNeg), .int r5, .int x2_1]) (rest := []) (q0 := 3) X (ctX3_isRubbed_40 l D ad dA tt h8 x4_7 (h8 3 x2_1.toNatClampNeg) r5 x2_1 h11 e10) (lw_V q1070 q1072 qs45 q120 q1073) cyX3_isRubbed rfl rfl rfl ⟨(Nat.le_of_ble_eq_true rfl), (Nat.le_of_ble_eq_true rfl)⟩ (Nat.le_of_ble_eq_true rfl) dX3_nightGoes_65 ⟨Nat.le_of_ble_eq_true rfl, Nat.le_of_ble_eq_true rfl⟩ rfl ?_
          exact hk68 h11
set_option maxHeartbeats 4000000 in
theorem ctX3_nightGoes_50 (l : Launch) (D : va_G) (ad : Nat → Nat) (dA : Nat → ClassId) (tt : (Nat → Option Nat) × (Nat → Option Nat) × va_W) (h : Hp) (x1 : Int32) (h' : Hp) (hm : mX3_nightGoes 50 tt h x1 = some h') : CT l yX3_nightGoes cX3_nightGoes 5 none D dA 44 1036 0 0 (wX ad dA tt h) [.ref (ad 50), .int x1] none (wX ad dA tt h') := by
  refine ct_open (by decide) (Nat.le_of_ble_eq_true rfl) ?_
  intro G X hI hZ hV hR
  have hRet := hV rfl rfl
  refine (show TM G h' (mX3_nightGoes 50 tt h x1) (wX ad dA tt h) 0 0 0 [(0, .ref (ad 50)), (1, .int x1)] [] from ?_) hm
  clear hm hI hZ hV hR
  unfold mX3_nightGoes
  refine tm_iconst X (0 : Int32) dX3_nightGoes_0 (by decide) ?_
  refine tm_istore_n X [(2, .int (0 : Int32)), (0, .ref (ad 50)), (1, .int x1)] dX3_nightGoes_1 rfl (Nat.le_of_ble_eq_true rfl) rfl ?_
  refine tm_lv X [1, 2, 0] rfl ?_
  refine fx_P (fun (k : Int32 → Hp → Option (Hp)) => ∀ (x2_1 : Int32) (h2 : Hp), TM G h' (k x2_1 h2) (wX ad dA tt h2) 0 0 2 [(0, .ref (ad 50)), (1, .int x1), (2, .int x2_1)] []) (fun _ _ => tm_none) (fun k2 hk2 x2_1 h2 => ?_) FU (0 : Int32) h
  refine tm_iload_n X 2 dX3_nightGoes_2 rfl rfl ?_
  refine tm_aload_n X 0 dX3_nightGoes_3 rfl rfl ?_
  refine tm_getR X (frX_50_5 ad dA tt h2) in_X3 rfl (Nat.le_of_ble_eq_true rfl) q188 rfl dX3_nightGoes_4 ?_
  refine tm_getIN X (fiX_100_4 ad dA tt) in_X0 rfl (Nat.le_of_ble_eq_true rfl) q240 rfl dX3_nightGoes_7 ?_
  refine tm_ic_ge X 80 dX3_nightGoes_10 rfl ?_ ?_
  · skip
    refine tm_aload_n X 0 dX3_nightGoes_80 rfl rfl ?_
    refine tm_dup X dX3_nightGoes_81 rfl ?_
    refine tm_getI X (fiX_50_2 ad dA tt) in_X3 rfl (Nat.le_of_ble_eq_true rfl) q182 rfl dX3_nightGoes_82 ?_
    refine tm_iconst X (1 : Int32) dX3_nightGoes_85 (by decide) ?_
    refine tm_iadd X dX3_nightGoes_86 ?_
    refine tm_putI X (fiX_50_2 ad dA tt) in_X3 rfl (Nat.le_of_ble_eq_true rfl) tyX3 tyX3_ok nmX3 rfl rfl q182 rfl dX3_nightGoes_87 (fun h3 => ?_)
    exact tm_retV (wf := wX ad dA tt) hRet dX3_nightGoes_90
  · skip
    refine tm_aload_n X 0 dX3_nightGoes_13 rfl rfl ?_
    refine tm_aload_n X 0 dX3_nightGoes_14 rfl rfl ?_
    refine tm_getR X (frX_50_5 ad dA tt h2) in_X3 rfl (Nat.le_of_ble_eq_true rfl) q188 rfl dX3_nightGoes_15 ?_
    refine tm_getRN X (frX_100_3 ad dA tt h2) in_X0 rfl (Nat.le_of_ble_eq_true rfl) q238 rfl dX3_nightGoes_18 ?_
    refine tm_iload_n X 2 dX3_nightGoes_21 rfl rfl ?_
    refine tm_iaload X (arX_3 ad dA tt) dX3_nightGoes_22 ?_
    refine tm_iload_n X 1 dX3_nightGoes_23 rfl rfl ?_
    refine tm_cl2 (fun r5 h6 e4 => ?_)
    refine tm_callVi (As := [.int (h2 3 x2_1.toNatClampNeg), .int x1]) (rest := []) (q0 := 8) X (ctX3_marks_50 l D ad dA tt h2 (h2 3 x2_1.toNatClampNeg) x1 r5 h6 e4) (lw_V q1069 q815 q816 q120 q817) cyX3_marks rfl rfl rfl ⟨(Nat.le_of_ble_eq_true rfl), (Nat.le_of_ble_eq_true rfl)⟩ (Nat.le_of_ble_eq_true rfl) dX3_nightGoes_24 ⟨Nat.le_of_ble_eq_true rfl, Nat.le_of_ble_eq_true rfl⟩ rfl ?_
    refine tm_istore_n X [(3, .int r5), (0, .ref (ad 50)), (1, .int x1), (2, .int x2_1)] dX3_nightGoes_27 rfl (Nat.le_of_ble_eq_true rfl) rfl ?_
    refine tm_iconst X (0 : Int32) dX3_nightGoes_28 (by decide) ?_
    refine tm_istore X [(4, .int (0 : Int32)), (3, .int r5), (0, .ref (ad 50)), (1, .int x1), (2, .int x2_1)] dX3_nightGoes_29 (Nat.le_of_ble_eq_true rfl) rfl ?_
    refine tm_lv X [2, 3, 4, 1, 0] rfl ?_
    refine fx_P (fun (k : Int32 → Hp → Option (Hp)) => ∀ (x4_7 : Int32) (h8 : Hp), TM G h' (k x4_7 h8) (wX ad dA tt h8) 0 0 31 [(0, .ref (ad 50)), (1, .int x1), (2, .int x2_1), (3, .int r5), (4, .int x4_7)] []) (fun _ _ => tm_none) (fun k31 hk31 x4_7 h8 => ?_) FU (0 : Int32) h6
    refine tm_iload X 4 dX3_nightGoes_31 rfl ?_
    refine tm_bipush X (48 : Int32) dX3_nightGoes_33 (by decide) ?_
    refine tm_ic_ge X 74 dX3_nightGoes_35 rfl ?_ ?_
    · skip
      refine tm_iinc (v := (1 : Int32)) X 2 [(2, .int (x2_1 + (1 : Int32))), (0, .ref (ad 50)), (1, .int x1), (3, .int r5), (4, .int x4_7)] dX3_nightGoes_74 rfl (by decide) (Nat.le_of_ble_eq_true rfl) rfl ?_
      refine tm_goto X 2 dX3_nightGoes_77 rfl ?_
      refine tm_lv X [1, 2, 0] rfl ?_
      exact hk2 (x2_1 + (1 : Int32)) h8
    · skip
      refine tm_aload_n X 0 dX3_nightGoes_38 rfl rfl ?_
      refine tm_getR X (frX_50_5 ad dA tt h8) in_X3 rfl (Nat.le_of_ble_eq_true rfl) q188 rfl dX3_nightGoes_39 ?_
      refine tm_getRN X (frX_100_2 ad dA tt h8) in_X0 rfl (Nat.le_of_ble_eq_true rfl) q236 rfl dX3_nightGoes_42 ?_
      refine tm_iload X 4 dX3_nightGoes_45 rfl ?_
      refine tm_baloadZ X (arX_2 ad dA tt) dX3_nightGoes_47 ?_
      refine tm_let (fun k => ∀ (h9 : Hp), TM G h' (k h9) (wX ad dA tt h9) 0 0 68 [(0, .ref (ad 50)), (1, .int x1), (2, .int x2_1), (3, .int r5), (4, .int x4_7)] []) ?_ (fun k68 hk68 => ?_)
      · intro h9
        refine tm_iinc (v := (1 : Int32)) X 4 [(4, .int (x4_7 + (1 : Int32))), (0, .ref (ad 50)), (1, .int x1), (2, .int x2_1), (3, .int r5)] dX3_nightGoes_68 rfl (by decide) (Nat.le_of_ble_eq_true rfl) rfl ?_
        refine tm_goto X 31 dX3_nightGoes_71 rfl ?_
        refine tm_lv X [1, 2, 3, 4, 0] rfl ?_
        exact hk31 (x4_7 + (1 : Int32)) h9
      · skip
        refine tm_if_eq X 68 dX3_nightGoes_48 rfl ?_ ?_
        · skip
          exact hk68 h8
        · skip
          refine tm_aload_n X 0 dX3_nightGoes_51 rfl rfl ?_
          refine tm_iload X 4 dX3_nightGoes_52 rfl ?_
          refine tm_aload_n X 0 dX3_nightGoes_54 rfl rfl ?_
          refine tm_getR X (frX_50_5 ad dA tt h8) in_X3 rfl (Nat.le_of_ble_eq_true rfl) q188 rfl dX3_nightGoes_55 ?_
          refine tm_getRN X (frX_100_3 ad dA tt h8) in_X0 rfl (Nat.le_of_ble_eq_true rfl) q238 rfl dX3_nightGoes_58 ?_
          refine tm_iload_n X 2 dX3_nightGoes_61 rfl rfl ?_
          refine tm_iaload X (arX_3 ad dA tt) dX3_nightGoes_62 ?_
          refine tm_iload_n X 3 dX3_nightGoes_63 rfl rfl ?_
          refine tm_iload_n X 2 dX3_nightGoes_64 rfl rfl ?_
          refine tm_cl1 (fun h11 e10 => ?_)
          refine tm_callVv (As := [.int x4_7, .int (h8 3 x2_1.toNatClampNeg), .int r5, .int x2_1]) (rest := []) (q0 := 8) X (ctX3_isRubbed_50 l D ad dA tt h8 x4_7 (h8 3 x2_1.toNatClampNeg) r5 x2_1 h11 e10) (lw_V q1070 q1072 qs45 q120 q1073) cyX3_isRubbed rfl rfl rfl ⟨(Nat.le_of_ble_eq_true rfl), (Nat.le_of_ble_eq_true rfl)⟩ (Nat.le_of_ble_eq_true rfl) dX3_nightGoes_65 ⟨Nat.le_of_ble_eq_true rfl, Nat.le_of_ble_eq_true rfl⟩ rfl ?_
          exact hk68 h11
def mX3_goes (b : Nat) (tt : (Nat → Option Nat) × (Nat → Option Nat) × va_W) (h : Hp) (x1 : Int32) (x2 : Int32) : Option (Hp) :=
nm (u2 h b 4 (0 : Int32)) (fun h1 =>
fx FU (fun _ _ => none) (fun k7 (x3_2 : Int32) (h3 : Hp) =>
nm (
some h3) (fun k33 =>
if x1 ≤ x3_2 then (
k33) else (
if (9999 : Int32) ≤ (h3 b 2) then (
k33) else (
cl1 (mX3_nightGoes b tt h3 x2) (fun h5 =>
k7 (x3_2 + (1 : Int32)) h5))))) (0 : Int32) h1)
theorem cyX3_goes : Callee yX3_goes 2 := by unfold Callee; decide +kernel
set_option maxHeartbeats 4000000 in
theorem ctX3_goes_40 (l : Launch) (D : va_G) (ad : Nat → Nat) (dA : Nat → ClassId) (tt : (Nat → Option Nat) × (Nat → Option Nat) × va_W) (h : Hp) (x1 : Int32) (x2 : Int32) (h' : Hp) (hm : mX3_goes 40 tt h x1 x2 = some h') : CT l yX3_goes cX3_goes 4 (some (.object "HighSpots$Bench")) D dA 45 1060 0 0 (wX ad dA tt h) [.ref (ad 40), .int x1, .int x2] (some (.ref (ad 40))) (wX ad dA tt h') := by
  refine ct_open (by decide) (Nat.le_of_ble_eq_true rfl) ?_
  intro G X hI hZ hV hR
  have hRet := hR ⟨_, rfl⟩ _ (Or.inr ⟨_, rfl⟩) rfl
  refine (show TM G h' (mX3_goes 40 tt h x1 x2) (wX ad dA tt h) 0 0 0 [(0, .ref (ad 40)), (1, .int x1), (2, .int x2)] [] from ?_) hm
  clear hm hI hZ hV hR
  unfold mX3_goes
  refine tm_aload_n X 0 dX3_goes_0 rfl rfl ?_
  refine tm_iconst X (0 : Int32) dX3_goes_1 (by decide) ?_
  refine tm_putI X (fiX_40_4 ad dA tt) in_X3 rfl (Nat.le_of_ble_eq_true rfl) tyX3 tyX3_ok nmX3 rfl rfl q186 rfl dX3_goes_2 (fun h1 => ?_)
  refine tm_iconst X (0 : Int32) dX3_goes_5 (by decide) ?_
  refine tm_istore_n X [(3, .int (0 : Int32)), (0, .ref (ad 40)), (1, .int x1), (2, .int x2)] dX3_goes_6 rfl (Nat.le_of_ble_eq_true rfl) rfl ?_
  refine tm_lv X [1, 2, 3, 0] rfl ?_
  refine fx_P (fun (k : Int32 → Hp → Option (Hp)) => ∀ (x3_2 : Int32) (h3 : Hp), TM G h' (k x3_2 h3) (wX ad dA tt h3) 0 0 7 [(0, .ref (ad 40)), (1, .int x1), (2, .int x2), (3, .int x3_2)] []) (fun _ _ => tm_none) (fun k7 hk7 x3_2 h3 => ?_) FU (0 : Int32) h1
  refine tm_iload_n X 3 dX3_goes_7 rfl rfl ?_
  refine tm_iload_n X 1 dX3_goes_8 rfl rfl ?_
  refine tm_let (fun k => TM G h' k (wX ad dA tt h3) 0 0 33 [(0, .ref (ad 40))] []) ?_ (fun k33 hk33 => ?_)
  · skip
    refine tm_aload_n X 0 dX3_goes_33 rfl rfl ?_
    exact tm_retA (wf := wX ad dA tt) hRet dX3_goes_34
  · skip
    refine tm_ic_ge X 33 dX3_goes_9 rfl ?_ ?_
    · skip
      refine tm_lv X [0] rfl ?_
      exact hk33
    · skip
      refine tm_aload_n X 0 dX3_goes_12 rfl rfl ?_
      refine tm_getI X (fiX_40_2 ad dA tt) in_X3 rfl (Nat.le_of_ble_eq_true rfl) q182 rfl dX3_goes_13 ?_
      refine tm_sipush X (9999 : Int32) dX3_goes_16 (by decide) ?_
      refine tm_ic_ge X 33 dX3_goes_19 rfl ?_ ?_
      · skip
        refine tm_lv X [0] rfl ?_
        exact hk33
      · skip
        refine tm_aload_n X 0 dX3_goes_22 rfl rfl ?_
        refine tm_iload_n X 2 dX3_goes_23 rfl rfl ?_
        refine tm_cl1 (fun h5 e4 => ?_)
        refine tm_callVv (As := [.int x2]) (rest := []) (q0 := 3) X (ctX3_nightGoes_40 l D ad dA tt h3 x2 h5 e4) (lw_V q1065 q1066 q1067 q120 q1068) cyX3_nightGoes rfl rfl rfl ⟨(Nat.le_of_ble_eq_true rfl), (Nat.le_of_ble_eq_true rfl)⟩ (Nat.le_of_ble_eq_true rfl) dX3_goes_24 ⟨Nat.le_of_ble_eq_true rfl, Nat.le_of_ble_eq_true rfl⟩ rfl ?_
        refine tm_iinc (v := (1 : Int32)) X 3 [(3, .int (x3_2 + (1 : Int32))), (0, .ref (ad 40)), (1, .int x1), (2, .int x2)] dX3_goes_27 rfl (by decide) (Nat.le_of_ble_eq_true rfl) rfl ?_
        refine tm_goto X 7 dX3_goes_30 rfl ?_
        refine tm_lv X [1, 2, 3, 0] rfl ?_
        exact hk7 (x3_2 + (1 : Int32)) h5
set_option maxHeartbeats 4000000 in
theorem ctX3_goes_50 (l : Launch) (D : va_G) (ad : Nat → Nat) (dA : Nat → ClassId) (tt : (Nat → Option Nat) × (Nat → Option Nat) × va_W) (h : Hp) (x1 : Int32) (x2 : Int32) (h' : Hp) (hm : mX3_goes 50 tt h x1 x2 = some h') : CT l yX3_goes cX3_goes 4 (some (.object "HighSpots$Bench")) D dA 45 1060 0 0 (wX ad dA tt h) [.ref (ad 50), .int x1, .int x2] (some (.ref (ad 50))) (wX ad dA tt h') := by
  refine ct_open (by decide) (Nat.le_of_ble_eq_true rfl) ?_
  intro G X hI hZ hV hR
  have hRet := hR ⟨_, rfl⟩ _ (Or.inr ⟨_, rfl⟩) rfl
  refine (show TM G h' (mX3_goes 50 tt h x1 x2) (wX ad dA tt h) 0 0 0 [(0, .ref (ad 50)), (1, .int x1), (2, .int x2)] [] from ?_) hm
  clear hm hI hZ hV hR
  unfold mX3_goes
  refine tm_aload_n X 0 dX3_goes_0 rfl rfl ?_
  refine tm_iconst X (0 : Int32) dX3_goes_1 (by decide) ?_
  refine tm_putI X (fiX_50_4 ad dA tt) in_X3 rfl (Nat.le_of_ble_eq_true rfl) tyX3 tyX3_ok nmX3 rfl rfl q186 rfl dX3_goes_2 (fun h1 => ?_)
  refine tm_iconst X (0 : Int32) dX3_goes_5 (by decide) ?_
  refine tm_istore_n X [(3, .int (0 : Int32)), (0, .ref (ad 50)), (1, .int x1), (2, .int x2)] dX3_goes_6 rfl (Nat.le_of_ble_eq_true rfl) rfl ?_
  refine tm_lv X [1, 2, 3, 0] rfl ?_
  refine fx_P (fun (k : Int32 → Hp → Option (Hp)) => ∀ (x3_2 : Int32) (h3 : Hp), TM G h' (k x3_2 h3) (wX ad dA tt h3) 0 0 7 [(0, .ref (ad 50)), (1, .int x1), (2, .int x2), (3, .int x3_2)] []) (fun _ _ => tm_none) (fun k7 hk7 x3_2 h3 => ?_) FU (0 : Int32) h1
  refine tm_iload_n X 3 dX3_goes_7 rfl rfl ?_
  refine tm_iload_n X 1 dX3_goes_8 rfl rfl ?_
  refine tm_let (fun k => TM G h' k (wX ad dA tt h3) 0 0 33 [(0, .ref (ad 50))] []) ?_ (fun k33 hk33 => ?_)
  · skip
    refine tm_aload_n X 0 dX3_goes_33 rfl rfl ?_
    exact tm_retA (wf := wX ad dA tt) hRet dX3_goes_34
  · skip
    refine tm_ic_ge X 33 dX3_goes_9 rfl ?_ ?_
    · skip
      refine tm_lv X [0] rfl ?_
      exact hk33
    · skip
      refine tm_aload_n X 0 dX3_goes_12 rfl rfl ?_
      refine tm_getI X (fiX_50_2 ad dA tt) in_X3 rfl (Nat.le_of_ble_eq_true rfl) q182 rfl dX3_goes_13 ?_
      refine tm_sipush X (9999 : Int32) dX3_goes_16 (by decide) ?_
      refine tm_ic_ge X 33 dX3_goes_19 rfl ?_ ?_
      · skip
        refine tm_lv X [0] rfl ?_
        exact hk33
      · skip
        refine tm_aload_n X 0 dX3_goes_22 rfl rfl ?_
        refine tm_iload_n X 2 dX3_goes_23 rfl rfl ?_
        refine tm_cl1 (fun h5 e4 => ?_)
        refine tm_callVv (As := [.int x2]) (rest := []) (q0 := 8) X (ctX3_nightGoes_50 l D ad dA tt h3 x2 h5 e4) (lw_V q1065 q1066 q1067 q120 q1068) cyX3_nightGoes rfl rfl rfl ⟨(Nat.le_of_ble_eq_true rfl), (Nat.le_of_ble_eq_true rfl)⟩ (Nat.le_of_ble_eq_true rfl) dX3_goes_24 ⟨Nat.le_of_ble_eq_true rfl, Nat.le_of_ble_eq_true rfl⟩ rfl ?_
        refine tm_iinc (v := (1 : Int32)) X 3 [(3, .int (x3_2 + (1 : Int32))), (0, .ref (ad 50)), (1, .int x1), (2, .int x2)] dX3_goes_27 rfl (by decide) (Nat.le_of_ble_eq_true rfl) rfl ?_
        refine tm_goto X 7 dX3_goes_30 rfl ?_
        refine tm_lv X [1, 2, 3, 0] rfl ?_
        exact hk7 (x3_2 + (1 : Int32)) h5
def mX0_nights (tt : (Nat → Option Nat) × (Nat → Option Nat) × va_W) (h : Hp) (x1 : Int32) (x2 : Int32) : Option (Int32 × Hp) :=
cl1 (mX0_within x1 (1 : Int32) (30 : Int32)) (fun r1 =>
nm (fun (s3 : Int32) (h4 : Hp) =>
some (s3, h4)) (fun k36 =>
nm (
k36 (-1 : Int32) h) (fun k35 =>
if r1 = 0 then (
k35) else (
cl1 (mX0_within x2 (0 : Int32) (50 : Int32)) (fun r5 =>
if r5 = 0 then (
k35) else (
cl1 (mX3_goes 40 tt h x1 x2) (fun h8 =>
k36 (h8 40 4) h8)))))))
theorem cyX0_nights : Callee yX0_nights 2 := by unfold Callee; decide +kernel
set_option maxHeartbeats 4000000 in
theorem ctX0_nights (l : Launch) (D : va_G) (ad : Nat → Nat) (dA : Nat → ClassId) (tt : (Nat → Option Nat) × (Nat → Option Nat) × va_W) (h : Hp) (x1 : Int32) (x2 : Int32) (r : Int32) (h' : Hp) (hm : mX0_nights tt h x1 x2 = some (r, h')) : CT l yX0_nights cX0_nights 3 (some .int) D dA 46 1083 0 0 (wX ad dA tt h) [.ref (ad 100), .int x1, .int x2] (some (.int r)) (wX ad dA tt h') := by
  refine ct_open (by decide) (Nat.le_of_ble_eq_true rfl) ?_
  intro G X hI hZ hV hR
  have hRet := hI rfl r rfl
  refine (show TM G (r, h') (mX0_nights tt h x1 x2) (wX ad dA tt h) 0 0 0 [(0, .ref (ad 100)), (1, .int x1), (2, .int x2)] [] from ?_) hm
  clear hm hI hZ hV hR
  unfold mX0_nights
  refine tm_iload_n X 1 dX0_nights_0 rfl rfl ?_
  refine tm_iconst X (1 : Int32) dX0_nights_1 (by decide) ?_
  refine tm_bipush X (30 : Int32) dX0_nights_2 (by decide) ?_
  refine tm_cl1 (fun r1 e2 => ?_)
  refine tm_callSi (As := [.int x1, .int (1 : Int32), .int (30 : Int32)]) (rest := []) X (ctX0_within l D dA x1 (1 : Int32) (30 : Int32) r1 e2) (lw_S q317 q318 q117 q319) cyX0_within rfl ⟨(Nat.le_of_ble_eq_true rfl), (Nat.le_of_ble_eq_true rfl)⟩ (Nat.le_of_ble_eq_true rfl) dX0_nights_4 ⟨Nat.le_of_ble_eq_true rfl, Nat.le_of_ble_eq_true rfl⟩ rfl ?_
  refine tm_let (fun k => ∀ (s3 : Int32) (h4 : Hp), TM G (r, h') (k s3 h4) (wX ad dA tt h4) 0 0 36 [] [.int s3]) ?_ (fun k36 hk36 => ?_)
  · intro s3 h4
    exact tm_retIH (wf := wX ad dA tt) hRet dX0_nights_36
  · skip
    refine tm_let (fun k => TM G (r, h') k (wX ad dA tt h) 0 0 35 [] []) ?_ (fun k35 hk35 => ?_)
    · skip
      refine tm_iconst X (-1 : Int32) dX0_nights_35 (by decide) ?_
      exact hk36 (-1 : Int32) h
    · skip
      refine tm_if_eq X 35 dX0_nights_7 rfl ?_ ?_
      · skip
        refine tm_lv X [] rfl ?_
        exact hk35
      · skip
        refine tm_iload_n X 2 dX0_nights_10 rfl rfl ?_
        refine tm_iconst X (0 : Int32) dX0_nights_11 (by decide) ?_
        refine tm_bipush X (50 : Int32) dX0_nights_12 (by decide) ?_
        refine tm_cl1 (fun r5 e6 => ?_)
        refine tm_callSi (As := [.int x2, .int (0 : Int32), .int (50 : Int32)]) (rest := []) X (ctX0_within l D dA x2 (0 : Int32) (50 : Int32) r5 e6) (lw_S q317 q318 q117 q319) cyX0_within rfl ⟨(Nat.le_of_ble_eq_true rfl), (Nat.le_of_ble_eq_true rfl)⟩ (Nat.le_of_ble_eq_true rfl) dX0_nights_14 ⟨Nat.le_of_ble_eq_true rfl, Nat.le_of_ble_eq_true rfl⟩ rfl ?_
        refine tm_if_eq X 35 dX0_nights_17 rfl ?_ ?_
        · skip
          refine tm_lv X [] rfl ?_
          exact hk35
        · skip
          refine tm_aload_n X 0 dX0_nights_20 rfl rfl ?_
          refine tm_getR X (frX_100_5 ad dA tt h) in_X0 rfl (Nat.le_of_ble_eq_true rfl) q242 rfl dX0_nights_21 ?_
          refine tm_iload_n X 1 dX0_nights_24 rfl rfl ?_
          refine tm_iload_n X 2 dX0_nights_25 rfl rfl ?_
          refine tm_cl1 (fun h8 e7 => ?_)
          refine tm_callVr (As := [.int x1, .int x2]) (rest := []) (q0 := 3) X (ctX3_goes_40 l D ad dA tt h x1 x2 h8 e7) (lw_V q1061 q1062 q1063 q120 q1064) cyX3_goes rfl rfl rfl ⟨(Nat.le_of_ble_eq_true rfl), (Nat.le_of_ble_eq_true rfl)⟩ (Nat.le_of_ble_eq_true rfl) dX0_nights_26 ⟨Nat.le_of_ble_eq_true rfl, Nat.le_of_ble_eq_true rfl⟩ rfl ?_
          refine tm_getIN X (fiX_40_4 ad dA tt) in_X3 rfl (Nat.le_of_ble_eq_true rfl) q187 rfl dX0_nights_29 ?_
          refine tm_goto X 36 dX0_nights_32 rfl ?_
          refine tm_lv X [] rfl ?_
          exact hk36 (h8 40 4) h8
def mX0_tried (tt : (Nat → Option Nat) × (Nat → Option Nat) × va_W) (h : Hp) (x1 : Int32) (x2 : Int32) (x3 : Int32) : Option (Int32 × Hp) :=
cl1 (mX0_within x1 (1 : Int32) (30 : Int32)) (fun r1 =>
nm (
some ((-1 : Int32), h)) (fun k49 =>
if r1 = 0 then (
k49) else (
cl1 (mX0_within x2 (0 : Int32) (50 : Int32)) (fun r3 =>
if r3 = 0 then (
k49) else (
cl1 (mX0_in x3 (3 : Int32)) (fun r5 =>
nm (
cl1 (mX3_takes 50 40 h) (fun h8 =>
cl1 (mX3_goes 50 tt h8 x1 x2) (fun h10 =>
if x3 = (0 : Int32) then (
some ((h10 50 4), h10)) else (
if x3 = (1 : Int32) then (
cl1 (mX3_opening 50 h10 (31 : Int32)) (fun r13 =>
some (r13, h10))) else (
if x3 = (2 : Int32) then (
cl2 (mX3_marks 50 h10 (31 : Int32) (0 : Int32)) (fun r16 h17 =>
some (r16, h17))) else (
nm (fun (s19 : Int32) =>
some (s19, h10)) (fun k164 =>
if (200 : Int32) ≤ x3 then (
nm ((x3 - (200 : Int32))) (fun v20 =>
ck v20 48 (
k164 (h10 52 v20.toNatClampNeg)))) else (
nm ((x3 - (100 : Int32))) (fun v21 =>
ck v21 48 (
k164 (h10 53 v21.toNatClampNeg))))))))))) (fun k51 =>
if r5 = 0 then (
cl1 (mX0_isPlace (x3 - (100 : Int32))) (fun r22 =>
if r22 = 0 then (
cl1 (mX0_isPlace (x3 - (200 : Int32))) (fun r24 =>
if r24 = 0 then (
k49) else (
k51))) else (
k51))) else (
k51))))))))
theorem cyX0_tried : Callee yX0_tried 3 := by unfold Callee; decide +kernel
set_option maxHeartbeats 4000000 in
theorem ctX0_tried (l : Launch) (D : va_G) (ad : Nat → Nat) (dA : Nat → ClassId) (tt : (Nat → Option Nat) × (Nat → Option Nat) × va_W) (h : Hp) (x1 : Int32) (x2 : Int32) (x3 : Int32) (r : Int32) (h' : Hp) (hm : mX0_tried tt h x1 x2 x3 = some (r, h')) : CT l yX0_tried cX0_tried 4 (some .int) D dA 46 1083 0 0 (wX ad dA tt h) [.ref (ad 100), .int x1, .int x2, .int x3] (some (.int r)) (wX ad dA tt h') := by
  refine ct_open (by decide) (Nat.le_of_ble_eq_true rfl) ?_
  intro G X hI hZ hV hR
  have hRet := hI rfl r rfl
  refine (show TM G (r, h') (mX0_tried tt h x1 x2 x3) (wX ad dA tt h) 0 0 0 [(0, .ref (ad 100)), (1, .int x1), (2, .int x2), (3, .int x3)] [] from ?_) hm
  clear hm hI hZ hV hR
  unfold mX0_tried
  refine tm_iload_n X 1 dX0_tried_0 rfl rfl ?_
  refine tm_iconst X (1 : Int32) dX0_tried_1 (by decide) ?_
  refine tm_bipush X (30 : Int32) dX0_tried_2 (by decide) ?_
  refine tm_cl1 (fun r1 e2 => ?_)
  refine tm_callSi (As := [.int x1, .int (1 : Int32), .int (30 : Int32)]) (rest := []) X (ctX0_within l D dA x1 (1 : Int32) (30 : Int32) r1 e2) (lw_S q317 q318 q117 q319) cyX0_within rfl ⟨(Nat.le_of_ble_eq_true rfl), (Nat.le_of_ble_eq_true rfl)⟩ (Nat.le_of_ble_eq_true rfl) dX0_tried_4 ⟨Nat.le_of_ble_eq_true rfl, Nat.le_of_ble_eq_true rfl⟩ rfl ?_
  refine tm_let (fun k => TM G (r, h') k (wX ad dA tt h) 0 0 49 [] []) ?_ (fun k49 hk49 => ?_)
  · skip
    refine tm_iconst X (-1 : Int32) dX0_tried_49 (by decide) ?_
    exact tm_retIH (wf := wX ad dA tt) hRet dX0_tried_50
  · skip
    refine tm_if_eq X 49 dX0_tried_7 rfl ?_ ?_
    · skip
      refine tm_lv X [] rfl ?_
      exact hk49
    · skip
      refine tm_iload_n X 2 dX0_tried_10 rfl rfl ?_
      refine tm_iconst X (0 : Int32) dX0_tried_11 (by decide) ?_
      refine tm_bipush X (50 : Int32) dX0_tried_12 (by decide) ?_
      refine tm_cl1 (fun r3 e4 => ?_)
      refine tm_callSi (As := [.int x2, .int (0 : Int32), .int (50 : Int32)]) (rest := []) X (ctX0_within l D dA x2 (0 : Int32) (50 : Int32) r3 e4) (lw_S q317 q318 q117 q319) cyX0_within rfl ⟨(Nat.le_of_ble_eq_true rfl), (Nat.le_of_ble_eq_true rfl)⟩ (Nat.le_of_ble_eq_true rfl) dX0_tried_14 ⟨Nat.le_of_ble_eq_true rfl, Nat.le_of_ble_eq_true rfl⟩ rfl ?_
      refine tm_if_eq X 49 dX0_tried_17 rfl ?_ ?_
      · skip
        refine tm_lv X [] rfl ?_
        exact hk49
      · skip
        refine tm_iload_n X 3 dX0_tried_20 rfl rfl ?_
        refine tm_iconst X (3 : Int32) dX0_tried_21 (by decide) ?_
        refine tm_cl1 (fun r5 e6 => ?_)
        refine tm_callSi (As := [.int x3, .int (3 : Int32)]) (rest := []) X (ctX0_in l D dA x3 (3 : Int32) r5 e6) (lw_S q311 q312 q117 q313) cyX0_in rfl ⟨(Nat.le_of_ble_eq_true rfl), (Nat.le_of_ble_eq_true rfl)⟩ (Nat.le_of_ble_eq_true rfl) dX0_tried_22 ⟨Nat.le_of_ble_eq_true rfl, Nat.le_of_ble_eq_true rfl⟩ rfl ?_
        refine tm_let (fun k => TM G (r, h') k (wX ad dA tt h) 0 0 51 [(0, .ref (ad 100)), (1, .int x1), (2, .int x2), (3, .int x3)] []) ?_ (fun k51 hk51 => ?_)
        · skip
          refine tm_aload_n X 0 dX0_tried_51 rfl rfl ?_
          refine tm_getR X (frX_100_6 ad dA tt h) in_X0 rfl (Nat.le_of_ble_eq_true rfl) q243 rfl dX0_tried_52 ?_
          refine tm_aload_n X 0 dX0_tried_55 rfl rfl ?_
          refine tm_getR X (frX_100_5 ad dA tt h) in_X0 rfl (Nat.le_of_ble_eq_true rfl) q242 rfl dX0_tried_56 ?_
          refine tm_cl1 (fun h8 e7 => ?_)
          refine tm_callVr (As := [.ref (ad 40)]) (rest := []) (q0 := 8) X (ctX3_takes_50_40 l D ad dA tt h h8 e7) (lw_V q1147 q1148 q1149 q120 q1150) cyX3_takes rfl rfl rfl ⟨(Nat.le_of_ble_eq_true rfl), (Nat.le_of_ble_eq_true rfl)⟩ (Nat.le_of_ble_eq_true rfl) dX0_tried_59 ⟨Nat.le_of_ble_eq_true rfl, Nat.le_of_ble_eq_true rfl⟩ rfl ?_
          refine tm_iload_n X 1 dX0_tried_62 rfl rfl ?_
          refine tm_iload_n X 2 dX0_tried_63 rfl rfl ?_
          refine tm_cl1 (fun h10 e9 => ?_)
          refine tm_callVr (As := [.int x1, .int x2]) (rest := []) (q0 := 8) X (ctX3_goes_50 l D ad dA tt h8 x1 x2 h10 e9) (lw_V q1061 q1062 q1063 q120 q1064) cyX3_goes rfl rfl rfl ⟨(Nat.le_of_ble_eq_true rfl), (Nat.le_of_ble_eq_true rfl)⟩ (Nat.le_of_ble_eq_true rfl) dX0_tried_64 ⟨Nat.le_of_ble_eq_true rfl, Nat.le_of_ble_eq_true rfl⟩ rfl ?_
          refine tm_pop X dX0_tried_67 rfl ?_
          refine tm_iload_n X 3 dX0_tried_68 rfl rfl ?_
          refine tm_sw (j := 0) (0 : Int32) 96 X dX0_tried_69 (by decide) (by decide) rfl rfl ?_ (fun hs11 => ?_)
          · skip
            refine tm_aload_n X 0 dX0_tried_96 rfl rfl ?_
            refine tm_getR X (frX_100_6 ad dA tt h10) in_X0 rfl (Nat.le_of_ble_eq_true rfl) q243 rfl dX0_tried_97 ?_
            refine tm_getIN X (fiX_50_4 ad dA tt) in_X3 rfl (Nat.le_of_ble_eq_true rfl) q187 rfl dX0_tried_100 ?_
            exact tm_retIH (wf := wX ad dA tt) hRet dX0_tried_103
          refine tm_sw (j := 1) (1 : Int32) 104 X dX0_tried_69 (by decide) (by decide) rfl rfl ?_ (fun hs14 => ?_)
          · skip
            refine tm_aload_n X 0 dX0_tried_104 rfl rfl ?_
            refine tm_getR X (frX_100_6 ad dA tt h10) in_X0 rfl (Nat.le_of_ble_eq_true rfl) q243 rfl dX0_tried_105 ?_
            refine tm_bipush X (31 : Int32) dX0_tried_108 (by decide) ?_
            refine tm_cl1 (fun r13 e12 => ?_)
            refine tm_callVi (As := [.int (31 : Int32)]) (rest := []) (q0 := 8) X (ctX3_opening_50 l D ad dA tt h10 (31 : Int32) r13 e12) (lw_V q833 q819 q820 q120 q821) cyX3_opening rfl rfl rfl ⟨(Nat.le_of_ble_eq_true rfl), (Nat.le_of_ble_eq_true rfl)⟩ (Nat.le_of_ble_eq_true rfl) dX0_tried_110 ⟨Nat.le_of_ble_eq_true rfl, Nat.le_of_ble_eq_true rfl⟩ rfl ?_
            exact tm_retIH (wf := wX ad dA tt) hRet dX0_tried_113
          refine tm_sw (j := 2) (2 : Int32) 114 X dX0_tried_69 (by decide) (by decide) rfl rfl ?_ (fun hs18 => ?_)
          · skip
            refine tm_aload_n X 0 dX0_tried_114 rfl rfl ?_
            refine tm_getR X (frX_100_6 ad dA tt h10) in_X0 rfl (Nat.le_of_ble_eq_true rfl) q243 rfl dX0_tried_115 ?_
            refine tm_bipush X (31 : Int32) dX0_tried_118 (by decide) ?_
            refine tm_iconst X (0 : Int32) dX0_tried_120 (by decide) ?_
            refine tm_cl2 (fun r16 h17 e15 => ?_)
            refine tm_callVi (As := [.int (31 : Int32), .int (0 : Int32)]) (rest := []) (q0 := 8) X (ctX3_marks_50 l D ad dA tt h10 (31 : Int32) (0 : Int32) r16 h17 e15) (lw_V q814 q815 q816 q120 q817) cyX3_marks rfl rfl rfl ⟨(Nat.le_of_ble_eq_true rfl), (Nat.le_of_ble_eq_true rfl)⟩ (Nat.le_of_ble_eq_true rfl) dX0_tried_121 ⟨Nat.le_of_ble_eq_true rfl, Nat.le_of_ble_eq_true rfl⟩ rfl ?_
            exact tm_retIH (wf := wX ad dA tt) hRet dX0_tried_124
          refine tm_swd 125 X dX0_tried_69 (by have := ne_toInt hs11 (n := 0) (by decide); have := ne_toInt hs14 (n := 1) (by decide); have := ne_toInt hs18 (n := 2) (by decide); omega) rfl ?_
          refine tm_iload_n X 3 dX0_tried_125 rfl rfl ?_
          refine tm_sipush X (200 : Int32) dX0_tried_126 (by decide) ?_
          refine tm_let (fun k => ∀ (s19 : Int32), TM G (r, h') (k s19) (wX ad dA tt h10) 0 0 164 [] [.int s19]) ?_ (fun k164 hk164 => ?_)
          · intro s19
            exact tm_retIH (wf := wX ad dA tt) hRet dX0_tried_164
          · skip
            refine tm_ic_ge X 149 dX0_tried_129 rfl ?_ ?_
            · skip
              refine tm_aload_n X 0 dX0_tried_149 rfl rfl ?_
              refine tm_getR X (frX_100_6 ad dA tt h10) in_X0 rfl (Nat.le_of_ble_eq_true rfl) q243 rfl dX0_tried_150 ?_
              refine tm_getRN X (frX_50_0 ad dA tt h10) in_X3 rfl (Nat.le_of_ble_eq_true rfl) q179 rfl dX0_tried_153 ?_
              refine tm_iconst X (0 : Int32) dX0_tried_156 (by decide) ?_
              refine tm_aaloadL (j := 0) X (aaX_51 ad dA tt h10) (by unfold vp_in; decide) (by decide) dX0_tried_157 ?_
              refine tm_iload_n X 3 dX0_tried_158 rfl rfl ?_
              refine tm_sipush X (200 : Int32) dX0_tried_159 (by decide) ?_
              refine tm_isub X dX0_tried_162 ?_
              refine tm_nmI (fun v20 => ?_)
              refine tm_iaload X (arX_52 ad dA tt) dX0_tried_163 ?_
              refine tm_lv X [] rfl ?_
              exact hk164 (h10 52 v20.toNatClampNeg)
            · skip
              refine tm_aload_n X 0 dX0_tried_132 rfl rfl ?_
              refine tm_getR X (frX_100_6 ad dA tt h10) in_X0 rfl (Nat.le_of_ble_eq_true rfl) q243 rfl dX0_tried_133 ?_
              refine tm_getRN X (frX_50_0 ad dA tt h10) in_X3 rfl (Nat.le_of_ble_eq_true rfl) q179 rfl dX0_tried_136 ?_
              refine tm_iconst X (1 : Int32) dX0_tried_139 (by decide) ?_
              refine tm_aaloadL (j := 1) X (aaX_51 ad dA tt h10) (by unfold vp_in; decide) (by decide) dX0_tried_140 ?_
              refine tm_iload_n X 3 dX0_tried_141 rfl rfl ?_
              refine tm_bipush X (100 : Int32) dX0_tried_142 (by decide) ?_
              refine tm_isub X dX0_tried_144 ?_
              refine tm_nmI (fun v21 => ?_)
              refine tm_iaload X (arX_53 ad dA tt) dX0_tried_145 ?_
              refine tm_goto X 164 dX0_tried_146 rfl ?_
              refine tm_lv X [] rfl ?_
              exact hk164 (h10 53 v21.toNatClampNeg)
        · skip
          refine tm_if_ne X 51 dX0_tried_25 rfl ?_ ?_
          · skip
            exact hk51
          · skip
            refine tm_iload_n X 3 dX0_tried_28 rfl rfl ?_
            refine tm_bipush X (100 : Int32) dX0_tried_29 (by decide) ?_
            refine tm_isub X dX0_tried_31 ?_
            refine tm_cl1 (fun r22 e23 => ?_)
            refine tm_callSi (As := [.int (x3 - (100 : Int32))]) (rest := []) X (ctX0_isPlace l D dA (x3 - (100 : Int32)) r22 e23) (lw_S q314 q315 q117 q316) cyX0_isPlace rfl ⟨(Nat.le_of_ble_eq_true rfl), (Nat.le_of_ble_eq_true rfl)⟩ (Nat.le_of_ble_eq_true rfl) dX0_tried_32 ⟨Nat.le_of_ble_eq_true rfl, Nat.le_of_ble_eq_true rfl⟩ rfl ?_
            refine tm_if_ne X 51 dX0_tried_35 rfl ?_ ?_
            · skip
              exact hk51
            · skip
              refine tm_iload_n X 3 dX0_tried_38 rfl rfl ?_
              refine tm_sipush X (200 : Int32) dX0_tried_39 (by decide) ?_
              refine tm_isub X dX0_tried_42 ?_
              refine tm_cl1 (fun r24 e25 => ?_)
              refine tm_callSi (As := [.int (x3 - (200 : Int32))]) (rest := []) X (ctX0_isPlace l D dA (x3 - (200 : Int32)) r24 e25) (lw_S q314 q315 q117 q316) cyX0_isPlace rfl ⟨(Nat.le_of_ble_eq_true rfl), (Nat.le_of_ble_eq_true rfl)⟩ (Nat.le_of_ble_eq_true rfl) dX0_tried_43 ⟨Nat.le_of_ble_eq_true rfl, Nat.le_of_ble_eq_true rfl⟩ rfl ?_
              refine tm_if_ne X 51 dX0_tried_46 rfl ?_ ?_
              · skip
                exact hk51
              · skip
                refine tm_lv X [] rfl ?_
                exact hk49
def mX0_even (tt : (Nat → Option Nat) × (Nat → Option Nat) × va_W) (h : Hp) (x1 : Int32) (x2 : Int32) (x3 : Int32) : Option (Int32 × Hp) :=
cl1 (mX0_within x1 (1 : Int32) (30 : Int32)) (fun r1 =>
nm (
some ((-1 : Int32), h)) (fun k30 =>
if r1 = 0 then (
k30) else (
cl1 (mX0_within x2 (0 : Int32) (50 : Int32)) (fun r3 =>
if r3 = 0 then (
k30) else (
cl1 (mX0_within x3 (1 : Int32) (48 : Int32)) (fun r5 =>
if r5 = 0 then (
k30) else (
cl1 (mX3_takes 50 40 h) (fun h8 =>
fx FU (fun _ _ => none) (fun k47 (x4_9 : Int32) (h10 : Hp) =>
if x1 < x4_9 then (
some ((-2 : Int32), h10)) else (
cl2 (mX3_marks 50 h10 (31 : Int32) (0 : Int32)) (fun r12 h13 =>
if r12 < x3 then (
nm (
some ((-2 : Int32), h13)) (fun k89 =>
if x4_9 = x1 then (
k89) else (
if (h13 50 2) = (9999 : Int32) then (
k89) else (
cl1 (mX3_nightGoes 50 tt h13 x2) (fun h15 =>
k47 (x4_9 + (1 : Int32)) h15))))) else (
some (x4_9, h13))))) (0 : Int32) h8))))))))
theorem cyX0_even : Callee yX0_even 3 := by unfold Callee; decide +kernel
set_option maxHeartbeats 4000000 in
theorem ctX0_even (l : Launch) (D : va_G) (ad : Nat → Nat) (dA : Nat → ClassId) (tt : (Nat → Option Nat) × (Nat → Option Nat) × va_W) (h : Hp) (x1 : Int32) (x2 : Int32) (x3 : Int32) (r : Int32) (h' : Hp) (hm : mX0_even tt h x1 x2 x3 = some (r, h')) : CT l yX0_even cX0_even 5 (some .int) D dA 45 1060 0 0 (wX ad dA tt h) [.ref (ad 100), .int x1, .int x2, .int x3] (some (.int r)) (wX ad dA tt h') := by
  refine ct_open (by decide) (Nat.le_of_ble_eq_true rfl) ?_
  intro G X hI hZ hV hR
  have hRet := hI rfl r rfl
  refine (show TM G (r, h') (mX0_even tt h x1 x2 x3) (wX ad dA tt h) 0 0 0 [(0, .ref (ad 100)), (1, .int x1), (2, .int x2), (3, .int x3)] [] from ?_) hm
  clear hm hI hZ hV hR
  unfold mX0_even
  refine tm_iload_n X 1 dX0_even_0 rfl rfl ?_
  refine tm_iconst X (1 : Int32) dX0_even_1 (by decide) ?_
  refine tm_bipush X (30 : Int32) dX0_even_2 (by decide) ?_
  refine tm_cl1 (fun r1 e2 => ?_)
  refine tm_callSi (As := [.int x1, .int (1 : Int32), .int (30 : Int32)]) (rest := []) X (ctX0_within l D dA x1 (1 : Int32) (30 : Int32) r1 e2) (lw_S q317 q318 q117 q319) cyX0_within rfl ⟨(Nat.le_of_ble_eq_true rfl), (Nat.le_of_ble_eq_true rfl)⟩ (Nat.le_of_ble_eq_true rfl) dX0_even_4 ⟨Nat.le_of_ble_eq_true rfl, Nat.le_of_ble_eq_true rfl⟩ rfl ?_
  refine tm_let (fun k => TM G (r, h') k (wX ad dA tt h) 0 0 30 [] []) ?_ (fun k30 hk30 => ?_)
  · skip
    refine tm_iconst X (-1 : Int32) dX0_even_30 (by decide) ?_
    exact tm_retIH (wf := wX ad dA tt) hRet dX0_even_31
  · skip
    refine tm_if_eq X 30 dX0_even_7 rfl ?_ ?_
    · skip
      refine tm_lv X [] rfl ?_
      exact hk30
    · skip
      refine tm_iload_n X 2 dX0_even_10 rfl rfl ?_
      refine tm_iconst X (0 : Int32) dX0_even_11 (by decide) ?_
      refine tm_bipush X (50 : Int32) dX0_even_12 (by decide) ?_
      refine tm_cl1 (fun r3 e4 => ?_)
      refine tm_callSi (As := [.int x2, .int (0 : Int32), .int (50 : Int32)]) (rest := []) X (ctX0_within l D dA x2 (0 : Int32) (50 : Int32) r3 e4) (lw_S q317 q318 q117 q319) cyX0_within rfl ⟨(Nat.le_of_ble_eq_true rfl), (Nat.le_of_ble_eq_true rfl)⟩ (Nat.le_of_ble_eq_true rfl) dX0_even_14 ⟨Nat.le_of_ble_eq_true rfl, Nat.le_of_ble_eq_true rfl⟩ rfl ?_
      refine tm_if_eq X 30 dX0_even_17 rfl ?_ ?_
      · skip
        refine tm_lv X [] rfl ?_
        exact hk30
      · skip
        refine tm_iload_n X 3 dX0_even_20 rfl rfl ?_
        refine tm_iconst X (1 : Int32) dX0_even_21 (by decide) ?_
        refine tm_bipush X (48 : Int32) dX0_even_22 (by decide) ?_
        refine tm_cl1 (fun r5 e6 => ?_)
        refine tm_callSi (As := [.int x3, .int (1 : Int32), .int (48 : Int32)]) (rest := []) X (ctX0_within l D dA x3 (1 : Int32) (48 : Int32) r5 e6) (lw_S q317 q318 q117 q319) cyX0_within rfl ⟨(Nat.le_of_ble_eq_true rfl), (Nat.le_of_ble_eq_true rfl)⟩ (Nat.le_of_ble_eq_true rfl) dX0_even_24 ⟨Nat.le_of_ble_eq_true rfl, Nat.le_of_ble_eq_true rfl⟩ rfl ?_
        refine tm_if_ne X 32 dX0_even_27 rfl ?_ ?_
        · skip
          refine tm_aload_n X 0 dX0_even_32 rfl rfl ?_
          refine tm_getR X (frX_100_6 ad dA tt h) in_X0 rfl (Nat.le_of_ble_eq_true rfl) q243 rfl dX0_even_33 ?_
          refine tm_aload_n X 0 dX0_even_36 rfl rfl ?_
          refine tm_getR X (frX_100_5 ad dA tt h) in_X0 rfl (Nat.le_of_ble_eq_true rfl) q242 rfl dX0_even_37 ?_
          refine tm_cl1 (fun h8 e7 => ?_)
          refine tm_callVr (As := [.ref (ad 40)]) (rest := []) (q0 := 8) X (ctX3_takes_50_40 l D ad dA tt h h8 e7) (lw_V q1147 q1148 q1149 q120 q1150) cyX3_takes rfl rfl rfl ⟨(Nat.le_of_ble_eq_true rfl), (Nat.le_of_ble_eq_true rfl)⟩ (Nat.le_of_ble_eq_true rfl) dX0_even_40 ⟨Nat.le_of_ble_eq_true rfl, Nat.le_of_ble_eq_true rfl⟩ rfl ?_
          refine tm_pop X dX0_even_43 rfl ?_
          refine tm_iconst X (0 : Int32) dX0_even_44 (by decide) ?_
          refine tm_istore X [(4, .int (0 : Int32)), (0, .ref (ad 100)), (1, .int x1), (2, .int x2), (3, .int x3)] dX0_even_45 (Nat.le_of_ble_eq_true rfl) rfl ?_
          refine tm_lv X [1, 2, 3, 4, 0] rfl ?_
          refine fx_P (fun (k : Int32 → Hp → Option (Int32 × Hp)) => ∀ (x4_9 : Int32) (h10 : Hp), TM G (r, h') (k x4_9 h10) (wX ad dA tt h10) 0 0 47 [(0, .ref (ad 100)), (1, .int x1), (2, .int x2), (3, .int x3), (4, .int x4_9)] []) (fun _ _ => tm_none) (fun k47 hk47 x4_9 h10 => ?_) FU (0 : Int32) h8
          refine tm_iload X 4 dX0_even_47 rfl ?_
          refine tm_iload_n X 1 dX0_even_49 rfl rfl ?_
          refine tm_ic_gt X 106 dX0_even_50 rfl ?_ ?_
          · skip
            refine tm_bipush X (-2 : Int32) dX0_even_106 (by decide) ?_
            exact tm_retIH (wf := wX ad dA tt) hRet dX0_even_108
          · skip
            refine tm_aload_n X 0 dX0_even_53 rfl rfl ?_
            refine tm_getR X (frX_100_6 ad dA tt h10) in_X0 rfl (Nat.le_of_ble_eq_true rfl) q243 rfl dX0_even_54 ?_
            refine tm_bipush X (31 : Int32) dX0_even_57 (by decide) ?_
            refine tm_iconst X (0 : Int32) dX0_even_59 (by decide) ?_
            refine tm_cl2 (fun r12 h13 e11 => ?_)
            refine tm_callVi (As := [.int (31 : Int32), .int (0 : Int32)]) (rest := []) (q0 := 8) X (ctX3_marks_50 l D ad dA tt h10 (31 : Int32) (0 : Int32) r12 h13 e11) (lw_V q814 q815 q816 q120 q817) cyX3_marks rfl rfl rfl ⟨(Nat.le_of_ble_eq_true rfl), (Nat.le_of_ble_eq_true rfl)⟩ (Nat.le_of_ble_eq_true rfl) dX0_even_60 ⟨Nat.le_of_ble_eq_true rfl, Nat.le_of_ble_eq_true rfl⟩ rfl ?_
            refine tm_iload_n X 3 dX0_even_63 rfl rfl ?_
            refine tm_ic_lt X 70 dX0_even_64 rfl ?_ ?_
            · skip
              refine tm_iload X 4 dX0_even_70 rfl ?_
              refine tm_iload_n X 1 dX0_even_72 rfl rfl ?_
              refine tm_let (fun k => TM G (r, h') k (wX ad dA tt h13) 0 0 89 [] []) ?_ (fun k89 hk89 => ?_)
              · skip
                refine tm_bipush X (-2 : Int32) dX0_even_89 (by decide) ?_
                exact tm_retIH (wf := wX ad dA tt) hRet dX0_even_91
              · skip
                refine tm_ic_eq X 89 dX0_even_73 rfl ?_ ?_
                · skip
                  refine tm_lv X [] rfl ?_
                  exact hk89
                · skip
                  refine tm_aload_n X 0 dX0_even_76 rfl rfl ?_
                  refine tm_getR X (frX_100_6 ad dA tt h13) in_X0 rfl (Nat.le_of_ble_eq_true rfl) q243 rfl dX0_even_77 ?_
                  refine tm_getIN X (fiX_50_2 ad dA tt) in_X3 rfl (Nat.le_of_ble_eq_true rfl) q183 rfl dX0_even_80 ?_
                  refine tm_sipush X (9999 : Int32) dX0_even_83 (by decide) ?_
                  refine tm_ic_ne X 92 dX0_even_86 rfl ?_ ?_
                  · skip
                    refine tm_aload_n X 0 dX0_even_92 rfl rfl ?_
                    refine tm_getR X (frX_100_6 ad dA tt h13) in_X0 rfl (Nat.le_of_ble_eq_true rfl) q243 rfl dX0_even_93 ?_
                    refine tm_iload_n X 2 dX0_even_96 rfl rfl ?_
                    refine tm_cl1 (fun h15 e14 => ?_)
                    refine tm_callVv (As := [.int x2]) (rest := []) (q0 := 8) X (ctX3_nightGoes_50 l D ad dA tt h13 x2 h15 e14) (lw_V q1155 q1066 q1067 q120 q1068) cyX3_nightGoes rfl rfl rfl ⟨(Nat.le_of_ble_eq_true rfl), (Nat.le_of_ble_eq_true rfl)⟩ (Nat.le_of_ble_eq_true rfl) dX0_even_97 ⟨Nat.le_of_ble_eq_true rfl, Nat.le_of_ble_eq_true rfl⟩ rfl ?_
                    refine tm_iinc (v := (1 : Int32)) X 4 [(4, .int (x4_9 + (1 : Int32))), (0, .ref (ad 100)), (1, .int x1), (2, .int x2), (3, .int x3)] dX0_even_100 rfl (by decide) (Nat.le_of_ble_eq_true rfl) rfl ?_
                    refine tm_goto X 47 dX0_even_103 rfl ?_
                    refine tm_lv X [1, 2, 3, 4, 0] rfl ?_
                    exact hk47 (x4_9 + (1 : Int32)) h15
                  · skip
                    refine tm_lv X [] rfl ?_
                    exact hk89
            · skip
              refine tm_iload X 4 dX0_even_67 rfl ?_
              exact tm_retIH (wf := wX ad dA tt) hRet dX0_even_69
        · skip
          refine tm_lv X [] rfl ?_
          exact hk30
