set_option maxRecDepth 100000
def mX0_wayTo (h : Hp) (x1 : Int32) (x2 : Int32) (x3 : Int32) (x4 : Int32) : Option (Int32 × Hp) :=
cl1 (mX0_isGlide x1 x2) (fun r1 =>
nm (
some ((-1 : Int32), h)) (fun k27 =>
if r1 = 0 then (
k27) else (
cl1 (mX0_within x3 (0 : Int32) (50 : Int32)) (fun r3 =>
if r3 = 0 then (
k27) else (
cl1 (mX0_in x4 (2 : Int32)) (fun r5 =>
if r5 = 0 then (
k27) else (
if x4 = 0 then (
cl1 (mX0_laysHighest h) (fun h16 =>
cl1 (mX0_glideAt x1 x2) (fun r17 =>
ck r17 63 (
some ((h16 15 r17.toNatClampNeg), h16))))) else (
cl2 (mX0_comes h x3) (fun r8 h9 =>
cl1 (mX0_glideAt x1 x2) (fun r10 =>
ck r10 63 (
nm (fun (s12 : Int32) =>
some (s12, h9)) (fun k84 =>
if (h9 13 r10.toNatClampNeg) = (-1 : Int32) then (
k84 (-2 : Int32)) else (
cl1 (mX0_glideAt x1 x2) (fun r13 =>
ck r13 63 (
k84 (h9 13 r13.toNatClampNeg))))))))))))))))
theorem cyX0_wayTo : Callee yX0_wayTo 4 := by unfold Callee; decide +kernel
set_option maxHeartbeats 4000000 in
theorem ctX0_wayTo (l : Launch) (D : va_G) (ad : Nat → Nat) (dA : Nat → ClassId) (tt : (Nat → Option Nat) × (Nat → Option Nat) × va_W) (h : Hp) (x1 : Int32) (x2 : Int32) (x3 : Int32) (x4 : Int32) (r : Int32) (h' : Hp) (hm : mX0_wayTo h x1 x2 x3 x4 = some (r, h')) : CT l yX0_wayTo cX0_wayTo 5 (some .int) D dA 6 133 0 0 (wX ad dA tt h) [.ref (ad 100), .int x1, .int x2, .int x3, .int x4] (some (.int r)) (wX ad dA tt h') := by
  refine ct_open (by decide) (Nat.le_of_ble_eq_true rfl) ?_
  intro G X hI hZ hV hR
  have hRet := hI rfl r rfl
  refine (show TM G (r, h') (mX0_wayTo h x1 x2 x3 x4) (wX ad dA tt h) 0 0 0 [(0, .ref (ad 100)), (1, .int x1), (2, .int x2), (3, .int x3), (4, .int x4)] [] from ?_) hm
  clear hm hI hZ hV hR
  unfold mX0_wayTo
  refine tm_iload_n X 1 dX0_wayTo_0 rfl rfl ?_
  refine tm_iload_n X 2 dX0_wayTo_1 rfl rfl ?_
  refine tm_cl1 (fun r1 e2 => ?_)
  refine tm_callSi (As := [.int x1, .int x2]) (rest := []) X (ctX0_isGlide l D dA x1 x2 r1 e2) (lw_S q804 q805 q117 q806) cyX0_isGlide rfl ⟨(Nat.le_of_ble_eq_true rfl), (Nat.le_of_ble_eq_true rfl)⟩ (Nat.le_of_ble_eq_true rfl) dX0_wayTo_2 ⟨Nat.le_of_ble_eq_true rfl, Nat.le_of_ble_eq_true rfl⟩ rfl ?_
  refine tm_let (fun k => TM G (r, h') k (wX ad dA tt h) 0 0 27 [] []) ?_ (fun k27 hk27 => ?_)
  · skip
    refine tm_iconst X (-1 : Int32) dX0_wayTo_27 (by decide) ?_
    exact tm_retIH (wf := wX ad dA tt) hRet dX0_wayTo_28
  · skip
    refine tm_if_eq X 27 dX0_wayTo_5 rfl ?_ ?_
    · skip
      refine tm_lv X [] rfl ?_
      exact hk27
    · skip
      refine tm_iload_n X 3 dX0_wayTo_8 rfl rfl ?_
      refine tm_iconst X (0 : Int32) dX0_wayTo_9 (by decide) ?_
      refine tm_bipush X (50 : Int32) dX0_wayTo_10 (by decide) ?_
      refine tm_cl1 (fun r3 e4 => ?_)
      refine tm_callSi (As := [.int x3, .int (0 : Int32), .int (50 : Int32)]) (rest := []) X (ctX0_within l D dA x3 (0 : Int32) (50 : Int32) r3 e4) (lw_S q317 q318 q117 q319) cyX0_within rfl ⟨(Nat.le_of_ble_eq_true rfl), (Nat.le_of_ble_eq_true rfl)⟩ (Nat.le_of_ble_eq_true rfl) dX0_wayTo_12 ⟨Nat.le_of_ble_eq_true rfl, Nat.le_of_ble_eq_true rfl⟩ rfl ?_
      refine tm_if_eq X 27 dX0_wayTo_15 rfl ?_ ?_
      · skip
        refine tm_lv X [] rfl ?_
        exact hk27
      · skip
        refine tm_iload X 4 dX0_wayTo_18 rfl ?_
        refine tm_iconst X (2 : Int32) dX0_wayTo_20 (by decide) ?_
        refine tm_cl1 (fun r5 e6 => ?_)
        refine tm_callSi (As := [.int x4, .int (2 : Int32)]) (rest := []) X (ctX0_in l D dA x4 (2 : Int32) r5 e6) (lw_S q311 q312 q117 q313) cyX0_in rfl ⟨(Nat.le_of_ble_eq_true rfl), (Nat.le_of_ble_eq_true rfl)⟩ (Nat.le_of_ble_eq_true rfl) dX0_wayTo_21 ⟨Nat.le_of_ble_eq_true rfl, Nat.le_of_ble_eq_true rfl⟩ rfl ?_
        refine tm_if_ne X 29 dX0_wayTo_24 rfl ?_ ?_
        · skip
          refine tm_iload X 4 dX0_wayTo_29 rfl ?_
          refine tm_if_ne X 49 dX0_wayTo_31 rfl ?_ ?_
          · skip
            refine tm_aload_n X 0 dX0_wayTo_49 rfl rfl ?_
            refine tm_iload_n X 3 dX0_wayTo_50 rfl rfl ?_
            refine tm_cl2 (fun r8 h9 e7 => ?_)
            refine tm_callVi (As := [.int x3]) (rest := []) (q0 := 0) X (ctX0_comes l D ad dA tt h x3 r8 h9 e7) (lw_V q866 q868 qs24 q117 q869) cyX0_comes rfl rfl rfl ⟨(Nat.le_of_ble_eq_true rfl), (Nat.le_of_ble_eq_true rfl)⟩ (Nat.le_of_ble_eq_true rfl) dX0_wayTo_51 ⟨Nat.le_of_ble_eq_true rfl, Nat.le_of_ble_eq_true rfl⟩ rfl ?_
            refine tm_pop X dX0_wayTo_54 rfl ?_
            refine tm_aload_n X 0 dX0_wayTo_55 rfl rfl ?_
            refine tm_getR X (frX_100_13 ad dA tt h9) in_X0 rfl (Nat.le_of_ble_eq_true rfl) q253 rfl dX0_wayTo_56 ?_
            refine tm_iload_n X 1 dX0_wayTo_59 rfl rfl ?_
            refine tm_iload_n X 2 dX0_wayTo_60 rfl rfl ?_
            refine tm_cl1 (fun r10 e11 => ?_)
            refine tm_callSi (As := [.int x1, .int x2]) (rest := [.ref (ad 13)]) X (ctX0_glideAt l D dA x1 x2 r10 e11) (lw_S q807 q808 q117 q809) cyX0_glideAt rfl ⟨(Nat.le_of_ble_eq_true rfl), (Nat.le_of_ble_eq_true rfl)⟩ (Nat.le_of_ble_eq_true rfl) dX0_wayTo_61 ⟨Nat.le_of_ble_eq_true rfl, Nat.le_of_ble_eq_true rfl⟩ rfl ?_
            refine tm_iaload X (arX_13 ad dA tt) dX0_wayTo_64 ?_
            refine tm_iconst X (-1 : Int32) dX0_wayTo_65 (by decide) ?_
            refine tm_let (fun k => ∀ (s12 : Int32), TM G (r, h') (k s12) (wX ad dA tt h9) 0 0 84 [] [.int s12]) ?_ (fun k84 hk84 => ?_)
            · intro s12
              exact tm_retIH (wf := wX ad dA tt) hRet dX0_wayTo_84
            · skip
              refine tm_ic_ne X 74 dX0_wayTo_66 rfl ?_ ?_
              · skip
                refine tm_aload_n X 0 dX0_wayTo_74 rfl rfl ?_
                refine tm_getR X (frX_100_13 ad dA tt h9) in_X0 rfl (Nat.le_of_ble_eq_true rfl) q253 rfl dX0_wayTo_75 ?_
                refine tm_iload_n X 1 dX0_wayTo_78 rfl rfl ?_
                refine tm_iload_n X 2 dX0_wayTo_79 rfl rfl ?_
                refine tm_cl1 (fun r13 e14 => ?_)
                refine tm_callSi (As := [.int x1, .int x2]) (rest := [.ref (ad 13)]) X (ctX0_glideAt l D dA x1 x2 r13 e14) (lw_S q807 q808 q117 q809) cyX0_glideAt rfl ⟨(Nat.le_of_ble_eq_true rfl), (Nat.le_of_ble_eq_true rfl)⟩ (Nat.le_of_ble_eq_true rfl) dX0_wayTo_80 ⟨Nat.le_of_ble_eq_true rfl, Nat.le_of_ble_eq_true rfl⟩ rfl ?_
                refine tm_iaload X (arX_13 ad dA tt) dX0_wayTo_83 ?_
                refine tm_lv X [] rfl ?_
                exact hk84 (h9 13 r13.toNatClampNeg)
              · skip
                refine tm_bipush X (-2 : Int32) dX0_wayTo_69 (by decide) ?_
                refine tm_goto X 84 dX0_wayTo_71 rfl ?_
                refine tm_lv X [] rfl ?_
                exact hk84 (-2 : Int32)
          · skip
            refine tm_aload_n X 0 dX0_wayTo_34 rfl rfl ?_
            refine tm_cl1 (fun h16 e15 => ?_)
            refine tm_callVv (As := []) (rest := []) (q0 := 0) X (ctX0_laysHighest l D ad dA tt h h16 e15) (lw_V q874 q876 qs25 q117 q877) cyX0_laysHighest rfl rfl rfl ⟨(Nat.le_of_ble_eq_true rfl), (Nat.le_of_ble_eq_true rfl)⟩ (Nat.le_of_ble_eq_true rfl) dX0_wayTo_35 ⟨Nat.le_of_ble_eq_true rfl, Nat.le_of_ble_eq_true rfl⟩ rfl ?_
            refine tm_aload_n X 0 dX0_wayTo_38 rfl rfl ?_
            refine tm_getR X (frX_100_15 ad dA tt h16) in_X0 rfl (Nat.le_of_ble_eq_true rfl) q255 rfl dX0_wayTo_39 ?_
            refine tm_iload_n X 1 dX0_wayTo_42 rfl rfl ?_
            refine tm_iload_n X 2 dX0_wayTo_43 rfl rfl ?_
            refine tm_cl1 (fun r17 e18 => ?_)
            refine tm_callSi (As := [.int x1, .int x2]) (rest := [.ref (ad 15)]) X (ctX0_glideAt l D dA x1 x2 r17 e18) (lw_S q807 q808 q117 q809) cyX0_glideAt rfl ⟨(Nat.le_of_ble_eq_true rfl), (Nat.le_of_ble_eq_true rfl)⟩ (Nat.le_of_ble_eq_true rfl) dX0_wayTo_44 ⟨Nat.le_of_ble_eq_true rfl, Nat.le_of_ble_eq_true rfl⟩ rfl ?_
            refine tm_iaload X (arX_15 ad dA tt) dX0_wayTo_47 ?_
            exact tm_retIH (wf := wX ad dA tt) hRet dX0_wayTo_48
        · skip
          refine tm_lv X [] rfl ?_
          exact hk27
def mX0_fed (h : Hp) (x1 : Int32) : Option (Int32) :=
ck x1 260 (
some ((h 8 x1.toNatClampNeg) &&& (255 : Int32)))
theorem cyX0_fed : Callee yX0_fed 1 := by unfold Callee; decide +kernel
set_option maxHeartbeats 4000000 in
theorem ctX0_fed (l : Launch) (D : va_G) (ad : Nat → Nat) (dA : Nat → ClassId) (tt : (Nat → Option Nat) × (Nat → Option Nat) × va_W) (h : Hp) (x1 : Int32) (r : Int32) (hm : mX0_fed h x1 = some r) : CT l yX0_fed cX0_fed 2 (some .int) D dA 0 0 0 0 (wX ad dA tt h) [.ref (ad 100), .int x1] (some (.int r)) (wX ad dA tt h) := by
  refine ct_open (by decide) (Nat.le_of_ble_eq_true rfl) ?_
  intro G X hI hZ hV hR
  have hRet := hI rfl r rfl
  refine (show TM G r (mX0_fed h x1) (wX ad dA tt h) 0 0 0 [(0, .ref (ad 100)), (1, .int x1)] [] from ?_) hm
  clear hm hI hZ hV hR
  unfold mX0_fed
  refine tm_aload_n X 0 dX0_fed_0 rfl rfl ?_
  refine tm_getR X (frX_100_8 ad dA tt h) in_X0 rfl (Nat.le_of_ble_eq_true rfl) q247 rfl dX0_fed_1 ?_
  refine tm_iload_n X 1 dX0_fed_4 rfl rfl ?_
  refine tm_baloadB X (arX_8 ad dA tt) dX0_fed_5 ?_
  refine tm_sipush X (255 : Int32) dX0_fed_6 (by decide) ?_
  refine tm_iand X dX0_fed_9 ?_
  exact tm_retI hRet dX0_fed_10
def mX0_strokesTo (h : Hp) (x1 : Int32) : Option (Int32) :=
fx FU (fun _ _ => none) (fun k4 (x2_1 : Int32) (x3_2 : Int32) =>
if (48 : Int32) ≤ x3_2 then (
some x2_1) else (
cl1 (mX3_sumAt 40 h x3_2 (31 : Int32)) (fun r4 =>
nm ((r4 - x1)) (fun v5 =>
nm (fun (x2_6 : Int32) =>
k4 x2_6 (x3_2 + (1 : Int32))) (fun k49 =>
if 0 < v5 then (
ck x3_2 48 (
if (h 1 x3_2.toNatClampNeg) = 0 then (
nm ((x2_1 + v5)) (fun v7 =>
k49 v7)) else (
some (-2 : Int32)))) else (
k49 x2_1)))))) (0 : Int32) (0 : Int32)
theorem cyX0_strokesTo : Callee yX0_strokesTo 1 := by unfold Callee; decide +kernel
set_option maxHeartbeats 4000000 in
theorem ctX0_strokesTo (l : Launch) (D : va_G) (ad : Nat → Nat) (dA : Nat → ClassId) (tt : (Nat → Option Nat) × (Nat → Option Nat) × va_W) (h : Hp) (x1 : Int32) (r : Int32) (hm : mX0_strokesTo h x1 = some r) : CT l yX0_strokesTo cX0_strokesTo 5 (some .int) D dA 4 85 0 0 (wX ad dA tt h) [.ref (ad 100), .int x1] (some (.int r)) (wX ad dA tt h) := by
  refine ct_open (by decide) (Nat.le_of_ble_eq_true rfl) ?_
  intro G X hI hZ hV hR
  have hRet := hI rfl r rfl
  refine (show TM G r (mX0_strokesTo h x1) (wX ad dA tt h) 0 0 0 [(0, .ref (ad 100)), (1, .int x1)] [] from ?_) hm
  clear hm hI hZ hV hR
  unfold mX0_strokesTo
  refine tm_iconst X (0 : Int32) dX0_strokesTo_0 (by decide) ?_
  refine tm_istore_n X [(2, .int (0 : Int32)), (0, .ref (ad 100)), (1, .int x1)] dX0_strokesTo_1 rfl (Nat.le_of_ble_eq_true rfl) rfl ?_
  refine tm_iconst X (0 : Int32) dX0_strokesTo_2 (by decide) ?_
  refine tm_istore_n X [(3, .int (0 : Int32)), (2, .int (0 : Int32)), (0, .ref (ad 100)), (1, .int x1)] dX0_strokesTo_3 rfl (Nat.le_of_ble_eq_true rfl) rfl ?_
  refine tm_lv X [2, 3, 1, 0] rfl ?_
  refine fx_P (fun (k : Int32 → Int32 → Option (Int32)) => ∀ (x2_1 : Int32) (x3_2 : Int32), TM G r (k x2_1 x3_2) (wX ad dA tt h) 0 0 4 [(0, .ref (ad 100)), (1, .int x1), (2, .int x2_1), (3, .int x3_2)] []) (fun _ _ => tm_none) (fun k4 hk4 x2_1 x3_2 => ?_) FU (0 : Int32) (0 : Int32)
  refine tm_iload_n X 3 dX0_strokesTo_4 rfl rfl ?_
  refine tm_bipush X (48 : Int32) dX0_strokesTo_5 (by decide) ?_
  refine tm_ic_ge X 55 dX0_strokesTo_7 rfl ?_ ?_
  · skip
    refine tm_iload_n X 2 dX0_strokesTo_55 rfl rfl ?_
    exact tm_retI hRet dX0_strokesTo_56
  · skip
    refine tm_aload_n X 0 dX0_strokesTo_10 rfl rfl ?_
    refine tm_getR X (frX_100_5 ad dA tt h) in_X0 rfl (Nat.le_of_ble_eq_true rfl) q242 rfl dX0_strokesTo_11 ?_
    refine tm_iload_n X 3 dX0_strokesTo_14 rfl rfl ?_
    refine tm_bipush X (31 : Int32) dX0_strokesTo_15 (by decide) ?_
    refine tm_cl1 (fun r4 e3 => ?_)
    refine tm_callVi (As := [.int x3_2, .int (31 : Int32)]) (rest := []) (q0 := 3) X (ctX3_sumAt_40 l D ad dA tt h x3_2 (31 : Int32) r4 e3) (lw_V q848 q829 q830 q120 q831) cyX3_sumAt rfl rfl rfl ⟨(Nat.le_of_ble_eq_true rfl), (Nat.le_of_ble_eq_true rfl)⟩ (Nat.le_of_ble_eq_true rfl) dX0_strokesTo_17 ⟨Nat.le_of_ble_eq_true rfl, Nat.le_of_ble_eq_true rfl⟩ rfl ?_
    refine tm_iload_n X 1 dX0_strokesTo_20 rfl rfl ?_
    refine tm_isub X dX0_strokesTo_21 ?_
    refine tm_nmI (fun v5 => ?_)
    refine tm_istore X [(4, .int v5), (0, .ref (ad 100)), (1, .int x1), (2, .int x2_1), (3, .int x3_2)] dX0_strokesTo_22 (Nat.le_of_ble_eq_true rfl) rfl ?_
    refine tm_iload X 0 dX0_strokesTo_24 rfl ?_
    refine tm_let (fun k => ∀ (x2_6 : Int32), TM G r (k x2_6) (wX ad dA tt h) 0 0 49 [(0, .ref (ad 100)), (1, .int x1), (2, .int x2_6), (3, .int x3_2)] []) ?_ (fun k49 hk49 => ?_)
    · intro x2_6
      refine tm_iinc (v := (1 : Int32)) X 3 [(3, .int (x3_2 + (1 : Int32))), (0, .ref (ad 100)), (1, .int x1), (2, .int x2_6)] dX0_strokesTo_49 rfl (by decide) (Nat.le_of_ble_eq_true rfl) rfl ?_
      refine tm_goto X 4 dX0_strokesTo_52 rfl ?_
      refine tm_lv X [1, 2, 3, 0] rfl ?_
      exact hk4 x2_6 (x3_2 + (1 : Int32))
    · skip
      refine tm_if_gt X 32 dX0_strokesTo_26 rfl ?_ ?_
      · skip
        refine tm_aload_n X 1 dX0_strokesTo_32 rfl rfl ?_
        refine tm_getR X (frX_100_1 ad dA tt h) in_X0 rfl (Nat.le_of_ble_eq_true rfl) q235 rfl dX0_strokesTo_33 ?_
        refine tm_iload_n X 4 dX0_strokesTo_36 rfl rfl ?_
        refine tm_baloadZ X (arX_1 ad dA tt) dX0_strokesTo_37 ?_
        refine tm_if_eq X 44 dX0_strokesTo_38 rfl ?_ ?_
        · skip
          refine tm_iload_n X 3 dX0_strokesTo_44 rfl rfl ?_
          refine tm_iload X 0 dX0_strokesTo_45 rfl ?_
          refine tm_iadd X dX0_strokesTo_47 ?_
          refine tm_nmI (fun v7 => ?_)
          refine tm_istore_n X [(2, .int v7), (4, .int v5), (0, .ref (ad 100)), (1, .int x1), (3, .int x3_2)] dX0_strokesTo_48 rfl (Nat.le_of_ble_eq_true rfl) rfl ?_
          refine tm_lv X [2, 3, 0, 4] rfl ?_
          exact hk49 v7
        · skip
          refine tm_bipush X (-2 : Int32) dX0_strokesTo_41 (by decide) ?_
          exact tm_retI hRet dX0_strokesTo_43
      · skip
        refine tm_goto X 49 dX0_strokesTo_29 rfl ?_
        refine tm_lv X [1, 2, 3, 4] rfl ?_
        exact hk49 x2_1
def mX0_toBear (h : Hp) (x1 : Int32) : Option (Int32 × Hp) :=
cl1 (mX0_within x1 (1 : Int32) (16 : Int32)) (fun r1 =>
nm (
some ((-1 : Int32), h)) (fun k18 =>
if r1 = 0 then (
k18) else (
if x1 ≤ (h 100 10) then (
nm (u2 h 100 10 (0 : Int32)) (fun h3 =>
fx FU (fun _ _ => none) (fun k30 (x2_4 : Int32) (x3_5 : Int32) =>
if x1 ≤ x3_5 then (
cl1 (mX0_strokesTo h3 x2_4) (fun r7 =>
some (r7, h3))) else (
cl1 (mX0_fed h3 x3_5) (fun r9 =>
cl1 (mX0_isPlace r9) (fun r10 =>
if r10 = 0 then (
some ((-3 : Int32), h3)) else (
cl1 (mX0_fed h3 x3_5) (fun r13 =>
cl1 (mX3_sumAt 40 h3 r13 (31 : Int32)) (fun r15 =>
nm ((jmin x2_4 r15)) (fun v16 =>
k30 v16 (x3_5 + (1 : Int32)))))))))) (268435456 : Int32) (0 : Int32))) else (
k18))))
theorem cyX0_toBear : Callee yX0_toBear 1 := by unfold Callee; decide +kernel
set_option maxHeartbeats 4000000 in
theorem ctX0_toBear (l : Launch) (D : va_G) (ad : Nat → Nat) (dA : Nat → ClassId) (tt : (Nat → Option Nat) × (Nat → Option Nat) × va_W) (h : Hp) (x1 : Int32) (r : Int32) (h' : Hp) (hm : mX0_toBear h x1 = some (r, h')) : CT l yX0_toBear cX0_toBear 4 (some .int) D dA 5 109 0 0 (wX ad dA tt h) [.ref (ad 100), .int x1] (some (.int r)) (wX ad dA tt h') := by
  refine ct_open (by decide) (Nat.le_of_ble_eq_true rfl) ?_
  intro G X hI hZ hV hR
  have hRet := hI rfl r rfl
  refine (show TM G (r, h') (mX0_toBear h x1) (wX ad dA tt h) 0 0 0 [(0, .ref (ad 100)), (1, .int x1)] [] from ?_) hm
  clear hm hI hZ hV hR
  unfold mX0_toBear
  refine tm_iload_n X 1 dX0_toBear_0 rfl rfl ?_
  refine tm_iconst X (1 : Int32) dX0_toBear_1 (by decide) ?_
  refine tm_bipush X (16 : Int32) dX0_toBear_2 (by decide) ?_
  refine tm_cl1 (fun r1 e2 => ?_)
  refine tm_callSi (As := [.int x1, .int (1 : Int32), .int (16 : Int32)]) (rest := []) X (ctX0_within l D dA x1 (1 : Int32) (16 : Int32) r1 e2) (lw_S q317 q318 q117 q319) cyX0_within rfl ⟨(Nat.le_of_ble_eq_true rfl), (Nat.le_of_ble_eq_true rfl)⟩ (Nat.le_of_ble_eq_true rfl) dX0_toBear_4 ⟨Nat.le_of_ble_eq_true rfl, Nat.le_of_ble_eq_true rfl⟩ rfl ?_
  refine tm_let (fun k => TM G (r, h') k (wX ad dA tt h) 0 0 18 [] []) ?_ (fun k18 hk18 => ?_)
  · skip
    refine tm_iconst X (-1 : Int32) dX0_toBear_18 (by decide) ?_
    exact tm_retIH (wf := wX ad dA tt) hRet dX0_toBear_19
  · skip
    refine tm_if_eq X 18 dX0_toBear_7 rfl ?_ ?_
    · skip
      refine tm_lv X [] rfl ?_
      exact hk18
    · skip
      refine tm_iload_n X 1 dX0_toBear_10 rfl rfl ?_
      refine tm_aload_n X 0 dX0_toBear_11 rfl rfl ?_
      refine tm_getI X (fiX_100_10 ad dA tt) in_X0 rfl (Nat.le_of_ble_eq_true rfl) q250 rfl dX0_toBear_12 ?_
      refine tm_ic_le X 20 dX0_toBear_15 rfl ?_ ?_
      · skip
        refine tm_aload_n X 0 dX0_toBear_20 rfl rfl ?_
        refine tm_iconst X (0 : Int32) dX0_toBear_21 (by decide) ?_
        refine tm_putI X (fiX_100_10 ad dA tt) in_X0 rfl (Nat.le_of_ble_eq_true rfl) tyX0 tyX0_ok nmX0 rfl rfl q250 rfl dX0_toBear_22 (fun h3 => ?_)
        refine tm_ldc X (268435456 : Int32) q847 dX0_toBear_25 ?_
        refine tm_istore_n X [(2, .int (268435456 : Int32)), (0, .ref (ad 100)), (1, .int x1)] dX0_toBear_27 rfl (Nat.le_of_ble_eq_true rfl) rfl ?_
        refine tm_iconst X (0 : Int32) dX0_toBear_28 (by decide) ?_
        refine tm_istore_n X [(3, .int (0 : Int32)), (2, .int (268435456 : Int32)), (0, .ref (ad 100)), (1, .int x1)] dX0_toBear_29 rfl (Nat.le_of_ble_eq_true rfl) rfl ?_
        refine tm_lv X [2, 3, 1, 0] rfl ?_
        refine fx_P (fun (k : Int32 → Int32 → Option (Int32 × Hp)) => ∀ (x2_4 : Int32) (x3_5 : Int32), TM G (r, h') (k x2_4 x3_5) (wX ad dA tt h3) 0 0 30 [(0, .ref (ad 100)), (1, .int x1), (2, .int x2_4), (3, .int x3_5)] []) (fun _ _ => tm_none) (fun k30 hk30 x2_4 x3_5 => ?_) FU (268435456 : Int32) (0 : Int32)
        refine tm_iload_n X 3 dX0_toBear_30 rfl rfl ?_
        refine tm_iload_n X 1 dX0_toBear_31 rfl rfl ?_
        refine tm_ic_ge X 74 dX0_toBear_32 rfl ?_ ?_
        · skip
          refine tm_aload_n X 0 dX0_toBear_74 rfl rfl ?_
          refine tm_iload_n X 2 dX0_toBear_75 rfl rfl ?_
          refine tm_cl1 (fun r7 e6 => ?_)
          refine tm_callVi (As := [.int x2_4]) (rest := []) (q0 := 0) X (ctX0_strokesTo l D ad dA tt h3 x2_4 r7 e6) (lw_V q887 q889 qs27 q117 q890) cyX0_strokesTo rfl rfl rfl ⟨(Nat.le_of_ble_eq_true rfl), (Nat.le_of_ble_eq_true rfl)⟩ (Nat.le_of_ble_eq_true rfl) dX0_toBear_76 ⟨Nat.le_of_ble_eq_true rfl, Nat.le_of_ble_eq_true rfl⟩ rfl ?_
          exact tm_retIH (wf := wX ad dA tt) hRet dX0_toBear_79
        · skip
          refine tm_aload_n X 0 dX0_toBear_35 rfl rfl ?_
          refine tm_iload_n X 3 dX0_toBear_36 rfl rfl ?_
          refine tm_cl1 (fun r9 e8 => ?_)
          refine tm_callVi (As := [.int x3_5]) (rest := []) (q0 := 0) X (ctX0_fed l D ad dA tt h3 x3_5 r9 e8) (lw_V q883 q885 qs26 q117 q886) cyX0_fed rfl rfl rfl ⟨(Nat.le_of_ble_eq_true rfl), (Nat.le_of_ble_eq_true rfl)⟩ (Nat.le_of_ble_eq_true rfl) dX0_toBear_37 ⟨Nat.le_of_ble_eq_true rfl, Nat.le_of_ble_eq_true rfl⟩ rfl ?_
          refine tm_cl1 (fun r10 e11 => ?_)
          refine tm_callSi (As := [.int r9]) (rest := []) X (ctX0_isPlace l D dA r9 r10 e11) (lw_S q314 q315 q117 q316) cyX0_isPlace rfl ⟨(Nat.le_of_ble_eq_true rfl), (Nat.le_of_ble_eq_true rfl)⟩ (Nat.le_of_ble_eq_true rfl) dX0_toBear_40 ⟨Nat.le_of_ble_eq_true rfl, Nat.le_of_ble_eq_true rfl⟩ rfl ?_
          refine tm_if_ne X 49 dX0_toBear_43 rfl ?_ ?_
          · skip
            refine tm_iload_n X 2 dX0_toBear_49 rfl rfl ?_
            refine tm_aload_n X 0 dX0_toBear_50 rfl rfl ?_
            refine tm_getR X (frX_100_5 ad dA tt h3) in_X0 rfl (Nat.le_of_ble_eq_true rfl) q242 rfl dX0_toBear_51 ?_
            refine tm_aload_n X 0 dX0_toBear_54 rfl rfl ?_
            refine tm_iload_n X 3 dX0_toBear_55 rfl rfl ?_
            refine tm_cl1 (fun r13 e12 => ?_)
            refine tm_callVi (As := [.int x3_5]) (rest := [.ref (ad 40), .int x2_4]) (q0 := 0) X (ctX0_fed l D ad dA tt h3 x3_5 r13 e12) (lw_V q883 q885 qs26 q117 q886) cyX0_fed rfl rfl rfl ⟨(Nat.le_of_ble_eq_true rfl), (Nat.le_of_ble_eq_true rfl)⟩ (Nat.le_of_ble_eq_true rfl) dX0_toBear_56 ⟨Nat.le_of_ble_eq_true rfl, Nat.le_of_ble_eq_true rfl⟩ rfl ?_
            refine tm_bipush X (31 : Int32) dX0_toBear_59 (by decide) ?_
            refine tm_cl1 (fun r15 e14 => ?_)
            refine tm_callVi (As := [.int r13, .int (31 : Int32)]) (rest := [.int x2_4]) (q0 := 3) X (ctX3_sumAt_40 l D ad dA tt h3 r13 (31 : Int32) r15 e14) (lw_V q848 q829 q830 q120 q831) cyX3_sumAt rfl rfl rfl ⟨(Nat.le_of_ble_eq_true rfl), (Nat.le_of_ble_eq_true rfl)⟩ (Nat.le_of_ble_eq_true rfl) dX0_toBear_61 ⟨Nat.le_of_ble_eq_true rfl, Nat.le_of_ble_eq_true rfl⟩ rfl ?_
            refine tm_mmin X q849 (Nat.le_of_ble_eq_true rfl) (Nat.le_of_ble_eq_true rfl) ⟨Nat.le_of_ble_eq_true rfl, Nat.le_of_ble_eq_true rfl⟩ dX0_toBear_64 ?_
            refine tm_nmI (fun v16 => ?_)
            refine tm_istore_n X [(2, .int v16), (0, .ref (ad 100)), (1, .int x1), (3, .int x3_5)] dX0_toBear_67 rfl (Nat.le_of_ble_eq_true rfl) rfl ?_
            refine tm_iinc (v := (1 : Int32)) X 3 [(3, .int (x3_5 + (1 : Int32))), (2, .int v16), (0, .ref (ad 100)), (1, .int x1)] dX0_toBear_68 rfl (by decide) (Nat.le_of_ble_eq_true rfl) rfl ?_
            refine tm_goto X 30 dX0_toBear_71 rfl ?_
            refine tm_lv X [2, 3, 1, 0] rfl ?_
            exact hk30 v16 (x3_5 + (1 : Int32))
          · skip
            refine tm_bipush X (-3 : Int32) dX0_toBear_46 (by decide) ?_
            exact tm_retIH (wf := wX ad dA tt) hRet dX0_toBear_48
      · skip
        refine tm_lv X [] rfl ?_
        exact hk18
def mX0_toLower (h : Hp) (x1 : Int32) : Option (Int32) :=
cl1 (mX0_within x1 (0 : Int32) (50 : Int32)) (fun r1 =>
nm (fun (s3 : Int32) =>
some s3) (fun k19 =>
if r1 = 0 then (
k19 (-1 : Int32)) else (
cl1 (mX0_strokesTo h x1) (fun r5 =>
k19 r5))))
theorem cyX0_toLower : Callee yX0_toLower 1 := by unfold Callee; decide +kernel
set_option maxHeartbeats 4000000 in
theorem ctX0_toLower (l : Launch) (D : va_G) (ad : Nat → Nat) (dA : Nat → ClassId) (tt : (Nat → Option Nat) × (Nat → Option Nat) × va_W) (h : Hp) (x1 : Int32) (r : Int32) (hm : mX0_toLower h x1 = some r) : CT l yX0_toLower cX0_toLower 2 (some .int) D dA 5 109 0 0 (wX ad dA tt h) [.ref (ad 100), .int x1] (some (.int r)) (wX ad dA tt h) := by
  refine ct_open (by decide) (Nat.le_of_ble_eq_true rfl) ?_
  intro G X hI hZ hV hR
  have hRet := hI rfl r rfl
  refine (show TM G r (mX0_toLower h x1) (wX ad dA tt h) 0 0 0 [(0, .ref (ad 100)), (1, .int x1)] [] from ?_) hm
  clear hm hI hZ hV hR
  unfold mX0_toLower
  refine tm_iload_n X 1 dX0_toLower_0 rfl rfl ?_
  refine tm_iconst X (0 : Int32) dX0_toLower_1 (by decide) ?_
  refine tm_bipush X (50 : Int32) dX0_toLower_2 (by decide) ?_
  refine tm_cl1 (fun r1 e2 => ?_)
  refine tm_callSi (As := [.int x1, .int (0 : Int32), .int (50 : Int32)]) (rest := []) X (ctX0_within l D dA x1 (0 : Int32) (50 : Int32) r1 e2) (lw_S q317 q318 q117 q319) cyX0_within rfl ⟨(Nat.le_of_ble_eq_true rfl), (Nat.le_of_ble_eq_true rfl)⟩ (Nat.le_of_ble_eq_true rfl) dX0_toLower_4 ⟨Nat.le_of_ble_eq_true rfl, Nat.le_of_ble_eq_true rfl⟩ rfl ?_
  refine tm_let (fun k => ∀ (s3 : Int32), TM G r (k s3) (wX ad dA tt h) 0 0 19 [] [.int s3]) ?_ (fun k19 hk19 => ?_)
  · intro s3
    exact tm_retI hRet dX0_toLower_19
  · skip
    refine tm_if_eq X 18 dX0_toLower_7 rfl ?_ ?_
    · skip
      refine tm_iconst X (-1 : Int32) dX0_toLower_18 (by decide) ?_
      refine tm_lv X [] rfl ?_
      exact hk19 (-1 : Int32)
    · skip
      refine tm_aload_n X 0 dX0_toLower_10 rfl rfl ?_
      refine tm_iload_n X 1 dX0_toLower_11 rfl rfl ?_
      refine tm_cl1 (fun r5 e4 => ?_)
      refine tm_callVi (As := [.int x1]) (rest := []) (q0 := 0) X (ctX0_strokesTo l D ad dA tt h x1 r5 e4) (lw_V q887 q889 qs27 q117 q890) cyX0_strokesTo rfl rfl rfl ⟨(Nat.le_of_ble_eq_true rfl), (Nat.le_of_ble_eq_true rfl)⟩ (Nat.le_of_ble_eq_true rfl) dX0_toLower_12 ⟨Nat.le_of_ble_eq_true rfl, Nat.le_of_ble_eq_true rfl⟩ rfl ?_
      refine tm_goto X 19 dX0_toLower_15 rfl ?_
      refine tm_lv X [] rfl ?_
      exact hk19 r5
def mX0_overOf (h : Hp) (x1 : Int32) (x2 : Int32) : Option (Int32) :=
ck x1 2 (
fx FU (fun _ _ => none) (fun k21 (x3_2 : Int32) (x6_3 : Int32) =>
if (48 : Int32) ≤ x6_3 then (
some x3_2) else (
ck x6_3 48 (
nm ((h (42 + x1.toNatClampNeg) x6_3.toNatClampNeg)) (fun v4 =>
nm ((x3_2 + (jmax (0 : Int32) (v4 - x2)))) (fun v5 =>
k21 v5 (x6_3 + (1 : Int32))))))) (0 : Int32) (0 : Int32))
theorem cyX0_overOf : Callee yX0_overOf 2 := by unfold Callee; decide +kernel
set_option maxHeartbeats 4000000 in
theorem ctX0_overOf (l : Launch) (D : va_G) (ad : Nat → Nat) (dA : Nat → ClassId) (tt : (Nat → Option Nat) × (Nat → Option Nat) × va_W) (h : Hp) (x1 : Int32) (x2 : Int32) (r : Int32) (hm : mX0_overOf h x1 x2 = some r) : CT l yX0_overOf cX0_overOf 8 (some .int) D dA 1 21 0 0 (wX ad dA tt h) [.ref (ad 100), .int x1, .int x2] (some (.int r)) (wX ad dA tt h) := by
  refine ct_open (by decide) (Nat.le_of_ble_eq_true rfl) ?_
  intro G X hI hZ hV hR
  have hRet := hI rfl r rfl
  refine (show TM G r (mX0_overOf h x1 x2) (wX ad dA tt h) 0 0 0 [(0, .ref (ad 100)), (1, .int x1), (2, .int x2)] [] from ?_) hm
  clear hm hI hZ hV hR
  unfold mX0_overOf
  refine tm_iconst X (0 : Int32) dX0_overOf_0 (by decide) ?_
  refine tm_istore_n X [(3, .int (0 : Int32)), (0, .ref (ad 100)), (1, .int x1), (2, .int x2)] dX0_overOf_1 rfl (Nat.le_of_ble_eq_true rfl) rfl ?_
  refine tm_aload_n X 1 dX0_overOf_2 rfl rfl ?_
  refine tm_getR X (frX_100_5 ad dA tt h) in_X0 rfl (Nat.le_of_ble_eq_true rfl) q242 rfl dX0_overOf_3 ?_
  refine tm_getRN X (frX_40_0 ad dA tt h) in_X3 rfl (Nat.le_of_ble_eq_true rfl) q179 rfl dX0_overOf_6 ?_
  refine tm_iload_n X 2 dX0_overOf_9 rfl rfl ?_
  refine tm_aaloadX X (aaX_41 ad dA tt h) dX0_overOf_10 (fun hb1 => ?_)
  refine tm_astore X [(4, .ref (ad (42 + x1.toNatClampNeg))), (3, .int (0 : Int32)), (0, .ref (ad 100)), (1, .int x1), (2, .int x2)] dX0_overOf_11 (Nat.le_of_ble_eq_true rfl) rfl ?_
  refine tm_aload X 0 dX0_overOf_13 rfl ?_
  refine tm_arraylength (tt := 0) (v := (48 : Int32)) X (ar2X_42 ad dA tt _ hb1) rfl (by decide) dX0_overOf_15 ?_
  refine tm_istore X [(5, .int (48 : Int32)), (4, .ref (ad (42 + x1.toNatClampNeg))), (3, .int (0 : Int32)), (0, .ref (ad 100)), (1, .int x1), (2, .int x2)] dX0_overOf_16 (Nat.le_of_ble_eq_true rfl) rfl ?_
  refine tm_iconst X (0 : Int32) dX0_overOf_18 (by decide) ?_
  refine tm_istore X [(6, .int (0 : Int32)), (5, .int (48 : Int32)), (4, .ref (ad (42 + x1.toNatClampNeg))), (3, .int (0 : Int32)), (0, .ref (ad 100)), (1, .int x1), (2, .int x2)] dX0_overOf_19 (Nat.le_of_ble_eq_true rfl) rfl ?_
  refine tm_lv X [6, 3, 2, 1, 0] rfl ?_
  refine fx_P (fun (k : Int32 → Int32 → Option (Int32)) => ∀ (x3_2 : Int32) (x6_3 : Int32), TM G r (k x3_2 x6_3) (wX ad dA tt h) 0 0 21 [(2, .int x2), (3, .int x3_2), (4, .ref (ad (42 + x1.toNatClampNeg))), (5, .int (48 : Int32)), (6, .int x6_3)] []) (fun _ _ => tm_none) (fun k21 hk21 x3_2 x6_3 => ?_) FU (0 : Int32) (0 : Int32)
  refine tm_iload X 4 dX0_overOf_21 rfl ?_
  refine tm_iload X 3 dX0_overOf_23 rfl ?_
  refine tm_ic_ge X 52 dX0_overOf_25 rfl ?_ ?_
  · skip
    refine tm_iload_n X 1 dX0_overOf_52 rfl rfl ?_
    exact tm_retI hRet dX0_overOf_53
  · skip
    refine tm_aload X 2 dX0_overOf_28 rfl ?_
    refine tm_iload X 4 dX0_overOf_30 rfl ?_
    refine tm_iaload X (ar2X_42 ad dA tt _ hb1) dX0_overOf_32 ?_
    refine tm_nmI (fun v4 => ?_)
    refine tm_istore X [(7, .int v4), (2, .int x2), (3, .int x3_2), (4, .ref (ad (42 + x1.toNatClampNeg))), (5, .int (48 : Int32)), (6, .int x6_3)] dX0_overOf_33 (Nat.le_of_ble_eq_true rfl) rfl ?_
    refine tm_iload_n X 2 dX0_overOf_35 rfl rfl ?_
    refine tm_iconst X (0 : Int32) dX0_overOf_36 (by decide) ?_
    refine tm_iload X 0 dX0_overOf_37 rfl ?_
    refine tm_iload_n X 1 dX0_overOf_39 rfl rfl ?_
    refine tm_isub X dX0_overOf_40 ?_
    refine tm_mmax X q878 (Nat.le_of_ble_eq_true rfl) (Nat.le_of_ble_eq_true rfl) ⟨Nat.le_of_ble_eq_true rfl, Nat.le_of_ble_eq_true rfl⟩ dX0_overOf_41 ?_
    refine tm_iadd X dX0_overOf_44 ?_
    refine tm_nmI (fun v5 => ?_)
    refine tm_istore_n X [(3, .int v5), (7, .int v4), (2, .int x2), (4, .ref (ad (42 + x1.toNatClampNeg))), (5, .int (48 : Int32)), (6, .int x6_3)] dX0_overOf_45 rfl (Nat.le_of_ble_eq_true rfl) rfl ?_
    refine tm_iinc (v := (1 : Int32)) X 5 [(6, .int (x6_3 + (1 : Int32))), (3, .int v5), (7, .int v4), (2, .int x2), (4, .ref (ad (42 + x1.toNatClampNeg))), (5, .int (48 : Int32))] dX0_overOf_46 rfl (by decide) (Nat.le_of_ble_eq_true rfl) rfl ?_
    refine tm_goto X 21 dX0_overOf_49 rfl ?_
    refine tm_lv X [3, 1, 4, 5, 0] rfl ?_
    exact hk21 v5 (x6_3 + (1 : Int32))
def mX0_anywhere (h : Hp) (x1 : Int32) : Option (Int32) :=
cl1 (mX0_within x1 (0 : Int32) (50 : Int32)) (fun r1 =>
if r1 = 0 then (
some (-1 : Int32)) else (
fx FU (fun _ _ => none) (fun k17 (x2_3 : Int32) (x3_4 : Int32) =>
if (jmin x1 (25 : Int32)) < x3_4 then (
some x2_3) else (
cl1 (mX0_overOf h (1 : Int32) x3_4) (fun r6 =>
cl1 (mX0_overOf h (0 : Int32) (x1 - x3_4)) (fun r8 =>
nm ((jmin x2_3 (r6 + r8))) (fun v9 =>
k17 v9 (x3_4 + (1 : Int32))))))) (268435456 : Int32) (0 : Int32)))
theorem cyX0_anywhere : Callee yX0_anywhere 1 := by unfold Callee; decide +kernel
set_option maxHeartbeats 4000000 in
theorem ctX0_anywhere (l : Launch) (D : va_G) (ad : Nat → Nat) (dA : Nat → ClassId) (tt : (Nat → Option Nat) × (Nat → Option Nat) × va_W) (h : Hp) (x1 : Int32) (r : Int32) (hm : mX0_anywhere h x1 = some r) : CT l yX0_anywhere cX0_anywhere 4 (some .int) D dA 2 48 0 0 (wX ad dA tt h) [.ref (ad 100), .int x1] (some (.int r)) (wX ad dA tt h) := by
  refine ct_open (by decide) (Nat.le_of_ble_eq_true rfl) ?_
  intro G X hI hZ hV hR
  have hRet := hI rfl r rfl
  refine (show TM G r (mX0_anywhere h x1) (wX ad dA tt h) 0 0 0 [(0, .ref (ad 100)), (1, .int x1)] [] from ?_) hm
  clear hm hI hZ hV hR
  unfold mX0_anywhere
  refine tm_iload_n X 1 dX0_anywhere_0 rfl rfl ?_
  refine tm_iconst X (0 : Int32) dX0_anywhere_1 (by decide) ?_
  refine tm_bipush X (50 : Int32) dX0_anywhere_2 (by decide) ?_
  refine tm_cl1 (fun r1 e2 => ?_)
  refine tm_callSi (As := [.int x1, .int (0 : Int32), .int (50 : Int32)]) (rest := []) X (ctX0_within l D dA x1 (0 : Int32) (50 : Int32) r1 e2) (lw_S q317 q318 q117 q319) cyX0_within rfl ⟨(Nat.le_of_ble_eq_true rfl), (Nat.le_of_ble_eq_true rfl)⟩ (Nat.le_of_ble_eq_true rfl) dX0_anywhere_4 ⟨Nat.le_of_ble_eq_true rfl, Nat.le_of_ble_eq_true rfl⟩ rfl ?_
  refine tm_if_ne X 12 dX0_anywhere_7 rfl ?_ ?_
  · skip
    refine tm_ldc X (268435456 : Int32) q847 dX0_anywhere_12 ?_
    refine tm_istore_n X [(2, .int (268435456 : Int32)), (0, .ref (ad 100)), (1, .int x1)] dX0_anywhere_14 rfl (Nat.le_of_ble_eq_true rfl) rfl ?_
    refine tm_iconst X (0 : Int32) dX0_anywhere_15 (by decide) ?_
    refine tm_istore_n X [(3, .int (0 : Int32)), (2, .int (268435456 : Int32)), (0, .ref (ad 100)), (1, .int x1)] dX0_anywhere_16 rfl (Nat.le_of_ble_eq_true rfl) rfl ?_
    refine tm_lv X [2, 3, 1, 0] rfl ?_
    refine fx_P (fun (k : Int32 → Int32 → Option (Int32)) => ∀ (x2_3 : Int32) (x3_4 : Int32), TM G r (k x2_3 x3_4) (wX ad dA tt h) 0 0 17 [(0, .ref (ad 100)), (1, .int x1), (2, .int x2_3), (3, .int x3_4)] []) (fun _ _ => tm_none) (fun k17 hk17 x2_3 x3_4 => ?_) FU (268435456 : Int32) (0 : Int32)
    refine tm_iload_n X 3 dX0_anywhere_17 rfl rfl ?_
    refine tm_iload_n X 1 dX0_anywhere_18 rfl rfl ?_
    refine tm_bipush X (25 : Int32) dX0_anywhere_19 (by decide) ?_
    refine tm_mmin X q849 (Nat.le_of_ble_eq_true rfl) (Nat.le_of_ble_eq_true rfl) ⟨Nat.le_of_ble_eq_true rfl, Nat.le_of_ble_eq_true rfl⟩ dX0_anywhere_21 ?_
    refine tm_ic_gt X 53 dX0_anywhere_24 rfl ?_ ?_
    · skip
      refine tm_iload_n X 2 dX0_anywhere_53 rfl rfl ?_
      exact tm_retI hRet dX0_anywhere_54
    · skip
      refine tm_iload_n X 2 dX0_anywhere_27 rfl rfl ?_
      refine tm_aload_n X 0 dX0_anywhere_28 rfl rfl ?_
      refine tm_iconst X (1 : Int32) dX0_anywhere_29 (by decide) ?_
      refine tm_iload_n X 3 dX0_anywhere_30 rfl rfl ?_
      refine tm_cl1 (fun r6 e5 => ?_)
      refine tm_callVi (As := [.int (1 : Int32), .int x3_4]) (rest := [.int x2_3]) (q0 := 0) X (ctX0_overOf l D ad dA tt h (1 : Int32) x3_4 r6 e5) (lw_V q899 q901 qs28 q117 q902) cyX0_overOf rfl rfl rfl ⟨(Nat.le_of_ble_eq_true rfl), (Nat.le_of_ble_eq_true rfl)⟩ (Nat.le_of_ble_eq_true rfl) dX0_anywhere_31 ⟨Nat.le_of_ble_eq_true rfl, Nat.le_of_ble_eq_true rfl⟩ rfl ?_
      refine tm_aload_n X 0 dX0_anywhere_34 rfl rfl ?_
      refine tm_iconst X (0 : Int32) dX0_anywhere_35 (by decide) ?_
      refine tm_iload_n X 1 dX0_anywhere_36 rfl rfl ?_
      refine tm_iload_n X 3 dX0_anywhere_37 rfl rfl ?_
      refine tm_isub X dX0_anywhere_38 ?_
      refine tm_cl1 (fun r8 e7 => ?_)
      refine tm_callVi (As := [.int (0 : Int32), .int (x1 - x3_4)]) (rest := [.int r6, .int x2_3]) (q0 := 0) X (ctX0_overOf l D ad dA tt h (0 : Int32) (x1 - x3_4) r8 e7) (lw_V q899 q901 qs28 q117 q902) cyX0_overOf rfl rfl rfl ⟨(Nat.le_of_ble_eq_true rfl), (Nat.le_of_ble_eq_true rfl)⟩ (Nat.le_of_ble_eq_true rfl) dX0_anywhere_39 ⟨Nat.le_of_ble_eq_true rfl, Nat.le_of_ble_eq_true rfl⟩ rfl ?_
      refine tm_iadd X dX0_anywhere_42 ?_
      refine tm_mmin X q849 (Nat.le_of_ble_eq_true rfl) (Nat.le_of_ble_eq_true rfl) ⟨Nat.le_of_ble_eq_true rfl, Nat.le_of_ble_eq_true rfl⟩ dX0_anywhere_43 ?_
      refine tm_nmI (fun v9 => ?_)
      refine tm_istore_n X [(2, .int v9), (0, .ref (ad 100)), (1, .int x1), (3, .int x3_4)] dX0_anywhere_46 rfl (Nat.le_of_ble_eq_true rfl) rfl ?_
      refine tm_iinc (v := (1 : Int32)) X 3 [(3, .int (x3_4 + (1 : Int32))), (2, .int v9), (0, .ref (ad 100)), (1, .int x1)] dX0_anywhere_47 rfl (by decide) (Nat.le_of_ble_eq_true rfl) rfl ?_
      refine tm_goto X 17 dX0_anywhere_50 rfl ?_
      refine tm_lv X [2, 3, 1, 0] rfl ?_
      exact hk17 v9 (x3_4 + (1 : Int32))
  · skip
    refine tm_iconst X (-1 : Int32) dX0_anywhere_10 (by decide) ?_
    exact tm_retI hRet dX0_anywhere_11
def mX3_wears (b : Nat) (h : Hp) (x1 : Int32) (x2 : Int32) (x3 : Int32) : Option (Hp) :=
ck x2 48 (
if (h 1 x2.toNatClampNeg) = 0 then (
ck x1 2 (
ck x2 48 (
nm ((jmin x3 (h ((b + 2) + x1.toNatClampNeg) x2.toNatClampNeg))) (fun v2 =>
ck x1 2 (
ck x2 48 (
ck x2 48 (nm (u2 h ((b + 2) + x1.toNatClampNeg) x2.toNatClampNeg ((h ((b + 2) + x1.toNatClampNeg) x2.toNatClampNeg) - v2)) (fun h4 =>
ck x1 2 (
ck x1 2 (nm (u2 h4 (b + 4) x1.toNatClampNeg ((h4 (b + 4) x1.toNatClampNeg) + v2)) (fun h5 =>
nm (u2 h5 b 4 ((h5 b 4) + v2)) (fun h6 =>
some h6)))))))))))) else (
some h))
theorem cyX3_wears : Callee yX3_wears 3 := by unfold Callee; decide +kernel
set_option maxHeartbeats 4000000 in
theorem ctX3_wears_40 (l : Launch) (D : va_G) (ad : Nat → Nat) (dA : Nat → ClassId) (tt : (Nat → Option Nat) × (Nat → Option Nat) × va_W) (h : Hp) (x1 : Int32) (x2 : Int32) (x3 : Int32) (h' : Hp) (hm : mX3_wears 40 h x1 x2 x3 = some h') : CT l yX3_wears cX3_wears 5 none D dA 1 21 0 0 (wX ad dA tt h) [.ref (ad 40), .int x1, .int x2, .int x3] none (wX ad dA tt h') := by
  refine ct_open (by decide) (Nat.le_of_ble_eq_true rfl) ?_
  intro G X hI hZ hV hR
  have hRet := hV rfl rfl
  refine (show TM G h' (mX3_wears 40 h x1 x2 x3) (wX ad dA tt h) 0 0 0 [(0, .ref (ad 40)), (1, .int x1), (2, .int x2), (3, .int x3)] [] from ?_) hm
  clear hm hI hZ hV hR
  unfold mX3_wears
  refine tm_aload_n X 0 dX3_wears_0 rfl rfl ?_
  refine tm_getR X (frX_40_5 ad dA tt h) in_X3 rfl (Nat.le_of_ble_eq_true rfl) q188 rfl dX3_wears_1 ?_
  refine tm_getRN X (frX_100_1 ad dA tt h) in_X0 rfl (Nat.le_of_ble_eq_true rfl) q234 rfl dX3_wears_4 ?_
  refine tm_iload_n X 2 dX3_wears_7 rfl rfl ?_
  refine tm_baloadZ X (arX_1 ad dA tt) dX3_wears_8 ?_
  refine tm_if_eq X 13 dX3_wears_9 rfl ?_ ?_
  · skip
    refine tm_iload_n X 3 dX3_wears_13 rfl rfl ?_
    refine tm_aload_n X 0 dX3_wears_14 rfl rfl ?_
    refine tm_getR X (frX_40_0 ad dA tt h) in_X3 rfl (Nat.le_of_ble_eq_true rfl) q178 rfl dX3_wears_15 ?_
    refine tm_iload_n X 1 dX3_wears_18 rfl rfl ?_
    refine tm_aaloadX X (aaX_41 ad dA tt h) dX3_wears_19 (fun hb1 => ?_)
    refine tm_iload_n X 2 dX3_wears_20 rfl rfl ?_
    refine tm_iaload X (ar2X_42 ad dA tt _ hb1) dX3_wears_21 ?_
    refine tm_mmin X q911 (Nat.le_of_ble_eq_true rfl) (Nat.le_of_ble_eq_true rfl) ⟨Nat.le_of_ble_eq_true rfl, Nat.le_of_ble_eq_true rfl⟩ dX3_wears_22 ?_
    refine tm_nmI (fun v2 => ?_)
    refine tm_istore X [(4, .int v2), (0, .ref (ad 40)), (1, .int x1), (2, .int x2), (3, .int x3)] dX3_wears_25 (Nat.le_of_ble_eq_true rfl) rfl ?_
    refine tm_aload_n X 1 dX3_wears_27 rfl rfl ?_
    refine tm_getR X (frX_40_0 ad dA tt h) in_X3 rfl (Nat.le_of_ble_eq_true rfl) q178 rfl dX3_wears_28 ?_
    refine tm_iload_n X 2 dX3_wears_31 rfl rfl ?_
    refine tm_aaloadX X (aaX_41 ad dA tt h) dX3_wears_32 (fun hb3 => ?_)
    refine tm_iload_n X 3 dX3_wears_33 rfl rfl ?_
    refine tm_dup2 X dX3_wears_34 rfl rfl ?_
    refine tm_iaload X (ar2X_42 ad dA tt _ hb3) dX3_wears_35 ?_
    refine tm_iload X 0 dX3_wears_36 rfl ?_
    refine tm_isub X dX3_wears_38 ?_
    refine tm_iastore X (ar2X_42 ad dA tt _ hb3) dX3_wears_39 (fun h4 => ?_)
    refine tm_aload_n X 1 dX3_wears_40 rfl rfl ?_
    refine tm_getR X (frX_40_1 ad dA tt h4) in_X3 rfl (Nat.le_of_ble_eq_true rfl) q180 rfl dX3_wears_41 ?_
    refine tm_iload_n X 2 dX3_wears_44 rfl rfl ?_
    refine tm_dup2 X dX3_wears_45 rfl rfl ?_
    refine tm_iaload X (arX_44 ad dA tt) dX3_wears_46 ?_
    refine tm_iload X 0 dX3_wears_47 rfl ?_
    refine tm_iadd X dX3_wears_49 ?_
    refine tm_iastore X (arX_44 ad dA tt) dX3_wears_50 (fun h5 => ?_)
    refine tm_aload_n X 1 dX3_wears_51 rfl rfl ?_
    refine tm_dup X dX3_wears_52 rfl ?_
    refine tm_getI X (fiX_40_4 ad dA tt) in_X3 rfl (Nat.le_of_ble_eq_true rfl) q186 rfl dX3_wears_53 ?_
    refine tm_iload X 0 dX3_wears_56 rfl ?_
    refine tm_iadd X dX3_wears_58 ?_
    refine tm_putI X (fiX_40_4 ad dA tt) in_X3 rfl (Nat.le_of_ble_eq_true rfl) tyX3 tyX3_ok nmX3 rfl rfl q186 rfl dX3_wears_59 (fun h6 => ?_)
    exact tm_retV (wf := wX ad dA tt) hRet dX3_wears_62
  · skip
    exact tm_retV (wf := wX ad dA tt) hRet dX3_wears_12
set_option maxHeartbeats 4000000 in
theorem ctX3_wears_50 (l : Launch) (D : va_G) (ad : Nat → Nat) (dA : Nat → ClassId) (tt : (Nat → Option Nat) × (Nat → Option Nat) × va_W) (h : Hp) (x1 : Int32) (x2 : Int32) (x3 : Int32) (h' : Hp) (hm : mX3_wears 50 h x1 x2 x3 = some h') : CT l yX3_wears cX3_wears 5 none D dA 1 21 0 0 (wX ad dA tt h) [.ref (ad 50), .int x1, .int x2, .int x3] none (wX ad dA tt h') := by
  refine ct_open (by decide) (Nat.le_of_ble_eq_true rfl) ?_
  intro G X hI hZ hV hR
  have hRet := hV rfl rfl
  refine (show TM G h' (mX3_wears 50 h x1 x2 x3) (wX ad dA tt h) 0 0 0 [(0, .ref (ad 50)), (1, .int x1), (2, .int x2), (3, .int x3)] [] from ?_) hm
  clear hm hI hZ hV hR
  unfold mX3_wears
  refine tm_aload_n X 0 dX3_wears_0 rfl rfl ?_
  refine tm_getR X (frX_50_5 ad dA tt h) in_X3 rfl (Nat.le_of_ble_eq_true rfl) q188 rfl dX3_wears_1 ?_
  refine tm_getRN X (frX_100_1 ad dA tt h) in_X0 rfl (Nat.le_of_ble_eq_true rfl) q234 rfl dX3_wears_4 ?_
  refine tm_iload_n X 2 dX3_wears_7 rfl rfl ?_
  refine tm_baloadZ X (arX_1 ad dA tt) dX3_wears_8 ?_
  refine tm_if_eq X 13 dX3_wears_9 rfl ?_ ?_
  · skip
    refine tm_iload_n X 3 dX3_wears_13 rfl rfl ?_
    refine tm_aload_n X 0 dX3_wears_14 rfl rfl ?_
    refine tm_getR X (frX_50_0 ad dA tt h) in_X3 rfl (Nat.le_of_ble_eq_true rfl) q178 rfl dX3_wears_15 ?_
    refine tm_iload_n X 1 dX3_wears_18 rfl rfl ?_
    refine tm_aaloadX X (aaX_51 ad dA tt h) dX3_wears_19 (fun hb1 => ?_)
    refine tm_iload_n X 2 dX3_wears_20 rfl rfl ?_
    refine tm_iaload X (ar2X_52 ad dA tt _ hb1) dX3_wears_21 ?_
    refine tm_mmin X q911 (Nat.le_of_ble_eq_true rfl) (Nat.le_of_ble_eq_true rfl) ⟨Nat.le_of_ble_eq_true rfl, Nat.le_of_ble_eq_true rfl⟩ dX3_wears_22 ?_
    refine tm_nmI (fun v2 => ?_)
    refine tm_istore X [(4, .int v2), (0, .ref (ad 50)), (1, .int x1), (2, .int x2), (3, .int x3)] dX3_wears_25 (Nat.le_of_ble_eq_true rfl) rfl ?_
    refine tm_aload_n X 1 dX3_wears_27 rfl rfl ?_
    refine tm_getR X (frX_50_0 ad dA tt h) in_X3 rfl (Nat.le_of_ble_eq_true rfl) q178 rfl dX3_wears_28 ?_
    refine tm_iload_n X 2 dX3_wears_31 rfl rfl ?_
    refine tm_aaloadX X (aaX_51 ad dA tt h) dX3_wears_32 (fun hb3 => ?_)
    refine tm_iload_n X 3 dX3_wears_33 rfl rfl ?_
    refine tm_dup2 X dX3_wears_34 rfl rfl ?_
    refine tm_iaload X (ar2X_52 ad dA tt _ hb3) dX3_wears_35 ?_
    refine tm_iload X 0 dX3_wears_36 rfl ?_
    refine tm_isub X dX3_wears_38 ?_
    refine tm_iastore X (ar2X_52 ad dA tt _ hb3) dX3_wears_39 (fun h4 => ?_)
    refine tm_aload_n X 1 dX3_wears_40 rfl rfl ?_
    refine tm_getR X (frX_50_1 ad dA tt h4) in_X3 rfl (Nat.le_of_ble_eq_true rfl) q180 rfl dX3_wears_41 ?_
    refine tm_iload_n X 2 dX3_wears_44 rfl rfl ?_
    refine tm_dup2 X dX3_wears_45 rfl rfl ?_
    refine tm_iaload X (arX_54 ad dA tt) dX3_wears_46 ?_
    refine tm_iload X 0 dX3_wears_47 rfl ?_
    refine tm_iadd X dX3_wears_49 ?_
    refine tm_iastore X (arX_54 ad dA tt) dX3_wears_50 (fun h5 => ?_)
    refine tm_aload_n X 1 dX3_wears_51 rfl rfl ?_
    refine tm_dup X dX3_wears_52 rfl ?_
    refine tm_getI X (fiX_50_4 ad dA tt) in_X3 rfl (Nat.le_of_ble_eq_true rfl) q186 rfl dX3_wears_53 ?_
    refine tm_iload X 0 dX3_wears_56 rfl ?_
    refine tm_iadd X dX3_wears_58 ?_
    refine tm_putI X (fiX_50_4 ad dA tt) in_X3 rfl (Nat.le_of_ble_eq_true rfl) tyX3 tyX3_ok nmX3 rfl rfl q186 rfl dX3_wears_59 (fun h6 => ?_)
    exact tm_retV (wf := wX ad dA tt) hRet dX3_wears_62
  · skip
    exact tm_retV (wf := wX ad dA tt) hRet dX3_wears_12
def mX0_grind (h : Hp) (x1 : Int32) : Option (Int32 × Hp) :=
cl1 (mX0_within x1 (0 : Int32) (50 : Int32)) (fun r1 =>
if r1 = 0 then (
some ((-1 : Int32), h)) else (
cl1 (mX0_strokesTo h x1) (fun r4 =>
if r4 = (-2 : Int32) then (
some ((-2 : Int32), h)) else (
fx FU (fun _ _ => none) (fun k29 (x3_5 : Int32) (h6 : Hp) =>
if (48 : Int32) ≤ x3_5 then (
some (r4, h6)) else (
fx FU (fun _ => none) (fun k35 (h7 : Hp) =>
cl1 (mX3_sumAt 40 h7 x3_5 (31 : Int32)) (fun r9 =>
if r9 ≤ x1 then (
k29 (x3_5 + (1 : Int32)) h7) else (
ck x3_5 48 (
ck x3_5 48 (
nm (fun (s10 : Int32) =>
cl1 (mX3_wears 40 h7 s10 x3_5 (1 : Int32)) (fun h12 =>
k35 h12)) (fun k83 =>
if (h7 43 x3_5.toNatClampNeg) < (h7 42 x3_5.toNatClampNeg) then (
k83 (0 : Int32)) else (
k83 (1 : Int32)))))))) h6)) (0 : Int32) h))))
theorem cyX0_grind : Callee yX0_grind 1 := by unfold Callee; decide +kernel
set_option maxHeartbeats 4000000 in
theorem ctX0_grind (l : Launch) (D : va_G) (ad : Nat → Nat) (dA : Nat → ClassId) (tt : (Nat → Option Nat) × (Nat → Option Nat) × va_W) (h : Hp) (x1 : Int32) (r : Int32) (h' : Hp) (hm : mX0_grind h x1 = some (r, h')) : CT l yX0_grind cX0_grind 4 (some .int) D dA 5 109 0 0 (wX ad dA tt h) [.ref (ad 100), .int x1] (some (.int r)) (wX ad dA tt h') := by
  refine ct_open (by decide) (Nat.le_of_ble_eq_true rfl) ?_
  intro G X hI hZ hV hR
  have hRet := hI rfl r rfl
  refine (show TM G (r, h') (mX0_grind h x1) (wX ad dA tt h) 0 0 0 [(0, .ref (ad 100)), (1, .int x1)] [] from ?_) hm
  clear hm hI hZ hV hR
  unfold mX0_grind
  refine tm_iload_n X 1 dX0_grind_0 rfl rfl ?_
  refine tm_iconst X (0 : Int32) dX0_grind_1 (by decide) ?_
  refine tm_bipush X (50 : Int32) dX0_grind_2 (by decide) ?_
  refine tm_cl1 (fun r1 e2 => ?_)
  refine tm_callSi (As := [.int x1, .int (0 : Int32), .int (50 : Int32)]) (rest := []) X (ctX0_within l D dA x1 (0 : Int32) (50 : Int32) r1 e2) (lw_S q317 q318 q117 q319) cyX0_within rfl ⟨(Nat.le_of_ble_eq_true rfl), (Nat.le_of_ble_eq_true rfl)⟩ (Nat.le_of_ble_eq_true rfl) dX0_grind_4 ⟨Nat.le_of_ble_eq_true rfl, Nat.le_of_ble_eq_true rfl⟩ rfl ?_
  refine tm_if_ne X 12 dX0_grind_7 rfl ?_ ?_
  · skip
    refine tm_aload_n X 0 dX0_grind_12 rfl rfl ?_
    refine tm_iload_n X 1 dX0_grind_13 rfl rfl ?_
    refine tm_cl1 (fun r4 e3 => ?_)
    refine tm_callVi (As := [.int x1]) (rest := []) (q0 := 0) X (ctX0_strokesTo l D ad dA tt h x1 r4 e3) (lw_V q887 q889 qs27 q117 q890) cyX0_strokesTo rfl rfl rfl ⟨(Nat.le_of_ble_eq_true rfl), (Nat.le_of_ble_eq_true rfl)⟩ (Nat.le_of_ble_eq_true rfl) dX0_grind_14 ⟨Nat.le_of_ble_eq_true rfl, Nat.le_of_ble_eq_true rfl⟩ rfl ?_
    refine tm_istore_n X [(2, .int r4), (0, .ref (ad 100)), (1, .int x1)] dX0_grind_17 rfl (Nat.le_of_ble_eq_true rfl) rfl ?_
    refine tm_iload_n X 0 dX0_grind_18 rfl rfl ?_
    refine tm_bipush X (-2 : Int32) dX0_grind_19 (by decide) ?_
    refine tm_ic_ne X 27 dX0_grind_21 rfl ?_ ?_
    · skip
      refine tm_iconst X (0 : Int32) dX0_grind_27 (by decide) ?_
      refine tm_istore_n X [(3, .int (0 : Int32)), (2, .int r4), (0, .ref (ad 100)), (1, .int x1)] dX0_grind_28 rfl (Nat.le_of_ble_eq_true rfl) rfl ?_
      refine tm_lv X [2, 3, 1, 0] rfl ?_
      refine fx_P (fun (k : Int32 → Hp → Option (Int32 × Hp)) => ∀ (x3_5 : Int32) (h6 : Hp), TM G (r, h') (k x3_5 h6) (wX ad dA tt h6) 0 0 29 [(0, .ref (ad 100)), (1, .int x1), (2, .int r4), (3, .int x3_5)] []) (fun _ _ => tm_none) (fun k29 hk29 x3_5 h6 => ?_) FU (0 : Int32) h
      refine tm_iload_n X 3 dX0_grind_29 rfl rfl ?_
      refine tm_bipush X (48 : Int32) dX0_grind_30 (by decide) ?_
      refine tm_ic_ge X 97 dX0_grind_32 rfl ?_ ?_
      · skip
        refine tm_iload_n X 2 dX0_grind_97 rfl rfl ?_
        exact tm_retIH (wf := wX ad dA tt) hRet dX0_grind_98
      · skip
        refine fx_P (fun (k : Hp → Option (Int32 × Hp)) => ∀ (h7 : Hp), TM G (r, h') (k h7) (wX ad dA tt h7) 0 0 35 [(0, .ref (ad 100)), (1, .int x1), (2, .int r4), (3, .int x3_5)] []) (fun _ => tm_none) (fun k35 hk35 h7 => ?_) FU h6
        refine tm_aload_n X 0 dX0_grind_35 rfl rfl ?_
        refine tm_getR X (frX_100_5 ad dA tt h7) in_X0 rfl (Nat.le_of_ble_eq_true rfl) q242 rfl dX0_grind_36 ?_
        refine tm_iload_n X 3 dX0_grind_39 rfl rfl ?_
        refine tm_bipush X (31 : Int32) dX0_grind_40 (by decide) ?_
        refine tm_cl1 (fun r9 e8 => ?_)
        refine tm_callVi (As := [.int x3_5, .int (31 : Int32)]) (rest := []) (q0 := 3) X (ctX3_sumAt_40 l D ad dA tt h7 x3_5 (31 : Int32) r9 e8) (lw_V q848 q829 q830 q120 q831) cyX3_sumAt rfl rfl rfl ⟨(Nat.le_of_ble_eq_true rfl), (Nat.le_of_ble_eq_true rfl)⟩ (Nat.le_of_ble_eq_true rfl) dX0_grind_42 ⟨Nat.le_of_ble_eq_true rfl, Nat.le_of_ble_eq_true rfl⟩ rfl ?_
        refine tm_iload_n X 1 dX0_grind_45 rfl rfl ?_
        refine tm_ic_le X 91 dX0_grind_46 rfl ?_ ?_
        · skip
          refine tm_iinc (v := (1 : Int32)) X 3 [(3, .int (x3_5 + (1 : Int32))), (0, .ref (ad 100)), (1, .int x1), (2, .int r4)] dX0_grind_91 rfl (by decide) (Nat.le_of_ble_eq_true rfl) rfl ?_
          refine tm_goto X 29 dX0_grind_94 rfl ?_
          refine tm_lv X [1, 2, 3, 0] rfl ?_
          exact hk29 (x3_5 + (1 : Int32)) h7
        · skip
          refine tm_aload_n X 0 dX0_grind_49 rfl rfl ?_
          refine tm_getR X (frX_100_5 ad dA tt h7) in_X0 rfl (Nat.le_of_ble_eq_true rfl) q242 rfl dX0_grind_50 ?_
          refine tm_aload_n X 0 dX0_grind_53 rfl rfl ?_
          refine tm_getR X (frX_100_5 ad dA tt h7) in_X0 rfl (Nat.le_of_ble_eq_true rfl) q242 rfl dX0_grind_54 ?_
          refine tm_getRN X (frX_40_0 ad dA tt h7) in_X3 rfl (Nat.le_of_ble_eq_true rfl) q179 rfl dX0_grind_57 ?_
          refine tm_iconst X (1 : Int32) dX0_grind_60 (by decide) ?_
          refine tm_aaloadL (j := 1) X (aaX_41 ad dA tt h7) (by unfold vp_in; decide) (by decide) dX0_grind_61 ?_
          refine tm_iload_n X 3 dX0_grind_62 rfl rfl ?_
          refine tm_iaload X (arX_43 ad dA tt) dX0_grind_63 ?_
          refine tm_aload_n X 0 dX0_grind_64 rfl rfl ?_
          refine tm_getR X (frX_100_5 ad dA tt h7) in_X0 rfl (Nat.le_of_ble_eq_true rfl) q242 rfl dX0_grind_65 ?_
          refine tm_getRN X (frX_40_0 ad dA tt h7) in_X3 rfl (Nat.le_of_ble_eq_true rfl) q179 rfl dX0_grind_68 ?_
          refine tm_iconst X (0 : Int32) dX0_grind_71 (by decide) ?_
          refine tm_aaloadL (j := 0) X (aaX_41 ad dA tt h7) (by unfold vp_in; decide) (by decide) dX0_grind_72 ?_
          refine tm_iload_n X 3 dX0_grind_73 rfl rfl ?_
          refine tm_iaload X (arX_42 ad dA tt) dX0_grind_74 ?_
          refine tm_let (fun k => ∀ (s10 : Int32), TM G (r, h') (k s10) (wX ad dA tt h7) 0 0 83 [(0, .ref (ad 100)), (1, .int x1), (2, .int r4), (3, .int x3_5)] [.int s10, .ref (ad 40)]) ?_ (fun k83 hk83 => ?_)
          · intro s10
            refine tm_iload_n X 3 dX0_grind_83 rfl rfl ?_
            refine tm_iconst X (1 : Int32) dX0_grind_84 (by decide) ?_
            refine tm_cl1 (fun h12 e11 => ?_)
            refine tm_callVv (As := [.int s10, .int x3_5, .int (1 : Int32)]) (rest := []) (q0 := 3) X (ctX3_wears_40 l D ad dA tt h7 s10 x3_5 (1 : Int32) h12 e11) (lw_V q907 q908 q909 q120 q910) cyX3_wears rfl rfl rfl ⟨(Nat.le_of_ble_eq_true rfl), (Nat.le_of_ble_eq_true rfl)⟩ (Nat.le_of_ble_eq_true rfl) dX0_grind_85 ⟨Nat.le_of_ble_eq_true rfl, Nat.le_of_ble_eq_true rfl⟩ rfl ?_
            refine tm_goto X 35 dX0_grind_88 rfl ?_
            exact hk35 h12
          · skip
            refine tm_ic_lt X 82 dX0_grind_75 rfl ?_ ?_
            · skip
              refine tm_iconst X (0 : Int32) dX0_grind_82 (by decide) ?_
              exact hk83 (0 : Int32)
            · skip
              refine tm_iconst X (1 : Int32) dX0_grind_78 (by decide) ?_
              refine tm_goto X 83 dX0_grind_79 rfl ?_
              exact hk83 (1 : Int32)
    · skip
      refine tm_bipush X (-2 : Int32) dX0_grind_24 (by decide) ?_
      exact tm_retIH (wf := wX ad dA tt) hRet dX0_grind_26
  · skip
    refine tm_iconst X (-1 : Int32) dX0_grind_10 (by decide) ?_
    exact tm_retIH (wf := wX ad dA tt) hRet dX0_grind_11
def mX0_isOneSided (h : Hp) (x1 : Int32) : Option (Int32) :=
nm ((((2 : Int32) * (jrem x1 (8 : Int32))) - (7 : Int32))) (fun v1 =>
nm ((((2 : Int32) * (x1 / (8 : Int32))) - (5 : Int32))) (fun v2 =>
fx FU (fun _ => none) (fun k22 (x4_3 : Int32) =>
if (48 : Int32) ≤ x4_3 then (
bz (1 : Int32) (some (1 : Int32))) else (
ck x4_3 48 (
nm (
k22 (x4_3 + (1 : Int32))) (fun k100 =>
if (h 2 x4_3.toNatClampNeg) = 0 then (
k100) else (
nm ((((2 : Int32) * (jrem x4_3 (8 : Int32))) - (7 : Int32))) (fun v4 =>
nm ((((2 : Int32) * (x4_3 / (8 : Int32))) - (5 : Int32))) (fun v5 =>
nm (((v1 * v5) - (v2 * v4))) (fun v6 =>
nm (
bz (0 : Int32) (some (0 : Int32))) (fun k98 =>
if v6 < 0 then (
k98) else (
if v6 = 0 then (
if 0 < ((v1 * v4) + (v2 * v5)) then (
k100) else (
k98)) else (
k100))))))))))) (0 : Int32)))
theorem cyX0_isOneSided : Callee yX0_isOneSided 1 := by unfold Callee; decide +kernel
set_option maxHeartbeats 4000000 in
theorem ctX0_isOneSided (l : Launch) (D : va_G) (ad : Nat → Nat) (dA : Nat → ClassId) (tt : (Nat → Option Nat) × (Nat → Option Nat) × va_W) (h : Hp) (x1 : Int32) (r : Int32) (hm : mX0_isOneSided h x1 = some r) : CT l yX0_isOneSided cX0_isOneSided 8 (some .boolean) D dA 0 0 0 0 (wX ad dA tt h) [.ref (ad 100), .int x1] (some (.int r)) (wX ad dA tt h) := by
  refine ct_open (by decide) (Nat.le_of_ble_eq_true rfl) ?_
  intro G X hI hZ hV hR
  have hRet := fun hv => hZ rfl r hv rfl
  refine (show TM G r (mX0_isOneSided h x1) (wX ad dA tt h) 0 0 0 [(0, .ref (ad 100)), (1, .int x1)] [] from ?_) hm
  clear hm hI hZ hV hR
  unfold mX0_isOneSided
  refine tm_iconst X (2 : Int32) dX0_isOneSided_0 (by decide) ?_
  refine tm_iload_n X 1 dX0_isOneSided_1 rfl rfl ?_
  refine tm_bipush X (8 : Int32) dX0_isOneSided_2 (by decide) ?_
  refine tm_irem X dX0_isOneSided_4 (by decide) ?_
  refine tm_imul X dX0_isOneSided_5 ?_
  refine tm_bipush X (7 : Int32) dX0_isOneSided_6 (by decide) ?_
  refine tm_isub X dX0_isOneSided_8 ?_
  refine tm_nmI (fun v1 => ?_)
  refine tm_istore_n X [(2, .int v1), (0, .ref (ad 100)), (1, .int x1)] dX0_isOneSided_9 rfl (Nat.le_of_ble_eq_true rfl) rfl ?_
  refine tm_iconst X (2 : Int32) dX0_isOneSided_10 (by decide) ?_
  refine tm_iload_n X 2 dX0_isOneSided_11 rfl rfl ?_
  refine tm_bipush X (8 : Int32) dX0_isOneSided_12 (by decide) ?_
  refine tm_idiv X dX0_isOneSided_14 (by decide) ?_
  refine tm_imul X dX0_isOneSided_15 ?_
  refine tm_iconst X (5 : Int32) dX0_isOneSided_16 (by decide) ?_
  refine tm_isub X dX0_isOneSided_17 ?_
  refine tm_nmI (fun v2 => ?_)
  refine tm_istore_n X [(3, .int v2), (2, .int v1), (0, .ref (ad 100)), (1, .int x1)] dX0_isOneSided_18 rfl (Nat.le_of_ble_eq_true rfl) rfl ?_
  refine tm_iconst X (0 : Int32) dX0_isOneSided_19 (by decide) ?_
  refine tm_istore X [(4, .int (0 : Int32)), (3, .int v2), (2, .int v1), (0, .ref (ad 100)), (1, .int x1)] dX0_isOneSided_20 (Nat.le_of_ble_eq_true rfl) rfl ?_
  refine tm_lv X [3, 2, 1, 0] rfl ?_
  refine fx_P (fun (k : Int32 → Option (Int32)) => ∀ (x4_3 : Int32), TM G r (k x4_3) (wX ad dA tt h) 0 0 22 [(0, .ref (ad 100)), (2, .int v1), (3, .int v2), (4, .int x4_3)] []) (fun _ => tm_none) (fun k22 hk22 x4_3 => ?_) FU (0 : Int32)
  refine tm_iload X 3 dX0_isOneSided_22 rfl ?_
  refine tm_bipush X (48 : Int32) dX0_isOneSided_24 (by decide) ?_
  refine tm_ic_ge X 106 dX0_isOneSided_26 rfl ?_ ?_
  · skip
    refine tm_iconst X (1 : Int32) dX0_isOneSided_106 (by decide) ?_
    exact tm_retZ hRet dX0_isOneSided_107
  · skip
    refine tm_aload_n X 0 dX0_isOneSided_29 rfl rfl ?_
    refine tm_getR X (frX_100_2 ad dA tt h) in_X0 rfl (Nat.le_of_ble_eq_true rfl) q237 rfl dX0_isOneSided_30 ?_
    refine tm_iload X 3 dX0_isOneSided_33 rfl ?_
    refine tm_baloadZ X (arX_2 ad dA tt) dX0_isOneSided_35 ?_
    refine tm_let (fun k => TM G r k (wX ad dA tt h) 0 0 100 [(0, .ref (ad 100)), (2, .int v1), (3, .int v2), (4, .int x4_3)] []) ?_ (fun k100 hk100 => ?_)
    · skip
      refine tm_iinc (v := (1 : Int32)) X 3 [(4, .int (x4_3 + (1 : Int32))), (0, .ref (ad 100)), (2, .int v1), (3, .int v2)] dX0_isOneSided_100 rfl (by decide) (Nat.le_of_ble_eq_true rfl) rfl ?_
      refine tm_goto X 22 dX0_isOneSided_103 rfl ?_
      refine tm_lv X [1, 2, 3, 0] rfl ?_
      exact hk22 (x4_3 + (1 : Int32))
    · skip
      refine tm_if_ne X 42 dX0_isOneSided_36 rfl ?_ ?_
      · skip
        refine tm_iconst X (2 : Int32) dX0_isOneSided_42 (by decide) ?_
        refine tm_iload X 3 dX0_isOneSided_43 rfl ?_
        refine tm_bipush X (8 : Int32) dX0_isOneSided_45 (by decide) ?_
        refine tm_irem X dX0_isOneSided_47 (by decide) ?_
        refine tm_imul X dX0_isOneSided_48 ?_
        refine tm_bipush X (7 : Int32) dX0_isOneSided_49 (by decide) ?_
        refine tm_isub X dX0_isOneSided_51 ?_
        refine tm_nmI (fun v4 => ?_)
        refine tm_istore X [(5, .int v4), (0, .ref (ad 100)), (2, .int v1), (3, .int v2), (4, .int x4_3)] dX0_isOneSided_52 (Nat.le_of_ble_eq_true rfl) rfl ?_
        refine tm_iconst X (2 : Int32) dX0_isOneSided_54 (by decide) ?_
        refine tm_iload X 4 dX0_isOneSided_55 rfl ?_
        refine tm_bipush X (8 : Int32) dX0_isOneSided_57 (by decide) ?_
        refine tm_idiv X dX0_isOneSided_59 (by decide) ?_
        refine tm_imul X dX0_isOneSided_60 ?_
        refine tm_iconst X (5 : Int32) dX0_isOneSided_61 (by decide) ?_
        refine tm_isub X dX0_isOneSided_62 ?_
        refine tm_nmI (fun v5 => ?_)
        refine tm_istore X [(6, .int v5), (5, .int v4), (0, .ref (ad 100)), (2, .int v1), (3, .int v2), (4, .int x4_3)] dX0_isOneSided_63 (Nat.le_of_ble_eq_true rfl) rfl ?_
        refine tm_iload_n X 3 dX0_isOneSided_65 rfl rfl ?_
        refine tm_iload X 0 dX0_isOneSided_66 rfl ?_
        refine tm_imul X dX0_isOneSided_68 ?_
        refine tm_iload_n X 4 dX0_isOneSided_69 rfl rfl ?_
        refine tm_iload X 1 dX0_isOneSided_70 rfl ?_
        refine tm_imul X dX0_isOneSided_72 ?_
        refine tm_isub X dX0_isOneSided_73 ?_
        refine tm_nmI (fun v6 => ?_)
        refine tm_istore X [(7, .int v6), (6, .int v5), (5, .int v4), (0, .ref (ad 100)), (2, .int v1), (3, .int v2), (4, .int x4_3)] dX0_isOneSided_74 (Nat.le_of_ble_eq_true rfl) rfl ?_
        refine tm_iload X 0 dX0_isOneSided_76 rfl ?_
        refine tm_let (fun k => TM G r k (wX ad dA tt h) 0 0 98 [] []) ?_ (fun k98 hk98 => ?_)
        · skip
          refine tm_iconst X (0 : Int32) dX0_isOneSided_98 (by decide) ?_
          exact tm_retZ hRet dX0_isOneSided_99
        · skip
          refine tm_if_lt X 98 dX0_isOneSided_78 rfl ?_ ?_
          · skip
            refine tm_lv X [] rfl ?_
            exact hk98
          · skip
            refine tm_iload X 0 dX0_isOneSided_81 rfl ?_
            refine tm_if_ne X 100 dX0_isOneSided_83 rfl ?_ ?_
            · skip
              refine tm_lv X [3, 4, 5, 6] rfl ?_
              exact hk100
            · skip
              refine tm_iload_n X 4 dX0_isOneSided_86 rfl rfl ?_
              refine tm_iload X 2 dX0_isOneSided_87 rfl ?_
              refine tm_imul X dX0_isOneSided_89 ?_
              refine tm_iload_n X 5 dX0_isOneSided_90 rfl rfl ?_
              refine tm_iload X 1 dX0_isOneSided_91 rfl ?_
              refine tm_imul X dX0_isOneSided_93 ?_
              refine tm_iadd X dX0_isOneSided_94 ?_
              refine tm_if_gt X 100 dX0_isOneSided_95 rfl ?_ ?_
              · skip
                refine tm_lv X [3, 4, 5, 6] rfl ?_
                exact hk100
              · skip
                refine tm_lv X [] rfl ?_
                exact hk98
      · skip
        refine tm_goto X 100 dX0_isOneSided_39 rfl ?_
        exact hk100
def mX0_rocks (h : Hp)  : Option (Int32 × Hp) :=
cl2 (mX3_marks 40 h (31 : Int32) (0 : Int32)) (fun r2 h3 =>
fx FU (fun _ => none) (fun k13 (x1_4 : Int32) =>
if (48 : Int32) ≤ x1_4 then (
some ((0 : Int32), h3)) else (
ck x1_4 48 (
nm (
k13 (x1_4 + (1 : Int32))) (fun k38 =>
if (h3 2 x1_4.toNatClampNeg) = 0 then (
k38) else (
cl1 (mX0_isOneSided h3 x1_4) (fun r6 =>
if r6 = 0 then (
k38) else (
some ((1 : Int32), h3)))))))) (0 : Int32))
theorem cyX0_rocks : Callee yX0_rocks 0 := by unfold Callee; decide +kernel
set_option maxHeartbeats 4000000 in
theorem ctX0_rocks (l : Launch) (D : va_G) (ad : Nat → Nat) (dA : Nat → ClassId) (tt : (Nat → Option Nat) × (Nat → Option Nat) × va_W) (h : Hp)  (r : Int32) (h' : Hp) (hm : mX0_rocks h = some (r, h')) : CT l yX0_rocks cX0_rocks 2 (some .int) D dA 6 133 0 0 (wX ad dA tt h) [.ref (ad 100)] (some (.int r)) (wX ad dA tt h') := by
  refine ct_open (by decide) (Nat.le_of_ble_eq_true rfl) ?_
  intro G X hI hZ hV hR
  have hRet := hI rfl r rfl
  refine (show TM G (r, h') (mX0_rocks h) (wX ad dA tt h) 0 0 0 [(0, .ref (ad 100))] [] from ?_) hm
  clear hm hI hZ hV hR
  unfold mX0_rocks
  refine tm_aload_n X 0 dX0_rocks_0 rfl rfl ?_
  refine tm_getR X (frX_100_5 ad dA tt h) in_X0 rfl (Nat.le_of_ble_eq_true rfl) q242 rfl dX0_rocks_1 ?_
  refine tm_bipush X (31 : Int32) dX0_rocks_4 (by decide) ?_
  refine tm_iconst X (0 : Int32) dX0_rocks_6 (by decide) ?_
  refine tm_cl2 (fun r2 h3 e1 => ?_)
  refine tm_callVi (As := [.int (31 : Int32), .int (0 : Int32)]) (rest := []) (q0 := 3) X (ctX3_marks_40 l D ad dA tt h (31 : Int32) (0 : Int32) r2 h3 e1) (lw_V q814 q815 q816 q120 q817) cyX3_marks rfl rfl rfl ⟨(Nat.le_of_ble_eq_true rfl), (Nat.le_of_ble_eq_true rfl)⟩ (Nat.le_of_ble_eq_true rfl) dX0_rocks_7 ⟨Nat.le_of_ble_eq_true rfl, Nat.le_of_ble_eq_true rfl⟩ rfl ?_
  refine tm_pop X dX0_rocks_10 rfl ?_
  refine tm_iconst X (0 : Int32) dX0_rocks_11 (by decide) ?_
  refine tm_istore_n X [(1, .int (0 : Int32)), (0, .ref (ad 100))] dX0_rocks_12 rfl (Nat.le_of_ble_eq_true rfl) rfl ?_
  refine tm_lv X [1, 0] rfl ?_
  refine fx_P (fun (k : Int32 → Option (Int32 × Hp)) => ∀ (x1_4 : Int32), TM G (r, h') (k x1_4) (wX ad dA tt h3) 0 0 13 [(0, .ref (ad 100)), (1, .int x1_4)] []) (fun _ => tm_none) (fun k13 hk13 x1_4 => ?_) FU (0 : Int32)
  refine tm_iload_n X 1 dX0_rocks_13 rfl rfl ?_
  refine tm_bipush X (48 : Int32) dX0_rocks_14 (by decide) ?_
  refine tm_ic_ge X 44 dX0_rocks_16 rfl ?_ ?_
  · skip
    refine tm_iconst X (0 : Int32) dX0_rocks_44 (by decide) ?_
    exact tm_retIH (wf := wX ad dA tt) hRet dX0_rocks_45
  · skip
    refine tm_aload_n X 0 dX0_rocks_19 rfl rfl ?_
    refine tm_getR X (frX_100_2 ad dA tt h3) in_X0 rfl (Nat.le_of_ble_eq_true rfl) q237 rfl dX0_rocks_20 ?_
    refine tm_iload_n X 1 dX0_rocks_23 rfl rfl ?_
    refine tm_baloadZ X (arX_2 ad dA tt) dX0_rocks_24 ?_
    refine tm_let (fun k => TM G (r, h') k (wX ad dA tt h3) 0 0 38 [(0, .ref (ad 100)), (1, .int x1_4)] []) ?_ (fun k38 hk38 => ?_)
    · skip
      refine tm_iinc (v := (1 : Int32)) X 1 [(1, .int (x1_4 + (1 : Int32))), (0, .ref (ad 100))] dX0_rocks_38 rfl (by decide) (Nat.le_of_ble_eq_true rfl) rfl ?_
      refine tm_goto X 13 dX0_rocks_41 rfl ?_
      refine tm_lv X [1, 0] rfl ?_
      exact hk13 (x1_4 + (1 : Int32))
    · skip
      refine tm_if_eq X 38 dX0_rocks_25 rfl ?_ ?_
      · skip
        exact hk38
      · skip
        refine tm_aload_n X 0 dX0_rocks_28 rfl rfl ?_
        refine tm_iload_n X 1 dX0_rocks_29 rfl rfl ?_
        refine tm_cl1 (fun r6 e5 => ?_)
        refine tm_callVi (As := [.int x1_4]) (rest := []) (q0 := 0) X (ctX0_isOneSided l D ad dA tt h3 x1_4 r6 e5) (lw_V q916 q918 qs29 q117 q919) cyX0_isOneSided rfl rfl rfl ⟨(Nat.le_of_ble_eq_true rfl), (Nat.le_of_ble_eq_true rfl)⟩ (Nat.le_of_ble_eq_true rfl) dX0_rocks_30 ⟨Nat.le_of_ble_eq_true rfl, Nat.le_of_ble_eq_true rfl⟩ rfl ?_
        refine tm_if_eq X 38 dX0_rocks_33 rfl ?_ ?_
        · skip
          exact hk38
        · skip
          refine tm_iconst X (1 : Int32) dX0_rocks_36 (by decide) ?_
          exact tm_retIH (wf := wX ad dA tt) hRet dX0_rocks_37
