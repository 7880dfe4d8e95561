set_option maxRecDepth 100000
def mX0_climb (h : Hp) (x1 : Int32) (x2 : Int32) : Option (Int32 × Hp) :=
cl1 (mX0_isCast x1) (fun r1 =>
nm (
some ((-1 : Int32), h)) (fun k15 =>
if r1 = 0 then (
k15) else (
cl1 (mX0_in x2 (2 : Int32)) (fun r3 =>
if r3 = 0 then (
k15) else (
fx FU (fun _ _ => none) (fun k19 (x3_5 : Int32) (h6 : Hp) =>
if (48 : Int32) ≤ x3_5 then (
fx FU (fun _ _ _ => none) (fun k43 (x3_7 : Int32) (x4_8 : Int32) (h9 : Hp) =>
if (48 : Int32) ≤ x4_8 then (
nm (fun (s10 : Int32) (h11 : Hp) =>
some (s10, h11)) (fun k89 =>
if x2 = 0 then (
cl2 (mX0_climbFrom 30 h9 x1 x3_7) (fun r13 h14 =>
k89 r13 h14)) else (
k89 x3_7 h9))) else (
cl2 (mX0_climbFrom 30 h9 x1 x4_8) (fun r16 h17 =>
cl2 (mX0_climbFrom 30 h17 x1 x3_7) (fun r19 h20 =>
nm (fun (x3_21 : Int32) =>
k43 x3_21 (x4_8 + (1 : Int32)) h20) (fun k69 =>
if r16 ≤ r19 then (
k69 x3_7) else (
k69 x4_8)))))) (0 : Int32) (1 : Int32) h6) else (
ck x3_5 48 (nm (u2 h6 19 x3_5.toNatClampNeg (0 : Int32)) (fun h22 =>
k19 (x3_5 + (1 : Int32)) h22)))) (0 : Int32) h)))))
theorem cyX0_climb : Callee yX0_climb 2 := by unfold Callee; decide +kernel
set_option maxHeartbeats 4000000 in
theorem ctX0_climb (l : Launch) (D : va_G) (ad : Nat → Nat) (dA : Nat → ClassId) (tt : (Nat → Option Nat) × (Nat → Option Nat) × va_W) (h : Hp) (x1 : Int32) (x2 : Int32) (r : Int32) (h' : Hp) (hm : mX0_climb h x1 x2 = some (r, h')) : CT l yX0_climb cX0_climb 5 (some .int) D dA 34 838 0 0 (wX ad dA tt h) [.ref (ad 100), .int x1, .int x2] (some (.int r)) (wX ad dA tt h') := by
  refine ct_open (by decide) (Nat.le_of_ble_eq_true rfl) ?_
  intro G X hI hZ hV hR
  have hRet := hI rfl r rfl
  refine (show TM G (r, h') (mX0_climb h x1 x2) (wX ad dA tt h) 0 0 0 [(0, .ref (ad 100)), (1, .int x1), (2, .int x2)] [] from ?_) hm
  clear hm hI hZ hV hR
  unfold mX0_climb
  refine tm_iload_n X 1 dX0_climb_0 rfl rfl ?_
  refine tm_cl1 (fun r1 e2 => ?_)
  refine tm_callSi (As := [.int x1]) (rest := []) X (ctX0_isCast l D dA x1 r1 e2) (lw_S q308 q309 q117 q310) cyX0_isCast rfl ⟨(Nat.le_of_ble_eq_true rfl), (Nat.le_of_ble_eq_true rfl)⟩ (Nat.le_of_ble_eq_true rfl) dX0_climb_1 ⟨Nat.le_of_ble_eq_true rfl, Nat.le_of_ble_eq_true rfl⟩ rfl ?_
  refine tm_let (fun k => TM G (r, h') k (wX ad dA tt h) 0 0 15 [] []) ?_ (fun k15 hk15 => ?_)
  · skip
    refine tm_iconst X (-1 : Int32) dX0_climb_15 (by decide) ?_
    exact tm_retIH (wf := wX ad dA tt) hRet dX0_climb_16
  · skip
    refine tm_if_eq X 15 dX0_climb_4 rfl ?_ ?_
    · skip
      refine tm_lv X [] rfl ?_
      exact hk15
    · skip
      refine tm_iload_n X 2 dX0_climb_7 rfl rfl ?_
      refine tm_iconst X (2 : Int32) dX0_climb_8 (by decide) ?_
      refine tm_cl1 (fun r3 e4 => ?_)
      refine tm_callSi (As := [.int x2, .int (2 : Int32)]) (rest := []) X (ctX0_in l D dA x2 (2 : Int32) r3 e4) (lw_S q311 q312 q117 q313) cyX0_in rfl ⟨(Nat.le_of_ble_eq_true rfl), (Nat.le_of_ble_eq_true rfl)⟩ (Nat.le_of_ble_eq_true rfl) dX0_climb_9 ⟨Nat.le_of_ble_eq_true rfl, Nat.le_of_ble_eq_true rfl⟩ rfl ?_
      refine tm_if_ne X 17 dX0_climb_12 rfl ?_ ?_
      · skip
        refine tm_iconst X (0 : Int32) dX0_climb_17 (by decide) ?_
        refine tm_istore_n X [(3, .int (0 : Int32)), (0, .ref (ad 100)), (1, .int x1), (2, .int x2)] dX0_climb_18 rfl (Nat.le_of_ble_eq_true rfl) rfl ?_
        refine tm_lv X [1, 2, 3, 0] rfl ?_
        refine fx_P (fun (k : Int32 → Hp → Option (Int32 × Hp)) => ∀ (x3_5 : Int32) (h6 : Hp), TM G (r, h') (k x3_5 h6) (wX ad dA tt h6) 0 0 19 [(0, .ref (ad 100)), (1, .int x1), (2, .int x2), (3, .int x3_5)] []) (fun _ _ => tm_none) (fun k19 hk19 x3_5 h6 => ?_) FU (0 : Int32) h
        refine tm_iload_n X 3 dX0_climb_19 rfl rfl ?_
        refine tm_bipush X (48 : Int32) dX0_climb_20 (by decide) ?_
        refine tm_ic_ge X 38 dX0_climb_22 rfl ?_ ?_
        · skip
          refine tm_iconst X (0 : Int32) dX0_climb_38 (by decide) ?_
          refine tm_istore_n X [(3, .int (0 : Int32)), (0, .ref (ad 100)), (1, .int x1), (2, .int x2)] dX0_climb_39 rfl (Nat.le_of_ble_eq_true rfl) rfl ?_
          refine tm_iconst X (1 : Int32) dX0_climb_40 (by decide) ?_
          refine tm_istore X [(4, .int (1 : Int32)), (3, .int (0 : Int32)), (0, .ref (ad 100)), (1, .int x1), (2, .int x2)] dX0_climb_41 (Nat.le_of_ble_eq_true rfl) rfl ?_
          refine tm_lv X [2, 3, 4, 1, 0] rfl ?_
          refine fx_P (fun (k : Int32 → Int32 → Hp → Option (Int32 × Hp)) => ∀ (x3_7 : Int32) (x4_8 : Int32) (h9 : Hp), TM G (r, h') (k x3_7 x4_8 h9) (wX ad dA tt h9) 0 0 43 [(0, .ref (ad 100)), (1, .int x1), (2, .int x2), (3, .int x3_7), (4, .int x4_8)] []) (fun _ _ _ => tm_none) (fun k43 hk43 x3_7 x4_8 h9 => ?_) FU (0 : Int32) (1 : Int32) h6
          refine tm_iload X 4 dX0_climb_43 rfl ?_
          refine tm_bipush X (48 : Int32) dX0_climb_45 (by decide) ?_
          refine tm_ic_ge X 75 dX0_climb_47 rfl ?_ ?_
          · skip
            refine tm_iload_n X 2 dX0_climb_75 rfl rfl ?_
            refine tm_let (fun k => ∀ (s10 : Int32) (h11 : Hp), TM G (r, h') (k s10 h11) (wX ad dA tt h11) 0 0 89 [] [.int s10]) ?_ (fun k89 hk89 => ?_)
            · intro s10 h11
              exact tm_retIH (wf := wX ad dA tt) hRet dX0_climb_89
            · skip
              refine tm_if_ne X 88 dX0_climb_76 rfl ?_ ?_
              · skip
                refine tm_iload_n X 3 dX0_climb_88 rfl rfl ?_
                refine tm_lv X [] rfl ?_
                exact hk89 x3_7 h9
              · skip
                refine tm_aload_n X 0 dX0_climb_79 rfl rfl ?_
                refine tm_iload_n X 1 dX0_climb_80 rfl rfl ?_
                refine tm_iload_n X 3 dX0_climb_81 rfl rfl ?_
                refine tm_cl2 (fun r13 h14 e12 => ?_)
                refine tm_callVi (As := [.int x1, .int x3_7]) (rest := []) (q0 := 0) X (ctX0_climbFrom 30 l D ad dA tt h9 x1 x3_7 r13 h14 e12) (lw_V q1006 q1008 qs39 q117 q1009) cyX0_climbFrom rfl rfl rfl ⟨(Nat.le_of_ble_eq_true rfl), (Nat.le_of_ble_eq_true rfl)⟩ (Nat.le_of_ble_eq_true rfl) dX0_climb_82 ⟨Nat.le_of_ble_eq_true rfl, Nat.le_of_ble_eq_true rfl⟩ rfl ?_
                refine tm_goto X 89 dX0_climb_85 rfl ?_
                refine tm_lv X [] rfl ?_
                exact hk89 r13 h14
          · skip
            refine tm_aload_n X 0 dX0_climb_50 rfl rfl ?_
            refine tm_iload_n X 1 dX0_climb_51 rfl rfl ?_
            refine tm_iload X 4 dX0_climb_52 rfl ?_
            refine tm_cl2 (fun r16 h17 e15 => ?_)
            refine tm_callVi (As := [.int x1, .int x4_8]) (rest := []) (q0 := 0) X (ctX0_climbFrom 30 l D ad dA tt h9 x1 x4_8 r16 h17 e15) (lw_V q1006 q1008 qs39 q117 q1009) cyX0_climbFrom rfl rfl rfl ⟨(Nat.le_of_ble_eq_true rfl), (Nat.le_of_ble_eq_true rfl)⟩ (Nat.le_of_ble_eq_true rfl) dX0_climb_54 ⟨Nat.le_of_ble_eq_true rfl, Nat.le_of_ble_eq_true rfl⟩ rfl ?_
            refine tm_aload_n X 0 dX0_climb_57 rfl rfl ?_
            refine tm_iload_n X 1 dX0_climb_58 rfl rfl ?_
            refine tm_iload_n X 3 dX0_climb_59 rfl rfl ?_
            refine tm_cl2 (fun r19 h20 e18 => ?_)
            refine tm_callVi (As := [.int x1, .int x3_7]) (rest := [.int r16]) (q0 := 0) X (ctX0_climbFrom 30 l D ad dA tt h17 x1 x3_7 r19 h20 e18) (lw_V q1006 q1008 qs39 q117 q1009) cyX0_climbFrom rfl rfl rfl ⟨(Nat.le_of_ble_eq_true rfl), (Nat.le_of_ble_eq_true rfl)⟩ (Nat.le_of_ble_eq_true rfl) dX0_climb_60 ⟨Nat.le_of_ble_eq_true rfl, Nat.le_of_ble_eq_true rfl⟩ rfl ?_
            refine tm_let (fun k => ∀ (x3_21 : Int32), TM G (r, h') (k x3_21) (wX ad dA tt h20) 0 0 69 [(0, .ref (ad 100)), (1, .int x1), (2, .int x2), (3, .int x3_21), (4, .int x4_8)] []) ?_ (fun k69 hk69 => ?_)
            · intro x3_21
              refine tm_iinc (v := (1 : Int32)) X 4 [(4, .int (x4_8 + (1 : Int32))), (0, .ref (ad 100)), (1, .int x1), (2, .int x2), (3, .int x3_21)] dX0_climb_69 rfl (by decide) (Nat.le_of_ble_eq_true rfl) rfl ?_
              refine tm_goto X 43 dX0_climb_72 rfl ?_
              refine tm_lv X [1, 2, 3, 4, 0] rfl ?_
              exact hk43 x3_21 (x4_8 + (1 : Int32)) h20
            · skip
              refine tm_ic_le X 69 dX0_climb_63 rfl ?_ ?_
              · skip
                exact hk69 x3_7
              · skip
                refine tm_iload X 4 dX0_climb_66 rfl ?_
                refine tm_istore_n X [(3, .int x4_8), (0, .ref (ad 100)), (1, .int x1), (2, .int x2), (4, .int x4_8)] dX0_climb_68 rfl (Nat.le_of_ble_eq_true rfl) rfl ?_
                refine tm_lv X [1, 2, 3, 0, 4] rfl ?_
                exact hk69 x4_8
        · skip
          refine tm_aload_n X 0 dX0_climb_25 rfl rfl ?_
          refine tm_getR X (frX_100_19 ad dA tt h6) in_X0 rfl (Nat.le_of_ble_eq_true rfl) q259 rfl dX0_climb_26 ?_
          refine tm_iload_n X 3 dX0_climb_29 rfl rfl ?_
          refine tm_iconst X (0 : Int32) dX0_climb_30 (by decide) ?_
          refine tm_iastore X (arX_19 ad dA tt) dX0_climb_31 (fun h22 => ?_)
          refine tm_iinc (v := (1 : Int32)) X 3 [(3, .int (x3_5 + (1 : Int32))), (0, .ref (ad 100)), (1, .int x1), (2, .int x2)] dX0_climb_32 rfl (by decide) (Nat.le_of_ble_eq_true rfl) rfl ?_
          refine tm_goto X 19 dX0_climb_35 rfl ?_
          refine tm_lv X [1, 2, 3, 0] rfl ?_
          exact hk19 (x3_5 + (1 : Int32)) h22
      · skip
        refine tm_lv X [] rfl ?_
        exact hk15
def mX0_lowestBeside (h : Hp) (x1 : Int32) (x2 : Int32) : Option (Int32) :=
fx FU (fun _ _ => none) (fun k5 (x3_1 : Int32) (x4_2 : Int32) =>
if (48 : Int32) ≤ x4_2 then (
some x3_1) else (
cl1 (mX0_farOff x4_2 x2) (fun r3 =>
nm (fun (x3_5 : Int32) =>
k5 x3_5 (x4_2 + (1 : Int32))) (fun k51 =>
if r3 = (1 : Int32) then (
ck x1 2 (
ck x4_2 48 (
ck x1 2 (
ck x3_1 48 (
if (h (42 + x1.toNatClampNeg) x3_1.toNatClampNeg) ≤ (h (42 + x1.toNatClampNeg) x4_2.toNatClampNeg) then (
k51 x3_1) else (
k51 x4_2)))))) else (
k51 x3_1))))) x2 (0 : Int32)
theorem cyX0_lowestBeside : Callee yX0_lowestBeside 2 := by unfold Callee; decide +kernel
set_option maxHeartbeats 4000000 in
theorem ctX0_lowestBeside (l : Launch) (D : va_G) (ad : Nat → Nat) (dA : Nat → ClassId) (tt : (Nat → Option Nat) × (Nat → Option Nat) × va_W) (h : Hp) (x1 : Int32) (x2 : Int32) (r : Int32) (hm : mX0_lowestBeside h x1 x2 = some r) : CT l yX0_lowestBeside cX0_lowestBeside 5 (some .int) D dA 1 21 0 0 (wX ad dA tt h) [.ref (ad 100), .int x1, .int x2] (some (.int r)) (wX ad dA tt h) := by
  refine ct_open (by decide) (Nat.le_of_ble_eq_true rfl) ?_
  intro G X hI hZ hV hR
  have hRet := hI rfl r rfl
  refine (show TM G r (mX0_lowestBeside h x1 x2) (wX ad dA tt h) 0 0 0 [(0, .ref (ad 100)), (1, .int x1), (2, .int x2)] [] from ?_) hm
  clear hm hI hZ hV hR
  unfold mX0_lowestBeside
  refine tm_iload_n X 2 dX0_lowestBeside_0 rfl rfl ?_
  refine tm_istore_n X [(3, .int x2), (0, .ref (ad 100)), (1, .int x1), (2, .int x2)] dX0_lowestBeside_1 rfl (Nat.le_of_ble_eq_true rfl) rfl ?_
  refine tm_iconst X (0 : Int32) dX0_lowestBeside_2 (by decide) ?_
  refine tm_istore X [(4, .int (0 : Int32)), (3, .int x2), (0, .ref (ad 100)), (1, .int x1), (2, .int x2)] dX0_lowestBeside_3 (Nat.le_of_ble_eq_true rfl) rfl ?_
  refine tm_lv X [2, 3, 4, 1, 0] rfl ?_
  refine fx_P (fun (k : Int32 → Int32 → Option (Int32)) => ∀ (x3_1 : Int32) (x4_2 : Int32), TM G r (k x3_1 x4_2) (wX ad dA tt h) 0 0 5 [(0, .ref (ad 100)), (1, .int x1), (2, .int x2), (3, .int x3_1), (4, .int x4_2)] []) (fun _ _ => tm_none) (fun k5 hk5 x3_1 x4_2 => ?_) FU x2 (0 : Int32)
  refine tm_iload X 4 dX0_lowestBeside_5 rfl ?_
  refine tm_bipush X (48 : Int32) dX0_lowestBeside_7 (by decide) ?_
  refine tm_ic_ge X 57 dX0_lowestBeside_9 rfl ?_ ?_
  · skip
    refine tm_iload_n X 3 dX0_lowestBeside_57 rfl rfl ?_
    exact tm_retI hRet dX0_lowestBeside_58
  · skip
    refine tm_iload X 4 dX0_lowestBeside_12 rfl ?_
    refine tm_iload_n X 2 dX0_lowestBeside_14 rfl rfl ?_
    refine tm_cl1 (fun r3 e4 => ?_)
    refine tm_callSi (As := [.int x4_2, .int x2]) (rest := []) X (ctX0_farOff l D dA x4_2 x2 r3 e4) (lw_S q946 q947 q117 q948) cyX0_farOff rfl ⟨(Nat.le_of_ble_eq_true rfl), (Nat.le_of_ble_eq_true rfl)⟩ (Nat.le_of_ble_eq_true rfl) dX0_lowestBeside_15 ⟨Nat.le_of_ble_eq_true rfl, Nat.le_of_ble_eq_true rfl⟩ rfl ?_
    refine tm_iconst X (1 : Int32) dX0_lowestBeside_18 (by decide) ?_
    refine tm_let (fun k => ∀ (x3_5 : Int32), TM G r (k x3_5) (wX ad dA tt h) 0 0 51 [(0, .ref (ad 100)), (1, .int x1), (2, .int x2), (3, .int x3_5), (4, .int x4_2)] []) ?_ (fun k51 hk51 => ?_)
    · intro x3_5
      refine tm_iinc (v := (1 : Int32)) X 4 [(4, .int (x4_2 + (1 : Int32))), (0, .ref (ad 100)), (1, .int x1), (2, .int x2), (3, .int x3_5)] dX0_lowestBeside_51 rfl (by decide) (Nat.le_of_ble_eq_true rfl) rfl ?_
      refine tm_goto X 5 dX0_lowestBeside_54 rfl ?_
      refine tm_lv X [1, 2, 3, 4, 0] rfl ?_
      exact hk5 x3_5 (x4_2 + (1 : Int32))
    · skip
      refine tm_ic_ne X 51 dX0_lowestBeside_19 rfl ?_ ?_
      · skip
        exact hk51 x3_1
      · skip
        refine tm_aload_n X 0 dX0_lowestBeside_22 rfl rfl ?_
        refine tm_getR X (frX_100_5 ad dA tt h) in_X0 rfl (Nat.le_of_ble_eq_true rfl) q242 rfl dX0_lowestBeside_23 ?_
        refine tm_getRN X (frX_40_0 ad dA tt h) in_X3 rfl (Nat.le_of_ble_eq_true rfl) q179 rfl dX0_lowestBeside_26 ?_
        refine tm_iload_n X 1 dX0_lowestBeside_29 rfl rfl ?_
        refine tm_aaloadX X (aaX_41 ad dA tt h) dX0_lowestBeside_30 (fun hb6 => ?_)
        refine tm_iload X 4 dX0_lowestBeside_31 rfl ?_
        refine tm_iaload X (ar2X_42 ad dA tt _ hb6) dX0_lowestBeside_33 ?_
        refine tm_aload_n X 0 dX0_lowestBeside_34 rfl rfl ?_
        refine tm_getR X (frX_100_5 ad dA tt h) in_X0 rfl (Nat.le_of_ble_eq_true rfl) q242 rfl dX0_lowestBeside_35 ?_
        refine tm_getRN X (frX_40_0 ad dA tt h) in_X3 rfl (Nat.le_of_ble_eq_true rfl) q179 rfl dX0_lowestBeside_38 ?_
        refine tm_iload_n X 1 dX0_lowestBeside_41 rfl rfl ?_
        refine tm_aaloadX X (aaX_41 ad dA tt h) dX0_lowestBeside_42 (fun hb7 => ?_)
        refine tm_iload_n X 3 dX0_lowestBeside_43 rfl rfl ?_
        refine tm_iaload X (ar2X_42 ad dA tt _ hb7) dX0_lowestBeside_44 ?_
        refine tm_ic_ge X 51 dX0_lowestBeside_45 rfl ?_ ?_
        · skip
          exact hk51 x3_1
        · skip
          refine tm_iload X 4 dX0_lowestBeside_48 rfl ?_
          refine tm_istore_n X [(3, .int x4_2), (0, .ref (ad 100)), (1, .int x1), (2, .int x2), (4, .int x4_2)] dX0_lowestBeside_50 rfl (Nat.le_of_ble_eq_true rfl) rfl ?_
          refine tm_lv X [1, 2, 3, 0, 4] rfl ?_
          exact hk51 x4_2
def mX0_rolls (h : Hp) (x1 : Int32) (x2 : Int32) : Option (Int32) :=
cl1 (mX0_isCast x1) (fun r1 =>
nm (
some (-1 : Int32)) (fun k14 =>
if r1 = 0 then (
k14) else (
cl1 (mX0_isPlace x2) (fun r3 =>
if r3 = 0 then (
k14) else (
fx FU (fun _ => none) (fun k18 (x3_5 : Int32) =>
cl1 (mX0_lowestBeside h x1 x3_5) (fun r7 =>
if r7 = x3_5 then (
some x3_5) else (
cl1 (mX0_lowestBeside h x1 x3_5) (fun r9 =>
k18 r9)))) x2)))))
theorem cyX0_rolls : Callee yX0_rolls 2 := by unfold Callee; decide +kernel
set_option maxHeartbeats 4000000 in
theorem ctX0_rolls (l : Launch) (D : va_G) (ad : Nat → Nat) (dA : Nat → ClassId) (tt : (Nat → Option Nat) × (Nat → Option Nat) × va_W) (h : Hp) (x1 : Int32) (x2 : Int32) (r : Int32) (hm : mX0_rolls h x1 x2 = some r) : CT l yX0_rolls cX0_rolls 4 (some .int) D dA 2 45 0 0 (wX ad dA tt h) [.ref (ad 100), .int x1, .int x2] (some (.int r)) (wX ad dA tt h) := by
  refine ct_open (by decide) (Nat.le_of_ble_eq_true rfl) ?_
  intro G X hI hZ hV hR
  have hRet := hI rfl r rfl
  refine (show TM G r (mX0_rolls h x1 x2) (wX ad dA tt h) 0 0 0 [(0, .ref (ad 100)), (1, .int x1), (2, .int x2)] [] from ?_) hm
  clear hm hI hZ hV hR
  unfold mX0_rolls
  refine tm_iload_n X 1 dX0_rolls_0 rfl rfl ?_
  refine tm_cl1 (fun r1 e2 => ?_)
  refine tm_callSi (As := [.int x1]) (rest := []) X (ctX0_isCast l D dA x1 r1 e2) (lw_S q308 q309 q117 q310) cyX0_isCast rfl ⟨(Nat.le_of_ble_eq_true rfl), (Nat.le_of_ble_eq_true rfl)⟩ (Nat.le_of_ble_eq_true rfl) dX0_rolls_1 ⟨Nat.le_of_ble_eq_true rfl, Nat.le_of_ble_eq_true rfl⟩ rfl ?_
  refine tm_let (fun k => TM G r k (wX ad dA tt h) 0 0 14 [] []) ?_ (fun k14 hk14 => ?_)
  · skip
    refine tm_iconst X (-1 : Int32) dX0_rolls_14 (by decide) ?_
    exact tm_retI hRet dX0_rolls_15
  · skip
    refine tm_if_eq X 14 dX0_rolls_4 rfl ?_ ?_
    · skip
      refine tm_lv X [] rfl ?_
      exact hk14
    · skip
      refine tm_iload_n X 2 dX0_rolls_7 rfl rfl ?_
      refine tm_cl1 (fun r3 e4 => ?_)
      refine tm_callSi (As := [.int x2]) (rest := []) X (ctX0_isPlace l D dA x2 r3 e4) (lw_S q314 q315 q117 q316) cyX0_isPlace rfl ⟨(Nat.le_of_ble_eq_true rfl), (Nat.le_of_ble_eq_true rfl)⟩ (Nat.le_of_ble_eq_true rfl) dX0_rolls_8 ⟨Nat.le_of_ble_eq_true rfl, Nat.le_of_ble_eq_true rfl⟩ rfl ?_
      refine tm_if_ne X 16 dX0_rolls_11 rfl ?_ ?_
      · skip
        refine tm_iload_n X 2 dX0_rolls_16 rfl rfl ?_
        refine tm_istore_n X [(3, .int x2), (0, .ref (ad 100)), (1, .int x1), (2, .int x2)] dX0_rolls_17 rfl (Nat.le_of_ble_eq_true rfl) rfl ?_
        refine tm_lv X [1, 2, 0] rfl ?_
        refine fx_P (fun (k : Int32 → Option (Int32)) => ∀ (x3_5 : Int32), TM G r (k x3_5) (wX ad dA tt h) 0 0 18 [(0, .ref (ad 100)), (1, .int x1), (3, .int x3_5)] []) (fun _ => tm_none) (fun k18 hk18 x3_5 => ?_) FU x2
        refine tm_aload_n X 0 dX0_rolls_18 rfl rfl ?_
        refine tm_iload_n X 1 dX0_rolls_19 rfl rfl ?_
        refine tm_iload_n X 2 dX0_rolls_20 rfl rfl ?_
        refine tm_cl1 (fun r7 e6 => ?_)
        refine tm_callVi (As := [.int x1, .int x3_5]) (rest := []) (q0 := 0) X (ctX0_lowestBeside l D ad dA tt h x1 x3_5 r7 e6) (lw_V q1014 q1016 qs40 q117 q1017) cyX0_lowestBeside rfl rfl rfl ⟨(Nat.le_of_ble_eq_true rfl), (Nat.le_of_ble_eq_true rfl)⟩ (Nat.le_of_ble_eq_true rfl) dX0_rolls_21 ⟨Nat.le_of_ble_eq_true rfl, Nat.le_of_ble_eq_true rfl⟩ rfl ?_
        refine tm_iload_n X 2 dX0_rolls_24 rfl rfl ?_
        refine tm_ic_eq X 38 dX0_rolls_25 rfl ?_ ?_
        · skip
          refine tm_iload_n X 2 dX0_rolls_38 rfl rfl ?_
          exact tm_retI hRet dX0_rolls_39
        · skip
          refine tm_aload_n X 0 dX0_rolls_28 rfl rfl ?_
          refine tm_iload_n X 1 dX0_rolls_29 rfl rfl ?_
          refine tm_iload_n X 2 dX0_rolls_30 rfl rfl ?_
          refine tm_cl1 (fun r9 e8 => ?_)
          refine tm_callVi (As := [.int x1, .int x3_5]) (rest := []) (q0 := 0) X (ctX0_lowestBeside l D ad dA tt h x1 x3_5 r9 e8) (lw_V q1014 q1016 qs40 q117 q1017) cyX0_lowestBeside rfl rfl rfl ⟨(Nat.le_of_ble_eq_true rfl), (Nat.le_of_ble_eq_true rfl)⟩ (Nat.le_of_ble_eq_true rfl) dX0_rolls_31 ⟨Nat.le_of_ble_eq_true rfl, Nat.le_of_ble_eq_true rfl⟩ rfl ?_
          refine tm_istore_n X [(3, .int r9), (0, .ref (ad 100)), (1, .int x1)] dX0_rolls_34 rfl (Nat.le_of_ble_eq_true rfl) rfl ?_
          refine tm_goto X 18 dX0_rolls_35 rfl ?_
          refine tm_lv X [1, 2, 0] rfl ?_
          exact hk18 r9
      · skip
        refine tm_lv X [] rfl ?_
        exact hk14
def mX0_pieces (h : Hp) (x1 : Int32) (x2 : Int32) (x3 : Int32) : Option (Int32 × Hp) :=
cl1 (mX0_isCast x1) (fun r1 =>
nm (
some ((-1 : Int32), h)) (fun k25 =>
if r1 = 0 then (
k25) else (
cl1 (mX0_within x2 (0 : Int32) (25 : Int32)) (fun r3 =>
if r3 = 0 then (
k25) else (
cl1 (mX0_in x3 (2 : Int32)) (fun r5 =>
if r5 = 0 then (
k25) else (
fx FU (fun _ _ => none) (fun k30 (x4_7 : Int32) (h8 : Hp) =>
if (48 : Int32) ≤ x4_7 then (
cl2 (mX0_groups h8 x3) (fun r10 h11 =>
some (r10, h11))) else (
ck x1 2 (
ck x4_7 48 (
nm (fun (s13 : Int32) =>
ck x4_7 48 (nm (u2 h8 2 x4_7.toNatClampNeg (vp_nar .boolean s13)) (fun h14 =>
k30 (x4_7 + (1 : Int32)) h14))) (fun k64 =>
if (h8 (42 + x1.toNatClampNeg) x4_7.toNatClampNeg) < x2 then (
k64 (0 : Int32)) else (
k64 (1 : Int32))))))) (0 : Int32) h)))))))
theorem cyX0_pieces : Callee yX0_pieces 3 := by unfold Callee; decide +kernel
set_option maxHeartbeats 4000000 in
theorem ctX0_pieces (l : Launch) (D : va_G) (ad : Nat → Nat) (dA : Nat → ClassId) (tt : (Nat → Option Nat) × (Nat → Option Nat) × va_W) (h : Hp) (x1 : Int32) (x2 : Int32) (x3 : Int32) (r : Int32) (h' : Hp) (hm : mX0_pieces h x1 x2 x3 = some (r, h')) : CT l yX0_pieces cX0_pieces 5 (some .int) D dA 5 112 0 0 (wX ad dA tt h) [.ref (ad 100), .int x1, .int x2, .int x3] (some (.int r)) (wX ad dA tt h') := by
  refine ct_open (by decide) (Nat.le_of_ble_eq_true rfl) ?_
  intro G X hI hZ hV hR
  have hRet := hI rfl r rfl
  refine (show TM G (r, h') (mX0_pieces h x1 x2 x3) (wX ad dA tt h) 0 0 0 [(0, .ref (ad 100)), (1, .int x1), (2, .int x2), (3, .int x3)] [] from ?_) hm
  clear hm hI hZ hV hR
  unfold mX0_pieces
  refine tm_iload_n X 1 dX0_pieces_0 rfl rfl ?_
  refine tm_cl1 (fun r1 e2 => ?_)
  refine tm_callSi (As := [.int x1]) (rest := []) X (ctX0_isCast l D dA x1 r1 e2) (lw_S q308 q309 q117 q310) cyX0_isCast rfl ⟨(Nat.le_of_ble_eq_true rfl), (Nat.le_of_ble_eq_true rfl)⟩ (Nat.le_of_ble_eq_true rfl) dX0_pieces_1 ⟨Nat.le_of_ble_eq_true rfl, Nat.le_of_ble_eq_true rfl⟩ rfl ?_
  refine tm_let (fun k => TM G (r, h') k (wX ad dA tt h) 0 0 25 [] []) ?_ (fun k25 hk25 => ?_)
  · skip
    refine tm_iconst X (-1 : Int32) dX0_pieces_25 (by decide) ?_
    exact tm_retIH (wf := wX ad dA tt) hRet dX0_pieces_26
  · skip
    refine tm_if_eq X 25 dX0_pieces_4 rfl ?_ ?_
    · skip
      refine tm_lv X [] rfl ?_
      exact hk25
    · skip
      refine tm_iload_n X 2 dX0_pieces_7 rfl rfl ?_
      refine tm_iconst X (0 : Int32) dX0_pieces_8 (by decide) ?_
      refine tm_bipush X (25 : Int32) dX0_pieces_9 (by decide) ?_
      refine tm_cl1 (fun r3 e4 => ?_)
      refine tm_callSi (As := [.int x2, .int (0 : Int32), .int (25 : Int32)]) (rest := []) X (ctX0_within l D dA x2 (0 : Int32) (25 : Int32) r3 e4) (lw_S q317 q318 q117 q319) cyX0_within rfl ⟨(Nat.le_of_ble_eq_true rfl), (Nat.le_of_ble_eq_true rfl)⟩ (Nat.le_of_ble_eq_true rfl) dX0_pieces_11 ⟨Nat.le_of_ble_eq_true rfl, Nat.le_of_ble_eq_true rfl⟩ rfl ?_
      refine tm_if_eq X 25 dX0_pieces_14 rfl ?_ ?_
      · skip
        refine tm_lv X [] rfl ?_
        exact hk25
      · skip
        refine tm_iload_n X 3 dX0_pieces_17 rfl rfl ?_
        refine tm_iconst X (2 : Int32) dX0_pieces_18 (by decide) ?_
        refine tm_cl1 (fun r5 e6 => ?_)
        refine tm_callSi (As := [.int x3, .int (2 : Int32)]) (rest := []) X (ctX0_in l D dA x3 (2 : Int32) r5 e6) (lw_S q311 q312 q117 q313) cyX0_in rfl ⟨(Nat.le_of_ble_eq_true rfl), (Nat.le_of_ble_eq_true rfl)⟩ (Nat.le_of_ble_eq_true rfl) dX0_pieces_19 ⟨Nat.le_of_ble_eq_true rfl, Nat.le_of_ble_eq_true rfl⟩ rfl ?_
        refine tm_if_ne X 27 dX0_pieces_22 rfl ?_ ?_
        · skip
          refine tm_iconst X (0 : Int32) dX0_pieces_27 (by decide) ?_
          refine tm_istore X [(4, .int (0 : Int32)), (0, .ref (ad 100)), (1, .int x1), (2, .int x2), (3, .int x3)] dX0_pieces_28 (Nat.le_of_ble_eq_true rfl) rfl ?_
          refine tm_lv X [1, 2, 3, 4, 0] rfl ?_
          refine fx_P (fun (k : Int32 → Hp → Option (Int32 × Hp)) => ∀ (x4_7 : Int32) (h8 : Hp), TM G (r, h') (k x4_7 h8) (wX ad dA tt h8) 0 0 30 [(0, .ref (ad 100)), (1, .int x1), (2, .int x2), (3, .int x3), (4, .int x4_7)] []) (fun _ _ => tm_none) (fun k30 hk30 x4_7 h8 => ?_) FU (0 : Int32) h
          refine tm_iload X 4 dX0_pieces_30 rfl ?_
          refine tm_bipush X (48 : Int32) dX0_pieces_32 (by decide) ?_
          refine tm_ic_ge X 71 dX0_pieces_34 rfl ?_ ?_
          · skip
            refine tm_aload_n X 0 dX0_pieces_71 rfl rfl ?_
            refine tm_iload_n X 3 dX0_pieces_72 rfl rfl ?_
            refine tm_cl2 (fun r10 h11 e9 => ?_)
            refine tm_callVi (As := [.int x3]) (rest := []) (q0 := 0) X (ctX0_groups l D ad dA tt h8 x3 r10 h11 e9) (lw_V q924 q926 qs30 q117 q927) cyX0_groups rfl rfl rfl ⟨(Nat.le_of_ble_eq_true rfl), (Nat.le_of_ble_eq_true rfl)⟩ (Nat.le_of_ble_eq_true rfl) dX0_pieces_73 ⟨Nat.le_of_ble_eq_true rfl, Nat.le_of_ble_eq_true rfl⟩ rfl ?_
            exact tm_retIH (wf := wX ad dA tt) hRet dX0_pieces_76
          · skip
            refine tm_aload_n X 0 dX0_pieces_37 rfl rfl ?_
            refine tm_getR X (frX_100_2 ad dA tt h8) in_X0 rfl (Nat.le_of_ble_eq_true rfl) q237 rfl dX0_pieces_38 ?_
            refine tm_iload X 4 dX0_pieces_41 rfl ?_
            refine tm_aload_n X 0 dX0_pieces_43 rfl rfl ?_
            refine tm_getR X (frX_100_5 ad dA tt h8) in_X0 rfl (Nat.le_of_ble_eq_true rfl) q242 rfl dX0_pieces_44 ?_
            refine tm_getRN X (frX_40_0 ad dA tt h8) in_X3 rfl (Nat.le_of_ble_eq_true rfl) q179 rfl dX0_pieces_47 ?_
            refine tm_iload_n X 1 dX0_pieces_50 rfl rfl ?_
            refine tm_aaloadX X (aaX_41 ad dA tt h8) dX0_pieces_51 (fun hb12 => ?_)
            refine tm_iload X 4 dX0_pieces_52 rfl ?_
            refine tm_iaload X (ar2X_42 ad dA tt _ hb12) dX0_pieces_54 ?_
            refine tm_iload_n X 2 dX0_pieces_55 rfl rfl ?_
            refine tm_let (fun k => ∀ (s13 : Int32), TM G (r, h') (k s13) (wX ad dA tt h8) 0 0 64 [(0, .ref (ad 100)), (1, .int x1), (2, .int x2), (3, .int x3), (4, .int x4_7)] [.int s13, .int x4_7, .ref (ad 2)]) ?_ (fun k64 hk64 => ?_)
            · intro s13
              refine tm_bastoreZ X (arX_2 ad dA tt) dX0_pieces_64 (fun h14 => ?_)
              refine tm_iinc (v := (1 : Int32)) X 4 [(4, .int (x4_7 + (1 : Int32))), (0, .ref (ad 100)), (1, .int x1), (2, .int x2), (3, .int x3)] dX0_pieces_65 rfl (by decide) (Nat.le_of_ble_eq_true rfl) rfl ?_
              refine tm_goto X 30 dX0_pieces_68 rfl ?_
              refine tm_lv X [1, 2, 3, 4, 0] rfl ?_
              exact hk30 (x4_7 + (1 : Int32)) h14
            · skip
              refine tm_ic_lt X 63 dX0_pieces_56 rfl ?_ ?_
              · skip
                refine tm_iconst X (0 : Int32) dX0_pieces_63 (by decide) ?_
                exact hk64 (0 : Int32)
              · skip
                refine tm_iconst X (1 : Int32) dX0_pieces_59 (by decide) ?_
                refine tm_goto X 64 dX0_pieces_60 rfl ?_
                exact hk64 (1 : Int32)
        · skip
          refine tm_lv X [] rfl ?_
          exact hk25
def mX0_heightOf (h : Hp) (x1 : Int32) (x2 : Int32) : Option (Int32) :=
cl1 (mX0_isCast x1) (fun r1 =>
nm (fun (s3 : Int32) =>
some s3) (fun k29 =>
nm (
k29 (-1 : Int32)) (fun k28 =>
if r1 = 0 then (
k28) else (
cl1 (mX0_isPlace x2) (fun r4 =>
if r4 = 0 then (
k28) else (
ck x1 2 (
ck x2 48 (
k29 (h (42 + x1.toNatClampNeg) x2.toNatClampNeg)))))))))
theorem cyX0_heightOf : Callee yX0_heightOf 2 := by unfold Callee; decide +kernel
set_option maxHeartbeats 4000000 in
theorem ctX0_heightOf (l : Launch) (D : va_G) (ad : Nat → Nat) (dA : Nat → ClassId) (tt : (Nat → Option Nat) × (Nat → Option Nat) × va_W) (h : Hp) (x1 : Int32) (x2 : Int32) (r : Int32) (hm : mX0_heightOf h x1 x2 = some r) : CT l yX0_heightOf cX0_heightOf 3 (some .int) D dA 2 41 0 0 (wX ad dA tt h) [.ref (ad 100), .int x1, .int x2] (some (.int r)) (wX ad dA tt h) := by
  refine ct_open (by decide) (Nat.le_of_ble_eq_true rfl) ?_
  intro G X hI hZ hV hR
  have hRet := hI rfl r rfl
  refine (show TM G r (mX0_heightOf h x1 x2) (wX ad dA tt h) 0 0 0 [(0, .ref (ad 100)), (1, .int x1), (2, .int x2)] [] from ?_) hm
  clear hm hI hZ hV hR
  unfold mX0_heightOf
  refine tm_iload_n X 1 dX0_heightOf_0 rfl rfl ?_
  refine tm_cl1 (fun r1 e2 => ?_)
  refine tm_callSi (As := [.int x1]) (rest := []) X (ctX0_isCast l D dA x1 r1 e2) (lw_S q308 q309 q117 q310) cyX0_isCast rfl ⟨(Nat.le_of_ble_eq_true rfl), (Nat.le_of_ble_eq_true rfl)⟩ (Nat.le_of_ble_eq_true rfl) dX0_heightOf_1 ⟨Nat.le_of_ble_eq_true rfl, Nat.le_of_ble_eq_true rfl⟩ rfl ?_
  refine tm_let (fun k => ∀ (s3 : Int32), TM G r (k s3) (wX ad dA tt h) 0 0 29 [] [.int s3]) ?_ (fun k29 hk29 => ?_)
  · intro s3
    exact tm_retI hRet dX0_heightOf_29
  · skip
    refine tm_let (fun k => TM G r k (wX ad dA tt h) 0 0 28 [] []) ?_ (fun k28 hk28 => ?_)
    · skip
      refine tm_iconst X (-1 : Int32) dX0_heightOf_28 (by decide) ?_
      exact hk29 (-1 : Int32)
    · skip
      refine tm_if_eq X 28 dX0_heightOf_4 rfl ?_ ?_
      · skip
        refine tm_lv X [] rfl ?_
        exact hk28
      · skip
        refine tm_iload_n X 2 dX0_heightOf_7 rfl rfl ?_
        refine tm_cl1 (fun r4 e5 => ?_)
        refine tm_callSi (As := [.int x2]) (rest := []) X (ctX0_isPlace l D dA x2 r4 e5) (lw_S q314 q315 q117 q316) cyX0_isPlace rfl ⟨(Nat.le_of_ble_eq_true rfl), (Nat.le_of_ble_eq_true rfl)⟩ (Nat.le_of_ble_eq_true rfl) dX0_heightOf_8 ⟨Nat.le_of_ble_eq_true rfl, Nat.le_of_ble_eq_true rfl⟩ rfl ?_
        refine tm_if_eq X 28 dX0_heightOf_11 rfl ?_ ?_
        · skip
          refine tm_lv X [] rfl ?_
          exact hk28
        · skip
          refine tm_aload_n X 0 dX0_heightOf_14 rfl rfl ?_
          refine tm_getR X (frX_100_5 ad dA tt h) in_X0 rfl (Nat.le_of_ble_eq_true rfl) q242 rfl dX0_heightOf_15 ?_
          refine tm_getRN X (frX_40_0 ad dA tt h) in_X3 rfl (Nat.le_of_ble_eq_true rfl) q179 rfl dX0_heightOf_18 ?_
          refine tm_iload_n X 1 dX0_heightOf_21 rfl rfl ?_
          refine tm_aaloadX X (aaX_41 ad dA tt h) dX0_heightOf_22 (fun hb6 => ?_)
          refine tm_iload_n X 2 dX0_heightOf_23 rfl rfl ?_
          refine tm_iaload X (ar2X_42 ad dA tt _ hb6) dX0_heightOf_24 ?_
          refine tm_goto X 29 dX0_heightOf_25 rfl ?_
          refine tm_lv X [] rfl ?_
          exact hk29 (h (42 + x1.toNatClampNeg) x2.toNatClampNeg)
def mX0_isRim (x0 : Int32) : Option (Int32) :=
nm (fun (s1 : Int32) =>
bz s1 (some s1)) (fun k36 =>
nm (
k36 (1 : Int32)) (fun k31 =>
if (jrem x0 (8 : Int32)) = 0 then (
k31) else (
if (jrem x0 (8 : Int32)) = (7 : Int32) then (
k31) else (
if (x0 / (8 : Int32)) = 0 then (
k31) else (
if (x0 / (8 : Int32)) = (5 : Int32) then (
k31) else (
k36 (0 : Int32)))))))
theorem cyX0_isRim : Callee yX0_isRim 1 := by unfold Callee; decide +kernel
set_option maxHeartbeats 4000000 in
theorem ctX0_isRim (l : Launch) (D : va_G) (dA : Nat → ClassId) (x0 : Int32) (r : Int32) (hm : mX0_isRim x0 = some r) : CT l yX0_isRim cX0_isRim 1 (some .boolean) D dA 0 0 0 0 [] [.int x0] (some (.int r)) [] := by
  refine ct_open (by decide) (Nat.le_of_ble_eq_true rfl) ?_
  intro G X hI hZ hV hR
  have hRet := fun hv => hZ rfl r hv rfl
  refine (show TM G r (mX0_isRim x0) [] 0 0 0 [(0, .int x0)] [] from ?_) hm
  clear hm hI hZ hV hR
  unfold mX0_isRim
  refine tm_iload_n X 0 dX0_isRim_0 rfl rfl ?_
  refine tm_bipush X (8 : Int32) dX0_isRim_1 (by decide) ?_
  refine tm_irem X dX0_isRim_3 (by decide) ?_
  refine tm_let (fun k => ∀ (s1 : Int32), TM G r (k s1) [] 0 0 36 [] [.int s1]) ?_ (fun k36 hk36 => ?_)
  · intro s1
    exact tm_retZ hRet dX0_isRim_36
  · skip
    refine tm_let (fun k => TM G r k [] 0 0 31 [] []) ?_ (fun k31 hk31 => ?_)
    · skip
      refine tm_iconst X (1 : Int32) dX0_isRim_31 (by decide) ?_
      refine tm_goto X 36 dX0_isRim_32 rfl ?_
      exact hk36 (1 : Int32)
    · skip
      refine tm_if_eq X 31 dX0_isRim_4 rfl ?_ ?_
      · skip
        refine tm_lv X [] rfl ?_
        exact hk31
      · skip
        refine tm_iload_n X 0 dX0_isRim_7 rfl rfl ?_
        refine tm_bipush X (8 : Int32) dX0_isRim_8 (by decide) ?_
        refine tm_irem X dX0_isRim_10 (by decide) ?_
        refine tm_bipush X (7 : Int32) dX0_isRim_11 (by decide) ?_
        refine tm_ic_eq X 31 dX0_isRim_13 rfl ?_ ?_
        · skip
          refine tm_lv X [] rfl ?_
          exact hk31
        · skip
          refine tm_iload_n X 0 dX0_isRim_16 rfl rfl ?_
          refine tm_bipush X (8 : Int32) dX0_isRim_17 (by decide) ?_
          refine tm_idiv X dX0_isRim_19 (by decide) ?_
          refine tm_if_eq X 31 dX0_isRim_20 rfl ?_ ?_
          · skip
            refine tm_lv X [] rfl ?_
            exact hk31
          · skip
            refine tm_iload_n X 0 dX0_isRim_23 rfl rfl ?_
            refine tm_bipush X (8 : Int32) dX0_isRim_24 (by decide) ?_
            refine tm_idiv X dX0_isRim_26 (by decide) ?_
            refine tm_iconst X (5 : Int32) dX0_isRim_27 (by decide) ?_
            refine tm_ic_ne X 35 dX0_isRim_28 rfl ?_ ?_
            · skip
              refine tm_iconst X (0 : Int32) dX0_isRim_35 (by decide) ?_
              refine tm_lv X [] rfl ?_
              exact hk36 (0 : Int32)
            · skip
              refine tm_lv X [] rfl ?_
              exact hk31
def mX0_laysLevels (pa : Nat) (h : Hp)  : Option (Hp) :=
fx FU (fun _ _ => none) (fun k2 (x2_1 : Int32) (h2 : Hp) =>
if (48 : Int32) ≤ x2_1 then (
fx FU (fun _ _ => none) (fun k37 (x2_3 : Int32) (h4 : Hp) =>
if x2_3 = 0 then (
some h4) else (
fx FU (fun _ _ _ => none) (fun k45 (x2_5 : Int32) (x3_6 : Int32) (h7 : Hp) =>
if (48 : Int32) ≤ x3_6 then (
k37 x2_5 h7) else (
fx FU (fun _ _ _ => none) (fun k54 (x2_8 : Int32) (x4_9 : Int32) (h10 : Hp) =>
nm (
k45 x2_8 (x3_6 + (1 : Int32)) h10) (fun k116 =>
if (4 : Int32) ≤ x4_9 then (
k116) else (
cl1 (mX0_isRim x3_6) (fun r11 =>
if r11 = 0 then (
ck x3_6 48 (
cl1 (mX0_beside x3_6 x4_9) (fun r13 =>
ck r13 48 (
nm ((jmax (h10 pa x3_6.toNatClampNeg) (h10 20 r13.toNatClampNeg))) (fun v15 =>
ck x3_6 48 (
nm (fun (x2_16 : Int32) (h17 : Hp) =>
k54 x2_16 (x4_9 + (1 : Int32)) h17) (fun k110 =>
if v15 < (h10 20 x3_6.toNatClampNeg) then (
ck x3_6 48 (nm (u2 h10 20 x3_6.toNatClampNeg v15) (fun h18 =>
k110 (1 : Int32) h18))) else (
k110 x2_8 h10)))))))) else (
k116))))) x2_5 (0 : Int32) h7)) (0 : Int32) (0 : Int32) h4)) (1 : Int32) h2) else (
cl1 (mX0_isRim x2_1) (fun r19 =>
nm (fun (s21 : Int32) =>
ck x2_1 48 (nm (u2 h2 20 x2_1.toNatClampNeg s21) (fun h22 =>
k2 (x2_1 + (1 : Int32)) h22))) (fun k28 =>
if r19 = 0 then (
k28 (268435456 : Int32)) else (
ck x2_1 48 (
k28 (h2 pa x2_1.toNatClampNeg))))))) (0 : Int32) h
theorem cyX0_laysLevels : Callee yX0_laysLevels 1 := by unfold Callee; decide +kernel
set_option maxHeartbeats 4000000 in
theorem ctX0_laysLevels_42 (l : Launch) (D : va_G) (ad : Nat → Nat) (dA : Nat → ClassId) (tt : (Nat → Option Nat) × (Nat → Option Nat) × va_W) (h : Hp)  (h' : Hp) (hm : mX0_laysLevels 42 h = some h') : CT l yX0_laysLevels cX0_laysLevels 6 none D dA 3 63 0 0 (wX ad dA tt h) [.ref (ad 100), .ref (ad 42)] none (wX ad dA tt h') := by
  refine ct_open (by decide) (Nat.le_of_ble_eq_true rfl) ?_
  intro G X hI hZ hV hR
  have hRet := hV rfl rfl
  refine (show TM G h' (mX0_laysLevels 42 h) (wX ad dA tt h) 0 0 0 [(0, .ref (ad 100)), (1, .ref (ad 42))] [] from ?_) hm
  clear hm hI hZ hV hR
  unfold mX0_laysLevels
  refine tm_iconst X (0 : Int32) dX0_laysLevels_0 (by decide) ?_
  refine tm_istore_n X [(2, .int (0 : Int32)), (0, .ref (ad 100)), (1, .ref (ad 42))] dX0_laysLevels_1 rfl (Nat.le_of_ble_eq_true rfl) rfl ?_
  refine tm_lv X [1, 2, 0] rfl ?_
  refine fx_P (fun (k : Int32 → Hp → Option (Hp)) => ∀ (x2_1 : Int32) (h2 : Hp), TM G h' (k x2_1 h2) (wX ad dA tt h2) 0 0 2 [(0, .ref (ad 100)), (1, .ref (ad 42)), (2, .int x2_1)] []) (fun _ _ => tm_none) (fun k2 hk2 x2_1 h2 => ?_) FU (0 : Int32) h
  refine tm_iload_n X 2 dX0_laysLevels_2 rfl rfl ?_
  refine tm_bipush X (48 : Int32) dX0_laysLevels_3 (by decide) ?_
  refine tm_ic_ge X 35 dX0_laysLevels_5 rfl ?_ ?_
  · skip
    refine tm_iconst X (1 : Int32) dX0_laysLevels_35 (by decide) ?_
    refine tm_istore_n X [(2, .int (1 : Int32)), (0, .ref (ad 100)), (1, .ref (ad 42))] dX0_laysLevels_36 rfl (Nat.le_of_ble_eq_true rfl) rfl ?_
    refine tm_lv X [1, 2, 0] rfl ?_
    refine fx_P (fun (k : Int32 → Hp → Option (Hp)) => ∀ (x2_3 : Int32) (h4 : Hp), TM G h' (k x2_3 h4) (wX ad dA tt h4) 0 0 37 [(0, .ref (ad 100)), (1, .ref (ad 42)), (2, .int x2_3)] []) (fun _ _ => tm_none) (fun k37 hk37 x2_3 h4 => ?_) FU (1 : Int32) h2
    refine tm_iload_n X 2 dX0_laysLevels_37 rfl rfl ?_
    refine tm_if_eq X 125 dX0_laysLevels_38 rfl ?_ ?_
    · skip
      exact tm_retV (wf := wX ad dA tt) hRet dX0_laysLevels_125
    · skip
      refine tm_iconst X (0 : Int32) dX0_laysLevels_41 (by decide) ?_
      refine tm_istore_n X [(2, .int (0 : Int32)), (0, .ref (ad 100)), (1, .ref (ad 42))] dX0_laysLevels_42 rfl (Nat.le_of_ble_eq_true rfl) rfl ?_
      refine tm_iconst X (0 : Int32) dX0_laysLevels_43 (by decide) ?_
      refine tm_istore_n X [(3, .int (0 : Int32)), (2, .int (0 : Int32)), (0, .ref (ad 100)), (1, .ref (ad 42))] dX0_laysLevels_44 rfl (Nat.le_of_ble_eq_true rfl) rfl ?_
      refine tm_lv X [2, 3, 1, 0] rfl ?_
      refine fx_P (fun (k : Int32 → Int32 → Hp → Option (Hp)) => ∀ (x2_5 : Int32) (x3_6 : Int32) (h7 : Hp), TM G h' (k x2_5 x3_6 h7) (wX ad dA tt h7) 0 0 45 [(0, .ref (ad 100)), (1, .ref (ad 42)), (2, .int x2_5), (3, .int x3_6)] []) (fun _ _ _ => tm_none) (fun k45 hk45 x2_5 x3_6 h7 => ?_) FU (0 : Int32) (0 : Int32) h4
      refine tm_iload_n X 3 dX0_laysLevels_45 rfl rfl ?_
      refine tm_bipush X (48 : Int32) dX0_laysLevels_46 (by decide) ?_
      refine tm_ic_ge X 122 dX0_laysLevels_48 rfl ?_ ?_
      · skip
        refine tm_goto X 37 dX0_laysLevels_122 rfl ?_
        refine tm_lv X [0, 1, 2] rfl ?_
        exact hk37 x2_5 h7
      · skip
        refine tm_iconst X (0 : Int32) dX0_laysLevels_51 (by decide) ?_
        refine tm_istore X [(4, .int (0 : Int32)), (0, .ref (ad 100)), (1, .ref (ad 42)), (2, .int x2_5), (3, .int x3_6)] dX0_laysLevels_52 (Nat.le_of_ble_eq_true rfl) rfl ?_
        refine tm_lv X [1, 2, 3, 4, 0] rfl ?_
        refine fx_P (fun (k : Int32 → Int32 → Hp → Option (Hp)) => ∀ (x2_8 : Int32) (x4_9 : Int32) (h10 : Hp), TM G h' (k x2_8 x4_9 h10) (wX ad dA tt h10) 0 0 54 [(0, .ref (ad 100)), (1, .ref (ad 42)), (2, .int x2_8), (3, .int x3_6), (4, .int x4_9)] []) (fun _ _ _ => tm_none) (fun k54 hk54 x2_8 x4_9 h10 => ?_) FU x2_5 (0 : Int32) h7
        refine tm_iload X 4 dX0_laysLevels_54 rfl ?_
        refine tm_iconst X (4 : Int32) dX0_laysLevels_56 (by decide) ?_
        refine tm_let (fun k => TM G h' k (wX ad dA tt h10) 0 0 116 [(0, .ref (ad 100)), (1, .ref (ad 42)), (2, .int x2_8), (3, .int x3_6)] []) ?_ (fun k116 hk116 => ?_)
        · skip
          refine tm_iinc (v := (1 : Int32)) X 3 [(3, .int (x3_6 + (1 : Int32))), (0, .ref (ad 100)), (1, .ref (ad 42)), (2, .int x2_8)] dX0_laysLevels_116 rfl (by decide) (Nat.le_of_ble_eq_true rfl) rfl ?_
          refine tm_goto X 45 dX0_laysLevels_119 rfl ?_
          refine tm_lv X [1, 2, 3, 0] rfl ?_
          exact hk45 x2_8 (x3_6 + (1 : Int32)) h10
        · skip
          refine tm_ic_ge X 116 dX0_laysLevels_57 rfl ?_ ?_
          · skip
            refine tm_lv X [0, 1, 2, 3] rfl ?_
            exact hk116
          · skip
            refine tm_iload_n X 3 dX0_laysLevels_60 rfl rfl ?_
            refine tm_cl1 (fun r11 e12 => ?_)
            refine tm_callSi (As := [.int x3_6]) (rest := []) X (ctX0_isRim l D dA x3_6 r11 e12) (lw_S q1034 q1035 q117 q1036) cyX0_isRim rfl ⟨(Nat.le_of_ble_eq_true rfl), (Nat.le_of_ble_eq_true rfl)⟩ (Nat.le_of_ble_eq_true rfl) dX0_laysLevels_61 ⟨Nat.le_of_ble_eq_true rfl, Nat.le_of_ble_eq_true rfl⟩ rfl ?_
            refine tm_if_ne X 116 dX0_laysLevels_64 rfl ?_ ?_
            · skip
              refine tm_lv X [0, 1, 2, 3] rfl ?_
              exact hk116
            · skip
              refine tm_aload_n X 1 dX0_laysLevels_67 rfl rfl ?_
              refine tm_iload_n X 3 dX0_laysLevels_68 rfl rfl ?_
              refine tm_iaload X (arX_42 ad dA tt) dX0_laysLevels_69 ?_
              refine tm_aload_n X 0 dX0_laysLevels_70 rfl rfl ?_
              refine tm_getR X (frX_100_20 ad dA tt h10) in_X0 rfl (Nat.le_of_ble_eq_true rfl) q260 rfl dX0_laysLevels_71 ?_
              refine tm_iload_n X 3 dX0_laysLevels_74 rfl rfl ?_
              refine tm_iload X 4 dX0_laysLevels_75 rfl ?_
              refine tm_cl1 (fun r13 e14 => ?_)
              refine tm_callSi (As := [.int x3_6, .int x4_9]) (rest := [.ref (ad 20), .int (h10 42 x3_6.toNatClampNeg)]) X (ctX0_beside l D dA x3_6 x4_9 r13 e14) (lw_S q932 q933 q117 q934) cyX0_beside rfl ⟨(Nat.le_of_ble_eq_true rfl), (Nat.le_of_ble_eq_true rfl)⟩ (Nat.le_of_ble_eq_true rfl) dX0_laysLevels_77 ⟨Nat.le_of_ble_eq_true rfl, Nat.le_of_ble_eq_true rfl⟩ rfl ?_
              refine tm_iaload X (arX_20 ad dA tt) dX0_laysLevels_80 ?_
              refine tm_mmax X q878 (Nat.le_of_ble_eq_true rfl) (Nat.le_of_ble_eq_true rfl) ⟨Nat.le_of_ble_eq_true rfl, Nat.le_of_ble_eq_true rfl⟩ dX0_laysLevels_81 ?_
              refine tm_nmI (fun v15 => ?_)
              refine tm_istore X [(5, .int v15), (0, .ref (ad 100)), (1, .ref (ad 42)), (2, .int x2_8), (3, .int x3_6), (4, .int x4_9)] dX0_laysLevels_84 (Nat.le_of_ble_eq_true rfl) rfl ?_
              refine tm_iload X 0 dX0_laysLevels_86 rfl ?_
              refine tm_aload_n X 1 dX0_laysLevels_88 rfl rfl ?_
              refine tm_getR X (frX_100_20 ad dA tt h10) in_X0 rfl (Nat.le_of_ble_eq_true rfl) q260 rfl dX0_laysLevels_89 ?_
              refine tm_iload_n X 4 dX0_laysLevels_92 rfl rfl ?_
              refine tm_iaload X (arX_20 ad dA tt) dX0_laysLevels_93 ?_
              refine tm_let (fun k => ∀ (x2_16 : Int32) (h17 : Hp), TM G h' (k x2_16 h17) (wX ad dA tt h17) 0 0 110 [(0, .ref (ad 100)), (1, .ref (ad 42)), (2, .int x2_16), (3, .int x3_6), (4, .int x4_9)] []) ?_ (fun k110 hk110 => ?_)
              · intro x2_16 h17
                refine tm_iinc (v := (1 : Int32)) X 4 [(4, .int (x4_9 + (1 : Int32))), (0, .ref (ad 100)), (1, .ref (ad 42)), (2, .int x2_16), (3, .int x3_6)] dX0_laysLevels_110 rfl (by decide) (Nat.le_of_ble_eq_true rfl) rfl ?_
                refine tm_goto X 54 dX0_laysLevels_113 rfl ?_
                refine tm_lv X [1, 2, 3, 4, 0] rfl ?_
                exact hk54 x2_16 (x4_9 + (1 : Int32)) h17
              · skip
                refine tm_ic_lt X 100 dX0_laysLevels_94 rfl ?_ ?_
                · skip
                  refine tm_aload_n X 1 dX0_laysLevels_100 rfl rfl ?_
                  refine tm_getR X (frX_100_20 ad dA tt h10) in_X0 rfl (Nat.le_of_ble_eq_true rfl) q260 rfl dX0_laysLevels_101 ?_
                  refine tm_iload_n X 4 dX0_laysLevels_104 rfl rfl ?_
                  refine tm_iload X 0 dX0_laysLevels_105 rfl ?_
                  refine tm_iastore X (arX_20 ad dA tt) dX0_laysLevels_107 (fun h18 => ?_)
                  refine tm_iconst X (1 : Int32) dX0_laysLevels_108 (by decide) ?_
                  refine tm_istore_n X [(2, .int (1 : Int32)), (5, .int v15), (0, .ref (ad 100)), (1, .ref (ad 42)), (3, .int x3_6), (4, .int x4_9)] dX0_laysLevels_109 rfl (Nat.le_of_ble_eq_true rfl) rfl ?_
                  refine tm_lv X [2, 3, 0, 4, 5] rfl ?_
                  exact hk110 (1 : Int32) h18
                · skip
                  refine tm_goto X 110 dX0_laysLevels_97 rfl ?_
                  refine tm_lv X [1, 2, 3, 4, 5] rfl ?_
                  exact hk110 x2_8 h10
  · skip
    refine tm_aload_n X 0 dX0_laysLevels_8 rfl rfl ?_
    refine tm_getR X (frX_100_20 ad dA tt h2) in_X0 rfl (Nat.le_of_ble_eq_true rfl) q260 rfl dX0_laysLevels_9 ?_
    refine tm_iload_n X 2 dX0_laysLevels_12 rfl rfl ?_
    refine tm_iload_n X 2 dX0_laysLevels_13 rfl rfl ?_
    refine tm_cl1 (fun r19 e20 => ?_)
    refine tm_callSi (As := [.int x2_1]) (rest := [.int x2_1, .ref (ad 20)]) X (ctX0_isRim l D dA x2_1 r19 e20) (lw_S q1034 q1035 q117 q1036) cyX0_isRim rfl ⟨(Nat.le_of_ble_eq_true rfl), (Nat.le_of_ble_eq_true rfl)⟩ (Nat.le_of_ble_eq_true rfl) dX0_laysLevels_14 ⟨Nat.le_of_ble_eq_true rfl, Nat.le_of_ble_eq_true rfl⟩ rfl ?_
    refine tm_let (fun k => ∀ (s21 : Int32), TM G h' (k s21) (wX ad dA tt h2) 0 0 28 [(0, .ref (ad 100)), (1, .ref (ad 42)), (2, .int x2_1)] [.int s21, .int x2_1, .ref (ad 20)]) ?_ (fun k28 hk28 => ?_)
    · intro s21
      refine tm_iastore X (arX_20 ad dA tt) dX0_laysLevels_28 (fun h22 => ?_)
      refine tm_iinc (v := (1 : Int32)) X 2 [(2, .int (x2_1 + (1 : Int32))), (0, .ref (ad 100)), (1, .ref (ad 42))] dX0_laysLevels_29 rfl (by decide) (Nat.le_of_ble_eq_true rfl) rfl ?_
      refine tm_goto X 2 dX0_laysLevels_32 rfl ?_
      refine tm_lv X [1, 2, 0] rfl ?_
      exact hk2 (x2_1 + (1 : Int32)) h22
    · skip
      refine tm_if_eq X 26 dX0_laysLevels_17 rfl ?_ ?_
      · skip
        refine tm_ldc X (268435456 : Int32) q847 dX0_laysLevels_26 ?_
        exact hk28 (268435456 : Int32)
      · skip
        refine tm_aload_n X 1 dX0_laysLevels_20 rfl rfl ?_
        refine tm_iload_n X 2 dX0_laysLevels_21 rfl rfl ?_
        refine tm_iaload X (arX_42 ad dA tt) dX0_laysLevels_22 ?_
        refine tm_goto X 28 dX0_laysLevels_23 rfl ?_
        exact hk28 (h2 42 x2_1.toNatClampNeg)
set_option maxHeartbeats 4000000 in
theorem ctX0_laysLevels_43 (l : Launch) (D : va_G) (ad : Nat → Nat) (dA : Nat → ClassId) (tt : (Nat → Option Nat) × (Nat → Option Nat) × va_W) (h : Hp)  (h' : Hp) (hm : mX0_laysLevels 43 h = some h') : CT l yX0_laysLevels cX0_laysLevels 6 none D dA 3 63 0 0 (wX ad dA tt h) [.ref (ad 100), .ref (ad 43)] none (wX ad dA tt h') := by
  refine ct_open (by decide) (Nat.le_of_ble_eq_true rfl) ?_
  intro G X hI hZ hV hR
  have hRet := hV rfl rfl
  refine (show TM G h' (mX0_laysLevels 43 h) (wX ad dA tt h) 0 0 0 [(0, .ref (ad 100)), (1, .ref (ad 43))] [] from ?_) hm
  clear hm hI hZ hV hR
  unfold mX0_laysLevels
  refine tm_iconst X (0 : Int32) dX0_laysLevels_0 (by decide) ?_
  refine tm_istore_n X [(2, .int (0 : Int32)), (0, .ref (ad 100)), (1, .ref (ad 43))] dX0_laysLevels_1 rfl (Nat.le_of_ble_eq_true rfl) rfl ?_
  refine tm_lv X [1, 2, 0] rfl ?_
  refine fx_P (fun (k : Int32 → Hp → Option (Hp)) => ∀ (x2_1 : Int32) (h2 : Hp), TM G h' (k x2_1 h2) (wX ad dA tt h2) 0 0 2 [(0, .ref (ad 100)), (1, .ref (ad 43)), (2, .int x2_1)] []) (fun _ _ => tm_none) (fun k2 hk2 x2_1 h2 => ?_) FU (0 : Int32) h
  refine tm_iload_n X 2 dX0_laysLevels_2 rfl rfl ?_
  refine tm_bipush X (48 : Int32) dX0_laysLevels_3 (by decide) ?_
  refine tm_ic_ge X 35 dX0_laysLevels_5 rfl ?_ ?_
  · skip
    refine tm_iconst X (1 : Int32) dX0_laysLevels_35 (by decide) ?_
    refine tm_istore_n X [(2, .int (1 : Int32)), (0, .ref (ad 100)), (1, .ref (ad 43))] dX0_laysLevels_36 rfl (Nat.le_of_ble_eq_true rfl) rfl ?_
    refine tm_lv X [1, 2, 0] rfl ?_
    refine fx_P (fun (k : Int32 → Hp → Option (Hp)) => ∀ (x2_3 : Int32) (h4 : Hp), TM G h' (k x2_3 h4) (wX ad dA tt h4) 0 0 37 [(0, .ref (ad 100)), (1, .ref (ad 43)), (2, .int x2_3)] []) (fun _ _ => tm_none) (fun k37 hk37 x2_3 h4 => ?_) FU (1 : Int32) h2
    refine tm_iload_n X 2 dX0_laysLevels_37 rfl rfl ?_
    refine tm_if_eq X 125 dX0_laysLevels_38 rfl ?_ ?_
    · skip
      exact tm_retV (wf := wX ad dA tt) hRet dX0_laysLevels_125
    · skip
      refine tm_iconst X (0 : Int32) dX0_laysLevels_41 (by decide) ?_
      refine tm_istore_n X [(2, .int (0 : Int32)), (0, .ref (ad 100)), (1, .ref (ad 43))] dX0_laysLevels_42 rfl (Nat.le_of_ble_eq_true rfl) rfl ?_
      refine tm_iconst X (0 : Int32) dX0_laysLevels_43 (by decide) ?_
      refine tm_istore_n X [(3, .int (0 : Int32)), (2, .int (0 : Int32)), (0, .ref (ad 100)), (1, .ref (ad 43))] dX0_laysLevels_44 rfl (Nat.le_of_ble_eq_true rfl) rfl ?_
      refine tm_lv X [2, 3, 1, 0] rfl ?_
      refine fx_P (fun (k : Int32 → Int32 → Hp → Option (Hp)) => ∀ (x2_5 : Int32) (x3_6 : Int32) (h7 : Hp), TM G h' (k x2_5 x3_6 h7) (wX ad dA tt h7) 0 0 45 [(0, .ref (ad 100)), (1, .ref (ad 43)), (2, .int x2_5), (3, .int x3_6)] []) (fun _ _ _ => tm_none) (fun k45 hk45 x2_5 x3_6 h7 => ?_) FU (0 : Int32) (0 : Int32) h4
      refine tm_iload_n X 3 dX0_laysLevels_45 rfl rfl ?_
      refine tm_bipush X (48 : Int32) dX0_laysLevels_46 (by decide) ?_
      refine tm_ic_ge X 122 dX0_laysLevels_48 rfl ?_ ?_
      · skip
        refine tm_goto X 37 dX0_laysLevels_122 rfl ?_
        refine tm_lv X [0, 1, 2] rfl ?_
        exact hk37 x2_5 h7
      · skip
        refine tm_iconst X (0 : Int32) dX0_laysLevels_51 (by decide) ?_
        refine tm_istore X [(4, .int (0 : Int32)), (0, .ref (ad 100)), (1, .ref (ad 43)), (2, .int x2_5), (3, .int x3_6)] dX0_laysLevels_52 (Nat.le_of_ble_eq_true rfl) rfl ?_
        refine tm_lv X [1, 2, 3, 4, 0] rfl ?_
        refine fx_P (fun (k : Int32 → Int32 → Hp → Option (Hp)) => ∀ (x2_8 : Int32) (x4_9 : Int32) (h10 : Hp), TM G h' (k x2_8 x4_9 h10) (wX ad dA tt h10) 0 0 54 [(0, .ref (ad 100)), (1, .ref (ad 43)), (2, .int x2_8), (3, .int x3_6), (4, .int x4_9)] []) (fun _ _ _ => tm_none) (fun k54 hk54 x2_8 x4_9 h10 => ?_) FU x2_5 (0 : Int32) h7
        refine tm_iload X 4 dX0_laysLevels_54 rfl ?_
        refine tm_iconst X (4 : Int32) dX0_laysLevels_56 (by decide) ?_
        refine tm_let (fun k => TM G h' k (wX ad dA tt h10) 0 0 116 [(0, .ref (ad 100)), (1, .ref (ad 43)), (2, .int x2_8), (3, .int x3_6)] []) ?_ (fun k116 hk116 => ?_)
        · skip
          refine tm_iinc (v := (1 : Int32)) X 3 [(3, .int (x3_6 + (1 : Int32))), (0, .ref (ad 100)), (1, .ref (ad 43)), (2, .int x2_8)] dX0_laysLevels_116 rfl (by decide) (Nat.le_of_ble_eq_true rfl) rfl ?_
          refine tm_goto X 45 dX0_laysLevels_119 rfl ?_
          refine tm_lv X [1, 2, 3, 0] rfl ?_
          exact hk45 x2_8 (x3_6 + (1 : Int32)) h10
        · skip
          refine tm_ic_ge X 116 dX0_laysLevels_57 rfl ?_ ?_
          · skip
            refine tm_lv X [0, 1, 2, 3] rfl ?_
            exact hk116
          · skip
            refine tm_iload_n X 3 dX0_laysLevels_60 rfl rfl ?_
            refine tm_cl1 (fun r11 e12 => ?_)
            refine tm_callSi (As := [.int x3_6]) (rest := []) X (ctX0_isRim l D dA x3_6 r11 e12) (lw_S q1034 q1035 q117 q1036) cyX0_isRim rfl ⟨(Nat.le_of_ble_eq_true rfl), (Nat.le_of_ble_eq_true rfl)⟩ (Nat.le_of_ble_eq_true rfl) dX0_laysLevels_61 ⟨Nat.le_of_ble_eq_true rfl, Nat.le_of_ble_eq_true rfl⟩ rfl ?_
            refine tm_if_ne X 116 dX0_laysLevels_64 rfl ?_ ?_
            · skip
              refine tm_lv X [0, 1, 2, 3] rfl ?_
              exact hk116
            · skip
              refine tm_aload_n X 1 dX0_laysLevels_67 rfl rfl ?_
              refine tm_iload_n X 3 dX0_laysLevels_68 rfl rfl ?_
              refine tm_iaload X (arX_43 ad dA tt) dX0_laysLevels_69 ?_
              refine tm_aload_n X 0 dX0_laysLevels_70 rfl rfl ?_
              refine tm_getR X (frX_100_20 ad dA tt h10) in_X0 rfl (Nat.le_of_ble_eq_true rfl) q260 rfl dX0_laysLevels_71 ?_
              refine tm_iload_n X 3 dX0_laysLevels_74 rfl rfl ?_
              refine tm_iload X 4 dX0_laysLevels_75 rfl ?_
              refine tm_cl1 (fun r13 e14 => ?_)
              refine tm_callSi (As := [.int x3_6, .int x4_9]) (rest := [.ref (ad 20), .int (h10 43 x3_6.toNatClampNeg)]) X (ctX0_beside l D dA x3_6 x4_9 r13 e14) (lw_S q932 q933 q117 q934) cyX0_beside rfl ⟨(Nat.le_of_ble_eq_true rfl), (Nat.le_of_ble_eq_true rfl)⟩ (Nat.le_of_ble_eq_true rfl) dX0_laysLevels_77 ⟨Nat.le_of_ble_eq_true rfl, Nat.le_of_ble_eq_true rfl⟩ rfl ?_
              refine tm_iaload X (arX_20 ad dA tt) dX0_laysLevels_80 ?_
              refine tm_mmax X q878 (Nat.le_of_ble_eq_true rfl) (Nat.le_of_ble_eq_true rfl) ⟨Nat.le_of_ble_eq_true rfl, Nat.le_of_ble_eq_true rfl⟩ dX0_laysLevels_81 ?_
              refine tm_nmI (fun v15 => ?_)
              refine tm_istore X [(5, .int v15), (0, .ref (ad 100)), (1, .ref (ad 43)), (2, .int x2_8), (3, .int x3_6), (4, .int x4_9)] dX0_laysLevels_84 (Nat.le_of_ble_eq_true rfl) rfl ?_
              refine tm_iload X 0 dX0_laysLevels_86 rfl ?_
              refine tm_aload_n X 1 dX0_laysLevels_88 rfl rfl ?_
              refine tm_getR X (frX_100_20 ad dA tt h10) in_X0 rfl (Nat.le_of_ble_eq_true rfl) q260 rfl dX0_laysLevels_89 ?_
              refine tm_iload_n X 4 dX0_laysLevels_92 rfl rfl ?_
              refine tm_iaload X (arX_20 ad dA tt) dX0_laysLevels_93 ?_
              refine tm_let (fun k => ∀ (x2_16 : Int32) (h17 : Hp), TM G h' (k x2_16 h17) (wX ad dA tt h17) 0 0 110 [(0, .ref (ad 100)), (1, .ref (ad 43)), (2, .int x2_16), (3, .int x3_6), (4, .int x4_9)] []) ?_ (fun k110 hk110 => ?_)
              · intro x2_16 h17
                refine tm_iinc (v := (1 : Int32)) X 4 [(4, .int (x4_9 + (1 : Int32))), (0, .ref (ad 100)), (1, .ref (ad 43)), (2, .int x2_16), (3, .int x3_6)] dX0_laysLevels_110 rfl (by decide) (Nat.le_of_ble_eq_true rfl) rfl ?_
                refine tm_goto X 54 dX0_laysLevels_113 rfl ?_
                refine tm_lv X [1, 2, 3, 4, 0] rfl ?_
                exact hk54 x2_16 (x4_9 + (1 : Int32)) h17
              · skip
                refine tm_ic_lt X 100 dX0_laysLevels_94 rfl ?_ ?_
                · skip
                  refine tm_aload_n X 1 dX0_laysLevels_100 rfl rfl ?_
                  refine tm_getR X (frX_100_20 ad dA tt h10) in_X0 rfl (Nat.le_of_ble_eq_true rfl) q260 rfl dX0_laysLevels_101 ?_
                  refine tm_iload_n X 4 dX0_laysLevels_104 rfl rfl ?_
                  refine tm_iload X 0 dX0_laysLevels_105 rfl ?_
                  refine tm_iastore X (arX_20 ad dA tt) dX0_laysLevels_107 (fun h18 => ?_)
                  refine tm_iconst X (1 : Int32) dX0_laysLevels_108 (by decide) ?_
                  refine tm_istore_n X [(2, .int (1 : Int32)), (5, .int v15), (0, .ref (ad 100)), (1, .ref (ad 43)), (3, .int x3_6), (4, .int x4_9)] dX0_laysLevels_109 rfl (Nat.le_of_ble_eq_true rfl) rfl ?_
                  refine tm_lv X [2, 3, 0, 4, 5] rfl ?_
                  exact hk110 (1 : Int32) h18
                · skip
                  refine tm_goto X 110 dX0_laysLevels_97 rfl ?_
                  refine tm_lv X [1, 2, 3, 4, 5] rfl ?_
                  exact hk110 x2_8 h10
  · skip
    refine tm_aload_n X 0 dX0_laysLevels_8 rfl rfl ?_
    refine tm_getR X (frX_100_20 ad dA tt h2) in_X0 rfl (Nat.le_of_ble_eq_true rfl) q260 rfl dX0_laysLevels_9 ?_
    refine tm_iload_n X 2 dX0_laysLevels_12 rfl rfl ?_
    refine tm_iload_n X 2 dX0_laysLevels_13 rfl rfl ?_
    refine tm_cl1 (fun r19 e20 => ?_)
    refine tm_callSi (As := [.int x2_1]) (rest := [.int x2_1, .ref (ad 20)]) X (ctX0_isRim l D dA x2_1 r19 e20) (lw_S q1034 q1035 q117 q1036) cyX0_isRim rfl ⟨(Nat.le_of_ble_eq_true rfl), (Nat.le_of_ble_eq_true rfl)⟩ (Nat.le_of_ble_eq_true rfl) dX0_laysLevels_14 ⟨Nat.le_of_ble_eq_true rfl, Nat.le_of_ble_eq_true rfl⟩ rfl ?_
    refine tm_let (fun k => ∀ (s21 : Int32), TM G h' (k s21) (wX ad dA tt h2) 0 0 28 [(0, .ref (ad 100)), (1, .ref (ad 43)), (2, .int x2_1)] [.int s21, .int x2_1, .ref (ad 20)]) ?_ (fun k28 hk28 => ?_)
    · intro s21
      refine tm_iastore X (arX_20 ad dA tt) dX0_laysLevels_28 (fun h22 => ?_)
      refine tm_iinc (v := (1 : Int32)) X 2 [(2, .int (x2_1 + (1 : Int32))), (0, .ref (ad 100)), (1, .ref (ad 43))] dX0_laysLevels_29 rfl (by decide) (Nat.le_of_ble_eq_true rfl) rfl ?_
      refine tm_goto X 2 dX0_laysLevels_32 rfl ?_
      refine tm_lv X [1, 2, 0] rfl ?_
      exact hk2 (x2_1 + (1 : Int32)) h22
    · skip
      refine tm_if_eq X 26 dX0_laysLevels_17 rfl ?_ ?_
      · skip
        refine tm_ldc X (268435456 : Int32) q847 dX0_laysLevels_26 ?_
        exact hk28 (268435456 : Int32)
      · skip
        refine tm_aload_n X 1 dX0_laysLevels_20 rfl rfl ?_
        refine tm_iload_n X 2 dX0_laysLevels_21 rfl rfl ?_
        refine tm_iaload X (arX_43 ad dA tt) dX0_laysLevels_22 ?_
        refine tm_goto X 28 dX0_laysLevels_23 rfl ?_
        exact hk28 (h2 43 x2_1.toNatClampNeg)
theorem ctX0_laysLevels_row (j : Nat) (hj : j < 2) (l : Launch) (D : va_G) (ad : Nat → Nat) (dA : Nat → ClassId) (tt : (Nat → Option Nat) × (Nat → Option Nat) × va_W) (h : Hp) (h' : Hp) (hm : mX0_laysLevels (42 + j) h = some h') : CT l yX0_laysLevels cX0_laysLevels 6 none D dA 3 63 0 0 (wX ad dA tt h) [.ref (ad 100), .ref (ad (42 + j))] none (wX ad dA tt h') := by
  rcases (show j = 0 ∨ j = 1 by omega) with e | e
  · subst e
    exact ctX0_laysLevels_42 l D ad dA tt h h' hm
  · subst e
    exact ctX0_laysLevels_43 l D ad dA tt h h' hm
def mX0_pools (h : Hp) (x1 : Int32) (x2 : Int32) : Option (Int32 × Hp) :=
cl1 (mX0_isCast x1) (fun r1 =>
nm (
some ((-1 : Int32), h)) (fun k15 =>
if r1 = 0 then (
k15) else (
cl1 (mX0_in x2 (2 : Int32)) (fun r3 =>
if r3 = 0 then (
k15) else (
ck x1 2 (
cl1 (mX0_laysLevels (42 + x1.toNatClampNeg) h) (fun h7 =>
fx FU (fun _ _ => none) (fun k35 (x3_8 : Int32) (x4_9 : Int32) =>
if (48 : Int32) ≤ x4_9 then (
some (x3_8, h7)) else (
ck x4_9 48 (
ck x1 2 (
ck x4_9 48 (
nm (((h7 20 x4_9.toNatClampNeg) - (h7 (42 + x1.toNatClampNeg) x4_9.toNatClampNeg))) (fun v11 =>
nm (fun (s12 : Int32) =>
nm ((x3_8 + s12)) (fun v13 =>
k35 v13 (x4_9 + (1 : Int32)))) (fun k84 =>
if x2 = 0 then (
k84 v11) else (
if v11 ≤ 0 then (
k84 (0 : Int32)) else (
k84 (1 : Int32)))))))))) (0 : Int32) (0 : Int32))))))))
theorem cyX0_pools : Callee yX0_pools 2 := by unfold Callee; decide +kernel
set_option maxHeartbeats 4000000 in
theorem ctX0_pools (l : Launch) (D : va_G) (ad : Nat → Nat) (dA : Nat → ClassId) (tt : (Nat → Option Nat) × (Nat → Option Nat) × va_W) (h : Hp) (x1 : Int32) (x2 : Int32) (r : Int32) (h' : Hp) (hm : mX0_pools h x1 x2 = some (r, h')) : CT l yX0_pools cX0_pools 6 (some .int) D dA 4 88 0 0 (wX ad dA tt h) [.ref (ad 100), .int x1, .int x2] (some (.int r)) (wX ad dA tt h') := by
  refine ct_open (by decide) (Nat.le_of_ble_eq_true rfl) ?_
  intro G X hI hZ hV hR
  have hRet := hI rfl r rfl
  refine (show TM G (r, h') (mX0_pools h x1 x2) (wX ad dA tt h) 0 0 0 [(0, .ref (ad 100)), (1, .int x1), (2, .int x2)] [] from ?_) hm
  clear hm hI hZ hV hR
  unfold mX0_pools
  refine tm_iload_n X 1 dX0_pools_0 rfl rfl ?_
  refine tm_cl1 (fun r1 e2 => ?_)
  refine tm_callSi (As := [.int x1]) (rest := []) X (ctX0_isCast l D dA x1 r1 e2) (lw_S q308 q309 q117 q310) cyX0_isCast rfl ⟨(Nat.le_of_ble_eq_true rfl), (Nat.le_of_ble_eq_true rfl)⟩ (Nat.le_of_ble_eq_true rfl) dX0_pools_1 ⟨Nat.le_of_ble_eq_true rfl, Nat.le_of_ble_eq_true rfl⟩ rfl ?_
  refine tm_let (fun k => TM G (r, h') k (wX ad dA tt h) 0 0 15 [] []) ?_ (fun k15 hk15 => ?_)
  · skip
    refine tm_iconst X (-1 : Int32) dX0_pools_15 (by decide) ?_
    exact tm_retIH (wf := wX ad dA tt) hRet dX0_pools_16
  · skip
    refine tm_if_eq X 15 dX0_pools_4 rfl ?_ ?_
    · skip
      refine tm_lv X [] rfl ?_
      exact hk15
    · skip
      refine tm_iload_n X 2 dX0_pools_7 rfl rfl ?_
      refine tm_iconst X (2 : Int32) dX0_pools_8 (by decide) ?_
      refine tm_cl1 (fun r3 e4 => ?_)
      refine tm_callSi (As := [.int x2, .int (2 : Int32)]) (rest := []) X (ctX0_in l D dA x2 (2 : Int32) r3 e4) (lw_S q311 q312 q117 q313) cyX0_in rfl ⟨(Nat.le_of_ble_eq_true rfl), (Nat.le_of_ble_eq_true rfl)⟩ (Nat.le_of_ble_eq_true rfl) dX0_pools_9 ⟨Nat.le_of_ble_eq_true rfl, Nat.le_of_ble_eq_true rfl⟩ rfl ?_
      refine tm_if_ne X 17 dX0_pools_12 rfl ?_ ?_
      · skip
        refine tm_aload_n X 0 dX0_pools_17 rfl rfl ?_
        refine tm_aload_n X 0 dX0_pools_18 rfl rfl ?_
        refine tm_getR X (frX_100_5 ad dA tt h) in_X0 rfl (Nat.le_of_ble_eq_true rfl) q242 rfl dX0_pools_19 ?_
        refine tm_getRN X (frX_40_0 ad dA tt h) in_X3 rfl (Nat.le_of_ble_eq_true rfl) q179 rfl dX0_pools_22 ?_
        refine tm_iload_n X 1 dX0_pools_25 rfl rfl ?_
        refine tm_aaloadX X (aaX_41 ad dA tt h) dX0_pools_26 (fun hb5 => ?_)
        refine tm_cl1 (fun h7 e6 => ?_)
        refine tm_callVv (As := [.ref (ad (42 + x1.toNatClampNeg))]) (rest := []) (q0 := 0) X (ctX0_laysLevels_row _ hb5 l D ad dA tt h h7 e6) (lw_V q1030 q1032 qs41 q117 q1033) cyX0_laysLevels rfl rfl rfl ⟨(Nat.le_of_ble_eq_true rfl), (Nat.le_of_ble_eq_true rfl)⟩ (Nat.le_of_ble_eq_true rfl) dX0_pools_27 ⟨Nat.le_of_ble_eq_true rfl, Nat.le_of_ble_eq_true rfl⟩ rfl ?_
        refine tm_iconst X (0 : Int32) dX0_pools_30 (by decide) ?_
        refine tm_istore_n X [(3, .int (0 : Int32)), (0, .ref (ad 100)), (1, .int x1), (2, .int x2)] dX0_pools_31 rfl (Nat.le_of_ble_eq_true rfl) rfl ?_
        refine tm_iconst X (0 : Int32) dX0_pools_32 (by decide) ?_
        refine tm_istore X [(4, .int (0 : Int32)), (3, .int (0 : Int32)), (0, .ref (ad 100)), (1, .int x1), (2, .int x2)] dX0_pools_33 (Nat.le_of_ble_eq_true rfl) rfl ?_
        refine tm_lv X [2, 3, 4, 1, 0] rfl ?_
        refine fx_P (fun (k : Int32 → Int32 → Option (Int32 × Hp)) => ∀ (x3_8 : Int32) (x4_9 : Int32), TM G (r, h') (k x3_8 x4_9) (wX ad dA tt h7) 0 0 35 [(0, .ref (ad 100)), (1, .int x1), (2, .int x2), (3, .int x3_8), (4, .int x4_9)] []) (fun _ _ => tm_none) (fun k35 hk35 x3_8 x4_9 => ?_) FU (0 : Int32) (0 : Int32)
        refine tm_iload X 4 dX0_pools_35 rfl ?_
        refine tm_bipush X (48 : Int32) dX0_pools_37 (by decide) ?_
        refine tm_ic_ge X 92 dX0_pools_39 rfl ?_ ?_
        · skip
          refine tm_iload_n X 3 dX0_pools_92 rfl rfl ?_
          exact tm_retIH (wf := wX ad dA tt) hRet dX0_pools_93
        · skip
          refine tm_aload_n X 0 dX0_pools_42 rfl rfl ?_
          refine tm_getR X (frX_100_20 ad dA tt h7) in_X0 rfl (Nat.le_of_ble_eq_true rfl) q260 rfl dX0_pools_43 ?_
          refine tm_iload X 4 dX0_pools_46 rfl ?_
          refine tm_iaload X (arX_20 ad dA tt) dX0_pools_48 ?_
          refine tm_aload_n X 0 dX0_pools_49 rfl rfl ?_
          refine tm_getR X (frX_100_5 ad dA tt h7) in_X0 rfl (Nat.le_of_ble_eq_true rfl) q242 rfl dX0_pools_50 ?_
          refine tm_getRN X (frX_40_0 ad dA tt h7) in_X3 rfl (Nat.le_of_ble_eq_true rfl) q179 rfl dX0_pools_53 ?_
          refine tm_iload_n X 1 dX0_pools_56 rfl rfl ?_
          refine tm_aaloadX X (aaX_41 ad dA tt h7) dX0_pools_57 (fun hb10 => ?_)
          refine tm_iload X 4 dX0_pools_58 rfl ?_
          refine tm_iaload X (ar2X_42 ad dA tt _ hb10) dX0_pools_60 ?_
          refine tm_isub X dX0_pools_61 ?_
          refine tm_nmI (fun v11 => ?_)
          refine tm_istore X [(5, .int v11), (0, .ref (ad 100)), (1, .int x1), (2, .int x2), (3, .int x3_8), (4, .int x4_9)] dX0_pools_62 (Nat.le_of_ble_eq_true rfl) rfl ?_
          refine tm_iload_n X 4 dX0_pools_64 rfl rfl ?_
          refine tm_iload_n X 3 dX0_pools_65 rfl rfl ?_
          refine tm_let (fun k => ∀ (s12 : Int32), TM G (r, h') (k s12) (wX ad dA tt h7) 0 0 84 [(0, .ref (ad 100)), (1, .int x1), (2, .int x2), (4, .int x4_9)] [.int s12, .int x3_8]) ?_ (fun k84 hk84 => ?_)
          · intro s12
            refine tm_iadd X dX0_pools_84 ?_
            refine tm_nmI (fun v13 => ?_)
            refine tm_istore_n X [(3, .int v13), (0, .ref (ad 100)), (1, .int x1), (2, .int x2), (4, .int x4_9)] dX0_pools_85 rfl (Nat.le_of_ble_eq_true rfl) rfl ?_
            refine tm_iinc (v := (1 : Int32)) X 4 [(4, .int (x4_9 + (1 : Int32))), (3, .int v13), (0, .ref (ad 100)), (1, .int x1), (2, .int x2)] dX0_pools_86 rfl (by decide) (Nat.le_of_ble_eq_true rfl) rfl ?_
            refine tm_goto X 35 dX0_pools_89 rfl ?_
            refine tm_lv X [2, 3, 4, 1, 0] rfl ?_
            exact hk35 v13 (x4_9 + (1 : Int32))
          · skip
            refine tm_if_ne X 74 dX0_pools_66 rfl ?_ ?_
            · skip
              refine tm_iload X 0 dX0_pools_74 rfl ?_
              refine tm_if_le X 83 dX0_pools_76 rfl ?_ ?_
              · skip
                refine tm_iconst X (0 : Int32) dX0_pools_83 (by decide) ?_
                refine tm_lv X [1, 2, 3, 5] rfl ?_
                exact hk84 (0 : Int32)
              · skip
                refine tm_iconst X (1 : Int32) dX0_pools_79 (by decide) ?_
                refine tm_goto X 84 dX0_pools_80 rfl ?_
                refine tm_lv X [1, 2, 3, 5] rfl ?_
                exact hk84 (1 : Int32)
            · skip
              refine tm_iload X 0 dX0_pools_69 rfl ?_
              refine tm_goto X 84 dX0_pools_71 rfl ?_
              refine tm_lv X [1, 2, 3, 5] rfl ?_
              exact hk84 v11
      · skip
        refine tm_lv X [] rfl ?_
        exact hk15
