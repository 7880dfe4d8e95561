set_option maxRecDepth 100000
def mX5_turnedOver (h : Hp) (x1 : Int32) : Option (Int32) :=
cl1 (mX5_in x1 (0 : Int32) (1 : Int32)) (fun r1 =>
if r1 = 0 then (
some (-1 : Int32)) else (
fx FU (fun _ _ _ => none) (fun k18 (x2_3 : Int32) (x3_4 : Int32) (x4_5 : Int32) =>
if (48 : Int32) ≤ x4_5 then (
nm (fun (s6 : Int32) =>
some s6) (fun k105 =>
if x1 = 0 then (
k105 x2_3) else (
k105 x3_4))) else (
cl1 (mX5_upperAt h x4_5) (fun r8 =>
cl1 (mX5_lowerAt h (((x4_5 - (jrem x4_5 (8 : Int32))) + (7 : Int32)) - (jrem x4_5 (8 : Int32)))) (fun r10 =>
nm ((r8 + r10)) (fun v11 =>
nm (fun (s12 : Int32) =>
cl1 (mX5_max x2_3 v11) (fun r13 =>
k18 r13 s12 (x4_5 + (1 : Int32)))) (fun k82 =>
nm (
k82 (1 : Int32)) (fun k65 =>
if x2_3 < v11 then (
k65) else (
if x3_4 = 0 then (
k65) else (
if v11 = x2_3 then (
k82 (x3_4 + (1 : Int32))) else (
k82 x3_4)))))))))) (0 : Int32) (0 : Int32) (0 : Int32)))
theorem cyX5_turnedOver : Callee yX5_turnedOver 1 := by unfold Callee; decide +kernel
set_option maxHeartbeats 4000000 in
theorem ctX5_turnedOver (l : Launch) (D : va_G) (ad : Nat → Nat) (dA : Nat → ClassId) (h : Hp) (x1 : Int32) (r : Int32) (hm : mX5_turnedOver h x1 = some r) : CT l yX5_turnedOver cX5_turnedOver 6 (some .int) D dA 1 22 0 0 (wM ad dA h) [.ref (ad 300), .int x1] (some (.int r)) (wM ad dA h) := by
  refine ct_open (by decide) (Nat.le_of_ble_eq_true rfl) ?_
  intro G X hI hZ hV hR
  have hRet := hI rfl r rfl
  refine (show TM G r (mX5_turnedOver h x1) (wM ad dA h) 0 0 0 [(0, .ref (ad 300)), (1, .int x1)] [] from ?_) hm
  clear hm hI hZ hV hR
  unfold mX5_turnedOver
  refine tm_iload_n X 1 dX5_turnedOver_0 rfl rfl ?_
  refine tm_iconst X (0 : Int32) dX5_turnedOver_1 (by decide) ?_
  refine tm_iconst X (1 : Int32) dX5_turnedOver_2 (by decide) ?_
  refine tm_cl1 (fun r1 e2 => ?_)
  refine tm_callSi (As := [.int x1, .int (0 : Int32), .int (1 : Int32)]) (rest := []) X (ctX5_in l D dA x1 (0 : Int32) (1 : Int32) r1 e2) (lw_S q1366 q1367 q122 q1368) cyX5_in rfl ⟨(Nat.le_of_ble_eq_true rfl), (Nat.le_of_ble_eq_true rfl)⟩ (Nat.le_of_ble_eq_true rfl) dX5_turnedOver_3 ⟨Nat.le_of_ble_eq_true rfl, Nat.le_of_ble_eq_true rfl⟩ rfl ?_
  refine tm_if_ne X 11 dX5_turnedOver_6 rfl ?_ ?_
  · skip
    refine tm_iconst X (0 : Int32) dX5_turnedOver_11 (by decide) ?_
    refine tm_istore_n X [(2, .int (0 : Int32)), (0, .ref (ad 300)), (1, .int x1)] dX5_turnedOver_12 rfl (Nat.le_of_ble_eq_true rfl) rfl ?_
    refine tm_iconst X (0 : Int32) dX5_turnedOver_13 (by decide) ?_
    refine tm_istore_n X [(3, .int (0 : Int32)), (2, .int (0 : Int32)), (0, .ref (ad 300)), (1, .int x1)] dX5_turnedOver_14 rfl (Nat.le_of_ble_eq_true rfl) rfl ?_
    refine tm_iconst X (0 : Int32) dX5_turnedOver_15 (by decide) ?_
    refine tm_istore X [(4, .int (0 : Int32)), (3, .int (0 : Int32)), (2, .int (0 : Int32)), (0, .ref (ad 300)), (1, .int x1)] dX5_turnedOver_16 (Nat.le_of_ble_eq_true rfl) rfl ?_
    refine tm_lv X [3, 4, 2, 1, 0] rfl ?_
    refine fx_P (fun (k : Int32 → Int32 → Int32 → Option (Int32)) => ∀ (x2_3 : Int32) (x3_4 : Int32) (x4_5 : Int32), TM G r (k x2_3 x3_4 x4_5) (wM ad dA h) 0 0 18 [(0, .ref (ad 300)), (1, .int x1), (2, .int x2_3), (3, .int x3_4), (4, .int x4_5)] []) (fun _ _ _ => tm_none) (fun k18 hk18 x2_3 x3_4 x4_5 => ?_) FU (0 : Int32) (0 : Int32) (0 : Int32)
    refine tm_iload X 4 dX5_turnedOver_18 rfl ?_
    refine tm_bipush X (48 : Int32) dX5_turnedOver_20 (by decide) ?_
    refine tm_ic_ge X 96 dX5_turnedOver_22 rfl ?_ ?_
    · skip
      refine tm_iload_n X 1 dX5_turnedOver_96 rfl rfl ?_
      refine tm_let (fun k => ∀ (s6 : Int32), TM G r (k s6) (wM ad dA h) 0 0 105 [] [.int s6]) ?_ (fun k105 hk105 => ?_)
      · intro s6
        exact tm_retI hRet dX5_turnedOver_105
      · skip
        refine tm_if_ne X 104 dX5_turnedOver_97 rfl ?_ ?_
        · skip
          refine tm_iload_n X 3 dX5_turnedOver_104 rfl rfl ?_
          refine tm_lv X [] rfl ?_
          exact hk105 x3_4
        · skip
          refine tm_iload_n X 2 dX5_turnedOver_100 rfl rfl ?_
          refine tm_goto X 105 dX5_turnedOver_101 rfl ?_
          refine tm_lv X [] rfl ?_
          exact hk105 x2_3
    · skip
      refine tm_aload_n X 0 dX5_turnedOver_25 rfl rfl ?_
      refine tm_iload X 4 dX5_turnedOver_26 rfl ?_
      refine tm_cl1 (fun r8 e7 => ?_)
      refine tm_callVi (As := [.int x4_5]) (rest := []) (q0 := 0) X (ctX5_upperAt l D ad dA h x4_5 r8 e7) (lw_V q1531 q1533 qs77 q122 q1534) cyX5_upperAt rfl rfl rfl ⟨(Nat.le_of_ble_eq_true rfl), (Nat.le_of_ble_eq_true rfl)⟩ (Nat.le_of_ble_eq_true rfl) dX5_turnedOver_28 ⟨Nat.le_of_ble_eq_true rfl, Nat.le_of_ble_eq_true rfl⟩ rfl ?_
      refine tm_aload_n X 0 dX5_turnedOver_31 rfl rfl ?_
      refine tm_iload X 4 dX5_turnedOver_32 rfl ?_
      refine tm_iload X 4 dX5_turnedOver_34 rfl ?_
      refine tm_bipush X (8 : Int32) dX5_turnedOver_36 (by decide) ?_
      refine tm_irem X dX5_turnedOver_38 (by decide) ?_
      refine tm_isub X dX5_turnedOver_39 ?_
      refine tm_bipush X (7 : Int32) dX5_turnedOver_40 (by decide) ?_
      refine tm_iadd X dX5_turnedOver_42 ?_
      refine tm_iload X 4 dX5_turnedOver_43 rfl ?_
      refine tm_bipush X (8 : Int32) dX5_turnedOver_45 (by decide) ?_
      refine tm_irem X dX5_turnedOver_47 (by decide) ?_
      refine tm_isub X dX5_turnedOver_48 ?_
      refine tm_cl1 (fun r10 e9 => ?_)
      refine tm_callVi (As := [.int (((x4_5 - (jrem x4_5 (8 : Int32))) + (7 : Int32)) - (jrem x4_5 (8 : Int32)))]) (rest := [.int r8]) (q0 := 0) X (ctX5_lowerAt l D ad dA h (((x4_5 - (jrem x4_5 (8 : Int32))) + (7 : Int32)) - (jrem x4_5 (8 : Int32))) r10 e9) (lw_V q1535 q1537 qs78 q122 q1538) cyX5_lowerAt rfl rfl rfl ⟨(Nat.le_of_ble_eq_true rfl), (Nat.le_of_ble_eq_true rfl)⟩ (Nat.le_of_ble_eq_true rfl) dX5_turnedOver_49 ⟨Nat.le_of_ble_eq_true rfl, Nat.le_of_ble_eq_true rfl⟩ rfl ?_
      refine tm_iadd X dX5_turnedOver_52 ?_
      refine tm_nmI (fun v11 => ?_)
      refine tm_istore X [(5, .int v11), (0, .ref (ad 300)), (1, .int x1), (2, .int x2_3), (3, .int x3_4), (4, .int x4_5)] dX5_turnedOver_53 (Nat.le_of_ble_eq_true rfl) rfl ?_
      refine tm_iload X 0 dX5_turnedOver_55 rfl ?_
      refine tm_iload_n X 3 dX5_turnedOver_57 rfl rfl ?_
      refine tm_let (fun k => ∀ (s12 : Int32), TM G r (k s12) (wM ad dA h) 0 0 82 [(0, .ref (ad 300)), (1, .int x1), (2, .int x2_3), (4, .int x4_5), (5, .int v11)] [.int s12]) ?_ (fun k82 hk82 => ?_)
      · intro s12
        refine tm_istore_n X [(3, .int s12), (0, .ref (ad 300)), (1, .int x1), (2, .int x2_3), (4, .int x4_5), (5, .int v11)] dX5_turnedOver_82 rfl (Nat.le_of_ble_eq_true rfl) rfl ?_
        refine tm_iload_n X 3 dX5_turnedOver_83 rfl rfl ?_
        refine tm_iload X 5 dX5_turnedOver_84 rfl ?_
        refine tm_cl1 (fun r13 e14 => ?_)
        refine tm_callSi (As := [.int x2_3, .int v11]) (rest := []) X (ctX5_max l D dA x2_3 v11 r13 e14) (lw_S q1539 q1540 q122 q1541) cyX5_max rfl ⟨(Nat.le_of_ble_eq_true rfl), (Nat.le_of_ble_eq_true rfl)⟩ (Nat.le_of_ble_eq_true rfl) dX5_turnedOver_86 ⟨Nat.le_of_ble_eq_true rfl, Nat.le_of_ble_eq_true rfl⟩ rfl ?_
        refine tm_istore_n X [(2, .int r13), (3, .int s12), (0, .ref (ad 300)), (1, .int x1), (4, .int x4_5), (5, .int v11)] dX5_turnedOver_89 rfl (Nat.le_of_ble_eq_true rfl) rfl ?_
        refine tm_iinc (v := (1 : Int32)) X 4 [(4, .int (x4_5 + (1 : Int32))), (2, .int r13), (3, .int s12), (0, .ref (ad 300)), (1, .int x1), (5, .int v11)] dX5_turnedOver_90 rfl (by decide) (Nat.le_of_ble_eq_true rfl) rfl ?_
        refine tm_goto X 18 dX5_turnedOver_93 rfl ?_
        refine tm_lv X [3, 4, 1, 2, 0] rfl ?_
        exact hk18 r13 s12 (x4_5 + (1 : Int32))
      · skip
        refine tm_let (fun k => TM G r k (wM ad dA h) 0 0 65 [(0, .ref (ad 300)), (1, .int x1), (2, .int x2_3), (4, .int x4_5), (5, .int v11)] []) ?_ (fun k65 hk65 => ?_)
        · skip
          refine tm_iconst X (1 : Int32) dX5_turnedOver_65 (by decide) ?_
          refine tm_goto X 82 dX5_turnedOver_66 rfl ?_
          exact hk82 (1 : Int32)
        · skip
          refine tm_ic_gt X 65 dX5_turnedOver_58 rfl ?_ ?_
          · skip
            refine tm_lv X [1, 2, 3, 5, 0] rfl ?_
            exact hk65
          · skip
            refine tm_iload_n X 4 dX5_turnedOver_61 rfl rfl ?_
            refine tm_if_ne X 69 dX5_turnedOver_62 rfl ?_ ?_
            · skip
              refine tm_iload X 0 dX5_turnedOver_69 rfl ?_
              refine tm_iload_n X 3 dX5_turnedOver_71 rfl rfl ?_
              refine tm_ic_ne X 81 dX5_turnedOver_72 rfl ?_ ?_
              · skip
                refine tm_iload_n X 4 dX5_turnedOver_81 rfl rfl ?_
                refine tm_lv X [1, 2, 3, 5, 0] rfl ?_
                exact hk82 x3_4
              · skip
                refine tm_iload_n X 4 dX5_turnedOver_75 rfl rfl ?_
                refine tm_iconst X (1 : Int32) dX5_turnedOver_76 (by decide) ?_
                refine tm_iadd X dX5_turnedOver_77 ?_
                refine tm_goto X 82 dX5_turnedOver_78 rfl ?_
                refine tm_lv X [1, 2, 3, 5, 0] rfl ?_
                exact hk82 (x3_4 + (1 : Int32))
            · skip
              refine tm_lv X [1, 2, 3, 5, 0] rfl ?_
              exact hk65
  · skip
    refine tm_iconst X (-1 : Int32) dX5_turnedOver_9 (by decide) ?_
    exact tm_retI hRet dX5_turnedOver_10
def mX5_highOf (h : Hp) (x1 : Int32) (x2 : Int32) : Option (Int32) :=
nm ((((48 : Int32) * x1) + x2)) (fun v1 =>
ck v1 96 (
some (h 200 v1.toNatClampNeg)))
theorem cyX5_highOf : Callee yX5_highOf 2 := by unfold Callee; decide +kernel
set_option maxHeartbeats 4000000 in
theorem ctX5_highOf (l : Launch) (D : va_G) (ad : Nat → Nat) (dA : Nat → ClassId) (h : Hp) (x1 : Int32) (x2 : Int32) (r : Int32) (hm : mX5_highOf h x1 x2 = some r) : CT l yX5_highOf cX5_highOf 3 (some .int) D dA 0 0 0 0 (wM ad dA h) [.ref (ad 300), .int x1, .int x2] (some (.int r)) (wM ad dA h) := by
  refine ct_open (by decide) (Nat.le_of_ble_eq_true rfl) ?_
  intro G X hI hZ hV hR
  have hRet := hI rfl r rfl
  refine (show TM G r (mX5_highOf h x1 x2) (wM ad dA h) 0 0 0 [(0, .ref (ad 300)), (1, .int x1), (2, .int x2)] [] from ?_) hm
  clear hm hI hZ hV hR
  unfold mX5_highOf
  refine tm_aload_n X 0 dX5_highOf_0 rfl rfl ?_
  refine tm_getR X (frM_300_0 ad dA h) in_X5 rfl (Nat.le_of_ble_eq_true rfl) q1187 rfl dX5_highOf_1 ?_
  refine tm_bipush X (48 : Int32) dX5_highOf_4 (by decide) ?_
  refine tm_iload_n X 1 dX5_highOf_6 rfl rfl ?_
  refine tm_imul X dX5_highOf_7 ?_
  refine tm_iload_n X 2 dX5_highOf_8 rfl rfl ?_
  refine tm_iadd X dX5_highOf_9 ?_
  refine tm_nmI (fun v1 => ?_)
  refine tm_iaload X (arM_200 ad dA) dX5_highOf_10 ?_
  exact tm_retI hRet dX5_highOf_11
def mX5_isAbove (h : Hp) (x1 : Int32) (x2 : Int32) (x3 : Int32) : Option (Int32) :=
fx FU (fun _ => none) (fun k3 (x4_1 : Int32) =>
if (4 : Int32) ≤ x4_1 then (
bz (1 : Int32) (some (1 : Int32))) else (
cl1 (mX5_beside x2 x4_1) (fun r2 =>
nm (
k3 (x4_1 + (1 : Int32))) (fun k44 =>
if r2 = (-1 : Int32) then (
k44) else (
cl1 (mX5_highOf h x1 x2) (fun r5 =>
cl1 (mX5_highOf h x1 r2) (fun r7 =>
if 0 < (x3 * (r5 - r7)) then (
k44) else (
bz (0 : Int32) (some (0 : Int32)))))))))) (0 : Int32)
theorem cyX5_isAbove : Callee yX5_isAbove 3 := by unfold Callee; decide +kernel
set_option maxHeartbeats 4000000 in
theorem ctX5_isAbove (l : Launch) (D : va_G) (ad : Nat → Nat) (dA : Nat → ClassId) (h : Hp) (x1 : Int32) (x2 : Int32) (x3 : Int32) (r : Int32) (hm : mX5_isAbove h x1 x2 x3 = some r) : CT l yX5_isAbove cX5_isAbove 6 (some .boolean) D dA 2 45 0 0 (wM ad dA h) [.ref (ad 300), .int x1, .int x2, .int x3] (some (.int r)) (wM ad dA h) := by
  refine ct_open (by decide) (Nat.le_of_ble_eq_true rfl) ?_
  intro G X hI hZ hV hR
  have hRet := fun hv => hZ rfl r hv rfl
  refine (show TM G r (mX5_isAbove h x1 x2 x3) (wM ad dA h) 0 0 0 [(0, .ref (ad 300)), (1, .int x1), (2, .int x2), (3, .int x3)] [] from ?_) hm
  clear hm hI hZ hV hR
  unfold mX5_isAbove
  refine tm_iconst X (0 : Int32) dX5_isAbove_0 (by decide) ?_
  refine tm_istore X [(4, .int (0 : Int32)), (0, .ref (ad 300)), (1, .int x1), (2, .int x2), (3, .int x3)] dX5_isAbove_1 (Nat.le_of_ble_eq_true rfl) rfl ?_
  refine tm_lv X [1, 2, 3, 4, 0] rfl ?_
  refine fx_P (fun (k : Int32 → Option (Int32)) => ∀ (x4_1 : Int32), TM G r (k x4_1) (wM ad dA h) 0 0 3 [(0, .ref (ad 300)), (1, .int x1), (2, .int x2), (3, .int x3), (4, .int x4_1)] []) (fun _ => tm_none) (fun k3 hk3 x4_1 => ?_) FU (0 : Int32)
  refine tm_iload X 4 dX5_isAbove_3 rfl ?_
  refine tm_iconst X (4 : Int32) dX5_isAbove_5 (by decide) ?_
  refine tm_ic_ge X 50 dX5_isAbove_6 rfl ?_ ?_
  · skip
    refine tm_iconst X (1 : Int32) dX5_isAbove_50 (by decide) ?_
    exact tm_retZ hRet dX5_isAbove_51
  · skip
    refine tm_iload_n X 2 dX5_isAbove_9 rfl rfl ?_
    refine tm_iload X 4 dX5_isAbove_10 rfl ?_
    refine tm_cl1 (fun r2 e3 => ?_)
    refine tm_callSi (As := [.int x2, .int x4_1]) (rest := []) X (ctX5_beside l D dA x2 x4_1 r2 e3) (lw_S q1651 q1652 q122 q1653) cyX5_beside rfl ⟨(Nat.le_of_ble_eq_true rfl), (Nat.le_of_ble_eq_true rfl)⟩ (Nat.le_of_ble_eq_true rfl) dX5_isAbove_12 ⟨Nat.le_of_ble_eq_true rfl, Nat.le_of_ble_eq_true rfl⟩ rfl ?_
    refine tm_istore X [(5, .int r2), (0, .ref (ad 300)), (1, .int x1), (2, .int x2), (3, .int x3), (4, .int x4_1)] dX5_isAbove_15 (Nat.le_of_ble_eq_true rfl) rfl ?_
    refine tm_iload X 0 dX5_isAbove_17 rfl ?_
    refine tm_iconst X (-1 : Int32) dX5_isAbove_19 (by decide) ?_
    refine tm_let (fun k => TM G r k (wM ad dA h) 0 0 44 [(0, .ref (ad 300)), (1, .int x1), (2, .int x2), (3, .int x3), (4, .int x4_1)] []) ?_ (fun k44 hk44 => ?_)
    · skip
      refine tm_iinc (v := (1 : Int32)) X 4 [(4, .int (x4_1 + (1 : Int32))), (0, .ref (ad 300)), (1, .int x1), (2, .int x2), (3, .int x3)] dX5_isAbove_44 rfl (by decide) (Nat.le_of_ble_eq_true rfl) rfl ?_
      refine tm_goto X 3 dX5_isAbove_47 rfl ?_
      refine tm_lv X [1, 2, 3, 4, 0] rfl ?_
      exact hk3 (x4_1 + (1 : Int32))
    · skip
      refine tm_ic_eq X 44 dX5_isAbove_20 rfl ?_ ?_
      · skip
        refine tm_lv X [1, 2, 3, 4, 5] rfl ?_
        exact hk44
      · skip
        refine tm_iload_n X 4 dX5_isAbove_23 rfl rfl ?_
        refine tm_aload_n X 1 dX5_isAbove_24 rfl rfl ?_
        refine tm_iload_n X 2 dX5_isAbove_25 rfl rfl ?_
        refine tm_iload_n X 3 dX5_isAbove_26 rfl rfl ?_
        refine tm_cl1 (fun r5 e4 => ?_)
        refine tm_callVi (As := [.int x1, .int x2]) (rest := [.int x3]) (q0 := 0) X (ctX5_highOf l D ad dA h x1 x2 r5 e4) (lw_V q1718 q1720 qs97 q122 q1721) cyX5_highOf rfl rfl rfl ⟨(Nat.le_of_ble_eq_true rfl), (Nat.le_of_ble_eq_true rfl)⟩ (Nat.le_of_ble_eq_true rfl) dX5_isAbove_27 ⟨Nat.le_of_ble_eq_true rfl, Nat.le_of_ble_eq_true rfl⟩ rfl ?_
        refine tm_aload_n X 1 dX5_isAbove_30 rfl rfl ?_
        refine tm_iload_n X 2 dX5_isAbove_31 rfl rfl ?_
        refine tm_iload X 0 dX5_isAbove_32 rfl ?_
        refine tm_cl1 (fun r7 e6 => ?_)
        refine tm_callVi (As := [.int x1, .int r2]) (rest := [.int r5, .int x3]) (q0 := 0) X (ctX5_highOf l D ad dA h x1 r2 r7 e6) (lw_V q1718 q1720 qs97 q122 q1721) cyX5_highOf rfl rfl rfl ⟨(Nat.le_of_ble_eq_true rfl), (Nat.le_of_ble_eq_true rfl)⟩ (Nat.le_of_ble_eq_true rfl) dX5_isAbove_34 ⟨Nat.le_of_ble_eq_true rfl, Nat.le_of_ble_eq_true rfl⟩ rfl ?_
        refine tm_isub X dX5_isAbove_37 ?_
        refine tm_imul X dX5_isAbove_38 ?_
        refine tm_if_gt X 44 dX5_isAbove_39 rfl ?_ ?_
        · skip
          refine tm_lv X [1, 2, 3, 4, 5] rfl ?_
          exact hk44
        · skip
          refine tm_iconst X (0 : Int32) dX5_isAbove_42 (by decide) ?_
          exact tm_retZ hRet dX5_isAbove_43
def mX5_peaks (h : Hp) (x1 : Int32) (x2 : Int32) : Option (Int32) :=
fx FU (fun _ _ => none) (fun k5 (x3_1 : Int32) (x4_2 : Int32) =>
if (48 : Int32) ≤ x4_2 then (
some x3_1) else (
cl1 (mX5_isAbove h x1 x4_2 x2) (fun r4 =>
nm (fun (x3_5 : Int32) =>
k5 x3_5 (x4_2 + (1 : Int32))) (fun k27 =>
if r4 = 0 then (
k27 x3_1) else (
nm ((x3_1 + (1 : Int32))) (fun v6 =>
k27 v6)))))) (0 : Int32) (0 : Int32)
theorem cyX5_peaks : Callee yX5_peaks 2 := by unfold Callee; decide +kernel
set_option maxHeartbeats 4000000 in
theorem ctX5_peaks (l : Launch) (D : va_G) (ad : Nat → Nat) (dA : Nat → ClassId) (h : Hp) (x1 : Int32) (x2 : Int32) (r : Int32) (hm : mX5_peaks h x1 x2 = some r) : CT l yX5_peaks cX5_peaks 5 (some .int) D dA 3 70 0 0 (wM ad dA h) [.ref (ad 300), .int x1, .int x2] (some (.int r)) (wM ad dA h) := by
  refine ct_open (by decide) (Nat.le_of_ble_eq_true rfl) ?_
  intro G X hI hZ hV hR
  have hRet := hI rfl r rfl
  refine (show TM G r (mX5_peaks h x1 x2) (wM ad dA h) 0 0 0 [(0, .ref (ad 300)), (1, .int x1), (2, .int x2)] [] from ?_) hm
  clear hm hI hZ hV hR
  unfold mX5_peaks
  refine tm_iconst X (0 : Int32) dX5_peaks_0 (by decide) ?_
  refine tm_istore_n X [(3, .int (0 : Int32)), (0, .ref (ad 300)), (1, .int x1), (2, .int x2)] dX5_peaks_1 rfl (Nat.le_of_ble_eq_true rfl) rfl ?_
  refine tm_iconst X (0 : Int32) dX5_peaks_2 (by decide) ?_
  refine tm_istore X [(4, .int (0 : Int32)), (3, .int (0 : Int32)), (0, .ref (ad 300)), (1, .int x1), (2, .int x2)] dX5_peaks_3 (Nat.le_of_ble_eq_true rfl) rfl ?_
  refine tm_lv X [2, 3, 4, 1, 0] rfl ?_
  refine fx_P (fun (k : Int32 → Int32 → Option (Int32)) => ∀ (x3_1 : Int32) (x4_2 : Int32), TM G r (k x3_1 x4_2) (wM ad dA h) 0 0 5 [(0, .ref (ad 300)), (1, .int x1), (2, .int x2), (3, .int x3_1), (4, .int x4_2)] []) (fun _ _ => tm_none) (fun k5 hk5 x3_1 x4_2 => ?_) FU (0 : Int32) (0 : Int32)
  refine tm_iload X 4 dX5_peaks_5 rfl ?_
  refine tm_bipush X (48 : Int32) dX5_peaks_7 (by decide) ?_
  refine tm_ic_ge X 33 dX5_peaks_9 rfl ?_ ?_
  · skip
    refine tm_iload_n X 3 dX5_peaks_33 rfl rfl ?_
    exact tm_retI hRet dX5_peaks_34
  · skip
    refine tm_aload_n X 0 dX5_peaks_12 rfl rfl ?_
    refine tm_iload_n X 1 dX5_peaks_13 rfl rfl ?_
    refine tm_iload X 4 dX5_peaks_14 rfl ?_
    refine tm_iload_n X 2 dX5_peaks_16 rfl rfl ?_
    refine tm_cl1 (fun r4 e3 => ?_)
    refine tm_callVi (As := [.int x1, .int x4_2, .int x2]) (rest := []) (q0 := 0) X (ctX5_isAbove l D ad dA h x1 x4_2 x2 r4 e3) (lw_V q1726 q1728 qs99 q122 q1729) cyX5_isAbove rfl rfl rfl ⟨(Nat.le_of_ble_eq_true rfl), (Nat.le_of_ble_eq_true rfl)⟩ (Nat.le_of_ble_eq_true rfl) dX5_peaks_17 ⟨Nat.le_of_ble_eq_true rfl, Nat.le_of_ble_eq_true rfl⟩ rfl ?_
    refine tm_let (fun k => ∀ (x3_5 : Int32), TM G r (k x3_5) (wM ad dA h) 0 0 27 [(0, .ref (ad 300)), (1, .int x1), (2, .int x2), (3, .int x3_5), (4, .int x4_2)] []) ?_ (fun k27 hk27 => ?_)
    · intro x3_5
      refine tm_iinc (v := (1 : Int32)) X 4 [(4, .int (x4_2 + (1 : Int32))), (0, .ref (ad 300)), (1, .int x1), (2, .int x2), (3, .int x3_5)] dX5_peaks_27 rfl (by decide) (Nat.le_of_ble_eq_true rfl) rfl ?_
      refine tm_goto X 5 dX5_peaks_30 rfl ?_
      refine tm_lv X [1, 2, 3, 4, 0] rfl ?_
      exact hk5 x3_5 (x4_2 + (1 : Int32))
    · skip
      refine tm_if_eq X 27 dX5_peaks_20 rfl ?_ ?_
      · skip
        exact hk27 x3_1
      · skip
        refine tm_iload_n X 3 dX5_peaks_23 rfl rfl ?_
        refine tm_iconst X (1 : Int32) dX5_peaks_24 (by decide) ?_
        refine tm_iadd X dX5_peaks_25 ?_
        refine tm_nmI (fun v6 => ?_)
        refine tm_istore_n X [(3, .int v6), (0, .ref (ad 300)), (1, .int x1), (2, .int x2), (4, .int x4_2)] dX5_peaks_26 rfl (Nat.le_of_ble_eq_true rfl) rfl ?_
        refine tm_lv X [1, 2, 3, 0, 4] rfl ?_
        exact hk27 v6
def mX5_castIs (h : Hp) (x1 : Int32) (x2 : Int32) : Option (Int32) :=
cl1 (mX5_isCast x1) (fun r1 =>
if r1 = 0 then (
some (-1 : Int32)) else (
fx FU (fun _ _ _ => none) (fun k17 (x3_3 : Int32) (x4_4 : Int32) (x5_5 : Int32) =>
if (48 : Int32) ≤ x5_5 then (
if x2 = (0 : Int32) then (
cl1 (mX5_peaks h x1 (1 : Int32)) (fun r7 =>
some r7)) else (
if x2 = (1 : Int32) then (
cl1 (mX5_peaks h x1 (-1 : Int32)) (fun r10 =>
some r10)) else (
if x2 = (2 : Int32) then (
some x3_3) else (
if x2 = (3 : Int32) then (
some x4_4) else (
if x2 = (4 : Int32) then (
ck x1 2 (
some (h 201 x1.toNatClampNeg))) else (
some (-1 : Int32))))))) else (
cl1 (mX5_highOf h x1 x5_5) (fun r16 =>
nm ((x3_3 + r16)) (fun v17 =>
cl1 (mX5_highOf h x1 x5_5) (fun r19 =>
cl1 (mX5_highOf h x1 x4_4) (fun r21 =>
nm (fun (x4_22 : Int32) =>
k17 v17 x4_22 (x5_5 + (1 : Int32))) (fun k55 =>
if r19 ≤ r21 then (
k55 x4_4) else (
k55 x5_5)))))))) (0 : Int32) (0 : Int32) (0 : Int32)))
theorem cyX5_castIs : Callee yX5_castIs 2 := by unfold Callee; decide +kernel
set_option maxHeartbeats 4000000 in
theorem ctX5_castIs (l : Launch) (D : va_G) (ad : Nat → Nat) (dA : Nat → ClassId) (h : Hp) (x1 : Int32) (x2 : Int32) (r : Int32) (hm : mX5_castIs h x1 x2 = some r) : CT l yX5_castIs cX5_castIs 6 (some .int) D dA 4 94 0 0 (wM ad dA h) [.ref (ad 300), .int x1, .int x2] (some (.int r)) (wM ad dA h) := by
  refine ct_open (by decide) (Nat.le_of_ble_eq_true rfl) ?_
  intro G X hI hZ hV hR
  have hRet := hI rfl r rfl
  refine (show TM G r (mX5_castIs h x1 x2) (wM ad dA h) 0 0 0 [(0, .ref (ad 300)), (1, .int x1), (2, .int x2)] [] from ?_) hm
  clear hm hI hZ hV hR
  unfold mX5_castIs
  refine tm_iload_n X 1 dX5_castIs_0 rfl rfl ?_
  refine tm_cl1 (fun r1 e2 => ?_)
  refine tm_callSi (As := [.int x1]) (rest := []) X (ctX5_isCast l D dA x1 r1 e2) (lw_S q1363 q1364 q122 q1365) cyX5_isCast rfl ⟨(Nat.le_of_ble_eq_true rfl), (Nat.le_of_ble_eq_true rfl)⟩ (Nat.le_of_ble_eq_true rfl) dX5_castIs_1 ⟨Nat.le_of_ble_eq_true rfl, Nat.le_of_ble_eq_true rfl⟩ rfl ?_
  refine tm_if_ne X 9 dX5_castIs_4 rfl ?_ ?_
  · skip
    refine tm_iconst X (0 : Int32) dX5_castIs_9 (by decide) ?_
    refine tm_istore_n X [(3, .int (0 : Int32)), (0, .ref (ad 300)), (1, .int x1), (2, .int x2)] dX5_castIs_10 rfl (Nat.le_of_ble_eq_true rfl) rfl ?_
    refine tm_iconst X (0 : Int32) dX5_castIs_11 (by decide) ?_
    refine tm_istore X [(4, .int (0 : Int32)), (3, .int (0 : Int32)), (0, .ref (ad 300)), (1, .int x1), (2, .int x2)] dX5_castIs_12 (Nat.le_of_ble_eq_true rfl) rfl ?_
    refine tm_iconst X (0 : Int32) dX5_castIs_14 (by decide) ?_
    refine tm_istore X [(5, .int (0 : Int32)), (4, .int (0 : Int32)), (3, .int (0 : Int32)), (0, .ref (ad 300)), (1, .int x1), (2, .int x2)] dX5_castIs_15 (Nat.le_of_ble_eq_true rfl) rfl ?_
    refine tm_lv X [3, 4, 5, 2, 1, 0] rfl ?_
    refine fx_P (fun (k : Int32 → Int32 → Int32 → Option (Int32)) => ∀ (x3_3 : Int32) (x4_4 : Int32) (x5_5 : Int32), TM G r (k x3_3 x4_4 x5_5) (wM ad dA h) 0 0 17 [(0, .ref (ad 300)), (1, .int x1), (2, .int x2), (3, .int x3_3), (4, .int x4_4), (5, .int x5_5)] []) (fun _ _ _ => tm_none) (fun k17 hk17 x3_3 x4_4 x5_5 => ?_) FU (0 : Int32) (0 : Int32) (0 : Int32)
    refine tm_iload X 5 dX5_castIs_17 rfl ?_
    refine tm_bipush X (48 : Int32) dX5_castIs_19 (by decide) ?_
    refine tm_ic_ge X 61 dX5_castIs_21 rfl ?_ ?_
    · skip
      refine tm_iload_n X 2 dX5_castIs_61 rfl rfl ?_
      refine tm_sw (j := 0) (0 : Int32) 96 X dX5_castIs_62 (by decide) (by decide) rfl rfl ?_ (fun hs8 => ?_)
      · skip
        refine tm_aload_n X 0 dX5_castIs_96 rfl rfl ?_
        refine tm_iload_n X 1 dX5_castIs_97 rfl rfl ?_
        refine tm_iconst X (1 : Int32) dX5_castIs_98 (by decide) ?_
        refine tm_cl1 (fun r7 e6 => ?_)
        refine tm_callVi (As := [.int x1, .int (1 : Int32)]) (rest := []) (q0 := 0) X (ctX5_peaks l D ad dA h x1 (1 : Int32) r7 e6) (lw_V q1722 q1724 qs98 q122 q1725) cyX5_peaks rfl rfl rfl ⟨(Nat.le_of_ble_eq_true rfl), (Nat.le_of_ble_eq_true rfl)⟩ (Nat.le_of_ble_eq_true rfl) dX5_castIs_99 ⟨Nat.le_of_ble_eq_true rfl, Nat.le_of_ble_eq_true rfl⟩ rfl ?_
        exact tm_retI hRet dX5_castIs_102
      refine tm_sw (j := 1) (1 : Int32) 103 X dX5_castIs_62 (by decide) (by decide) rfl rfl ?_ (fun hs11 => ?_)
      · skip
        refine tm_aload_n X 0 dX5_castIs_103 rfl rfl ?_
        refine tm_iload_n X 1 dX5_castIs_104 rfl rfl ?_
        refine tm_iconst X (-1 : Int32) dX5_castIs_105 (by decide) ?_
        refine tm_cl1 (fun r10 e9 => ?_)
        refine tm_callVi (As := [.int x1, .int (-1 : Int32)]) (rest := []) (q0 := 0) X (ctX5_peaks l D ad dA h x1 (-1 : Int32) r10 e9) (lw_V q1722 q1724 qs98 q122 q1725) cyX5_peaks rfl rfl rfl ⟨(Nat.le_of_ble_eq_true rfl), (Nat.le_of_ble_eq_true rfl)⟩ (Nat.le_of_ble_eq_true rfl) dX5_castIs_106 ⟨Nat.le_of_ble_eq_true rfl, Nat.le_of_ble_eq_true rfl⟩ rfl ?_
        exact tm_retI hRet dX5_castIs_109
      refine tm_sw (j := 2) (2 : Int32) 110 X dX5_castIs_62 (by decide) (by decide) rfl rfl ?_ (fun hs12 => ?_)
      · skip
        refine tm_iload_n X 3 dX5_castIs_110 rfl rfl ?_
        exact tm_retI hRet dX5_castIs_111
      refine tm_sw (j := 3) (3 : Int32) 112 X dX5_castIs_62 (by decide) (by decide) rfl rfl ?_ (fun hs13 => ?_)
      · skip
        refine tm_iload X 4 dX5_castIs_112 rfl ?_
        exact tm_retI hRet dX5_castIs_114
      refine tm_sw (j := 4) (4 : Int32) 115 X dX5_castIs_62 (by decide) (by decide) rfl rfl ?_ (fun hs14 => ?_)
      · skip
        refine tm_aload_n X 0 dX5_castIs_115 rfl rfl ?_
        refine tm_getR X (frM_300_1 ad dA h) in_X5 rfl (Nat.le_of_ble_eq_true rfl) q1188 rfl dX5_castIs_116 ?_
        refine tm_iload_n X 1 dX5_castIs_119 rfl rfl ?_
        refine tm_iaload X (arM_201 ad dA) dX5_castIs_120 ?_
        exact tm_retI hRet dX5_castIs_121
      refine tm_swd 122 X dX5_castIs_62 (by have := ne_toInt hs8 (n := 0) (by decide); have := ne_toInt hs11 (n := 1) (by decide); have := ne_toInt hs12 (n := 2) (by decide); have := ne_toInt hs13 (n := 3) (by decide); have := ne_toInt hs14 (n := 4) (by decide); omega) rfl ?_
      refine tm_iconst X (-1 : Int32) dX5_castIs_122 (by decide) ?_
      exact tm_retI hRet dX5_castIs_123
    · skip
      refine tm_iload_n X 3 dX5_castIs_24 rfl rfl ?_
      refine tm_aload_n X 0 dX5_castIs_25 rfl rfl ?_
      refine tm_iload_n X 1 dX5_castIs_26 rfl rfl ?_
      refine tm_iload X 5 dX5_castIs_27 rfl ?_
      refine tm_cl1 (fun r16 e15 => ?_)
      refine tm_callVi (As := [.int x1, .int x5_5]) (rest := [.int x3_3]) (q0 := 0) X (ctX5_highOf l D ad dA h x1 x5_5 r16 e15) (lw_V q1718 q1720 qs97 q122 q1721) cyX5_highOf rfl rfl rfl ⟨(Nat.le_of_ble_eq_true rfl), (Nat.le_of_ble_eq_true rfl)⟩ (Nat.le_of_ble_eq_true rfl) dX5_castIs_29 ⟨Nat.le_of_ble_eq_true rfl, Nat.le_of_ble_eq_true rfl⟩ rfl ?_
      refine tm_iadd X dX5_castIs_32 ?_
      refine tm_nmI (fun v17 => ?_)
      refine tm_istore_n X [(3, .int v17), (0, .ref (ad 300)), (1, .int x1), (2, .int x2), (4, .int x4_4), (5, .int x5_5)] dX5_castIs_33 rfl (Nat.le_of_ble_eq_true rfl) rfl ?_
      refine tm_aload_n X 1 dX5_castIs_34 rfl rfl ?_
      refine tm_iload_n X 2 dX5_castIs_35 rfl rfl ?_
      refine tm_iload X 5 dX5_castIs_36 rfl ?_
      refine tm_cl1 (fun r19 e18 => ?_)
      refine tm_callVi (As := [.int x1, .int x5_5]) (rest := []) (q0 := 0) X (ctX5_highOf l D ad dA h x1 x5_5 r19 e18) (lw_V q1718 q1720 qs97 q122 q1721) cyX5_highOf rfl rfl rfl ⟨(Nat.le_of_ble_eq_true rfl), (Nat.le_of_ble_eq_true rfl)⟩ (Nat.le_of_ble_eq_true rfl) dX5_castIs_38 ⟨Nat.le_of_ble_eq_true rfl, Nat.le_of_ble_eq_true rfl⟩ rfl ?_
      refine tm_aload_n X 1 dX5_castIs_41 rfl rfl ?_
      refine tm_iload_n X 2 dX5_castIs_42 rfl rfl ?_
      refine tm_iload X 4 dX5_castIs_43 rfl ?_
      refine tm_cl1 (fun r21 e20 => ?_)
      refine tm_callVi (As := [.int x1, .int x4_4]) (rest := [.int r19]) (q0 := 0) X (ctX5_highOf l D ad dA h x1 x4_4 r21 e20) (lw_V q1718 q1720 qs97 q122 q1721) cyX5_highOf rfl rfl rfl ⟨(Nat.le_of_ble_eq_true rfl), (Nat.le_of_ble_eq_true rfl)⟩ (Nat.le_of_ble_eq_true rfl) dX5_castIs_45 ⟨Nat.le_of_ble_eq_true rfl, Nat.le_of_ble_eq_true rfl⟩ rfl ?_
      refine tm_let (fun k => ∀ (x4_22 : Int32), TM G r (k x4_22) (wM ad dA h) 0 0 55 [(0, .ref (ad 300)), (1, .int x1), (2, .int x2), (3, .int v17), (4, .int x4_22), (5, .int x5_5)] []) ?_ (fun k55 hk55 => ?_)
      · intro x4_22
        refine tm_iinc (v := (1 : Int32)) X 5 [(5, .int (x5_5 + (1 : Int32))), (0, .ref (ad 300)), (1, .int x1), (2, .int x2), (3, .int v17), (4, .int x4_22)] dX5_castIs_55 rfl (by decide) (Nat.le_of_ble_eq_true rfl) rfl ?_
        refine tm_goto X 17 dX5_castIs_58 rfl ?_
        refine tm_lv X [1, 2, 3, 4, 5, 0] rfl ?_
        exact hk17 v17 x4_22 (x5_5 + (1 : Int32))
      · skip
        refine tm_ic_le X 55 dX5_castIs_48 rfl ?_ ?_
        · skip
          refine tm_lv X [1, 2, 3, 0, 4, 5] rfl ?_
          exact hk55 x4_4
        · skip
          refine tm_iload X 5 dX5_castIs_51 rfl ?_
          refine tm_istore X [(4, .int x5_5), (3, .int v17), (0, .ref (ad 300)), (1, .int x1), (2, .int x2), (5, .int x5_5)] dX5_castIs_53 (Nat.le_of_ble_eq_true rfl) rfl ?_
          refine tm_lv X [2, 3, 4, 1, 0, 5] rfl ?_
          exact hk55 x5_5
  · skip
    refine tm_iconst X (-1 : Int32) dX5_castIs_7 (by decide) ?_
    exact tm_retI hRet dX5_castIs_8
def mX5_climbFrom (h : Hp) (x1 : Int32) (x2 : Int32) : Option (Int32) :=
fx FU (fun _ _ => none) (fun k5 (x3_1 : Int32) (x4_2 : Int32) =>
if (4 : Int32) ≤ x4_2 then (
some (x3_1 + (1 : Int32))) else (
cl1 (mX5_beside x2 x4_2) (fun r3 =>
nm (fun (x3_5 : Int32) =>
k5 x3_5 (x4_2 + (1 : Int32))) (fun k53 =>
if r3 = (-1 : Int32) then (
k53 x3_1) else (
cl1 (mX5_highOf h x1 r3) (fun r7 =>
cl1 (mX5_highOf h x1 x2) (fun r9 =>
if r7 ≤ r9 then (
k53 x3_1) else (
ck r3 48 (
cl1 (mX5_max x3_1 (h 251 r3.toNatClampNeg)) (fun r10 =>
k53 r10)))))))))) (0 : Int32) (0 : Int32)
theorem cyX5_climbFrom : Callee yX5_climbFrom 2 := by unfold Callee; decide +kernel
set_option maxHeartbeats 4000000 in
theorem ctX5_climbFrom (l : Launch) (D : va_G) (ad : Nat → Nat) (dA : Nat → ClassId) (h : Hp) (x1 : Int32) (x2 : Int32) (r : Int32) (hm : mX5_climbFrom h x1 x2 = some r) : CT l yX5_climbFrom cX5_climbFrom 6 (some .int) D dA 2 45 0 0 (wM ad dA h) [.ref (ad 300), .int x1, .int x2] (some (.int r)) (wM ad dA h) := by
  refine ct_open (by decide) (Nat.le_of_ble_eq_true rfl) ?_
  intro G X hI hZ hV hR
  have hRet := hI rfl r rfl
  refine (show TM G r (mX5_climbFrom h x1 x2) (wM ad dA h) 0 0 0 [(0, .ref (ad 300)), (1, .int x1), (2, .int x2)] [] from ?_) hm
  clear hm hI hZ hV hR
  unfold mX5_climbFrom
  refine tm_iconst X (0 : Int32) dX5_climbFrom_0 (by decide) ?_
  refine tm_istore_n X [(3, .int (0 : Int32)), (0, .ref (ad 300)), (1, .int x1), (2, .int x2)] dX5_climbFrom_1 rfl (Nat.le_of_ble_eq_true rfl) rfl ?_
  refine tm_iconst X (0 : Int32) dX5_climbFrom_2 (by decide) ?_
  refine tm_istore X [(4, .int (0 : Int32)), (3, .int (0 : Int32)), (0, .ref (ad 300)), (1, .int x1), (2, .int x2)] dX5_climbFrom_3 (Nat.le_of_ble_eq_true rfl) rfl ?_
  refine tm_lv X [2, 3, 4, 1, 0] rfl ?_
  refine fx_P (fun (k : Int32 → Int32 → Option (Int32)) => ∀ (x3_1 : Int32) (x4_2 : Int32), TM G r (k x3_1 x4_2) (wM ad dA h) 0 0 5 [(0, .ref (ad 300)), (1, .int x1), (2, .int x2), (3, .int x3_1), (4, .int x4_2)] []) (fun _ _ => tm_none) (fun k5 hk5 x3_1 x4_2 => ?_) FU (0 : Int32) (0 : Int32)
  refine tm_iload X 4 dX5_climbFrom_5 rfl ?_
  refine tm_iconst X (4 : Int32) dX5_climbFrom_7 (by decide) ?_
  refine tm_ic_ge X 59 dX5_climbFrom_8 rfl ?_ ?_
  · skip
    refine tm_iload_n X 3 dX5_climbFrom_59 rfl rfl ?_
    refine tm_iconst X (1 : Int32) dX5_climbFrom_60 (by decide) ?_
    refine tm_iadd X dX5_climbFrom_61 ?_
    exact tm_retI hRet dX5_climbFrom_62
  · skip
    refine tm_iload_n X 2 dX5_climbFrom_11 rfl rfl ?_
    refine tm_iload X 4 dX5_climbFrom_12 rfl ?_
    refine tm_cl1 (fun r3 e4 => ?_)
    refine tm_callSi (As := [.int x2, .int x4_2]) (rest := []) X (ctX5_beside l D dA x2 x4_2 r3 e4) (lw_S q1651 q1652 q122 q1653) cyX5_beside rfl ⟨(Nat.le_of_ble_eq_true rfl), (Nat.le_of_ble_eq_true rfl)⟩ (Nat.le_of_ble_eq_true rfl) dX5_climbFrom_14 ⟨Nat.le_of_ble_eq_true rfl, Nat.le_of_ble_eq_true rfl⟩ rfl ?_
    refine tm_istore X [(5, .int r3), (0, .ref (ad 300)), (1, .int x1), (2, .int x2), (3, .int x3_1), (4, .int x4_2)] dX5_climbFrom_17 (Nat.le_of_ble_eq_true rfl) rfl ?_
    refine tm_iload X 0 dX5_climbFrom_19 rfl ?_
    refine tm_iconst X (-1 : Int32) dX5_climbFrom_21 (by decide) ?_
    refine tm_let (fun k => ∀ (x3_5 : Int32), TM G r (k x3_5) (wM ad dA h) 0 0 53 [(0, .ref (ad 300)), (1, .int x1), (2, .int x2), (3, .int x3_5), (4, .int x4_2)] []) ?_ (fun k53 hk53 => ?_)
    · intro x3_5
      refine tm_iinc (v := (1 : Int32)) X 4 [(4, .int (x4_2 + (1 : Int32))), (0, .ref (ad 300)), (1, .int x1), (2, .int x2), (3, .int x3_5)] dX5_climbFrom_53 rfl (by decide) (Nat.le_of_ble_eq_true rfl) rfl ?_
      refine tm_goto X 5 dX5_climbFrom_56 rfl ?_
      refine tm_lv X [1, 2, 3, 4, 0] rfl ?_
      exact hk5 x3_5 (x4_2 + (1 : Int32))
    · skip
      refine tm_ic_eq X 53 dX5_climbFrom_22 rfl ?_ ?_
      · skip
        refine tm_lv X [1, 2, 3, 4, 5] rfl ?_
        exact hk53 x3_1
      · skip
        refine tm_aload_n X 1 dX5_climbFrom_25 rfl rfl ?_
        refine tm_iload_n X 2 dX5_climbFrom_26 rfl rfl ?_
        refine tm_iload X 0 dX5_climbFrom_27 rfl ?_
        refine tm_cl1 (fun r7 e6 => ?_)
        refine tm_callVi (As := [.int x1, .int r3]) (rest := []) (q0 := 0) X (ctX5_highOf l D ad dA h x1 r3 r7 e6) (lw_V q1718 q1720 qs97 q122 q1721) cyX5_highOf rfl rfl rfl ⟨(Nat.le_of_ble_eq_true rfl), (Nat.le_of_ble_eq_true rfl)⟩ (Nat.le_of_ble_eq_true rfl) dX5_climbFrom_29 ⟨Nat.le_of_ble_eq_true rfl, Nat.le_of_ble_eq_true rfl⟩ rfl ?_
        refine tm_aload_n X 1 dX5_climbFrom_32 rfl rfl ?_
        refine tm_iload_n X 2 dX5_climbFrom_33 rfl rfl ?_
        refine tm_iload_n X 3 dX5_climbFrom_34 rfl rfl ?_
        refine tm_cl1 (fun r9 e8 => ?_)
        refine tm_callVi (As := [.int x1, .int x2]) (rest := [.int r7]) (q0 := 0) X (ctX5_highOf l D ad dA h x1 x2 r9 e8) (lw_V q1718 q1720 qs97 q122 q1721) cyX5_highOf rfl rfl rfl ⟨(Nat.le_of_ble_eq_true rfl), (Nat.le_of_ble_eq_true rfl)⟩ (Nat.le_of_ble_eq_true rfl) dX5_climbFrom_35 ⟨Nat.le_of_ble_eq_true rfl, Nat.le_of_ble_eq_true rfl⟩ rfl ?_
        refine tm_ic_le X 53 dX5_climbFrom_38 rfl ?_ ?_
        · skip
          refine tm_lv X [1, 2, 3, 4, 5] rfl ?_
          exact hk53 x3_1
        · skip
          refine tm_iload_n X 4 dX5_climbFrom_41 rfl rfl ?_
          refine tm_aload_n X 1 dX5_climbFrom_42 rfl rfl ?_
          refine tm_getR X (frM_300_51 ad dA h) in_X5 rfl (Nat.le_of_ble_eq_true rfl) q1238 rfl dX5_climbFrom_43 ?_
          refine tm_iload X 0 dX5_climbFrom_46 rfl ?_
          refine tm_iaload X (arM_251 ad dA) dX5_climbFrom_48 ?_
          refine tm_cl1 (fun r10 e11 => ?_)
          refine tm_callSi (As := [.int x3_1, .int (h 251 r3.toNatClampNeg)]) (rest := []) X (ctX5_max l D dA x3_1 (h 251 r3.toNatClampNeg) r10 e11) (lw_S q1539 q1540 q122 q1541) cyX5_max rfl ⟨(Nat.le_of_ble_eq_true rfl), (Nat.le_of_ble_eq_true rfl)⟩ (Nat.le_of_ble_eq_true rfl) dX5_climbFrom_49 ⟨Nat.le_of_ble_eq_true rfl, Nat.le_of_ble_eq_true rfl⟩ rfl ?_
          refine tm_istore_n X [(3, .int r10), (5, .int r3), (0, .ref (ad 300)), (1, .int x1), (2, .int x2), (4, .int x4_2)] dX5_climbFrom_52 rfl (Nat.le_of_ble_eq_true rfl) rfl ?_
          refine tm_lv X [2, 3, 4, 0, 5] rfl ?_
          exact hk53 r10
def mX5_climb (h : Hp) (x1 : Int32) (x2 : Int32) : Option (Int32 × Hp) :=
cl1 (mX5_isCast x1) (fun r1 =>
nm (
some ((-1 : Int32), h)) (fun k16 =>
if r1 = 0 then (
k16) else (
cl1 (mX5_in x2 (0 : Int32) (1 : Int32)) (fun r3 =>
if r3 = 0 then (
k16) else (
fx FU (fun _ _ => none) (fun k24 (x4_5 : Int32) (h6 : Hp) =>
if x4_5 < 0 then (
fx FU (fun _ _ => none) (fun k80 (x3_7 : Int32) (x4_8 : Int32) =>
if (48 : Int32) ≤ x4_8 then (
nm (fun (s9 : Int32) =>
some (s9, h6)) (fun k126 =>
if x2 = 0 then (
ck x3_7 48 (
k126 (h6 251 x3_7.toNatClampNeg))) else (
k126 x3_7))) else (
ck x4_8 48 (
ck x3_7 48 (
nm (fun (x3_10 : Int32) =>
k80 x3_10 (x4_8 + (1 : Int32))) (fun k106 =>
if (h6 251 x4_8.toNatClampNeg) ≤ (h6 251 x3_7.toNatClampNeg) then (
k106 x3_7) else (
k106 x4_8)))))) (0 : Int32) (1 : Int32)) else (
fx FU (fun _ _ => none) (fun k32 (x5_11 : Int32) (h12 : Hp) =>
if (48 : Int32) ≤ x5_11 then (
k24 (x4_5 + (-1 : Int32)) h12) else (
cl1 (mX5_highOf h12 x1 x5_11) (fun r14 =>
nm (fun (h15 : Hp) =>
k32 (x5_11 + (1 : Int32)) h15) (fun k65 =>
if r14 = x4_5 then (
cl1 (mX5_climbFrom h12 x1 x5_11) (fun r17 =>
ck x5_11 48 (nm (u2 h12 251 x5_11.toNatClampNeg r17) (fun h18 =>
k65 h18)))) else (
k65 h12))))) (0 : Int32) h6)) (25 : Int32) h)))))
theorem cyX5_climb : Callee yX5_climb 2 := by unfold Callee; decide +kernel
set_option maxHeartbeats 4000000 in
theorem ctX5_climb (l : Launch) (D : va_G) (ad : Nat → Nat) (dA : Nat → ClassId) (h : Hp) (x1 : Int32) (x2 : Int32) (r : Int32) (h' : Hp) (hm : mX5_climb h x1 x2 = some (r, h')) : CT l yX5_climb cX5_climb 6 (some .int) D dA 3 70 0 0 (wM ad dA h) [.ref (ad 300), .int x1, .int x2] (some (.int r)) (wM ad dA h') := by
  refine ct_open (by decide) (Nat.le_of_ble_eq_true rfl) ?_
  intro G X hI hZ hV hR
  have hRet := hI rfl r rfl
  refine (show TM G (r, h') (mX5_climb h x1 x2) (wM ad dA h) 0 0 0 [(0, .ref (ad 300)), (1, .int x1), (2, .int x2)] [] from ?_) hm
  clear hm hI hZ hV hR
  unfold mX5_climb
  refine tm_iload_n X 1 dX5_climb_0 rfl rfl ?_
  refine tm_cl1 (fun r1 e2 => ?_)
  refine tm_callSi (As := [.int x1]) (rest := []) X (ctX5_isCast l D dA x1 r1 e2) (lw_S q1363 q1364 q122 q1365) cyX5_isCast rfl ⟨(Nat.le_of_ble_eq_true rfl), (Nat.le_of_ble_eq_true rfl)⟩ (Nat.le_of_ble_eq_true rfl) dX5_climb_1 ⟨Nat.le_of_ble_eq_true rfl, Nat.le_of_ble_eq_true rfl⟩ rfl ?_
  refine tm_let (fun k => TM G (r, h') k (wM ad dA h) 0 0 16 [] []) ?_ (fun k16 hk16 => ?_)
  · skip
    refine tm_iconst X (-1 : Int32) dX5_climb_16 (by decide) ?_
    exact tm_retIH (wf := wM ad dA) hRet dX5_climb_17
  · skip
    refine tm_if_eq X 16 dX5_climb_4 rfl ?_ ?_
    · skip
      refine tm_lv X [] rfl ?_
      exact hk16
    · skip
      refine tm_iload_n X 2 dX5_climb_7 rfl rfl ?_
      refine tm_iconst X (0 : Int32) dX5_climb_8 (by decide) ?_
      refine tm_iconst X (1 : Int32) dX5_climb_9 (by decide) ?_
      refine tm_cl1 (fun r3 e4 => ?_)
      refine tm_callSi (As := [.int x2, .int (0 : Int32), .int (1 : Int32)]) (rest := []) X (ctX5_in l D dA x2 (0 : Int32) (1 : Int32) r3 e4) (lw_S q1366 q1367 q122 q1368) cyX5_in rfl ⟨(Nat.le_of_ble_eq_true rfl), (Nat.le_of_ble_eq_true rfl)⟩ (Nat.le_of_ble_eq_true rfl) dX5_climb_10 ⟨Nat.le_of_ble_eq_true rfl, Nat.le_of_ble_eq_true rfl⟩ rfl ?_
      refine tm_if_ne X 18 dX5_climb_13 rfl ?_ ?_
      · skip
        refine tm_iconst X (0 : Int32) dX5_climb_18 (by decide) ?_
        refine tm_istore_n X [(3, .int (0 : Int32)), (0, .ref (ad 300)), (1, .int x1), (2, .int x2)] dX5_climb_19 rfl (Nat.le_of_ble_eq_true rfl) rfl ?_
        refine tm_bipush X (25 : Int32) dX5_climb_20 (by decide) ?_
        refine tm_istore X [(4, .int (25 : Int32)), (3, .int (0 : Int32)), (0, .ref (ad 300)), (1, .int x1), (2, .int x2)] dX5_climb_22 (Nat.le_of_ble_eq_true rfl) rfl ?_
        refine tm_lv X [2, 3, 4, 1, 0] rfl ?_
        refine fx_P (fun (k : Int32 → Hp → Option (Int32 × Hp)) => ∀ (x4_5 : Int32) (h6 : Hp), TM G (r, h') (k x4_5 h6) (wM ad dA h6) 0 0 24 [(0, .ref (ad 300)), (1, .int x1), (2, .int x2), (3, .int (0 : Int32)), (4, .int x4_5)] []) (fun _ _ => tm_none) (fun k24 hk24 x4_5 h6 => ?_) FU (25 : Int32) h
        refine tm_iload X 4 dX5_climb_24 rfl ?_
        refine tm_if_lt X 77 dX5_climb_26 rfl ?_ ?_
        · skip
          refine tm_iconst X (1 : Int32) dX5_climb_77 (by decide) ?_
          refine tm_istore X [(4, .int (1 : Int32)), (0, .ref (ad 300)), (1, .int x1), (2, .int x2), (3, .int (0 : Int32))] dX5_climb_78 (Nat.le_of_ble_eq_true rfl) rfl ?_
          refine tm_lv X [1, 3, 4, 0] rfl ?_
          refine fx_P (fun (k : Int32 → Int32 → Option (Int32 × Hp)) => ∀ (x3_7 : Int32) (x4_8 : Int32), TM G (r, h') (k x3_7 x4_8) (wM ad dA h6) 0 0 80 [(0, .ref (ad 300)), (2, .int x2), (3, .int x3_7), (4, .int x4_8)] []) (fun _ _ => tm_none) (fun k80 hk80 x3_7 x4_8 => ?_) FU (0 : Int32) (1 : Int32)
          refine tm_iload X 3 dX5_climb_80 rfl ?_
          refine tm_bipush X (48 : Int32) dX5_climb_82 (by decide) ?_
          refine tm_ic_ge X 112 dX5_climb_84 rfl ?_ ?_
          · skip
            refine tm_iload_n X 1 dX5_climb_112 rfl rfl ?_
            refine tm_let (fun k => ∀ (s9 : Int32), TM G (r, h') (k s9) (wM ad dA h6) 0 0 126 [] [.int s9]) ?_ (fun k126 hk126 => ?_)
            · intro s9
              exact tm_retIH (wf := wM ad dA) hRet dX5_climb_126
            · skip
              refine tm_if_ne X 125 dX5_climb_113 rfl ?_ ?_
              · skip
                refine tm_iload_n X 2 dX5_climb_125 rfl rfl ?_
                refine tm_lv X [] rfl ?_
                exact hk126 x3_7
              · skip
                refine tm_aload_n X 0 dX5_climb_116 rfl rfl ?_
                refine tm_getR X (frM_300_51 ad dA h6) in_X5 rfl (Nat.le_of_ble_eq_true rfl) q1238 rfl dX5_climb_117 ?_
                refine tm_iload_n X 2 dX5_climb_120 rfl rfl ?_
                refine tm_iaload X (arM_251 ad dA) dX5_climb_121 ?_
                refine tm_goto X 126 dX5_climb_122 rfl ?_
                refine tm_lv X [] rfl ?_
                exact hk126 (h6 251 x3_7.toNatClampNeg)
          · skip
            refine tm_aload_n X 0 dX5_climb_87 rfl rfl ?_
            refine tm_getR X (frM_300_51 ad dA h6) in_X5 rfl (Nat.le_of_ble_eq_true rfl) q1238 rfl dX5_climb_88 ?_
            refine tm_iload X 3 dX5_climb_91 rfl ?_
            refine tm_iaload X (arM_251 ad dA) dX5_climb_93 ?_
            refine tm_aload_n X 0 dX5_climb_94 rfl rfl ?_
            refine tm_getR X (frM_300_51 ad dA h6) in_X5 rfl (Nat.le_of_ble_eq_true rfl) q1238 rfl dX5_climb_95 ?_
            refine tm_iload_n X 2 dX5_climb_98 rfl rfl ?_
            refine tm_iaload X (arM_251 ad dA) dX5_climb_99 ?_
            refine tm_let (fun k => ∀ (x3_10 : Int32), TM G (r, h') (k x3_10) (wM ad dA h6) 0 0 106 [(0, .ref (ad 300)), (2, .int x2), (3, .int x3_10), (4, .int x4_8)] []) ?_ (fun k106 hk106 => ?_)
            · intro x3_10
              refine tm_iinc (v := (1 : Int32)) X 3 [(4, .int (x4_8 + (1 : Int32))), (0, .ref (ad 300)), (2, .int x2), (3, .int x3_10)] dX5_climb_106 rfl (by decide) (Nat.le_of_ble_eq_true rfl) rfl ?_
              refine tm_goto X 80 dX5_climb_109 rfl ?_
              refine tm_lv X [1, 2, 3, 0] rfl ?_
              exact hk80 x3_10 (x4_8 + (1 : Int32))
            · skip
              refine tm_ic_le X 106 dX5_climb_100 rfl ?_ ?_
              · skip
                exact hk106 x3_7
              · skip
                refine tm_iload X 3 dX5_climb_103 rfl ?_
                refine tm_istore_n X [(3, .int x4_8), (0, .ref (ad 300)), (2, .int x2), (4, .int x4_8)] dX5_climb_105 rfl (Nat.le_of_ble_eq_true rfl) rfl ?_
                refine tm_lv X [1, 2, 0, 3] rfl ?_
                exact hk106 x4_8
        · skip
          refine tm_iconst X (0 : Int32) dX5_climb_29 (by decide) ?_
          refine tm_istore X [(5, .int (0 : Int32)), (0, .ref (ad 300)), (1, .int x1), (2, .int x2), (3, .int (0 : Int32)), (4, .int x4_5)] dX5_climb_30 (Nat.le_of_ble_eq_true rfl) rfl ?_
          refine tm_lv X [1, 2, 3, 4, 5, 0] rfl ?_
          refine fx_P (fun (k : Int32 → Hp → Option (Int32 × Hp)) => ∀ (x5_11 : Int32) (h12 : Hp), TM G (r, h') (k x5_11 h12) (wM ad dA h12) 0 0 32 [(0, .ref (ad 300)), (1, .int x1), (2, .int x2), (3, .int (0 : Int32)), (4, .int x4_5), (5, .int x5_11)] []) (fun _ _ => tm_none) (fun k32 hk32 x5_11 h12 => ?_) FU (0 : Int32) h6
          refine tm_iload X 5 dX5_climb_32 rfl ?_
          refine tm_bipush X (48 : Int32) dX5_climb_34 (by decide) ?_
          refine tm_ic_ge X 71 dX5_climb_36 rfl ?_ ?_
          · skip
            refine tm_iinc (v := (-1 : Int32)) X 4 [(4, .int (x4_5 + (-1 : Int32))), (0, .ref (ad 300)), (1, .int x1), (2, .int x2), (3, .int (0 : Int32)), (5, .int x5_11)] dX5_climb_71 rfl (by decide) (Nat.le_of_ble_eq_true rfl) rfl ?_
            refine tm_goto X 24 dX5_climb_74 rfl ?_
            refine tm_lv X [1, 2, 3, 4, 0] rfl ?_
            exact hk24 (x4_5 + (-1 : Int32)) h12
          · skip
            refine tm_aload_n X 0 dX5_climb_39 rfl rfl ?_
            refine tm_iload_n X 1 dX5_climb_40 rfl rfl ?_
            refine tm_iload X 5 dX5_climb_41 rfl ?_
            refine tm_cl1 (fun r14 e13 => ?_)
            refine tm_callVi (As := [.int x1, .int x5_11]) (rest := []) (q0 := 0) X (ctX5_highOf l D ad dA h12 x1 x5_11 r14 e13) (lw_V q1718 q1720 qs97 q122 q1721) cyX5_highOf rfl rfl rfl ⟨(Nat.le_of_ble_eq_true rfl), (Nat.le_of_ble_eq_true rfl)⟩ (Nat.le_of_ble_eq_true rfl) dX5_climb_43 ⟨Nat.le_of_ble_eq_true rfl, Nat.le_of_ble_eq_true rfl⟩ rfl ?_
            refine tm_iload X 4 dX5_climb_46 rfl ?_
            refine tm_let (fun k => ∀ (h15 : Hp), TM G (r, h') (k h15) (wM ad dA h15) 0 0 65 [(0, .ref (ad 300)), (1, .int x1), (2, .int x2), (3, .int (0 : Int32)), (4, .int x4_5), (5, .int x5_11)] []) ?_ (fun k65 hk65 => ?_)
            · intro h15
              refine tm_iinc (v := (1 : Int32)) X 5 [(5, .int (x5_11 + (1 : Int32))), (0, .ref (ad 300)), (1, .int x1), (2, .int x2), (3, .int (0 : Int32)), (4, .int x4_5)] dX5_climb_65 rfl (by decide) (Nat.le_of_ble_eq_true rfl) rfl ?_
              refine tm_goto X 32 dX5_climb_68 rfl ?_
              refine tm_lv X [1, 2, 3, 4, 5, 0] rfl ?_
              exact hk32 (x5_11 + (1 : Int32)) h15
            · skip
              refine tm_ic_ne X 65 dX5_climb_48 rfl ?_ ?_
              · skip
                exact hk65 h12
              · skip
                refine tm_aload_n X 0 dX5_climb_51 rfl rfl ?_
                refine tm_getR X (frM_300_51 ad dA h12) in_X5 rfl (Nat.le_of_ble_eq_true rfl) q1238 rfl dX5_climb_52 ?_
                refine tm_iload X 5 dX5_climb_55 rfl ?_
                refine tm_aload_n X 0 dX5_climb_57 rfl rfl ?_
                refine tm_iload_n X 1 dX5_climb_58 rfl rfl ?_
                refine tm_iload X 5 dX5_climb_59 rfl ?_
                refine tm_cl1 (fun r17 e16 => ?_)
                refine tm_callVi (As := [.int x1, .int x5_11]) (rest := [.int x5_11, .ref (ad 251)]) (q0 := 0) X (ctX5_climbFrom l D ad dA h12 x1 x5_11 r17 e16) (lw_V q1734 q1736 qs100 q122 q1737) cyX5_climbFrom rfl rfl rfl ⟨(Nat.le_of_ble_eq_true rfl), (Nat.le_of_ble_eq_true rfl)⟩ (Nat.le_of_ble_eq_true rfl) dX5_climb_61 ⟨Nat.le_of_ble_eq_true rfl, Nat.le_of_ble_eq_true rfl⟩ rfl ?_
                refine tm_iastore X (arM_251 ad dA) dX5_climb_64 (fun h18 => ?_)
                exact hk65 h18
      · skip
        refine tm_lv X [] rfl ?_
        exact hk16
def mX5_lowestBy (h : Hp) (x1 : Int32) (x2 : Int32) : Option (Int32) :=
fx FU (fun _ _ => none) (fun k5 (x3_1 : Int32) (x4_2 : Int32) =>
if (48 : Int32) ≤ x4_2 then (
some x3_1) else (
cl1 (mX5_beside x2 (0 : Int32)) (fun r3 =>
nm (fun (s5 : Int32) =>
nm (fun (x3_6 : Int32) =>
k5 x3_6 (x4_2 + (1 : Int32))) (fun k83 =>
if s5 = 0 then (
k83 x3_1) else (
cl1 (mX5_highOf h x1 x4_2) (fun r8 =>
cl1 (mX5_highOf h x1 x3_1) (fun r10 =>
if r10 ≤ r8 then (
k83 x3_1) else (
k83 x4_2)))))) (fun k57 =>
nm (
k57 (1 : Int32)) (fun k52 =>
if r3 = x4_2 then (
k52) else (
cl1 (mX5_beside x2 (1 : Int32)) (fun r11 =>
if r11 = x4_2 then (
k52) else (
cl1 (mX5_beside x2 (2 : Int32)) (fun r13 =>
if r13 = x4_2 then (
k52) else (
cl1 (mX5_beside x2 (3 : Int32)) (fun r15 =>
if r15 = x4_2 then (
k52) else (
k57 (0 : Int32))))))))))))) x2 (0 : Int32)
theorem cyX5_lowestBy : Callee yX5_lowestBy 2 := by unfold Callee; decide +kernel
set_option maxHeartbeats 4000000 in
theorem ctX5_lowestBy (l : Launch) (D : va_G) (ad : Nat → Nat) (dA : Nat → ClassId) (h : Hp) (x1 : Int32) (x2 : Int32) (r : Int32) (hm : mX5_lowestBy h x1 x2 = some r) : CT l yX5_lowestBy cX5_lowestBy 6 (some .int) D dA 2 45 0 0 (wM ad dA h) [.ref (ad 300), .int x1, .int x2] (some (.int r)) (wM ad dA h) := by
  refine ct_open (by decide) (Nat.le_of_ble_eq_true rfl) ?_
  intro G X hI hZ hV hR
  have hRet := hI rfl r rfl
  refine (show TM G r (mX5_lowestBy h x1 x2) (wM ad dA h) 0 0 0 [(0, .ref (ad 300)), (1, .int x1), (2, .int x2)] [] from ?_) hm
  clear hm hI hZ hV hR
  unfold mX5_lowestBy
  refine tm_iload_n X 2 dX5_lowestBy_0 rfl rfl ?_
  refine tm_istore_n X [(3, .int x2), (0, .ref (ad 300)), (1, .int x1), (2, .int x2)] dX5_lowestBy_1 rfl (Nat.le_of_ble_eq_true rfl) rfl ?_
  refine tm_iconst X (0 : Int32) dX5_lowestBy_2 (by decide) ?_
  refine tm_istore X [(4, .int (0 : Int32)), (3, .int x2), (0, .ref (ad 300)), (1, .int x1), (2, .int x2)] dX5_lowestBy_3 (Nat.le_of_ble_eq_true rfl) rfl ?_
  refine tm_lv X [2, 3, 4, 1, 0] rfl ?_
  refine fx_P (fun (k : Int32 → Int32 → Option (Int32)) => ∀ (x3_1 : Int32) (x4_2 : Int32), TM G r (k x3_1 x4_2) (wM ad dA h) 0 0 5 [(0, .ref (ad 300)), (1, .int x1), (2, .int x2), (3, .int x3_1), (4, .int x4_2)] []) (fun _ _ => tm_none) (fun k5 hk5 x3_1 x4_2 => ?_) FU x2 (0 : Int32)
  refine tm_iload X 4 dX5_lowestBy_5 rfl ?_
  refine tm_bipush X (48 : Int32) dX5_lowestBy_7 (by decide) ?_
  refine tm_ic_ge X 89 dX5_lowestBy_9 rfl ?_ ?_
  · skip
    refine tm_iload_n X 3 dX5_lowestBy_89 rfl rfl ?_
    exact tm_retI hRet dX5_lowestBy_90
  · skip
    refine tm_iload_n X 2 dX5_lowestBy_12 rfl rfl ?_
    refine tm_iconst X (0 : Int32) dX5_lowestBy_13 (by decide) ?_
    refine tm_cl1 (fun r3 e4 => ?_)
    refine tm_callSi (As := [.int x2, .int (0 : Int32)]) (rest := []) X (ctX5_beside l D dA x2 (0 : Int32) r3 e4) (lw_S q1651 q1652 q122 q1653) cyX5_beside rfl ⟨(Nat.le_of_ble_eq_true rfl), (Nat.le_of_ble_eq_true rfl)⟩ (Nat.le_of_ble_eq_true rfl) dX5_lowestBy_14 ⟨Nat.le_of_ble_eq_true rfl, Nat.le_of_ble_eq_true rfl⟩ rfl ?_
    refine tm_iload X 4 dX5_lowestBy_17 rfl ?_
    refine tm_let (fun k => ∀ (s5 : Int32), TM G r (k s5) (wM ad dA h) 0 0 57 [(0, .ref (ad 300)), (1, .int x1), (2, .int x2), (3, .int x3_1), (4, .int x4_2)] [.int s5]) ?_ (fun k57 hk57 => ?_)
    · intro s5
      refine tm_istore X [(5, .int s5), (0, .ref (ad 300)), (1, .int x1), (2, .int x2), (3, .int x3_1), (4, .int x4_2)] dX5_lowestBy_57 (Nat.le_of_ble_eq_true rfl) rfl ?_
      refine tm_iload X 0 dX5_lowestBy_59 rfl ?_
      refine tm_let (fun k => ∀ (x3_6 : Int32), TM G r (k x3_6) (wM ad dA h) 0 0 83 [(0, .ref (ad 300)), (1, .int x1), (2, .int x2), (3, .int x3_6), (4, .int x4_2)] []) ?_ (fun k83 hk83 => ?_)
      · intro x3_6
        refine tm_iinc (v := (1 : Int32)) X 4 [(4, .int (x4_2 + (1 : Int32))), (0, .ref (ad 300)), (1, .int x1), (2, .int x2), (3, .int x3_6)] dX5_lowestBy_83 rfl (by decide) (Nat.le_of_ble_eq_true rfl) rfl ?_
        refine tm_goto X 5 dX5_lowestBy_86 rfl ?_
        refine tm_lv X [1, 2, 3, 4, 0] rfl ?_
        exact hk5 x3_6 (x4_2 + (1 : Int32))
      · skip
        refine tm_if_eq X 83 dX5_lowestBy_61 rfl ?_ ?_
        · skip
          refine tm_lv X [1, 2, 3, 4, 5] rfl ?_
          exact hk83 x3_1
        · skip
          refine tm_aload_n X 1 dX5_lowestBy_64 rfl rfl ?_
          refine tm_iload_n X 2 dX5_lowestBy_65 rfl rfl ?_
          refine tm_iload X 5 dX5_lowestBy_66 rfl ?_
          refine tm_cl1 (fun r8 e7 => ?_)
          refine tm_callVi (As := [.int x1, .int x4_2]) (rest := []) (q0 := 0) X (ctX5_highOf l D ad dA h x1 x4_2 r8 e7) (lw_V q1718 q1720 qs97 q122 q1721) cyX5_highOf rfl rfl rfl ⟨(Nat.le_of_ble_eq_true rfl), (Nat.le_of_ble_eq_true rfl)⟩ (Nat.le_of_ble_eq_true rfl) dX5_lowestBy_68 ⟨Nat.le_of_ble_eq_true rfl, Nat.le_of_ble_eq_true rfl⟩ rfl ?_
          refine tm_aload_n X 1 dX5_lowestBy_71 rfl rfl ?_
          refine tm_iload_n X 2 dX5_lowestBy_72 rfl rfl ?_
          refine tm_iload_n X 4 dX5_lowestBy_73 rfl rfl ?_
          refine tm_cl1 (fun r10 e9 => ?_)
          refine tm_callVi (As := [.int x1, .int x3_1]) (rest := [.int r8]) (q0 := 0) X (ctX5_highOf l D ad dA h x1 x3_1 r10 e9) (lw_V q1718 q1720 qs97 q122 q1721) cyX5_highOf rfl rfl rfl ⟨(Nat.le_of_ble_eq_true rfl), (Nat.le_of_ble_eq_true rfl)⟩ (Nat.le_of_ble_eq_true rfl) dX5_lowestBy_74 ⟨Nat.le_of_ble_eq_true rfl, Nat.le_of_ble_eq_true rfl⟩ rfl ?_
          refine tm_ic_ge X 83 dX5_lowestBy_77 rfl ?_ ?_
          · skip
            refine tm_lv X [1, 2, 3, 4, 5] rfl ?_
            exact hk83 x3_1
          · skip
            refine tm_iload X 5 dX5_lowestBy_80 rfl ?_
            refine tm_istore_n X [(3, .int x4_2), (5, .int s5), (0, .ref (ad 300)), (1, .int x1), (2, .int x2), (4, .int x4_2)] dX5_lowestBy_82 rfl (Nat.le_of_ble_eq_true rfl) rfl ?_
            refine tm_lv X [2, 3, 4, 0, 5] rfl ?_
            exact hk83 x4_2
    · skip
      refine tm_let (fun k => TM G r k (wM ad dA h) 0 0 52 [(0, .ref (ad 300)), (1, .int x1), (2, .int x2), (3, .int x3_1), (4, .int x4_2)] []) ?_ (fun k52 hk52 => ?_)
      · skip
        refine tm_iconst X (1 : Int32) dX5_lowestBy_52 (by decide) ?_
        refine tm_goto X 57 dX5_lowestBy_53 rfl ?_
        exact hk57 (1 : Int32)
      · skip
        refine tm_ic_eq X 52 dX5_lowestBy_19 rfl ?_ ?_
        · skip
          exact hk52
        · skip
          refine tm_iload_n X 2 dX5_lowestBy_22 rfl rfl ?_
          refine tm_iconst X (1 : Int32) dX5_lowestBy_23 (by decide) ?_
          refine tm_cl1 (fun r11 e12 => ?_)
          refine tm_callSi (As := [.int x2, .int (1 : Int32)]) (rest := []) X (ctX5_beside l D dA x2 (1 : Int32) r11 e12) (lw_S q1651 q1652 q122 q1653) cyX5_beside rfl ⟨(Nat.le_of_ble_eq_true rfl), (Nat.le_of_ble_eq_true rfl)⟩ (Nat.le_of_ble_eq_true rfl) dX5_lowestBy_24 ⟨Nat.le_of_ble_eq_true rfl, Nat.le_of_ble_eq_true rfl⟩ rfl ?_
          refine tm_iload X 4 dX5_lowestBy_27 rfl ?_
          refine tm_ic_eq X 52 dX5_lowestBy_29 rfl ?_ ?_
          · skip
            exact hk52
          · skip
            refine tm_iload_n X 2 dX5_lowestBy_32 rfl rfl ?_
            refine tm_iconst X (2 : Int32) dX5_lowestBy_33 (by decide) ?_
            refine tm_cl1 (fun r13 e14 => ?_)
            refine tm_callSi (As := [.int x2, .int (2 : Int32)]) (rest := []) X (ctX5_beside l D dA x2 (2 : Int32) r13 e14) (lw_S q1651 q1652 q122 q1653) cyX5_beside rfl ⟨(Nat.le_of_ble_eq_true rfl), (Nat.le_of_ble_eq_true rfl)⟩ (Nat.le_of_ble_eq_true rfl) dX5_lowestBy_34 ⟨Nat.le_of_ble_eq_true rfl, Nat.le_of_ble_eq_true rfl⟩ rfl ?_
            refine tm_iload X 4 dX5_lowestBy_37 rfl ?_
            refine tm_ic_eq X 52 dX5_lowestBy_39 rfl ?_ ?_
            · skip
              exact hk52
            · skip
              refine tm_iload_n X 2 dX5_lowestBy_42 rfl rfl ?_
              refine tm_iconst X (3 : Int32) dX5_lowestBy_43 (by decide) ?_
              refine tm_cl1 (fun r15 e16 => ?_)
              refine tm_callSi (As := [.int x2, .int (3 : Int32)]) (rest := []) X (ctX5_beside l D dA x2 (3 : Int32) r15 e16) (lw_S q1651 q1652 q122 q1653) cyX5_beside rfl ⟨(Nat.le_of_ble_eq_true rfl), (Nat.le_of_ble_eq_true rfl)⟩ (Nat.le_of_ble_eq_true rfl) dX5_lowestBy_44 ⟨Nat.le_of_ble_eq_true rfl, Nat.le_of_ble_eq_true rfl⟩ rfl ?_
              refine tm_iload X 4 dX5_lowestBy_47 rfl ?_
              refine tm_ic_ne X 56 dX5_lowestBy_49 rfl ?_ ?_
              · skip
                refine tm_iconst X (0 : Int32) dX5_lowestBy_56 (by decide) ?_
                exact hk57 (0 : Int32)
              · skip
                exact hk52
def mX5_rolls (h : Hp) (x1 : Int32) (x2 : Int32) : Option (Int32) :=
cl1 (mX5_isCast x1) (fun r1 =>
nm (
some (-1 : Int32)) (fun k14 =>
if r1 = 0 then (
k14) else (
cl1 (mX5_isPlace x2) (fun r3 =>
if r3 = 0 then (
k14) else (
fx FU (fun _ => none) (fun k18 (x3_5 : Int32) =>
cl1 (mX5_lowestBy h x1 x3_5) (fun r7 =>
if r7 = x3_5 then (
some x3_5) else (
cl1 (mX5_lowestBy h x1 x3_5) (fun r9 =>
k18 r9)))) x2)))))
theorem cyX5_rolls : Callee yX5_rolls 2 := by unfold Callee; decide +kernel
set_option maxHeartbeats 4000000 in
theorem ctX5_rolls (l : Launch) (D : va_G) (ad : Nat → Nat) (dA : Nat → ClassId) (h : Hp) (x1 : Int32) (x2 : Int32) (r : Int32) (hm : mX5_rolls h x1 x2 = some r) : CT l yX5_rolls cX5_rolls 4 (some .int) D dA 3 70 0 0 (wM ad dA h) [.ref (ad 300), .int x1, .int x2] (some (.int r)) (wM ad dA h) := by
  refine ct_open (by decide) (Nat.le_of_ble_eq_true rfl) ?_
  intro G X hI hZ hV hR
  have hRet := hI rfl r rfl
  refine (show TM G r (mX5_rolls h x1 x2) (wM ad dA h) 0 0 0 [(0, .ref (ad 300)), (1, .int x1), (2, .int x2)] [] from ?_) hm
  clear hm hI hZ hV hR
  unfold mX5_rolls
  refine tm_iload_n X 1 dX5_rolls_0 rfl rfl ?_
  refine tm_cl1 (fun r1 e2 => ?_)
  refine tm_callSi (As := [.int x1]) (rest := []) X (ctX5_isCast l D dA x1 r1 e2) (lw_S q1363 q1364 q122 q1365) cyX5_isCast rfl ⟨(Nat.le_of_ble_eq_true rfl), (Nat.le_of_ble_eq_true rfl)⟩ (Nat.le_of_ble_eq_true rfl) dX5_rolls_1 ⟨Nat.le_of_ble_eq_true rfl, Nat.le_of_ble_eq_true rfl⟩ rfl ?_
  refine tm_let (fun k => TM G r k (wM ad dA h) 0 0 14 [] []) ?_ (fun k14 hk14 => ?_)
  · skip
    refine tm_iconst X (-1 : Int32) dX5_rolls_14 (by decide) ?_
    exact tm_retI hRet dX5_rolls_15
  · skip
    refine tm_if_eq X 14 dX5_rolls_4 rfl ?_ ?_
    · skip
      refine tm_lv X [] rfl ?_
      exact hk14
    · skip
      refine tm_iload_n X 2 dX5_rolls_7 rfl rfl ?_
      refine tm_cl1 (fun r3 e4 => ?_)
      refine tm_callSi (As := [.int x2]) (rest := []) X (ctX5_isPlace l D dA x2 r3 e4) (lw_S q1369 q1370 q122 q1371) cyX5_isPlace rfl ⟨(Nat.le_of_ble_eq_true rfl), (Nat.le_of_ble_eq_true rfl)⟩ (Nat.le_of_ble_eq_true rfl) dX5_rolls_8 ⟨Nat.le_of_ble_eq_true rfl, Nat.le_of_ble_eq_true rfl⟩ rfl ?_
      refine tm_if_ne X 16 dX5_rolls_11 rfl ?_ ?_
      · skip
        refine tm_iload_n X 2 dX5_rolls_16 rfl rfl ?_
        refine tm_istore_n X [(3, .int x2), (0, .ref (ad 300)), (1, .int x1), (2, .int x2)] dX5_rolls_17 rfl (Nat.le_of_ble_eq_true rfl) rfl ?_
        refine tm_lv X [1, 2, 0] rfl ?_
        refine fx_P (fun (k : Int32 → Option (Int32)) => ∀ (x3_5 : Int32), TM G r (k x3_5) (wM ad dA h) 0 0 18 [(0, .ref (ad 300)), (1, .int x1), (3, .int x3_5)] []) (fun _ => tm_none) (fun k18 hk18 x3_5 => ?_) FU x2
        refine tm_aload_n X 0 dX5_rolls_18 rfl rfl ?_
        refine tm_iload_n X 1 dX5_rolls_19 rfl rfl ?_
        refine tm_iload_n X 2 dX5_rolls_20 rfl rfl ?_
        refine tm_cl1 (fun r7 e6 => ?_)
        refine tm_callVi (As := [.int x1, .int x3_5]) (rest := []) (q0 := 0) X (ctX5_lowestBy l D ad dA h x1 x3_5 r7 e6) (lw_V q1742 q1744 qs101 q122 q1745) cyX5_lowestBy rfl rfl rfl ⟨(Nat.le_of_ble_eq_true rfl), (Nat.le_of_ble_eq_true rfl)⟩ (Nat.le_of_ble_eq_true rfl) dX5_rolls_21 ⟨Nat.le_of_ble_eq_true rfl, Nat.le_of_ble_eq_true rfl⟩ rfl ?_
        refine tm_iload_n X 2 dX5_rolls_24 rfl rfl ?_
        refine tm_ic_eq X 38 dX5_rolls_25 rfl ?_ ?_
        · skip
          refine tm_iload_n X 2 dX5_rolls_38 rfl rfl ?_
          exact tm_retI hRet dX5_rolls_39
        · skip
          refine tm_aload_n X 0 dX5_rolls_28 rfl rfl ?_
          refine tm_iload_n X 1 dX5_rolls_29 rfl rfl ?_
          refine tm_iload_n X 2 dX5_rolls_30 rfl rfl ?_
          refine tm_cl1 (fun r9 e8 => ?_)
          refine tm_callVi (As := [.int x1, .int x3_5]) (rest := []) (q0 := 0) X (ctX5_lowestBy l D ad dA h x1 x3_5 r9 e8) (lw_V q1742 q1744 qs101 q122 q1745) cyX5_lowestBy rfl rfl rfl ⟨(Nat.le_of_ble_eq_true rfl), (Nat.le_of_ble_eq_true rfl)⟩ (Nat.le_of_ble_eq_true rfl) dX5_rolls_31 ⟨Nat.le_of_ble_eq_true rfl, Nat.le_of_ble_eq_true rfl⟩ rfl ?_
          refine tm_istore_n X [(3, .int r9), (0, .ref (ad 300)), (1, .int x1)] dX5_rolls_34 rfl (Nat.le_of_ble_eq_true rfl) rfl ?_
          refine tm_goto X 18 dX5_rolls_35 rfl ?_
          refine tm_lv X [1, 2, 0] rfl ?_
          exact hk18 r9
      · skip
        refine tm_lv X [] rfl ?_
        exact hk14
def mX5_isRim (x0 : Int32) : Option (Int32) :=
nm (fun (s1 : Int32) =>
bz s1 (some s1)) (fun k36 =>
nm (
k36 (1 : Int32)) (fun k31 =>
if (jrem x0 (8 : Int32)) = 0 then (
k31) else (
if (jrem x0 (8 : Int32)) = (7 : Int32) then (
k31) else (
if (x0 / (8 : Int32)) = 0 then (
k31) else (
if (x0 / (8 : Int32)) = (5 : Int32) then (
k31) else (
k36 (0 : Int32)))))))
theorem cyX5_isRim : Callee yX5_isRim 1 := by unfold Callee; decide +kernel
set_option maxHeartbeats 4000000 in
theorem ctX5_isRim (l : Launch) (D : va_G) (dA : Nat → ClassId) (x0 : Int32) (r : Int32) (hm : mX5_isRim x0 = some r) : CT l yX5_isRim cX5_isRim 1 (some .boolean) D dA 0 0 0 0 [] [.int x0] (some (.int r)) [] := by
  refine ct_open (by decide) (Nat.le_of_ble_eq_true rfl) ?_
  intro G X hI hZ hV hR
  have hRet := fun hv => hZ rfl r hv rfl
  refine (show TM G r (mX5_isRim x0) [] 0 0 0 [(0, .int x0)] [] from ?_) hm
  clear hm hI hZ hV hR
  unfold mX5_isRim
  refine tm_iload_n X 0 dX5_isRim_0 rfl rfl ?_
  refine tm_bipush X (8 : Int32) dX5_isRim_1 (by decide) ?_
  refine tm_irem X dX5_isRim_3 (by decide) ?_
  refine tm_let (fun k => ∀ (s1 : Int32), TM G r (k s1) [] 0 0 36 [] [.int s1]) ?_ (fun k36 hk36 => ?_)
  · intro s1
    exact tm_retZ hRet dX5_isRim_36
  · skip
    refine tm_let (fun k => TM G r k [] 0 0 31 [] []) ?_ (fun k31 hk31 => ?_)
    · skip
      refine tm_iconst X (1 : Int32) dX5_isRim_31 (by decide) ?_
      refine tm_goto X 36 dX5_isRim_32 rfl ?_
      exact hk36 (1 : Int32)
    · skip
      refine tm_if_eq X 31 dX5_isRim_4 rfl ?_ ?_
      · skip
        refine tm_lv X [] rfl ?_
        exact hk31
      · skip
        refine tm_iload_n X 0 dX5_isRim_7 rfl rfl ?_
        refine tm_bipush X (8 : Int32) dX5_isRim_8 (by decide) ?_
        refine tm_irem X dX5_isRim_10 (by decide) ?_
        refine tm_bipush X (7 : Int32) dX5_isRim_11 (by decide) ?_
        refine tm_ic_eq X 31 dX5_isRim_13 rfl ?_ ?_
        · skip
          refine tm_lv X [] rfl ?_
          exact hk31
        · skip
          refine tm_iload_n X 0 dX5_isRim_16 rfl rfl ?_
          refine tm_bipush X (8 : Int32) dX5_isRim_17 (by decide) ?_
          refine tm_idiv X dX5_isRim_19 (by decide) ?_
          refine tm_if_eq X 31 dX5_isRim_20 rfl ?_ ?_
          · skip
            refine tm_lv X [] rfl ?_
            exact hk31
          · skip
            refine tm_iload_n X 0 dX5_isRim_23 rfl rfl ?_
            refine tm_bipush X (8 : Int32) dX5_isRim_24 (by decide) ?_
            refine tm_idiv X dX5_isRim_26 (by decide) ?_
            refine tm_iconst X (5 : Int32) dX5_isRim_27 (by decide) ?_
            refine tm_ic_ne X 35 dX5_isRim_28 rfl ?_ ?_
            · skip
              refine tm_iconst X (0 : Int32) dX5_isRim_35 (by decide) ?_
              refine tm_lv X [] rfl ?_
              exact hk36 (0 : Int32)
            · skip
              refine tm_lv X [] rfl ?_
              exact hk31
