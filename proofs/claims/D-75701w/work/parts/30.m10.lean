set_option maxRecDepth 100000
def mX5_isNights (x0 : Int32) (x1 : Int32) : Option (Int32) :=
cl1 (mX5_in x0 (1 : Int32) (30 : Int32)) (fun r1 =>
nm (fun (s3 : Int32) =>
bz s3 (some s3)) (fun k22 =>
nm (
k22 (0 : Int32)) (fun k21 =>
if r1 = 0 then (
k21) else (
cl1 (mX5_isSum x1) (fun r4 =>
if r4 = 0 then (
k21) else (
k22 (1 : Int32)))))))
theorem cyX5_isNights : Callee yX5_isNights 2 := by unfold Callee; decide +kernel
set_option maxHeartbeats 4000000 in
theorem ctX5_isNights (l : Launch) (D : va_G) (dA : Nat → ClassId) (x0 : Int32) (x1 : Int32) (r : Int32) (hm : mX5_isNights x0 x1 = some r) : CT l yX5_isNights cX5_isNights 2 (some .boolean) D dA 2 42 0 0 [] [.int x0, .int x1] (some (.int r)) [] := by
  refine ct_open (by decide) (Nat.le_of_ble_eq_true rfl) ?_
  intro G X hI hZ hV hR
  have hRet := fun hv => hZ rfl r hv rfl
  refine (show TM G r (mX5_isNights x0 x1) [] 0 0 0 [(0, .int x0), (1, .int x1)] [] from ?_) hm
  clear hm hI hZ hV hR
  unfold mX5_isNights
  refine tm_iload_n X 0 dX5_isNights_0 rfl rfl ?_
  refine tm_iconst X (1 : Int32) dX5_isNights_1 (by decide) ?_
  refine tm_bipush X (30 : Int32) dX5_isNights_2 (by decide) ?_
  refine tm_cl1 (fun r1 e2 => ?_)
  refine tm_callSi (As := [.int x0, .int (1 : Int32), .int (30 : Int32)]) (rest := []) X (ctX5_in l D dA x0 (1 : Int32) (30 : Int32) r1 e2) (lw_S q1366 q1367 q122 q1368) cyX5_in rfl ⟨(Nat.le_of_ble_eq_true rfl), (Nat.le_of_ble_eq_true rfl)⟩ (Nat.le_of_ble_eq_true rfl) dX5_isNights_4 ⟨Nat.le_of_ble_eq_true rfl, Nat.le_of_ble_eq_true rfl⟩ rfl ?_
  refine tm_let (fun k => ∀ (s3 : Int32), TM G r (k s3) [] 0 0 22 [] [.int s3]) ?_ (fun k22 hk22 => ?_)
  · intro s3
    exact tm_retZ hRet dX5_isNights_22
  · skip
    refine tm_let (fun k => TM G r k [] 0 0 21 [] []) ?_ (fun k21 hk21 => ?_)
    · skip
      refine tm_iconst X (0 : Int32) dX5_isNights_21 (by decide) ?_
      exact hk22 (0 : Int32)
    · skip
      refine tm_if_eq X 21 dX5_isNights_7 rfl ?_ ?_
      · skip
        refine tm_lv X [] rfl ?_
        exact hk21
      · skip
        refine tm_iload_n X 1 dX5_isNights_10 rfl rfl ?_
        refine tm_cl1 (fun r4 e5 => ?_)
        refine tm_callSi (As := [.int x1]) (rest := []) X (ctX5_isSum l D dA x1 r4 e5) (lw_S q1517 q1518 q122 q1519) cyX5_isSum rfl ⟨(Nat.le_of_ble_eq_true rfl), (Nat.le_of_ble_eq_true rfl)⟩ (Nat.le_of_ble_eq_true rfl) dX5_isNights_11 ⟨Nat.le_of_ble_eq_true rfl, Nat.le_of_ble_eq_true rfl⟩ rfl ?_
        refine tm_if_eq X 21 dX5_isNights_14 rfl ?_ ?_
        · skip
          refine tm_lv X [] rfl ?_
          exact hk21
        · skip
          refine tm_iconst X (1 : Int32) dX5_isNights_17 (by decide) ?_
          refine tm_goto X 22 dX5_isNights_18 rfl ?_
          refine tm_lv X [] rfl ?_
          exact hk22 (1 : Int32)
def mX5_lotGoes (h : Hp)  : Option (Int32 × Hp) :=
nm (u2 h 300 3 (jrem (((25173 : Int32) * (h 300 3)) + (13849 : Int32)) (65536 : Int32))) (fun h1 =>
some ((h1 300 3), h1))
theorem cyX5_lotGoes : Callee yX5_lotGoes 0 := by unfold Callee; decide +kernel
set_option maxHeartbeats 4000000 in
theorem ctX5_lotGoes (l : Launch) (D : va_G) (ad : Nat → Nat) (dA : Nat → ClassId) (h : Hp)  (r : Int32) (h' : Hp) (hm : mX5_lotGoes h = some (r, h')) : CT l yX5_lotGoes cX5_lotGoes 1 (some .int) D dA 0 0 0 0 (wM ad dA h) [.ref (ad 300)] (some (.int r)) (wM ad dA h') := by
  refine ct_open (by decide) (Nat.le_of_ble_eq_true rfl) ?_
  intro G X hI hZ hV hR
  have hRet := hI rfl r rfl
  refine (show TM G (r, h') (mX5_lotGoes h) (wM ad dA h) 0 0 0 [(0, .ref (ad 300))] [] from ?_) hm
  clear hm hI hZ hV hR
  unfold mX5_lotGoes
  refine tm_aload_n X 0 dX5_lotGoes_0 rfl rfl ?_
  refine tm_sipush X (25173 : Int32) dX5_lotGoes_1 (by decide) ?_
  refine tm_aload_n X 0 dX5_lotGoes_4 rfl rfl ?_
  refine tm_getI X (fiM_300_3 ad dA) in_X5 rfl (Nat.le_of_ble_eq_true rfl) q1190 rfl dX5_lotGoes_5 ?_
  refine tm_imul X dX5_lotGoes_8 ?_
  refine tm_sipush X (13849 : Int32) dX5_lotGoes_9 (by decide) ?_
  refine tm_iadd X dX5_lotGoes_12 ?_
  refine tm_ldc X (65536 : Int32) q1796 dX5_lotGoes_13 ?_
  refine tm_irem X dX5_lotGoes_15 (by decide) ?_
  refine tm_putI X (fiM_300_3 ad dA) in_X5 rfl (Nat.le_of_ble_eq_true rfl) tyX5 tyX5_ok nmX5 rfl rfl q1190 rfl dX5_lotGoes_16 (fun h1 => ?_)
  refine tm_aload_n X 0 dX5_lotGoes_19 rfl rfl ?_
  refine tm_getI X (fiM_300_3 ad dA) in_X5 rfl (Nat.le_of_ble_eq_true rfl) q1190 rfl dX5_lotGoes_20 ?_
  exact tm_retIH (wf := wM ad dA) hRet dX5_lotGoes_23
def mX5_reckon (x0 : Int32) (x1 : Int32) (x2 : Int32) : Option (Int32) :=
if x0 = (2 : Int32) then (
some (x1 + x2)) else (
if x0 = (3 : Int32) then (
some (x1 - x2)) else (
if x0 = (4 : Int32) then (
some (x1 * x2)) else (
if x0 = (5 : Int32) then (
nz x2 (
some (x1 / x2))) else (
if x0 = (6 : Int32) then (
nz x2 (
some (jrem x1 x2))) else (
if x0 = (7 : Int32) then (
nm (fun (s6 : Int32) =>
some s6) (fun k74 =>
if x2 ≤ x1 then (
k74 (0 : Int32)) else (
k74 (1 : Int32)))) else (
if x0 = (8 : Int32) then (
nm (fun (s8 : Int32) =>
some s8) (fun k85 =>
if x1 ≤ x2 then (
k85 (0 : Int32)) else (
k85 (1 : Int32)))) else (
nm (fun (s10 : Int32) =>
some s10) (fun k96 =>
if x1 = x2 then (
k96 (1 : Int32)) else (
k96 (0 : Int32))))))))))
theorem cyX5_reckon : Callee yX5_reckon 3 := by unfold Callee; decide +kernel
set_option maxHeartbeats 4000000 in
theorem ctX5_reckon (l : Launch) (D : va_G) (dA : Nat → ClassId) (x0 : Int32) (x1 : Int32) (x2 : Int32) (r : Int32) (hm : mX5_reckon x0 x1 x2 = some r) : CT l yX5_reckon cX5_reckon 3 (some .int) D dA 0 0 0 0 [] [.int x0, .int x1, .int x2] (some (.int r)) [] := by
  refine ct_open (by decide) (Nat.le_of_ble_eq_true rfl) ?_
  intro G X hI hZ hV hR
  have hRet := hI rfl r rfl
  refine (show TM G r (mX5_reckon x0 x1 x2) [] 0 0 0 [(0, .int x0), (1, .int x1), (2, .int x2)] [] from ?_) hm
  clear hm hI hZ hV hR
  unfold mX5_reckon
  refine tm_iload_n X 0 dX5_reckon_0 rfl rfl ?_
  refine tm_sw (j := 0) (2 : Int32) 44 X dX5_reckon_1 (by decide) (by decide) rfl rfl ?_ (fun hs1 => ?_)
  · skip
    refine tm_iload_n X 1 dX5_reckon_44 rfl rfl ?_
    refine tm_iload_n X 2 dX5_reckon_45 rfl rfl ?_
    refine tm_iadd X dX5_reckon_46 ?_
    exact tm_retI hRet dX5_reckon_47
  refine tm_sw (j := 1) (3 : Int32) 48 X dX5_reckon_1 (by decide) (by decide) rfl rfl ?_ (fun hs2 => ?_)
  · skip
    refine tm_iload_n X 1 dX5_reckon_48 rfl rfl ?_
    refine tm_iload_n X 2 dX5_reckon_49 rfl rfl ?_
    refine tm_isub X dX5_reckon_50 ?_
    exact tm_retI hRet dX5_reckon_51
  refine tm_sw (j := 2) (4 : Int32) 52 X dX5_reckon_1 (by decide) (by decide) rfl rfl ?_ (fun hs3 => ?_)
  · skip
    refine tm_iload_n X 1 dX5_reckon_52 rfl rfl ?_
    refine tm_iload_n X 2 dX5_reckon_53 rfl rfl ?_
    refine tm_imul X dX5_reckon_54 ?_
    exact tm_retI hRet dX5_reckon_55
  refine tm_sw (j := 3) (5 : Int32) 56 X dX5_reckon_1 (by decide) (by decide) rfl rfl ?_ (fun hs4 => ?_)
  · skip
    refine tm_iload_n X 1 dX5_reckon_56 rfl rfl ?_
    refine tm_iload_n X 2 dX5_reckon_57 rfl rfl ?_
    refine tm_idivz X dX5_reckon_58 ?_
    exact tm_retI hRet dX5_reckon_59
  refine tm_sw (j := 4) (6 : Int32) 60 X dX5_reckon_1 (by decide) (by decide) rfl rfl ?_ (fun hs5 => ?_)
  · skip
    refine tm_iload_n X 1 dX5_reckon_60 rfl rfl ?_
    refine tm_iload_n X 2 dX5_reckon_61 rfl rfl ?_
    refine tm_iremz X dX5_reckon_62 ?_
    exact tm_retI hRet dX5_reckon_63
  refine tm_sw (j := 5) (7 : Int32) 64 X dX5_reckon_1 (by decide) (by decide) rfl rfl ?_ (fun hs7 => ?_)
  · skip
    refine tm_iload_n X 1 dX5_reckon_64 rfl rfl ?_
    refine tm_iload_n X 2 dX5_reckon_65 rfl rfl ?_
    refine tm_let (fun k => ∀ (s6 : Int32), TM G r (k s6) [] 0 0 74 [] [.int s6]) ?_ (fun k74 hk74 => ?_)
    · intro s6
      exact tm_retI hRet dX5_reckon_74
    · skip
      refine tm_ic_ge X 73 dX5_reckon_66 rfl ?_ ?_
      · skip
        refine tm_iconst X (0 : Int32) dX5_reckon_73 (by decide) ?_
        refine tm_lv X [] rfl ?_
        exact hk74 (0 : Int32)
      · skip
        refine tm_iconst X (1 : Int32) dX5_reckon_69 (by decide) ?_
        refine tm_goto X 74 dX5_reckon_70 rfl ?_
        refine tm_lv X [] rfl ?_
        exact hk74 (1 : Int32)
  refine tm_sw (j := 6) (8 : Int32) 75 X dX5_reckon_1 (by decide) (by decide) rfl rfl ?_ (fun hs9 => ?_)
  · skip
    refine tm_iload_n X 1 dX5_reckon_75 rfl rfl ?_
    refine tm_iload_n X 2 dX5_reckon_76 rfl rfl ?_
    refine tm_let (fun k => ∀ (s8 : Int32), TM G r (k s8) [] 0 0 85 [] [.int s8]) ?_ (fun k85 hk85 => ?_)
    · intro s8
      exact tm_retI hRet dX5_reckon_85
    · skip
      refine tm_ic_le X 84 dX5_reckon_77 rfl ?_ ?_
      · skip
        refine tm_iconst X (0 : Int32) dX5_reckon_84 (by decide) ?_
        refine tm_lv X [] rfl ?_
        exact hk85 (0 : Int32)
      · skip
        refine tm_iconst X (1 : Int32) dX5_reckon_80 (by decide) ?_
        refine tm_goto X 85 dX5_reckon_81 rfl ?_
        refine tm_lv X [] rfl ?_
        exact hk85 (1 : Int32)
  refine tm_swd 86 X dX5_reckon_1 (by have := ne_toInt hs1 (n := 2) (by decide); have := ne_toInt hs2 (n := 3) (by decide); have := ne_toInt hs3 (n := 4) (by decide); have := ne_toInt hs4 (n := 5) (by decide); have := ne_toInt hs5 (n := 6) (by decide); have := ne_toInt hs7 (n := 7) (by decide); have := ne_toInt hs9 (n := 8) (by decide); omega) rfl ?_
  refine tm_iload_n X 1 dX5_reckon_86 rfl rfl ?_
  refine tm_iload_n X 2 dX5_reckon_87 rfl rfl ?_
  refine tm_let (fun k => ∀ (s10 : Int32), TM G r (k s10) [] 0 0 96 [] [.int s10]) ?_ (fun k96 hk96 => ?_)
  · intro s10
    exact tm_retI hRet dX5_reckon_96
  · skip
    refine tm_ic_ne X 95 dX5_reckon_88 rfl ?_ ?_
    · skip
      refine tm_iconst X (0 : Int32) dX5_reckon_95 (by decide) ?_
      refine tm_lv X [] rfl ?_
      exact hk96 (0 : Int32)
    · skip
      refine tm_iconst X (1 : Int32) dX5_reckon_91 (by decide) ?_
      refine tm_goto X 96 dX5_reckon_92 rfl ?_
      refine tm_lv X [] rfl ?_
      exact hk96 (1 : Int32)
def mX5_reckonsTo (h : Hp) (x1 : Int32) (x2 : Int32) : Option (Int32 × Hp) :=
nm (((260 : Int32) * (x1 / (260 : Int32)))) (fun v1 =>
fx FU (fun _ _ _ => none) (fun k16 (x3_2 : Int32) (x5_3 : Int32) (h4 : Hp) =>
if x2 ≤ x5_3 then (
some ((h4 227 0), h4)) else (
ck x5_3 260 (
nm (((h4 222 x5_3.toNatClampNeg) / (1048576 : Int32))) (fun v5 =>
ck x5_3 260 (
nm ((jrem (h4 222 x5_3.toNatClampNeg) (1048576 : Int32))) (fun v6 =>
nm ((x5_3 + (1 : Int32))) (fun v7 =>
nm (fun (x3_8 : Int32) (x5_9 : Int32) (h10 : Hp) =>
k16 x3_8 x5_9 h10) (fun k230 =>
nm (
nm (fun (s11 : Int32) =>
ck x3_2 260 (nm (u2 h4 227 x3_2.toNatClampNeg s11) (fun h12 =>
nm ((x3_2 + (1 : Int32))) (fun v13 =>
k230 v13 v7 h12)))) (fun k85 =>
if v5 = 0 then (
k85 v6) else (
ck v6 10 (
k85 (h4 228 v6.toNatClampNeg))))) (fun k63 =>
if v5 = 0 then (
k63) else (
if v5 = (1 : Int32) then (
k63) else (
if v5 = (10 : Int32) then (
nm ((x3_2 - (1 : Int32))) (fun v23 =>
ck v23 260 (
ck (x3_2 - (1 : Int32)) 260 (nm (u2 h4 227 (x3_2 - (1 : Int32)).toNatClampNeg ((1 : Int32) - (h4 227 v23.toNatClampNeg))) (fun h24 =>
k230 x3_2 v7 h24))))) else (
nm (
nm ((x3_2 - (1 : Int32))) (fun v14 =>
ck v14 260 (
nm (fun (s15 : Int32) =>
if (h4 227 v14.toNatClampNeg) = s15 then (
nm ((v1 + v6)) (fun v17 =>
k230 x3_2 v17 h4)) else (
nm ((x3_2 - (1 : Int32))) (fun v16 =>
k230 v16 v7 h4))) (fun k155 =>
if v5 = (12 : Int32) then (
k155 (1 : Int32)) else (
k155 (0 : Int32)))))) (fun k135 =>
if v5 = (11 : Int32) then (
k135) else (
if v5 = (12 : Int32) then (
k135) else (
nm ((x3_2 - (1 : Int32))) (fun v18 =>
nm (
nm ((v18 - (1 : Int32))) (fun v19 =>
ck v19 260 (
ck v18 260 (
cl1 (mX5_reckon v5 (h4 227 v19.toNatClampNeg) (h4 227 v18.toNatClampNeg)) (fun r20 =>
ck (v18 - (1 : Int32)) 260 (nm (u2 h4 227 (v18 - (1 : Int32)).toNatClampNeg r20) (fun h22 =>
k230 v18 v7 h22))))))) (fun k203 =>
nm (
ck v18 260 (
if (h4 227 v18.toNatClampNeg) = 0 then (
some ((0 : Int32), h4)) else (
k203))) (fun k192 =>
if v5 = (5 : Int32) then (
k192) else (
if v5 = (6 : Int32) then (
k192) else (
k203)))))))))))))))))))) (0 : Int32) x1 h)
theorem cyX5_reckonsTo : Callee yX5_reckonsTo 2 := by unfold Callee; decide +kernel
set_option maxHeartbeats 4000000 in
theorem ctX5_reckonsTo (l : Launch) (D : va_G) (ad : Nat → Nat) (dA : Nat → ClassId) (h : Hp) (x1 : Int32) (x2 : Int32) (r : Int32) (h' : Hp) (hm : mX5_reckonsTo h x1 x2 = some (r, h')) : CT l yX5_reckonsTo cX5_reckonsTo 8 (some .int) D dA 1 22 0 0 (wM ad dA h) [.ref (ad 300), .int x1, .int x2] (some (.int r)) (wM ad dA h') := by
  refine ct_open (by decide) (Nat.le_of_ble_eq_true rfl) ?_
  intro G X hI hZ hV hR
  have hRet := hI rfl r rfl
  refine (show TM G (r, h') (mX5_reckonsTo h x1 x2) (wM ad dA h) 0 0 0 [(0, .ref (ad 300)), (1, .int x1), (2, .int x2)] [] from ?_) hm
  clear hm hI hZ hV hR
  unfold mX5_reckonsTo
  refine tm_iconst X (0 : Int32) dX5_reckonsTo_0 (by decide) ?_
  refine tm_istore_n X [(3, .int (0 : Int32)), (0, .ref (ad 300)), (1, .int x1), (2, .int x2)] dX5_reckonsTo_1 rfl (Nat.le_of_ble_eq_true rfl) rfl ?_
  refine tm_sipush X (260 : Int32) dX5_reckonsTo_2 (by decide) ?_
  refine tm_iload_n X 2 dX5_reckonsTo_5 rfl rfl ?_
  refine tm_sipush X (260 : Int32) dX5_reckonsTo_6 (by decide) ?_
  refine tm_idiv X dX5_reckonsTo_9 (by decide) ?_
  refine tm_imul X dX5_reckonsTo_10 ?_
  refine tm_nmI (fun v1 => ?_)
  refine tm_istore X [(4, .int v1), (3, .int (0 : Int32)), (0, .ref (ad 300)), (1, .int x1), (2, .int x2)] dX5_reckonsTo_11 (Nat.le_of_ble_eq_true rfl) rfl ?_
  refine tm_iload_n X 3 dX5_reckonsTo_13 rfl rfl ?_
  refine tm_istore X [(5, .int x1), (4, .int v1), (3, .int (0 : Int32)), (0, .ref (ad 300)), (1, .int x1), (2, .int x2)] dX5_reckonsTo_14 (Nat.le_of_ble_eq_true rfl) rfl ?_
  refine tm_lv X [3, 5, 2, 1, 0] rfl ?_
  refine fx_P (fun (k : Int32 → Int32 → Hp → Option (Int32 × Hp)) => ∀ (x3_2 : Int32) (x5_3 : Int32) (h4 : Hp), TM G (r, h') (k x3_2 x5_3 h4) (wM ad dA h4) 0 0 16 [(0, .ref (ad 300)), (2, .int x2), (3, .int x3_2), (4, .int v1), (5, .int x5_3)] []) (fun _ _ _ => tm_none) (fun k16 hk16 x3_2 x5_3 h4 => ?_) FU (0 : Int32) x1 h
  refine tm_iload X 4 dX5_reckonsTo_16 rfl ?_
  refine tm_iload_n X 1 dX5_reckonsTo_18 rfl rfl ?_
  refine tm_ic_ge X 233 dX5_reckonsTo_19 rfl ?_ ?_
  · skip
    refine tm_aload_n X 0 dX5_reckonsTo_233 rfl rfl ?_
    refine tm_getR X (frM_300_27 ad dA h4) in_X5 rfl (Nat.le_of_ble_eq_true rfl) q1214 rfl dX5_reckonsTo_234 ?_
    refine tm_iconst X (0 : Int32) dX5_reckonsTo_237 (by decide) ?_
    refine tm_ialoadL (j := 0) X (arM_227 ad dA) (by unfold vp_in; decide) (by decide) dX5_reckonsTo_238 ?_
    exact tm_retIH (wf := wM ad dA) hRet dX5_reckonsTo_239
  · skip
    refine tm_aload_n X 0 dX5_reckonsTo_22 rfl rfl ?_
    refine tm_getR X (frM_300_22 ad dA h4) in_X5 rfl (Nat.le_of_ble_eq_true rfl) q1209 rfl dX5_reckonsTo_23 ?_
    refine tm_iload X 4 dX5_reckonsTo_26 rfl ?_
    refine tm_iaload X (arM_222 ad dA) dX5_reckonsTo_28 ?_
    refine tm_ldc X (1048576 : Int32) q1420 dX5_reckonsTo_29 ?_
    refine tm_idiv X dX5_reckonsTo_31 (by decide) ?_
    refine tm_nmI (fun v5 => ?_)
    refine tm_istore X [(6, .int v5), (0, .ref (ad 300)), (2, .int x2), (3, .int x3_2), (4, .int v1), (5, .int x5_3)] dX5_reckonsTo_32 (Nat.le_of_ble_eq_true rfl) rfl ?_
    refine tm_aload_n X 1 dX5_reckonsTo_34 rfl rfl ?_
    refine tm_getR X (frM_300_22 ad dA h4) in_X5 rfl (Nat.le_of_ble_eq_true rfl) q1209 rfl dX5_reckonsTo_35 ?_
    refine tm_iload X 5 dX5_reckonsTo_38 rfl ?_
    refine tm_iaload X (arM_222 ad dA) dX5_reckonsTo_40 ?_
    refine tm_ldc X (1048576 : Int32) q1420 dX5_reckonsTo_41 ?_
    refine tm_irem X dX5_reckonsTo_43 (by decide) ?_
    refine tm_nmI (fun v6 => ?_)
    refine tm_istore X [(7, .int v6), (6, .int v5), (0, .ref (ad 300)), (2, .int x2), (3, .int x3_2), (4, .int v1), (5, .int x5_3)] dX5_reckonsTo_44 (Nat.le_of_ble_eq_true rfl) rfl ?_
    refine tm_iload X 6 dX5_reckonsTo_46 rfl ?_
    refine tm_iconst X (1 : Int32) dX5_reckonsTo_48 (by decide) ?_
    refine tm_iadd X dX5_reckonsTo_49 ?_
    refine tm_nmI (fun v7 => ?_)
    refine tm_istore X [(5, .int v7), (7, .int v6), (6, .int v5), (0, .ref (ad 300)), (2, .int x2), (3, .int x3_2), (4, .int v1)] dX5_reckonsTo_50 (Nat.le_of_ble_eq_true rfl) rfl ?_
    refine tm_iload X 2 dX5_reckonsTo_52 rfl ?_
    refine tm_let (fun k => ∀ (x3_8 : Int32) (x5_9 : Int32) (h10 : Hp), TM G (r, h') (k x3_8 x5_9 h10) (wM ad dA h10) 0 0 230 [(0, .ref (ad 300)), (2, .int x2), (3, .int x3_8), (4, .int v1), (5, .int x5_9)] []) ?_ (fun k230 hk230 => ?_)
    · intro x3_8 x5_9 h10
      refine tm_goto X 16 dX5_reckonsTo_230 rfl ?_
      exact hk16 x3_8 x5_9 h10
    · skip
      refine tm_let (fun k => TM G (r, h') k (wM ad dA h4) 0 0 63 [(0, .ref (ad 300)), (2, .int x2), (3, .int x3_2), (4, .int v1), (5, .int v7), (6, .int v5), (7, .int v6)] []) ?_ (fun k63 hk63 => ?_)
      · skip
        refine tm_aload_n X 0 dX5_reckonsTo_63 rfl rfl ?_
        refine tm_getR X (frM_300_27 ad dA h4) in_X5 rfl (Nat.le_of_ble_eq_true rfl) q1214 rfl dX5_reckonsTo_64 ?_
        refine tm_iload_n X 2 dX5_reckonsTo_67 rfl rfl ?_
        refine tm_iload X 5 dX5_reckonsTo_68 rfl ?_
        refine tm_let (fun k => ∀ (s11 : Int32), TM G (r, h') (k s11) (wM ad dA h4) 0 0 85 [(0, .ref (ad 300)), (2, .int x2), (3, .int x3_2), (4, .int v1), (5, .int v7)] [.int s11, .int x3_2, .ref (ad 227)]) ?_ (fun k85 hk85 => ?_)
        · intro s11
          refine tm_iastore X (arM_227 ad dA) dX5_reckonsTo_85 (fun h12 => ?_)
          refine tm_iload_n X 2 dX5_reckonsTo_86 rfl rfl ?_
          refine tm_iconst X (1 : Int32) dX5_reckonsTo_87 (by decide) ?_
          refine tm_iadd X dX5_reckonsTo_88 ?_
          refine tm_nmI (fun v13 => ?_)
          refine tm_istore_n X [(3, .int v13), (0, .ref (ad 300)), (2, .int x2), (4, .int v1), (5, .int v7)] dX5_reckonsTo_89 rfl (Nat.le_of_ble_eq_true rfl) rfl ?_
          refine tm_goto X 230 dX5_reckonsTo_90 rfl ?_
          refine tm_lv X [1, 2, 0, 3, 4] rfl ?_
          exact hk230 v13 v7 h12
        · skip
          refine tm_if_ne X 78 dX5_reckonsTo_70 rfl ?_ ?_
          · skip
            refine tm_aload_n X 0 dX5_reckonsTo_78 rfl rfl ?_
            refine tm_getR X (frM_300_28 ad dA h4) in_X5 rfl (Nat.le_of_ble_eq_true rfl) q1215 rfl dX5_reckonsTo_79 ?_
            refine tm_iload X 6 dX5_reckonsTo_82 rfl ?_
            refine tm_iaload X (arM_228 ad dA) dX5_reckonsTo_84 ?_
            refine tm_lv X [0, 1, 2, 3, 4] rfl ?_
            exact hk85 (h4 228 v6.toNatClampNeg)
          · skip
            refine tm_iload X 6 dX5_reckonsTo_73 rfl ?_
            refine tm_goto X 85 dX5_reckonsTo_75 rfl ?_
            refine tm_lv X [0, 1, 2, 3, 4] rfl ?_
            exact hk85 v6
      · skip
        refine tm_if_eq X 63 dX5_reckonsTo_54 rfl ?_ ?_
        · skip
          refine tm_lv X [3, 4, 5, 6, 0, 2, 1] rfl ?_
          exact hk63
        · skip
          refine tm_iload X 2 dX5_reckonsTo_57 rfl ?_
          refine tm_iconst X (1 : Int32) dX5_reckonsTo_59 (by decide) ?_
          refine tm_ic_ne X 93 dX5_reckonsTo_60 rfl ?_ ?_
          · skip
            refine tm_iload X 2 dX5_reckonsTo_93 rfl ?_
            refine tm_bipush X (10 : Int32) dX5_reckonsTo_95 (by decide) ?_
            refine tm_ic_ne X 121 dX5_reckonsTo_97 rfl ?_ ?_
            · skip
              refine tm_iload X 2 dX5_reckonsTo_121 rfl ?_
              refine tm_bipush X (11 : Int32) dX5_reckonsTo_123 (by decide) ?_
              refine tm_let (fun k => TM G (r, h') k (wM ad dA h4) 0 0 135 [(0, .ref (ad 300)), (2, .int x2), (3, .int x3_2), (4, .int v1), (5, .int v7), (6, .int v5), (7, .int v6)] []) ?_ (fun k135 hk135 => ?_)
              · skip
                refine tm_aload_n X 0 dX5_reckonsTo_135 rfl rfl ?_
                refine tm_getR X (frM_300_27 ad dA h4) in_X5 rfl (Nat.le_of_ble_eq_true rfl) q1214 rfl dX5_reckonsTo_136 ?_
                refine tm_iload_n X 2 dX5_reckonsTo_139 rfl rfl ?_
                refine tm_iconst X (1 : Int32) dX5_reckonsTo_140 (by decide) ?_
                refine tm_isub X dX5_reckonsTo_141 ?_
                refine tm_nmI (fun v14 => ?_)
                refine tm_iaload X (arM_227 ad dA) dX5_reckonsTo_142 ?_
                refine tm_iload X 5 dX5_reckonsTo_143 rfl ?_
                refine tm_bipush X (12 : Int32) dX5_reckonsTo_145 (by decide) ?_
                refine tm_let (fun k => ∀ (s15 : Int32), TM G (r, h') (k s15) (wM ad dA h4) 0 0 155 [(0, .ref (ad 300)), (2, .int x2), (3, .int x3_2), (4, .int v1), (5, .int v7), (7, .int v6)] [.int s15, .int (h4 227 v14.toNatClampNeg)]) ?_ (fun k155 hk155 => ?_)
                · intro s15
                  refine tm_ic_ne X 168 dX5_reckonsTo_155 rfl ?_ ?_
                  · skip
                    refine tm_iload_n X 2 dX5_reckonsTo_168 rfl rfl ?_
                    refine tm_iconst X (1 : Int32) dX5_reckonsTo_169 (by decide) ?_
                    refine tm_isub X dX5_reckonsTo_170 ?_
                    refine tm_nmI (fun v16 => ?_)
                    refine tm_istore_n X [(3, .int v16), (0, .ref (ad 300)), (2, .int x2), (4, .int v1), (5, .int v7), (7, .int v6)] dX5_reckonsTo_171 rfl (Nat.le_of_ble_eq_true rfl) rfl ?_
                    refine tm_goto X 230 dX5_reckonsTo_172 rfl ?_
                    refine tm_lv X [1, 2, 0, 3, 4] rfl ?_
                    exact hk230 v16 v7 h4
                  · skip
                    refine tm_iload X 3 dX5_reckonsTo_158 rfl ?_
                    refine tm_iload X 5 dX5_reckonsTo_160 rfl ?_
                    refine tm_iadd X dX5_reckonsTo_162 ?_
                    refine tm_nmI (fun v17 => ?_)
                    refine tm_istore X [(5, .int v17), (0, .ref (ad 300)), (2, .int x2), (3, .int x3_2), (4, .int v1), (7, .int v6)] dX5_reckonsTo_163 (Nat.le_of_ble_eq_true rfl) rfl ?_
                    refine tm_goto X 230 dX5_reckonsTo_165 rfl ?_
                    refine tm_lv X [1, 2, 3, 4, 0] rfl ?_
                    exact hk230 x3_2 v17 h4
                · skip
                  refine tm_ic_ne X 154 dX5_reckonsTo_147 rfl ?_ ?_
                  · skip
                    refine tm_iconst X (0 : Int32) dX5_reckonsTo_154 (by decide) ?_
                    refine tm_lv X [0, 1, 2, 3, 4, 6] rfl ?_
                    exact hk155 (0 : Int32)
                  · skip
                    refine tm_iconst X (1 : Int32) dX5_reckonsTo_150 (by decide) ?_
                    refine tm_goto X 155 dX5_reckonsTo_151 rfl ?_
                    refine tm_lv X [0, 1, 2, 3, 4, 6] rfl ?_
                    exact hk155 (1 : Int32)
              · skip
                refine tm_ic_eq X 135 dX5_reckonsTo_125 rfl ?_ ?_
                · skip
                  refine tm_lv X [3, 4, 5, 6, 0, 2, 1] rfl ?_
                  exact hk135
                · skip
                  refine tm_iload X 2 dX5_reckonsTo_128 rfl ?_
                  refine tm_bipush X (12 : Int32) dX5_reckonsTo_130 (by decide) ?_
                  refine tm_ic_ne X 175 dX5_reckonsTo_132 rfl ?_ ?_
                  · skip
                    refine tm_iload_n X 5 dX5_reckonsTo_175 rfl rfl ?_
                    refine tm_iconst X (1 : Int32) dX5_reckonsTo_176 (by decide) ?_
                    refine tm_isub X dX5_reckonsTo_177 ?_
                    refine tm_nmI (fun v18 => ?_)
                    refine tm_istore_n X [(3, .int v18), (5, .int v7), (7, .int v6), (6, .int v5), (0, .ref (ad 300)), (2, .int x2), (4, .int v1)] dX5_reckonsTo_178 rfl (Nat.le_of_ble_eq_true rfl) rfl ?_
                    refine tm_iload X 3 dX5_reckonsTo_179 rfl ?_
                    refine tm_iconst X (5 : Int32) dX5_reckonsTo_181 (by decide) ?_
                    refine tm_let (fun k => TM G (r, h') k (wM ad dA h4) 0 0 203 [(0, .ref (ad 300)), (2, .int x2), (3, .int v18), (4, .int v1), (5, .int v7), (6, .int v5)] []) ?_ (fun k203 hk203 => ?_)
                    · skip
                      refine tm_aload_n X 0 dX5_reckonsTo_203 rfl rfl ?_
                      refine tm_getR X (frM_300_27 ad dA h4) in_X5 rfl (Nat.le_of_ble_eq_true rfl) q1214 rfl dX5_reckonsTo_204 ?_
                      refine tm_iload_n X 2 dX5_reckonsTo_207 rfl rfl ?_
                      refine tm_iconst X (1 : Int32) dX5_reckonsTo_208 (by decide) ?_
                      refine tm_isub X dX5_reckonsTo_209 ?_
                      refine tm_iload X 5 dX5_reckonsTo_210 rfl ?_
                      refine tm_aload_n X 0 dX5_reckonsTo_212 rfl rfl ?_
                      refine tm_getR X (frM_300_27 ad dA h4) in_X5 rfl (Nat.le_of_ble_eq_true rfl) q1214 rfl dX5_reckonsTo_213 ?_
                      refine tm_iload_n X 2 dX5_reckonsTo_216 rfl rfl ?_
                      refine tm_iconst X (1 : Int32) dX5_reckonsTo_217 (by decide) ?_
                      refine tm_isub X dX5_reckonsTo_218 ?_
                      refine tm_nmI (fun v19 => ?_)
                      refine tm_iaload X (arM_227 ad dA) dX5_reckonsTo_219 ?_
                      refine tm_aload_n X 0 dX5_reckonsTo_220 rfl rfl ?_
                      refine tm_getR X (frM_300_27 ad dA h4) in_X5 rfl (Nat.le_of_ble_eq_true rfl) q1214 rfl dX5_reckonsTo_221 ?_
                      refine tm_iload_n X 2 dX5_reckonsTo_224 rfl rfl ?_
                      refine tm_iaload X (arM_227 ad dA) dX5_reckonsTo_225 ?_
                      refine tm_cl1 (fun r20 e21 => ?_)
                      refine tm_callSi (As := [.int v5, .int (h4 227 v19.toNatClampNeg), .int (h4 227 v18.toNatClampNeg)]) (rest := [.int (v18 - (1 : Int32)), .ref (ad 227)]) X (ctX5_reckon l D dA v5 (h4 227 v19.toNatClampNeg) (h4 227 v18.toNatClampNeg) r20 e21) (lw_S q1805 q1806 q122 q1807) cyX5_reckon rfl ⟨(Nat.le_of_ble_eq_true rfl), (Nat.le_of_ble_eq_true rfl)⟩ (Nat.le_of_ble_eq_true rfl) dX5_reckonsTo_226 ⟨Nat.le_of_ble_eq_true rfl, Nat.le_of_ble_eq_true rfl⟩ rfl ?_
                      refine tm_iastore X (arM_227 ad dA) dX5_reckonsTo_229 (fun h22 => ?_)
                      refine tm_lv X [0, 1, 2, 3, 4] rfl ?_
                      exact hk230 v18 v7 h22
                    · skip
                      refine tm_let (fun k => TM G (r, h') k (wM ad dA h4) 0 0 192 [(0, .ref (ad 300)), (2, .int x2), (3, .int v18), (4, .int v1), (5, .int v7), (6, .int v5)] []) ?_ (fun k192 hk192 => ?_)
                      · skip
                        refine tm_aload_n X 0 dX5_reckonsTo_192 rfl rfl ?_
                        refine tm_getR X (frM_300_27 ad dA h4) in_X5 rfl (Nat.le_of_ble_eq_true rfl) q1214 rfl dX5_reckonsTo_193 ?_
                        refine tm_iload_n X 2 dX5_reckonsTo_196 rfl rfl ?_
                        refine tm_iaload X (arM_227 ad dA) dX5_reckonsTo_197 ?_
                        refine tm_if_ne X 203 dX5_reckonsTo_198 rfl ?_ ?_
                        · skip
                          exact hk203
                        · skip
                          refine tm_iconst X (0 : Int32) dX5_reckonsTo_201 (by decide) ?_
                          exact tm_retIH (wf := wM ad dA) hRet dX5_reckonsTo_202
                      · skip
                        refine tm_ic_eq X 192 dX5_reckonsTo_182 rfl ?_ ?_
                        · skip
                          refine tm_lv X [4, 5, 0, 6, 1, 3] rfl ?_
                          exact hk192
                        · skip
                          refine tm_iload X 3 dX5_reckonsTo_185 rfl ?_
                          refine tm_bipush X (6 : Int32) dX5_reckonsTo_187 (by decide) ?_
                          refine tm_ic_ne X 203 dX5_reckonsTo_189 rfl ?_ ?_
                          · skip
                            refine tm_lv X [4, 5, 0, 6, 1, 3] rfl ?_
                            exact hk203
                          · skip
                            refine tm_lv X [4, 5, 0, 6, 1, 3] rfl ?_
                            exact hk192
                  · skip
                    refine tm_lv X [3, 4, 5, 6, 0, 2, 1] rfl ?_
                    exact hk135
            · skip
              refine tm_aload_n X 3 dX5_reckonsTo_100 rfl rfl ?_
              refine tm_getR X (frM_300_27 ad dA h4) in_X5 rfl (Nat.le_of_ble_eq_true rfl) q1214 rfl dX5_reckonsTo_101 ?_
              refine tm_iload_n X 5 dX5_reckonsTo_104 rfl rfl ?_
              refine tm_iconst X (1 : Int32) dX5_reckonsTo_105 (by decide) ?_
              refine tm_isub X dX5_reckonsTo_106 ?_
              refine tm_iconst X (1 : Int32) dX5_reckonsTo_107 (by decide) ?_
              refine tm_aload_n X 3 dX5_reckonsTo_108 rfl rfl ?_
              refine tm_getR X (frM_300_27 ad dA h4) in_X5 rfl (Nat.le_of_ble_eq_true rfl) q1214 rfl dX5_reckonsTo_109 ?_
              refine tm_iload_n X 5 dX5_reckonsTo_112 rfl rfl ?_
              refine tm_iconst X (1 : Int32) dX5_reckonsTo_113 (by decide) ?_
              refine tm_isub X dX5_reckonsTo_114 ?_
              refine tm_nmI (fun v23 => ?_)
              refine tm_iaload X (arM_227 ad dA) dX5_reckonsTo_115 ?_
              refine tm_isub X dX5_reckonsTo_116 ?_
              refine tm_iastore X (arM_227 ad dA) dX5_reckonsTo_117 (fun h24 => ?_)
              refine tm_goto X 230 dX5_reckonsTo_118 rfl ?_
              refine tm_lv X [3, 4, 5, 6, 0] rfl ?_
              exact hk230 x3_2 v7 h24
          · skip
            refine tm_lv X [3, 4, 5, 6, 0, 2, 1] rfl ?_
            exact hk63
def mX5_firstOf (h : Hp) (x1 : Int32) : Option (Int32 × Hp) :=
fx FU (fun _ _ => none) (fun k2 (x2_1 : Int32) (h2 : Hp) =>
nm (fun (h3 : Hp) =>
some (x2_1, h3)) (fun k47 =>
if (h2 300 15) ≤ x2_1 then (
k47 h2) else (
ck x2_1 16 (
nm (fun (h4 : Hp) =>
nm ((x2_1 + (1 : Int32))) (fun v5 =>
k2 v5 h4)) (fun k40 =>
if (h2 223 x2_1.toNatClampNeg) = x1 then (
ck x2_1 16 (
ck x2_1 16 (
cl2 (mX5_reckonsTo h2 (h2 225 x2_1.toNatClampNeg) (h2 226 x2_1.toNatClampNeg)) (fun r7 h8 =>
if r7 = (1 : Int32) then (
k47 h8) else (
k40 h8))))) else (
k40 h2)))))) (0 : Int32) h
theorem cyX5_firstOf : Callee yX5_firstOf 1 := by unfold Callee; decide +kernel
set_option maxHeartbeats 4000000 in
theorem ctX5_firstOf (l : Launch) (D : va_G) (ad : Nat → Nat) (dA : Nat → ClassId) (h : Hp) (x1 : Int32) (r : Int32) (h' : Hp) (hm : mX5_firstOf h x1 = some (r, h')) : CT l yX5_firstOf cX5_firstOf 3 (some .int) D dA 2 49 0 0 (wM ad dA h) [.ref (ad 300), .int x1] (some (.int r)) (wM ad dA h') := by
  refine ct_open (by decide) (Nat.le_of_ble_eq_true rfl) ?_
  intro G X hI hZ hV hR
  have hRet := hI rfl r rfl
  refine (show TM G (r, h') (mX5_firstOf h x1) (wM ad dA h) 0 0 0 [(0, .ref (ad 300)), (1, .int x1)] [] from ?_) hm
  clear hm hI hZ hV hR
  unfold mX5_firstOf
  refine tm_iconst X (0 : Int32) dX5_firstOf_0 (by decide) ?_
  refine tm_istore_n X [(2, .int (0 : Int32)), (0, .ref (ad 300)), (1, .int x1)] dX5_firstOf_1 rfl (Nat.le_of_ble_eq_true rfl) rfl ?_
  refine tm_lv X [1, 2, 0] rfl ?_
  refine fx_P (fun (k : Int32 → Hp → Option (Int32 × Hp)) => ∀ (x2_1 : Int32) (h2 : Hp), TM G (r, h') (k x2_1 h2) (wM ad dA h2) 0 0 2 [(0, .ref (ad 300)), (1, .int x1), (2, .int x2_1)] []) (fun _ _ => tm_none) (fun k2 hk2 x2_1 h2 => ?_) FU (0 : Int32) h
  refine tm_iload_n X 2 dX5_firstOf_2 rfl rfl ?_
  refine tm_aload_n X 0 dX5_firstOf_3 rfl rfl ?_
  refine tm_getI X (fiM_300_15 ad dA) in_X5 rfl (Nat.le_of_ble_eq_true rfl) q1202 rfl dX5_firstOf_4 ?_
  refine tm_let (fun k => ∀ (h3 : Hp), TM G (r, h') (k h3) (wM ad dA h3) 0 0 47 [(2, .int x2_1)] []) ?_ (fun k47 hk47 => ?_)
  · intro h3
    refine tm_iload_n X 0 dX5_firstOf_47 rfl rfl ?_
    exact tm_retIH (wf := wM ad dA) hRet dX5_firstOf_48
  · skip
    refine tm_ic_ge X 47 dX5_firstOf_7 rfl ?_ ?_
    · skip
      refine tm_lv X [2] rfl ?_
      exact hk47 h2
    · skip
      refine tm_aload_n X 0 dX5_firstOf_10 rfl rfl ?_
      refine tm_getR X (frM_300_23 ad dA h2) in_X5 rfl (Nat.le_of_ble_eq_true rfl) q1210 rfl dX5_firstOf_11 ?_
      refine tm_iload_n X 2 dX5_firstOf_14 rfl rfl ?_
      refine tm_iaload X (arM_223 ad dA) dX5_firstOf_15 ?_
      refine tm_iload_n X 1 dX5_firstOf_16 rfl rfl ?_
      refine tm_let (fun k => ∀ (h4 : Hp), TM G (r, h') (k h4) (wM ad dA h4) 0 0 40 [(0, .ref (ad 300)), (1, .int x1), (2, .int x2_1)] []) ?_ (fun k40 hk40 => ?_)
      · intro h4
        refine tm_iload_n X 2 dX5_firstOf_40 rfl rfl ?_
        refine tm_iconst X (1 : Int32) dX5_firstOf_41 (by decide) ?_
        refine tm_iadd X dX5_firstOf_42 ?_
        refine tm_nmI (fun v5 => ?_)
        refine tm_istore_n X [(2, .int v5), (0, .ref (ad 300)), (1, .int x1)] dX5_firstOf_43 rfl (Nat.le_of_ble_eq_true rfl) rfl ?_
        refine tm_goto X 2 dX5_firstOf_44 rfl ?_
        refine tm_lv X [1, 2, 0] rfl ?_
        exact hk2 v5 h4
      · skip
        refine tm_ic_ne X 40 dX5_firstOf_17 rfl ?_ ?_
        · skip
          exact hk40 h2
        · skip
          refine tm_aload_n X 0 dX5_firstOf_20 rfl rfl ?_
          refine tm_aload_n X 0 dX5_firstOf_21 rfl rfl ?_
          refine tm_getR X (frM_300_25 ad dA h2) in_X5 rfl (Nat.le_of_ble_eq_true rfl) q1212 rfl dX5_firstOf_22 ?_
          refine tm_iload_n X 2 dX5_firstOf_25 rfl rfl ?_
          refine tm_iaload X (arM_225 ad dA) dX5_firstOf_26 ?_
          refine tm_aload_n X 0 dX5_firstOf_27 rfl rfl ?_
          refine tm_getR X (frM_300_26 ad dA h2) in_X5 rfl (Nat.le_of_ble_eq_true rfl) q1213 rfl dX5_firstOf_28 ?_
          refine tm_iload_n X 2 dX5_firstOf_31 rfl rfl ?_
          refine tm_iaload X (arM_226 ad dA) dX5_firstOf_32 ?_
          refine tm_cl2 (fun r7 h8 e6 => ?_)
          refine tm_callVi (As := [.int (h2 225 x2_1.toNatClampNeg), .int (h2 226 x2_1.toNatClampNeg)]) (rest := []) (q0 := 0) X (ctX5_reckonsTo l D ad dA h2 (h2 225 x2_1.toNatClampNeg) (h2 226 x2_1.toNatClampNeg) r7 h8 e6) (lw_V q1801 q1803 qs110 q122 q1804) cyX5_reckonsTo rfl rfl rfl ⟨(Nat.le_of_ble_eq_true rfl), (Nat.le_of_ble_eq_true rfl)⟩ (Nat.le_of_ble_eq_true rfl) dX5_firstOf_33 ⟨Nat.le_of_ble_eq_true rfl, Nat.le_of_ble_eq_true rfl⟩ rfl ?_
          refine tm_iconst X (1 : Int32) dX5_firstOf_36 (by decide) ?_
          refine tm_ic_eq X 47 dX5_firstOf_37 rfl ?_ ?_
          · skip
            refine tm_lv X [2] rfl ?_
            exact hk47 h8
          · skip
            exact hk40 h8
def mX5_wornBy (h : Hp) (x1 : Int32) (x2 : Int32) : Option (Int32 × Hp) :=
cl2 (mX5_firstOf h x1) (fun r2 h3 =>
nm (fun (s4 : Int32) (h5 : Hp) =>
some (s4, h5)) (fun k43 =>
if r2 = (h3 300 15) then (
k43 x2 h3) else (
ck r2 16 (
ck r2 16 (
cl2 (mX5_reckonsTo h3 (h3 224 r2.toNatClampNeg) (h3 225 r2.toNatClampNeg)) (fun r7 h8 =>
cl1 (mX5_min (25 : Int32) r7) (fun r9 =>
cl1 (mX5_max (0 : Int32) r9) (fun r11 =>
k43 r11 h8))))))))
theorem cyX5_wornBy : Callee yX5_wornBy 2 := by unfold Callee; decide +kernel
set_option maxHeartbeats 4000000 in
theorem ctX5_wornBy (l : Launch) (D : va_G) (ad : Nat → Nat) (dA : Nat → ClassId) (h : Hp) (x1 : Int32) (x2 : Int32) (r : Int32) (h' : Hp) (hm : mX5_wornBy h x1 x2 = some (r, h')) : CT l yX5_wornBy cX5_wornBy 4 (some .int) D dA 3 71 0 0 (wM ad dA h) [.ref (ad 300), .int x1, .int x2] (some (.int r)) (wM ad dA h') := by
  refine ct_open (by decide) (Nat.le_of_ble_eq_true rfl) ?_
  intro G X hI hZ hV hR
  have hRet := hI rfl r rfl
  refine (show TM G (r, h') (mX5_wornBy h x1 x2) (wM ad dA h) 0 0 0 [(0, .ref (ad 300)), (1, .int x1), (2, .int x2)] [] from ?_) hm
  clear hm hI hZ hV hR
  unfold mX5_wornBy
  refine tm_aload_n X 0 dX5_wornBy_0 rfl rfl ?_
  refine tm_iload_n X 1 dX5_wornBy_1 rfl rfl ?_
  refine tm_cl2 (fun r2 h3 e1 => ?_)
  refine tm_callVi (As := [.int x1]) (rest := []) (q0 := 0) X (ctX5_firstOf l D ad dA h x1 r2 h3 e1) (lw_V q1797 q1799 qs109 q122 q1800) cyX5_firstOf rfl rfl rfl ⟨(Nat.le_of_ble_eq_true rfl), (Nat.le_of_ble_eq_true rfl)⟩ (Nat.le_of_ble_eq_true rfl) dX5_wornBy_2 ⟨Nat.le_of_ble_eq_true rfl, Nat.le_of_ble_eq_true rfl⟩ rfl ?_
  refine tm_istore_n X [(3, .int r2), (0, .ref (ad 300)), (1, .int x1), (2, .int x2)] dX5_wornBy_5 rfl (Nat.le_of_ble_eq_true rfl) rfl ?_
  refine tm_iload_n X 0 dX5_wornBy_6 rfl rfl ?_
  refine tm_aload_n X 1 dX5_wornBy_7 rfl rfl ?_
  refine tm_getI X (fiM_300_15 ad dA) in_X5 rfl (Nat.le_of_ble_eq_true rfl) q1202 rfl dX5_wornBy_8 ?_
  refine tm_let (fun k => ∀ (s4 : Int32) (h5 : Hp), TM G (r, h') (k s4 h5) (wM ad dA h5) 0 0 43 [] [.int s4]) ?_ (fun k43 hk43 => ?_)
  · intro s4 h5
    exact tm_retIH (wf := wM ad dA) hRet dX5_wornBy_43
  · skip
    refine tm_ic_ne X 18 dX5_wornBy_11 rfl ?_ ?_
    · skip
      refine tm_iconst X (0 : Int32) dX5_wornBy_18 (by decide) ?_
      refine tm_bipush X (25 : Int32) dX5_wornBy_19 (by decide) ?_
      refine tm_aload_n X 1 dX5_wornBy_21 rfl rfl ?_
      refine tm_aload_n X 1 dX5_wornBy_22 rfl rfl ?_
      refine tm_getR X (frM_300_24 ad dA h3) in_X5 rfl (Nat.le_of_ble_eq_true rfl) q1211 rfl dX5_wornBy_23 ?_
      refine tm_iload_n X 0 dX5_wornBy_26 rfl rfl ?_
      refine tm_iaload X (arM_224 ad dA) dX5_wornBy_27 ?_
      refine tm_aload_n X 1 dX5_wornBy_28 rfl rfl ?_
      refine tm_getR X (frM_300_25 ad dA h3) in_X5 rfl (Nat.le_of_ble_eq_true rfl) q1212 rfl dX5_wornBy_29 ?_
      refine tm_iload_n X 0 dX5_wornBy_32 rfl rfl ?_
      refine tm_iaload X (arM_225 ad dA) dX5_wornBy_33 ?_
      refine tm_cl2 (fun r7 h8 e6 => ?_)
      refine tm_callVi (As := [.int (h3 224 r2.toNatClampNeg), .int (h3 225 r2.toNatClampNeg)]) (rest := [.int (25 : Int32), .int (0 : Int32)]) (q0 := 0) X (ctX5_reckonsTo l D ad dA h3 (h3 224 r2.toNatClampNeg) (h3 225 r2.toNatClampNeg) r7 h8 e6) (lw_V q1801 q1803 qs110 q122 q1804) cyX5_reckonsTo rfl rfl rfl ⟨(Nat.le_of_ble_eq_true rfl), (Nat.le_of_ble_eq_true rfl)⟩ (Nat.le_of_ble_eq_true rfl) dX5_wornBy_34 ⟨Nat.le_of_ble_eq_true rfl, Nat.le_of_ble_eq_true rfl⟩ rfl ?_
      refine tm_cl1 (fun r9 e10 => ?_)
      refine tm_callSi (As := [.int (25 : Int32), .int r7]) (rest := [.int (0 : Int32)]) X (ctX5_min l D dA (25 : Int32) r7 r9 e10) (lw_S q1558 q1559 q122 q1560) cyX5_min rfl ⟨(Nat.le_of_ble_eq_true rfl), (Nat.le_of_ble_eq_true rfl)⟩ (Nat.le_of_ble_eq_true rfl) dX5_wornBy_37 ⟨Nat.le_of_ble_eq_true rfl, Nat.le_of_ble_eq_true rfl⟩ rfl ?_
      refine tm_cl1 (fun r11 e12 => ?_)
      refine tm_callSi (As := [.int (0 : Int32), .int r9]) (rest := []) X (ctX5_max l D dA (0 : Int32) r9 r11 e12) (lw_S q1539 q1540 q122 q1541) cyX5_max rfl ⟨(Nat.le_of_ble_eq_true rfl), (Nat.le_of_ble_eq_true rfl)⟩ (Nat.le_of_ble_eq_true rfl) dX5_wornBy_40 ⟨Nat.le_of_ble_eq_true rfl, Nat.le_of_ble_eq_true rfl⟩ rfl ?_
      refine tm_lv X [] rfl ?_
      exact hk43 r11 h8
    · skip
      refine tm_iload_n X 3 dX5_wornBy_14 rfl rfl ?_
      refine tm_goto X 43 dX5_wornBy_15 rfl ?_
      refine tm_lv X [] rfl ?_
      exact hk43 x2 h3
def mX5_wearsAt (h : Hp) (x1 : Int32) (x2 : Int32) (x3 : Int32) : Option (Int32 × Hp) :=
cl1 (mX5_against x1 (h 300 52) (h 300 53)) (fun r1 =>
cl1 (mX5_upperAt h x1) (fun r4 =>
nm (u2 h 228 0 r4) (fun h5 =>
cl1 (mX5_lowerAt h5 r1) (fun r7 =>
nm (u2 h5 228 1 r7) (fun h8 =>
nm (u2 h8 228 2 (jrem x1 (8 : Int32))) (fun h9 =>
nm (u2 h9 228 3 (x1 / (8 : Int32))) (fun h10 =>
nm (u2 h10 228 4 ((h10 300 52) + (4 : Int32))) (fun h11 =>
nm (u2 h11 228 5 ((h11 300 53) + (3 : Int32))) (fun h12 =>
nm (u2 h12 228 6 x3) (fun h13 =>
nm (u2 h13 228 7 (jrem x2 (100 : Int32))) (fun h14 =>
nm (u2 h14 228 8 (jrem (h14 300 4) (100 : Int32))) (fun h15 =>
cl2 (mX5_lotGoes h15) (fun r17 h18 =>
nm (u2 h18 228 9 (jrem r17 (10 : Int32))) (fun h19 =>
cl2 (mX5_firstOf h19 (120 : Int32)) (fun r21 h22 =>
if (h22 300 15) ≤ r21 then (
ck x1 48 (
nm (fun (s23 : Int32) (h24 : Hp) =>
ck r1 48 (
nm (fun (s25 : Int32) (h26 : Hp) =>
cl1 (mX5_takes1 h26 (1 : Int32) x1 s23) (fun h28 =>
cl1 (mX5_takes1 h28 (0 : Int32) r1 s25) (fun h30 =>
some ((s23 + s25), h30)))) (fun k203 =>
if (h24 202 r1.toNatClampNeg) = 0 then (
cl1 (mX5_lowerAt h24 r1) (fun r32 =>
cl2 (mX5_wornBy h24 (121 : Int32) (1 : Int32)) (fun r34 h35 =>
cl1 (mX5_min r32 r34) (fun r36 =>
k203 r36 h35)))) else (
k203 (0 : Int32) h24)))) (fun k171 =>
if (h22 202 x1.toNatClampNeg) = 0 then (
cl1 (mX5_upperAt h22 x1) (fun r39 =>
cl2 (mX5_wornBy h22 (118 : Int32) (0 : Int32)) (fun r41 h42 =>
cl1 (mX5_min r39 r41) (fun r43 =>
k171 r43 h42)))) else (
k171 (0 : Int32) h22)))) else (
some ((0 : Int32), h22)))))))))))))))))
theorem cyX5_wearsAt : Callee yX5_wearsAt 3 := by unfold Callee; decide +kernel
set_option maxHeartbeats 4000000 in
theorem ctX5_wearsAt (l : Launch) (D : va_G) (ad : Nat → Nat) (dA : Nat → ClassId) (h : Hp) (x1 : Int32) (x2 : Int32) (x3 : Int32) (r : Int32) (h' : Hp) (hm : mX5_wearsAt h x1 x2 x3 = some (r, h')) : CT l yX5_wearsAt cX5_wearsAt 7 (some .int) D dA 4 94 0 0 (wM ad dA h) [.ref (ad 300), .int x1, .int x2, .int x3] (some (.int r)) (wM ad dA h') := by
  refine ct_open (by decide) (Nat.le_of_ble_eq_true rfl) ?_
  intro G X hI hZ hV hR
  have hRet := hI rfl r rfl
  refine (show TM G (r, h') (mX5_wearsAt h x1 x2 x3) (wM ad dA h) 0 0 0 [(0, .ref (ad 300)), (1, .int x1), (2, .int x2), (3, .int x3)] [] from ?_) hm
  clear hm hI hZ hV hR
  unfold mX5_wearsAt
  refine tm_iload_n X 1 dX5_wearsAt_0 rfl rfl ?_
  refine tm_aload_n X 0 dX5_wearsAt_1 rfl rfl ?_
  refine tm_getI X (fiM_300_52 ad dA) in_X5 rfl (Nat.le_of_ble_eq_true rfl) q1239 rfl dX5_wearsAt_2 ?_
  refine tm_aload_n X 0 dX5_wearsAt_5 rfl rfl ?_
  refine tm_getI X (fiM_300_53 ad dA) in_X5 rfl (Nat.le_of_ble_eq_true rfl) q1240 rfl dX5_wearsAt_6 ?_
  refine tm_cl1 (fun r1 e2 => ?_)
  refine tm_callSi (As := [.int x1, .int (h 300 52), .int (h 300 53)]) (rest := []) X (ctX5_against l D dA x1 (h 300 52) (h 300 53) r1 e2) (lw_S q1528 q1529 q122 q1530) cyX5_against rfl ⟨(Nat.le_of_ble_eq_true rfl), (Nat.le_of_ble_eq_true rfl)⟩ (Nat.le_of_ble_eq_true rfl) dX5_wearsAt_9 ⟨Nat.le_of_ble_eq_true rfl, Nat.le_of_ble_eq_true rfl⟩ rfl ?_
  refine tm_istore X [(4, .int r1), (0, .ref (ad 300)), (1, .int x1), (2, .int x2), (3, .int x3)] dX5_wearsAt_12 (Nat.le_of_ble_eq_true rfl) rfl ?_
  refine tm_aload_n X 1 dX5_wearsAt_14 rfl rfl ?_
  refine tm_getR X (frM_300_28 ad dA h) in_X5 rfl (Nat.le_of_ble_eq_true rfl) q1215 rfl dX5_wearsAt_15 ?_
  refine tm_iconst X (0 : Int32) dX5_wearsAt_18 (by decide) ?_
  refine tm_aload_n X 1 dX5_wearsAt_19 rfl rfl ?_
  refine tm_iload_n X 2 dX5_wearsAt_20 rfl rfl ?_
  refine tm_cl1 (fun r4 e3 => ?_)
  refine tm_callVi (As := [.int x1]) (rest := [.int (0 : Int32), .ref (ad 228)]) (q0 := 0) X (ctX5_upperAt l D ad dA h x1 r4 e3) (lw_V q1531 q1533 qs77 q122 q1534) cyX5_upperAt rfl rfl rfl ⟨(Nat.le_of_ble_eq_true rfl), (Nat.le_of_ble_eq_true rfl)⟩ (Nat.le_of_ble_eq_true rfl) dX5_wearsAt_21 ⟨Nat.le_of_ble_eq_true rfl, Nat.le_of_ble_eq_true rfl⟩ rfl ?_
  refine tm_iastoreL (j := 0) X (arM_228 ad dA) (by unfold vp_in; decide) (by decide) dX5_wearsAt_24 (fun h5 => ?_)
  refine tm_aload_n X 1 dX5_wearsAt_25 rfl rfl ?_
  refine tm_getR X (frM_300_28 ad dA h5) in_X5 rfl (Nat.le_of_ble_eq_true rfl) q1215 rfl dX5_wearsAt_26 ?_
  refine tm_iconst X (1 : Int32) dX5_wearsAt_29 (by decide) ?_
  refine tm_aload_n X 1 dX5_wearsAt_30 rfl rfl ?_
  refine tm_iload X 0 dX5_wearsAt_31 rfl ?_
  refine tm_cl1 (fun r7 e6 => ?_)
  refine tm_callVi (As := [.int r1]) (rest := [.int (1 : Int32), .ref (ad 228)]) (q0 := 0) X (ctX5_lowerAt l D ad dA h5 r1 r7 e6) (lw_V q1535 q1537 qs78 q122 q1538) cyX5_lowerAt rfl rfl rfl ⟨(Nat.le_of_ble_eq_true rfl), (Nat.le_of_ble_eq_true rfl)⟩ (Nat.le_of_ble_eq_true rfl) dX5_wearsAt_33 ⟨Nat.le_of_ble_eq_true rfl, Nat.le_of_ble_eq_true rfl⟩ rfl ?_
  refine tm_iastoreL (j := 1) X (arM_228 ad dA) (by unfold vp_in; decide) (by decide) dX5_wearsAt_36 (fun h8 => ?_)
  refine tm_aload_n X 1 dX5_wearsAt_37 rfl rfl ?_
  refine tm_getR X (frM_300_28 ad dA h8) in_X5 rfl (Nat.le_of_ble_eq_true rfl) q1215 rfl dX5_wearsAt_38 ?_
  refine tm_iconst X (2 : Int32) dX5_wearsAt_41 (by decide) ?_
  refine tm_iload_n X 2 dX5_wearsAt_42 rfl rfl ?_
  refine tm_bipush X (8 : Int32) dX5_wearsAt_43 (by decide) ?_
  refine tm_irem X dX5_wearsAt_45 (by decide) ?_
  refine tm_iastoreL (j := 2) X (arM_228 ad dA) (by unfold vp_in; decide) (by decide) dX5_wearsAt_46 (fun h9 => ?_)
  refine tm_aload_n X 1 dX5_wearsAt_47 rfl rfl ?_
  refine tm_getR X (frM_300_28 ad dA h9) in_X5 rfl (Nat.le_of_ble_eq_true rfl) q1215 rfl dX5_wearsAt_48 ?_
  refine tm_iconst X (3 : Int32) dX5_wearsAt_51 (by decide) ?_
  refine tm_iload_n X 2 dX5_wearsAt_52 rfl rfl ?_
  refine tm_bipush X (8 : Int32) dX5_wearsAt_53 (by decide) ?_
  refine tm_idiv X dX5_wearsAt_55 (by decide) ?_
  refine tm_iastoreL (j := 3) X (arM_228 ad dA) (by unfold vp_in; decide) (by decide) dX5_wearsAt_56 (fun h10 => ?_)
  refine tm_aload_n X 1 dX5_wearsAt_57 rfl rfl ?_
  refine tm_getR X (frM_300_28 ad dA h10) in_X5 rfl (Nat.le_of_ble_eq_true rfl) q1215 rfl dX5_wearsAt_58 ?_
  refine tm_iconst X (4 : Int32) dX5_wearsAt_61 (by decide) ?_
  refine tm_aload_n X 1 dX5_wearsAt_62 rfl rfl ?_
  refine tm_getI X (fiM_300_52 ad dA) in_X5 rfl (Nat.le_of_ble_eq_true rfl) q1239 rfl dX5_wearsAt_63 ?_
  refine tm_iconst X (4 : Int32) dX5_wearsAt_66 (by decide) ?_
  refine tm_iadd X dX5_wearsAt_67 ?_
  refine tm_iastoreL (j := 4) X (arM_228 ad dA) (by unfold vp_in; decide) (by decide) dX5_wearsAt_68 (fun h11 => ?_)
  refine tm_aload_n X 1 dX5_wearsAt_69 rfl rfl ?_
  refine tm_getR X (frM_300_28 ad dA h11) in_X5 rfl (Nat.le_of_ble_eq_true rfl) q1215 rfl dX5_wearsAt_70 ?_
  refine tm_iconst X (5 : Int32) dX5_wearsAt_73 (by decide) ?_
  refine tm_aload_n X 1 dX5_wearsAt_74 rfl rfl ?_
  refine tm_getI X (fiM_300_53 ad dA) in_X5 rfl (Nat.le_of_ble_eq_true rfl) q1240 rfl dX5_wearsAt_75 ?_
  refine tm_iconst X (3 : Int32) dX5_wearsAt_78 (by decide) ?_
  refine tm_iadd X dX5_wearsAt_79 ?_
  refine tm_iastoreL (j := 5) X (arM_228 ad dA) (by unfold vp_in; decide) (by decide) dX5_wearsAt_80 (fun h12 => ?_)
  refine tm_aload_n X 1 dX5_wearsAt_81 rfl rfl ?_
  refine tm_getR X (frM_300_28 ad dA h12) in_X5 rfl (Nat.le_of_ble_eq_true rfl) q1215 rfl dX5_wearsAt_82 ?_
  refine tm_bipush X (6 : Int32) dX5_wearsAt_85 (by decide) ?_
  refine tm_iload_n X 4 dX5_wearsAt_87 rfl rfl ?_
  refine tm_iastoreL (j := 6) X (arM_228 ad dA) (by unfold vp_in; decide) (by decide) dX5_wearsAt_88 (fun h13 => ?_)
  refine tm_aload_n X 1 dX5_wearsAt_89 rfl rfl ?_
  refine tm_getR X (frM_300_28 ad dA h13) in_X5 rfl (Nat.le_of_ble_eq_true rfl) q1215 rfl dX5_wearsAt_90 ?_
  refine tm_bipush X (7 : Int32) dX5_wearsAt_93 (by decide) ?_
  refine tm_iload_n X 3 dX5_wearsAt_95 rfl rfl ?_
  refine tm_bipush X (100 : Int32) dX5_wearsAt_96 (by decide) ?_
  refine tm_irem X dX5_wearsAt_98 (by decide) ?_
  refine tm_iastoreL (j := 7) X (arM_228 ad dA) (by unfold vp_in; decide) (by decide) dX5_wearsAt_99 (fun h14 => ?_)
  refine tm_aload_n X 1 dX5_wearsAt_100 rfl rfl ?_
  refine tm_getR X (frM_300_28 ad dA h14) in_X5 rfl (Nat.le_of_ble_eq_true rfl) q1215 rfl dX5_wearsAt_101 ?_
  refine tm_bipush X (8 : Int32) dX5_wearsAt_104 (by decide) ?_
  refine tm_aload_n X 1 dX5_wearsAt_106 rfl rfl ?_
  refine tm_getI X (fiM_300_4 ad dA) in_X5 rfl (Nat.le_of_ble_eq_true rfl) q1191 rfl dX5_wearsAt_107 ?_
  refine tm_bipush X (100 : Int32) dX5_wearsAt_110 (by decide) ?_
  refine tm_irem X dX5_wearsAt_112 (by decide) ?_
  refine tm_iastoreL (j := 8) X (arM_228 ad dA) (by unfold vp_in; decide) (by decide) dX5_wearsAt_113 (fun h15 => ?_)
  refine tm_aload_n X 1 dX5_wearsAt_114 rfl rfl ?_
  refine tm_getR X (frM_300_28 ad dA h15) in_X5 rfl (Nat.le_of_ble_eq_true rfl) q1215 rfl dX5_wearsAt_115 ?_
  refine tm_bipush X (9 : Int32) dX5_wearsAt_118 (by decide) ?_
  refine tm_aload_n X 1 dX5_wearsAt_120 rfl rfl ?_
  refine tm_cl2 (fun r17 h18 e16 => ?_)
  refine tm_callVi (As := []) (rest := [.int (9 : Int32), .ref (ad 228)]) (q0 := 0) X (ctX5_lotGoes l D ad dA h15 r17 h18 e16) (lw_V q1792 q1794 qs108 q122 q1795) cyX5_lotGoes rfl rfl rfl ⟨(Nat.le_of_ble_eq_true rfl), (Nat.le_of_ble_eq_true rfl)⟩ (Nat.le_of_ble_eq_true rfl) dX5_wearsAt_121 ⟨Nat.le_of_ble_eq_true rfl, Nat.le_of_ble_eq_true rfl⟩ rfl ?_
  refine tm_bipush X (10 : Int32) dX5_wearsAt_124 (by decide) ?_
  refine tm_irem X dX5_wearsAt_126 (by decide) ?_
  refine tm_iastoreL (j := 9) X (arM_228 ad dA) (by unfold vp_in; decide) (by decide) dX5_wearsAt_127 (fun h19 => ?_)
  refine tm_aload_n X 1 dX5_wearsAt_128 rfl rfl ?_
  refine tm_bipush X (120 : Int32) dX5_wearsAt_129 (by decide) ?_
  refine tm_cl2 (fun r21 h22 e20 => ?_)
  refine tm_callVi (As := [.int (120 : Int32)]) (rest := []) (q0 := 0) X (ctX5_firstOf l D ad dA h19 (120 : Int32) r21 h22 e20) (lw_V q1797 q1799 qs109 q122 q1800) cyX5_firstOf rfl rfl rfl ⟨(Nat.le_of_ble_eq_true rfl), (Nat.le_of_ble_eq_true rfl)⟩ (Nat.le_of_ble_eq_true rfl) dX5_wearsAt_131 ⟨Nat.le_of_ble_eq_true rfl, Nat.le_of_ble_eq_true rfl⟩ rfl ?_
  refine tm_aload_n X 1 dX5_wearsAt_134 rfl rfl ?_
  refine tm_getI X (fiM_300_15 ad dA) in_X5 rfl (Nat.le_of_ble_eq_true rfl) q1202 rfl dX5_wearsAt_135 ?_
  refine tm_ic_ge X 143 dX5_wearsAt_138 rfl ?_ ?_
  · skip
    refine tm_aload_n X 1 dX5_wearsAt_143 rfl rfl ?_
    refine tm_getR X (frM_300_2 ad dA h22) in_X5 rfl (Nat.le_of_ble_eq_true rfl) q1189 rfl dX5_wearsAt_144 ?_
    refine tm_iload_n X 2 dX5_wearsAt_147 rfl rfl ?_
    refine tm_baloadZ X (arM_202 ad dA) dX5_wearsAt_148 ?_
    refine tm_let (fun k => ∀ (s23 : Int32) (h24 : Hp), TM G (r, h') (k s23 h24) (wM ad dA h24) 0 0 171 [(0, .ref (ad 300)), (1, .int x1), (4, .int r1)] [.int s23]) ?_ (fun k171 hk171 => ?_)
    · intro s23 h24
      refine tm_istore X [(5, .int s23), (0, .ref (ad 300)), (1, .int x1), (4, .int r1)] dX5_wearsAt_171 (Nat.le_of_ble_eq_true rfl) rfl ?_
      refine tm_aload_n X 1 dX5_wearsAt_173 rfl rfl ?_
      refine tm_getR X (frM_300_2 ad dA h24) in_X5 rfl (Nat.le_of_ble_eq_true rfl) q1189 rfl dX5_wearsAt_174 ?_
      refine tm_iload X 3 dX5_wearsAt_177 rfl ?_
      refine tm_baloadZ X (arM_202 ad dA) dX5_wearsAt_179 ?_
      refine tm_let (fun k => ∀ (s25 : Int32) (h26 : Hp), TM G (r, h') (k s25 h26) (wM ad dA h26) 0 0 203 [(0, .ref (ad 300)), (1, .int x1), (4, .int r1), (5, .int s23)] [.int s25]) ?_ (fun k203 hk203 => ?_)
      · intro s25 h26
        refine tm_istore X [(6, .int s25), (0, .ref (ad 300)), (1, .int x1), (4, .int r1), (5, .int s23)] dX5_wearsAt_203 (Nat.le_of_ble_eq_true rfl) rfl ?_
        refine tm_aload_n X 1 dX5_wearsAt_205 rfl rfl ?_
        refine tm_iconst X (1 : Int32) dX5_wearsAt_206 (by decide) ?_
        refine tm_iload_n X 2 dX5_wearsAt_207 rfl rfl ?_
        refine tm_iload X 4 dX5_wearsAt_208 rfl ?_
        refine tm_cl1 (fun h28 e27 => ?_)
        refine tm_callVv (As := [.int (1 : Int32), .int x1, .int s23]) (rest := []) (q0 := 0) X (ctX5_takes1 l D ad dA h26 (1 : Int32) x1 s23 h28 e27) (lw_V q1635 q1637 qs91 q122 q1638) cyX5_takes1 rfl rfl rfl ⟨(Nat.le_of_ble_eq_true rfl), (Nat.le_of_ble_eq_true rfl)⟩ (Nat.le_of_ble_eq_true rfl) dX5_wearsAt_210 ⟨Nat.le_of_ble_eq_true rfl, Nat.le_of_ble_eq_true rfl⟩ rfl ?_
        refine tm_aload_n X 1 dX5_wearsAt_213 rfl rfl ?_
        refine tm_iconst X (0 : Int32) dX5_wearsAt_214 (by decide) ?_
        refine tm_iload X 3 dX5_wearsAt_215 rfl ?_
        refine tm_iload X 0 dX5_wearsAt_217 rfl ?_
        refine tm_cl1 (fun h30 e29 => ?_)
        refine tm_callVv (As := [.int (0 : Int32), .int r1, .int s25]) (rest := []) (q0 := 0) X (ctX5_takes1 l D ad dA h28 (0 : Int32) r1 s25 h30 e29) (lw_V q1635 q1637 qs91 q122 q1638) cyX5_takes1 rfl rfl rfl ⟨(Nat.le_of_ble_eq_true rfl), (Nat.le_of_ble_eq_true rfl)⟩ (Nat.le_of_ble_eq_true rfl) dX5_wearsAt_219 ⟨Nat.le_of_ble_eq_true rfl, Nat.le_of_ble_eq_true rfl⟩ rfl ?_
        refine tm_iload X 4 dX5_wearsAt_222 rfl ?_
        refine tm_iload X 0 dX5_wearsAt_224 rfl ?_
        refine tm_iadd X dX5_wearsAt_226 ?_
        exact tm_retIH (wf := wM ad dA) hRet dX5_wearsAt_227
      · skip
        refine tm_if_eq X 187 dX5_wearsAt_180 rfl ?_ ?_
        · skip
          refine tm_aload_n X 1 dX5_wearsAt_187 rfl rfl ?_
          refine tm_iload X 3 dX5_wearsAt_188 rfl ?_
          refine tm_cl1 (fun r32 e31 => ?_)
          refine tm_callVi (As := [.int r1]) (rest := []) (q0 := 0) X (ctX5_lowerAt l D ad dA h24 r1 r32 e31) (lw_V q1535 q1537 qs78 q122 q1538) cyX5_lowerAt rfl rfl rfl ⟨(Nat.le_of_ble_eq_true rfl), (Nat.le_of_ble_eq_true rfl)⟩ (Nat.le_of_ble_eq_true rfl) dX5_wearsAt_190 ⟨Nat.le_of_ble_eq_true rfl, Nat.le_of_ble_eq_true rfl⟩ rfl ?_
          refine tm_aload_n X 1 dX5_wearsAt_193 rfl rfl ?_
          refine tm_bipush X (121 : Int32) dX5_wearsAt_194 (by decide) ?_
          refine tm_iconst X (1 : Int32) dX5_wearsAt_196 (by decide) ?_
          refine tm_cl2 (fun r34 h35 e33 => ?_)
          refine tm_callVi (As := [.int (121 : Int32), .int (1 : Int32)]) (rest := [.int r32]) (q0 := 0) X (ctX5_wornBy l D ad dA h24 (121 : Int32) (1 : Int32) r34 h35 e33) (lw_V q1808 q1810 qs111 q122 q1811) cyX5_wornBy rfl rfl rfl ⟨(Nat.le_of_ble_eq_true rfl), (Nat.le_of_ble_eq_true rfl)⟩ (Nat.le_of_ble_eq_true rfl) dX5_wearsAt_197 ⟨Nat.le_of_ble_eq_true rfl, Nat.le_of_ble_eq_true rfl⟩ rfl ?_
          refine tm_cl1 (fun r36 e37 => ?_)
          refine tm_callSi (As := [.int r32, .int r34]) (rest := []) X (ctX5_min l D dA r32 r34 r36 e37) (lw_S q1558 q1559 q122 q1560) cyX5_min rfl ⟨(Nat.le_of_ble_eq_true rfl), (Nat.le_of_ble_eq_true rfl)⟩ (Nat.le_of_ble_eq_true rfl) dX5_wearsAt_200 ⟨Nat.le_of_ble_eq_true rfl, Nat.le_of_ble_eq_true rfl⟩ rfl ?_
          refine tm_lv X [1, 2, 3, 0] rfl ?_
          exact hk203 r36 h35
        · skip
          refine tm_iconst X (0 : Int32) dX5_wearsAt_183 (by decide) ?_
          refine tm_goto X 203 dX5_wearsAt_184 rfl ?_
          refine tm_lv X [1, 2, 3, 0] rfl ?_
          exact hk203 (0 : Int32) h24
    · skip
      refine tm_if_eq X 156 dX5_wearsAt_149 rfl ?_ ?_
      · skip
        refine tm_aload_n X 1 dX5_wearsAt_156 rfl rfl ?_
        refine tm_iload_n X 2 dX5_wearsAt_157 rfl rfl ?_
        refine tm_cl1 (fun r39 e38 => ?_)
        refine tm_callVi (As := [.int x1]) (rest := []) (q0 := 0) X (ctX5_upperAt l D ad dA h22 x1 r39 e38) (lw_V q1531 q1533 qs77 q122 q1534) cyX5_upperAt rfl rfl rfl ⟨(Nat.le_of_ble_eq_true rfl), (Nat.le_of_ble_eq_true rfl)⟩ (Nat.le_of_ble_eq_true rfl) dX5_wearsAt_158 ⟨Nat.le_of_ble_eq_true rfl, Nat.le_of_ble_eq_true rfl⟩ rfl ?_
        refine tm_aload_n X 1 dX5_wearsAt_161 rfl rfl ?_
        refine tm_bipush X (118 : Int32) dX5_wearsAt_162 (by decide) ?_
        refine tm_iconst X (0 : Int32) dX5_wearsAt_164 (by decide) ?_
        refine tm_cl2 (fun r41 h42 e40 => ?_)
        refine tm_callVi (As := [.int (118 : Int32), .int (0 : Int32)]) (rest := [.int r39]) (q0 := 0) X (ctX5_wornBy l D ad dA h22 (118 : Int32) (0 : Int32) r41 h42 e40) (lw_V q1808 q1810 qs111 q122 q1811) cyX5_wornBy rfl rfl rfl ⟨(Nat.le_of_ble_eq_true rfl), (Nat.le_of_ble_eq_true rfl)⟩ (Nat.le_of_ble_eq_true rfl) dX5_wearsAt_165 ⟨Nat.le_of_ble_eq_true rfl, Nat.le_of_ble_eq_true rfl⟩ rfl ?_
        refine tm_cl1 (fun r43 e44 => ?_)
        refine tm_callSi (As := [.int r39, .int r41]) (rest := []) X (ctX5_min l D dA r39 r41 r43 e44) (lw_S q1558 q1559 q122 q1560) cyX5_min rfl ⟨(Nat.le_of_ble_eq_true rfl), (Nat.le_of_ble_eq_true rfl)⟩ (Nat.le_of_ble_eq_true rfl) dX5_wearsAt_168 ⟨Nat.le_of_ble_eq_true rfl, Nat.le_of_ble_eq_true rfl⟩ rfl ?_
        refine tm_lv X [1, 2, 0] rfl ?_
        exact hk171 r43 h42
      · skip
        refine tm_iconst X (0 : Int32) dX5_wearsAt_152 (by decide) ?_
        refine tm_goto X 171 dX5_wearsAt_153 rfl ?_
        refine tm_lv X [1, 2, 0] rfl ?_
        exact hk171 (0 : Int32) h22
  · skip
    refine tm_iconst X (0 : Int32) dX5_wearsAt_141 (by decide) ?_
    exact tm_retIH (wf := wM ad dA) hRet dX5_wearsAt_142
def mX5_wearsNight (h : Hp) (x1 : Int32) : Option (Int32 × Hp) :=
nm (u2 h 300 52 (0 : Int32)) (fun h1 =>
nm (u2 h1 300 53 (0 : Int32)) (fun h2 =>
fx FU (fun _ _ _ => none) (fun k14 (x2_3 : Int32) (x3_4 : Int32) (h5 : Hp) =>
if (h5 300 39) ≤ x3_4 then (
nm (u2 h5 300 4 ((h5 300 4) + (1 : Int32))) (fun h6 =>
some (x2_3, h6))) else (
ck x3_4 48 (
cl1 (mX5_glides h5 (h5 234 x3_4.toNatClampNeg)) (fun h8 =>
cl2 (mX5_marks h8 (h8 300 52) (h8 300 53) x1) (fun r10 h11 =>
fx FU (fun _ _ _ => none) (fun k50 (x2_12 : Int32) (x5_13 : Int32) (h14 : Hp) =>
if (48 : Int32) ≤ x5_13 then (
k14 x2_12 (x3_4 + (1 : Int32)) h14) else (
ck x5_13 48 (
nm (fun (x2_15 : Int32) (h16 : Hp) =>
k50 x2_15 (x5_13 + (1 : Int32)) h16) (fun k79 =>
if (h14 242 x5_13.toNatClampNeg) = 0 then (
k79 x2_12 h14) else (
cl2 (mX5_wearsAt h14 x5_13 x3_4 r10) (fun r18 h19 =>
nm ((x2_12 + r18)) (fun v20 =>
k79 v20 h19))))))) x2_3 (0 : Int32) h11))))) (0 : Int32) (0 : Int32) h2))
theorem cyX5_wearsNight : Callee yX5_wearsNight 1 := by unfold Callee; decide +kernel
set_option maxHeartbeats 4000000 in
theorem ctX5_wearsNight (l : Launch) (D : va_G) (ad : Nat → Nat) (dA : Nat → ClassId) (h : Hp) (x1 : Int32) (r : Int32) (h' : Hp) (hm : mX5_wearsNight h x1 = some (r, h')) : CT l yX5_wearsNight cX5_wearsNight 6 (some .int) D dA 5 120 0 0 (wM ad dA h) [.ref (ad 300), .int x1] (some (.int r)) (wM ad dA h') := by
  refine ct_open (by decide) (Nat.le_of_ble_eq_true rfl) ?_
  intro G X hI hZ hV hR
  have hRet := hI rfl r rfl
  refine (show TM G (r, h') (mX5_wearsNight h x1) (wM ad dA h) 0 0 0 [(0, .ref (ad 300)), (1, .int x1)] [] from ?_) hm
  clear hm hI hZ hV hR
  unfold mX5_wearsNight
  refine tm_aload_n X 0 dX5_wearsNight_0 rfl rfl ?_
  refine tm_iconst X (0 : Int32) dX5_wearsNight_1 (by decide) ?_
  refine tm_putI X (fiM_300_52 ad dA) in_X5 rfl (Nat.le_of_ble_eq_true rfl) tyX5 tyX5_ok nmX5 rfl rfl q1239 rfl dX5_wearsNight_2 (fun h1 => ?_)
  refine tm_aload_n X 0 dX5_wearsNight_5 rfl rfl ?_
  refine tm_iconst X (0 : Int32) dX5_wearsNight_6 (by decide) ?_
  refine tm_putI X (fiM_300_53 ad dA) in_X5 rfl (Nat.le_of_ble_eq_true rfl) tyX5 tyX5_ok nmX5 rfl rfl q1240 rfl dX5_wearsNight_7 (fun h2 => ?_)
  refine tm_iconst X (0 : Int32) dX5_wearsNight_10 (by decide) ?_
  refine tm_istore_n X [(2, .int (0 : Int32)), (0, .ref (ad 300)), (1, .int x1)] dX5_wearsNight_11 rfl (Nat.le_of_ble_eq_true rfl) rfl ?_
  refine tm_iconst X (0 : Int32) dX5_wearsNight_12 (by decide) ?_
  refine tm_istore_n X [(3, .int (0 : Int32)), (2, .int (0 : Int32)), (0, .ref (ad 300)), (1, .int x1)] dX5_wearsNight_13 rfl (Nat.le_of_ble_eq_true rfl) rfl ?_
  refine tm_lv X [2, 3, 1, 0] rfl ?_
  refine fx_P (fun (k : Int32 → Int32 → Hp → Option (Int32 × Hp)) => ∀ (x2_3 : Int32) (x3_4 : Int32) (h5 : Hp), TM G (r, h') (k x2_3 x3_4 h5) (wM ad dA h5) 0 0 14 [(0, .ref (ad 300)), (1, .int x1), (2, .int x2_3), (3, .int x3_4)] []) (fun _ _ _ => tm_none) (fun k14 hk14 x2_3 x3_4 h5 => ?_) FU (0 : Int32) (0 : Int32) h2
  refine tm_iload_n X 3 dX5_wearsNight_14 rfl rfl ?_
  refine tm_aload_n X 0 dX5_wearsNight_15 rfl rfl ?_
  refine tm_getI X (fiM_300_39 ad dA) in_X5 rfl (Nat.le_of_ble_eq_true rfl) q1226 rfl dX5_wearsNight_16 ?_
  refine tm_ic_ge X 91 dX5_wearsNight_19 rfl ?_ ?_
  · skip
    refine tm_aload_n X 0 dX5_wearsNight_91 rfl rfl ?_
    refine tm_aload_n X 0 dX5_wearsNight_92 rfl rfl ?_
    refine tm_getI X (fiM_300_4 ad dA) in_X5 rfl (Nat.le_of_ble_eq_true rfl) q1191 rfl dX5_wearsNight_93 ?_
    refine tm_iconst X (1 : Int32) dX5_wearsNight_96 (by decide) ?_
    refine tm_iadd X dX5_wearsNight_97 ?_
    refine tm_putI X (fiM_300_4 ad dA) in_X5 rfl (Nat.le_of_ble_eq_true rfl) tyX5 tyX5_ok nmX5 rfl rfl q1191 rfl dX5_wearsNight_98 (fun h6 => ?_)
    refine tm_iload_n X 2 dX5_wearsNight_101 rfl rfl ?_
    exact tm_retIH (wf := wM ad dA) hRet dX5_wearsNight_102
  · skip
    refine tm_aload_n X 0 dX5_wearsNight_22 rfl rfl ?_
    refine tm_aload_n X 0 dX5_wearsNight_23 rfl rfl ?_
    refine tm_getR X (frM_300_34 ad dA h5) in_X5 rfl (Nat.le_of_ble_eq_true rfl) q1221 rfl dX5_wearsNight_24 ?_
    refine tm_iload_n X 3 dX5_wearsNight_27 rfl rfl ?_
    refine tm_iaload X (arM_234 ad dA) dX5_wearsNight_28 ?_
    refine tm_cl1 (fun h8 e7 => ?_)
    refine tm_callVv (As := [.int (h5 234 x3_4.toNatClampNeg)]) (rest := []) (q0 := 0) X (ctX5_glides l D ad dA h5 (h5 234 x3_4.toNatClampNeg) h8 e7) (lw_V q1769 q1771 qs104 q122 q1772) cyX5_glides rfl rfl rfl ⟨(Nat.le_of_ble_eq_true rfl), (Nat.le_of_ble_eq_true rfl)⟩ (Nat.le_of_ble_eq_true rfl) dX5_wearsNight_29 ⟨Nat.le_of_ble_eq_true rfl, Nat.le_of_ble_eq_true rfl⟩ rfl ?_
    refine tm_aload_n X 0 dX5_wearsNight_32 rfl rfl ?_
    refine tm_aload_n X 0 dX5_wearsNight_33 rfl rfl ?_
    refine tm_getI X (fiM_300_52 ad dA) in_X5 rfl (Nat.le_of_ble_eq_true rfl) q1239 rfl dX5_wearsNight_34 ?_
    refine tm_aload_n X 0 dX5_wearsNight_37 rfl rfl ?_
    refine tm_getI X (fiM_300_53 ad dA) in_X5 rfl (Nat.le_of_ble_eq_true rfl) q1240 rfl dX5_wearsNight_38 ?_
    refine tm_iload_n X 1 dX5_wearsNight_41 rfl rfl ?_
    refine tm_cl2 (fun r10 h11 e9 => ?_)
    refine tm_callVi (As := [.int (h8 300 52), .int (h8 300 53), .int x1]) (rest := []) (q0 := 0) X (ctX5_marks l D ad dA h8 (h8 300 52) (h8 300 53) x1 r10 h11 e9) (lw_V q1542 q1544 qs79 q122 q1545) cyX5_marks rfl rfl rfl ⟨(Nat.le_of_ble_eq_true rfl), (Nat.le_of_ble_eq_true rfl)⟩ (Nat.le_of_ble_eq_true rfl) dX5_wearsNight_42 ⟨Nat.le_of_ble_eq_true rfl, Nat.le_of_ble_eq_true rfl⟩ rfl ?_
    refine tm_istore X [(4, .int r10), (0, .ref (ad 300)), (1, .int x1), (2, .int x2_3), (3, .int x3_4)] dX5_wearsNight_45 (Nat.le_of_ble_eq_true rfl) rfl ?_
    refine tm_iconst X (0 : Int32) dX5_wearsNight_47 (by decide) ?_
    refine tm_istore X [(5, .int (0 : Int32)), (4, .int r10), (0, .ref (ad 300)), (1, .int x1), (2, .int x2_3), (3, .int x3_4)] dX5_wearsNight_48 (Nat.le_of_ble_eq_true rfl) rfl ?_
    refine tm_lv X [2, 3, 4, 5, 1, 0] rfl ?_
    refine fx_P (fun (k : Int32 → Int32 → Hp → Option (Int32 × Hp)) => ∀ (x2_12 : Int32) (x5_13 : Int32) (h14 : Hp), TM G (r, h') (k x2_12 x5_13 h14) (wM ad dA h14) 0 0 50 [(0, .ref (ad 300)), (1, .int x1), (2, .int x2_12), (3, .int x3_4), (4, .int r10), (5, .int x5_13)] []) (fun _ _ _ => tm_none) (fun k50 hk50 x2_12 x5_13 h14 => ?_) FU x2_3 (0 : Int32) h11
    refine tm_iload X 5 dX5_wearsNight_50 rfl ?_
    refine tm_bipush X (48 : Int32) dX5_wearsNight_52 (by decide) ?_
    refine tm_ic_ge X 85 dX5_wearsNight_54 rfl ?_ ?_
    · skip
      refine tm_iinc (v := (1 : Int32)) X 3 [(3, .int (x3_4 + (1 : Int32))), (0, .ref (ad 300)), (1, .int x1), (2, .int x2_12), (4, .int r10), (5, .int x5_13)] dX5_wearsNight_85 rfl (by decide) (Nat.le_of_ble_eq_true rfl) rfl ?_
      refine tm_goto X 14 dX5_wearsNight_88 rfl ?_
      refine tm_lv X [1, 2, 3, 0] rfl ?_
      exact hk14 x2_12 (x3_4 + (1 : Int32)) h14
    · skip
      refine tm_aload_n X 0 dX5_wearsNight_57 rfl rfl ?_
      refine tm_getR X (frM_300_42 ad dA h14) in_X5 rfl (Nat.le_of_ble_eq_true rfl) q1229 rfl dX5_wearsNight_58 ?_
      refine tm_iload X 5 dX5_wearsNight_61 rfl ?_
      refine tm_baloadZ X (arM_242 ad dA) dX5_wearsNight_63 ?_
      refine tm_let (fun k => ∀ (x2_15 : Int32) (h16 : Hp), TM G (r, h') (k x2_15 h16) (wM ad dA h16) 0 0 79 [(0, .ref (ad 300)), (1, .int x1), (2, .int x2_15), (3, .int x3_4), (4, .int r10), (5, .int x5_13)] []) ?_ (fun k79 hk79 => ?_)
      · intro x2_15 h16
        refine tm_iinc (v := (1 : Int32)) X 5 [(5, .int (x5_13 + (1 : Int32))), (0, .ref (ad 300)), (1, .int x1), (2, .int x2_15), (3, .int x3_4), (4, .int r10)] dX5_wearsNight_79 rfl (by decide) (Nat.le_of_ble_eq_true rfl) rfl ?_
        refine tm_goto X 50 dX5_wearsNight_82 rfl ?_
        refine tm_lv X [1, 2, 3, 4, 5, 0] rfl ?_
        exact hk50 x2_15 (x5_13 + (1 : Int32)) h16
      · skip
        refine tm_if_eq X 79 dX5_wearsNight_64 rfl ?_ ?_
        · skip
          exact hk79 x2_12 h14
        · skip
          refine tm_iload_n X 2 dX5_wearsNight_67 rfl rfl ?_
          refine tm_aload_n X 0 dX5_wearsNight_68 rfl rfl ?_
          refine tm_iload X 5 dX5_wearsNight_69 rfl ?_
          refine tm_iload_n X 3 dX5_wearsNight_71 rfl rfl ?_
          refine tm_iload X 4 dX5_wearsNight_72 rfl ?_
          refine tm_cl2 (fun r18 h19 e17 => ?_)
          refine tm_callVi (As := [.int x5_13, .int x3_4, .int r10]) (rest := [.int x2_12]) (q0 := 0) X (ctX5_wearsAt l D ad dA h14 x5_13 x3_4 r10 r18 h19 e17) (lw_V q1788 q1790 qs107 q122 q1791) cyX5_wearsAt rfl rfl rfl ⟨(Nat.le_of_ble_eq_true rfl), (Nat.le_of_ble_eq_true rfl)⟩ (Nat.le_of_ble_eq_true rfl) dX5_wearsNight_74 ⟨Nat.le_of_ble_eq_true rfl, Nat.le_of_ble_eq_true rfl⟩ rfl ?_
          refine tm_iadd X dX5_wearsNight_77 ?_
          refine tm_nmI (fun v20 => ?_)
          refine tm_istore_n X [(2, .int v20), (0, .ref (ad 300)), (1, .int x1), (3, .int x3_4), (4, .int r10), (5, .int x5_13)] dX5_wearsNight_78 rfl (Nat.le_of_ble_eq_true rfl) rfl ?_
          refine tm_lv X [1, 2, 0, 3, 4, 5] rfl ?_
          exact hk79 v20 h19
