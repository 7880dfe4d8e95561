set_option maxRecDepth 100000
def mX5_takes1 (h : Hp) (x1 : Int32) (x2 : Int32) (x3 : Int32) : Option (Hp) :=
nm ((((48 : Int32) * x1) + x2)) (fun v1 =>
ck v1 96 (
ck (((48 : Int32) * x1) + x2) 96 (nm (u2 h 200 (((48 : Int32) * x1) + x2).toNatClampNeg ((h 200 v1.toNatClampNeg) - x3)) (fun h2 =>
ck x1 2 (
ck x1 2 (nm (u2 h2 201 x1.toNatClampNeg ((h2 201 x1.toNatClampNeg) + x3)) (fun h3 =>
some h3)))))))
theorem cyX5_takes1 : Callee yX5_takes1 3 := by unfold Callee; decide +kernel
set_option maxHeartbeats 4000000 in
theorem ctX5_takes1 (l : Launch) (D : va_G) (ad : Nat → Nat) (dA : Nat → ClassId) (h : Hp) (x1 : Int32) (x2 : Int32) (x3 : Int32) (h' : Hp) (hm : mX5_takes1 h x1 x2 x3 = some h') : CT l yX5_takes1 cX5_takes1 4 none D dA 0 0 0 0 (wM ad dA h) [.ref (ad 300), .int x1, .int x2, .int x3] none (wM ad dA h') := by
  refine ct_open (by decide) (Nat.le_of_ble_eq_true rfl) ?_
  intro G X hI hZ hV hR
  have hRet := hV rfl rfl
  refine (show TM G h' (mX5_takes1 h x1 x2 x3) (wM ad dA h) 0 0 0 [(0, .ref (ad 300)), (1, .int x1), (2, .int x2), (3, .int x3)] [] from ?_) hm
  clear hm hI hZ hV hR
  unfold mX5_takes1
  refine tm_aload_n X 0 dX5_takes1_0 rfl rfl ?_
  refine tm_getR X (frM_300_0 ad dA h) in_X5 rfl (Nat.le_of_ble_eq_true rfl) q1187 rfl dX5_takes1_1 ?_
  refine tm_bipush X (48 : Int32) dX5_takes1_4 (by decide) ?_
  refine tm_iload_n X 1 dX5_takes1_6 rfl rfl ?_
  refine tm_imul X dX5_takes1_7 ?_
  refine tm_iload_n X 2 dX5_takes1_8 rfl rfl ?_
  refine tm_iadd X dX5_takes1_9 ?_
  refine tm_aload_n X 0 dX5_takes1_10 rfl rfl ?_
  refine tm_getR X (frM_300_0 ad dA h) in_X5 rfl (Nat.le_of_ble_eq_true rfl) q1187 rfl dX5_takes1_11 ?_
  refine tm_bipush X (48 : Int32) dX5_takes1_14 (by decide) ?_
  refine tm_iload_n X 1 dX5_takes1_16 rfl rfl ?_
  refine tm_imul X dX5_takes1_17 ?_
  refine tm_iload_n X 2 dX5_takes1_18 rfl rfl ?_
  refine tm_iadd X dX5_takes1_19 ?_
  refine tm_nmI (fun v1 => ?_)
  refine tm_iaload X (arM_200 ad dA) dX5_takes1_20 ?_
  refine tm_iload_n X 3 dX5_takes1_21 rfl rfl ?_
  refine tm_isub X dX5_takes1_22 ?_
  refine tm_iastore X (arM_200 ad dA) dX5_takes1_23 (fun h2 => ?_)
  refine tm_aload_n X 0 dX5_takes1_24 rfl rfl ?_
  refine tm_getR X (frM_300_1 ad dA h2) in_X5 rfl (Nat.le_of_ble_eq_true rfl) q1188 rfl dX5_takes1_25 ?_
  refine tm_iload_n X 1 dX5_takes1_28 rfl rfl ?_
  refine tm_aload_n X 0 dX5_takes1_29 rfl rfl ?_
  refine tm_getR X (frM_300_1 ad dA h2) in_X5 rfl (Nat.le_of_ble_eq_true rfl) q1188 rfl dX5_takes1_30 ?_
  refine tm_iload_n X 1 dX5_takes1_33 rfl rfl ?_
  refine tm_iaload X (arM_201 ad dA) dX5_takes1_34 ?_
  refine tm_iload_n X 3 dX5_takes1_35 rfl rfl ?_
  refine tm_iadd X dX5_takes1_36 ?_
  refine tm_iastore X (arM_201 ad dA) dX5_takes1_37 (fun h3 => ?_)
  exact tm_retV (wf := wM ad dA) hRet dX5_takes1_38
def mX5_grind (h : Hp) (x1 : Int32) : Option (Int32 × Hp) :=
cl1 (mX5_isSum x1) (fun r1 =>
if r1 = 0 then (
some ((-1 : Int32), h)) else (
cl1 (mX5_strokesTo h x1) (fun r4 =>
fx FU (fun _ _ => none) (fun k17 (x3_5 : Int32) (h6 : Hp) =>
if r4 ≤ x3_5 then (
some (r4, h6)) else (
fx FU (fun _ => none) (fun k25 (x4_7 : Int32) =>
cl1 (mX5_restAt h6 x4_7) (fun r9 =>
if x1 < r9 then (
cl1 (mX5_upperAt h6 x4_7) (fun r11 =>
cl1 (mX5_lowerAt h6 x4_7) (fun r13 =>
nm (fun (s14 : Int32) =>
cl1 (mX5_takes1 h6 s14 x4_7 (1 : Int32)) (fun h16 =>
k17 (x3_5 + (1 : Int32)) h16)) (fun k65 =>
if r11 < r13 then (
k65 (0 : Int32)) else (
k65 (1 : Int32)))))) else (
nm ((x4_7 + (1 : Int32))) (fun v17 =>
k25 v17)))) (0 : Int32))) (0 : Int32) h)))
theorem cyX5_grind : Callee yX5_grind 1 := by unfold Callee; decide +kernel
set_option maxHeartbeats 4000000 in
theorem ctX5_grind (l : Launch) (D : va_G) (ad : Nat → Nat) (dA : Nat → ClassId) (h : Hp) (x1 : Int32) (r : Int32) (h' : Hp) (hm : mX5_grind h x1 = some (r, h')) : CT l yX5_grind cX5_grind 5 (some .int) D dA 3 66 0 0 (wM ad dA h) [.ref (ad 300), .int x1] (some (.int r)) (wM ad dA h') := by
  refine ct_open (by decide) (Nat.le_of_ble_eq_true rfl) ?_
  intro G X hI hZ hV hR
  have hRet := hI rfl r rfl
  refine (show TM G (r, h') (mX5_grind h x1) (wM ad dA h) 0 0 0 [(0, .ref (ad 300)), (1, .int x1)] [] from ?_) hm
  clear hm hI hZ hV hR
  unfold mX5_grind
  refine tm_iload_n X 1 dX5_grind_0 rfl rfl ?_
  refine tm_cl1 (fun r1 e2 => ?_)
  refine tm_callSi (As := [.int x1]) (rest := []) X (ctX5_isSum l D dA x1 r1 e2) (lw_S q1517 q1518 q122 q1519) cyX5_isSum rfl ⟨(Nat.le_of_ble_eq_true rfl), (Nat.le_of_ble_eq_true rfl)⟩ (Nat.le_of_ble_eq_true rfl) dX5_grind_1 ⟨Nat.le_of_ble_eq_true rfl, Nat.le_of_ble_eq_true rfl⟩ rfl ?_
  refine tm_if_ne X 9 dX5_grind_4 rfl ?_ ?_
  · skip
    refine tm_aload_n X 0 dX5_grind_9 rfl rfl ?_
    refine tm_iload_n X 1 dX5_grind_10 rfl rfl ?_
    refine tm_cl1 (fun r4 e3 => ?_)
    refine tm_callVi (As := [.int x1]) (rest := []) (q0 := 0) X (ctX5_strokesTo l D ad dA h x1 r4 e3) (lw_V q1615 q1617 qs89 q122 q1618) cyX5_strokesTo rfl rfl rfl ⟨(Nat.le_of_ble_eq_true rfl), (Nat.le_of_ble_eq_true rfl)⟩ (Nat.le_of_ble_eq_true rfl) dX5_grind_11 ⟨Nat.le_of_ble_eq_true rfl, Nat.le_of_ble_eq_true rfl⟩ rfl ?_
    refine tm_istore_n X [(2, .int r4), (0, .ref (ad 300)), (1, .int x1)] dX5_grind_14 rfl (Nat.le_of_ble_eq_true rfl) rfl ?_
    refine tm_iconst X (0 : Int32) dX5_grind_15 (by decide) ?_
    refine tm_istore_n X [(3, .int (0 : Int32)), (2, .int r4), (0, .ref (ad 300)), (1, .int x1)] dX5_grind_16 rfl (Nat.le_of_ble_eq_true rfl) rfl ?_
    refine tm_lv X [2, 3, 1, 0] rfl ?_
    refine fx_P (fun (k : Int32 → Hp → Option (Int32 × Hp)) => ∀ (x3_5 : Int32) (h6 : Hp), TM G (r, h') (k x3_5 h6) (wM ad dA h6) 0 0 17 [(0, .ref (ad 300)), (1, .int x1), (2, .int r4), (3, .int x3_5)] []) (fun _ _ => tm_none) (fun k17 hk17 x3_5 h6 => ?_) FU (0 : Int32) h
    refine tm_iload_n X 3 dX5_grind_17 rfl rfl ?_
    refine tm_iload_n X 2 dX5_grind_18 rfl rfl ?_
    refine tm_ic_ge X 77 dX5_grind_19 rfl ?_ ?_
    · skip
      refine tm_iload_n X 2 dX5_grind_77 rfl rfl ?_
      exact tm_retIH (wf := wM ad dA) hRet dX5_grind_78
    · skip
      refine tm_iconst X (0 : Int32) dX5_grind_22 (by decide) ?_
      refine tm_istore X [(4, .int (0 : Int32)), (0, .ref (ad 300)), (1, .int x1), (2, .int r4), (3, .int x3_5)] dX5_grind_23 (Nat.le_of_ble_eq_true rfl) rfl ?_
      refine tm_lv X [1, 2, 3, 4, 0] rfl ?_
      refine fx_P (fun (k : Int32 → Option (Int32 × Hp)) => ∀ (x4_7 : Int32), TM G (r, h') (k x4_7) (wM ad dA h6) 0 0 25 [(0, .ref (ad 300)), (1, .int x1), (2, .int r4), (3, .int x3_5), (4, .int x4_7)] []) (fun _ => tm_none) (fun k25 hk25 x4_7 => ?_) FU (0 : Int32)
      refine tm_aload_n X 0 dX5_grind_25 rfl rfl ?_
      refine tm_iload X 4 dX5_grind_26 rfl ?_
      refine tm_cl1 (fun r9 e8 => ?_)
      refine tm_callVi (As := [.int x4_7]) (rest := []) (q0 := 0) X (ctX5_restAt l D ad dA h6 x4_7 r9 e8) (lw_V q1611 q1613 qs88 q122 q1614) cyX5_restAt rfl rfl rfl ⟨(Nat.le_of_ble_eq_true rfl), (Nat.le_of_ble_eq_true rfl)⟩ (Nat.le_of_ble_eq_true rfl) dX5_grind_28 ⟨Nat.le_of_ble_eq_true rfl, Nat.le_of_ble_eq_true rfl⟩ rfl ?_
      refine tm_iload_n X 1 dX5_grind_31 rfl rfl ?_
      refine tm_ic_gt X 44 dX5_grind_32 rfl ?_ ?_
      · skip
        refine tm_aload_n X 0 dX5_grind_44 rfl rfl ?_
        refine tm_aload_n X 0 dX5_grind_45 rfl rfl ?_
        refine tm_iload X 4 dX5_grind_46 rfl ?_
        refine tm_cl1 (fun r11 e10 => ?_)
        refine tm_callVi (As := [.int x4_7]) (rest := [.ref (ad 300)]) (q0 := 0) X (ctX5_upperAt l D ad dA h6 x4_7 r11 e10) (lw_V q1531 q1533 qs77 q122 q1534) cyX5_upperAt rfl rfl rfl ⟨(Nat.le_of_ble_eq_true rfl), (Nat.le_of_ble_eq_true rfl)⟩ (Nat.le_of_ble_eq_true rfl) dX5_grind_48 ⟨Nat.le_of_ble_eq_true rfl, Nat.le_of_ble_eq_true rfl⟩ rfl ?_
        refine tm_aload_n X 0 dX5_grind_51 rfl rfl ?_
        refine tm_iload X 4 dX5_grind_52 rfl ?_
        refine tm_cl1 (fun r13 e12 => ?_)
        refine tm_callVi (As := [.int x4_7]) (rest := [.int r11, .ref (ad 300)]) (q0 := 0) X (ctX5_lowerAt l D ad dA h6 x4_7 r13 e12) (lw_V q1535 q1537 qs78 q122 q1538) cyX5_lowerAt rfl rfl rfl ⟨(Nat.le_of_ble_eq_true rfl), (Nat.le_of_ble_eq_true rfl)⟩ (Nat.le_of_ble_eq_true rfl) dX5_grind_54 ⟨Nat.le_of_ble_eq_true rfl, Nat.le_of_ble_eq_true rfl⟩ rfl ?_
        refine tm_let (fun k => ∀ (s14 : Int32), TM G (r, h') (k s14) (wM ad dA h6) 0 0 65 [(0, .ref (ad 300)), (1, .int x1), (2, .int r4), (3, .int x3_5), (4, .int x4_7)] [.int s14, .ref (ad 300)]) ?_ (fun k65 hk65 => ?_)
        · intro s14
          refine tm_iload X 4 dX5_grind_65 rfl ?_
          refine tm_iconst X (1 : Int32) dX5_grind_67 (by decide) ?_
          refine tm_cl1 (fun h16 e15 => ?_)
          refine tm_callVv (As := [.int s14, .int x4_7, .int (1 : Int32)]) (rest := []) (q0 := 0) X (ctX5_takes1 l D ad dA h6 s14 x4_7 (1 : Int32) h16 e15) (lw_V q1635 q1637 qs91 q122 q1638) cyX5_takes1 rfl rfl rfl ⟨(Nat.le_of_ble_eq_true rfl), (Nat.le_of_ble_eq_true rfl)⟩ (Nat.le_of_ble_eq_true rfl) dX5_grind_68 ⟨Nat.le_of_ble_eq_true rfl, Nat.le_of_ble_eq_true rfl⟩ rfl ?_
          refine tm_iinc (v := (1 : Int32)) X 3 [(3, .int (x3_5 + (1 : Int32))), (0, .ref (ad 300)), (1, .int x1), (2, .int r4), (4, .int x4_7)] dX5_grind_71 rfl (by decide) (Nat.le_of_ble_eq_true rfl) rfl ?_
          refine tm_goto X 17 dX5_grind_74 rfl ?_
          refine tm_lv X [1, 2, 3, 0] rfl ?_
          exact hk17 (x3_5 + (1 : Int32)) h16
        · skip
          refine tm_ic_lt X 64 dX5_grind_57 rfl ?_ ?_
          · skip
            refine tm_iconst X (0 : Int32) dX5_grind_64 (by decide) ?_
            exact hk65 (0 : Int32)
          · skip
            refine tm_iconst X (1 : Int32) dX5_grind_60 (by decide) ?_
            refine tm_goto X 65 dX5_grind_61 rfl ?_
            exact hk65 (1 : Int32)
      · skip
        refine tm_iload X 4 dX5_grind_35 rfl ?_
        refine tm_iconst X (1 : Int32) dX5_grind_37 (by decide) ?_
        refine tm_iadd X dX5_grind_38 ?_
        refine tm_nmI (fun v17 => ?_)
        refine tm_istore X [(4, .int v17), (0, .ref (ad 300)), (1, .int x1), (2, .int r4), (3, .int x3_5)] dX5_grind_39 (Nat.le_of_ble_eq_true rfl) rfl ?_
        refine tm_goto X 25 dX5_grind_41 rfl ?_
        refine tm_lv X [1, 2, 3, 4, 0] rfl ?_
        exact hk25 v17
  · skip
    refine tm_iconst X (-1 : Int32) dX5_grind_7 (by decide) ?_
    exact tm_retIH (wf := wM ad dA) hRet dX5_grind_8
def mX5_beside (x0 : Int32) (x1 : Int32) : Option (Int32) :=
nm (fun (s1 : Int32) =>
nm (((jrem x0 (8 : Int32)) + s1)) (fun v2 =>
nm (fun (s3 : Int32) =>
nm (((x0 / (8 : Int32)) + s3)) (fun v4 =>
cl1 (mX5_in v2 (0 : Int32) (7 : Int32)) (fun r5 =>
nm (fun (s7 : Int32) =>
some s7) (fun k78 =>
nm (
k78 (-1 : Int32)) (fun k77 =>
if r5 = 0 then (
k77) else (
cl1 (mX5_in v4 (0 : Int32) (5 : Int32)) (fun r8 =>
if r8 = 0 then (
k77) else (
k78 (((8 : Int32) * v4) + v2))))))))) (fun k47 =>
if x1 = (2 : Int32) then (
k47 (1 : Int32)) else (
if x1 = (3 : Int32) then (
k47 (-1 : Int32)) else (
k47 (0 : Int32)))))) (fun k22 =>
if x1 = 0 then (
k22 (1 : Int32)) else (
if x1 = (1 : Int32) then (
k22 (-1 : Int32)) else (
k22 (0 : Int32))))
theorem cyX5_beside : Callee yX5_beside 2 := by unfold Callee; decide +kernel
set_option maxHeartbeats 4000000 in
theorem ctX5_beside (l : Launch) (D : va_G) (dA : Nat → ClassId) (x0 : Int32) (x1 : Int32) (r : Int32) (hm : mX5_beside x0 x1 = some r) : CT l yX5_beside cX5_beside 4 (some .int) D dA 1 22 0 0 [] [.int x0, .int x1] (some (.int r)) [] := by
  refine ct_open (by decide) (Nat.le_of_ble_eq_true rfl) ?_
  intro G X hI hZ hV hR
  have hRet := hI rfl r rfl
  refine (show TM G r (mX5_beside x0 x1) [] 0 0 0 [(0, .int x0), (1, .int x1)] [] from ?_) hm
  clear hm hI hZ hV hR
  unfold mX5_beside
  refine tm_iload_n X 0 dX5_beside_0 rfl rfl ?_
  refine tm_bipush X (8 : Int32) dX5_beside_1 (by decide) ?_
  refine tm_irem X dX5_beside_3 (by decide) ?_
  refine tm_iload_n X 1 dX5_beside_4 rfl rfl ?_
  refine tm_let (fun k => ∀ (s1 : Int32), TM G r (k s1) [] 0 0 22 [(0, .int x0), (1, .int x1)] [.int s1, .int (jrem x0 (8 : Int32))]) ?_ (fun k22 hk22 => ?_)
  · intro s1
    refine tm_iadd X dX5_beside_22 ?_
    refine tm_nmI (fun v2 => ?_)
    refine tm_istore_n X [(2, .int v2), (0, .int x0), (1, .int x1)] dX5_beside_23 rfl (Nat.le_of_ble_eq_true rfl) rfl ?_
    refine tm_iload_n X 1 dX5_beside_24 rfl rfl ?_
    refine tm_bipush X (8 : Int32) dX5_beside_25 (by decide) ?_
    refine tm_idiv X dX5_beside_27 (by decide) ?_
    refine tm_iload_n X 2 dX5_beside_28 rfl rfl ?_
    refine tm_iconst X (2 : Int32) dX5_beside_29 (by decide) ?_
    refine tm_let (fun k => ∀ (s3 : Int32), TM G r (k s3) [] 0 0 47 [(2, .int v2)] [.int s3, .int (x0 / (8 : Int32))]) ?_ (fun k47 hk47 => ?_)
    · intro s3
      refine tm_iadd X dX5_beside_47 ?_
      refine tm_nmI (fun v4 => ?_)
      refine tm_istore_n X [(3, .int v4), (2, .int v2)] dX5_beside_48 rfl (Nat.le_of_ble_eq_true rfl) rfl ?_
      refine tm_iload_n X 1 dX5_beside_49 rfl rfl ?_
      refine tm_iconst X (0 : Int32) dX5_beside_50 (by decide) ?_
      refine tm_bipush X (7 : Int32) dX5_beside_51 (by decide) ?_
      refine tm_cl1 (fun r5 e6 => ?_)
      refine tm_callSi (As := [.int v2, .int (0 : Int32), .int (7 : Int32)]) (rest := []) X (ctX5_in l D dA v2 (0 : Int32) (7 : Int32) r5 e6) (lw_S q1366 q1367 q122 q1368) cyX5_in rfl ⟨(Nat.le_of_ble_eq_true rfl), (Nat.le_of_ble_eq_true rfl)⟩ (Nat.le_of_ble_eq_true rfl) dX5_beside_53 ⟨Nat.le_of_ble_eq_true rfl, Nat.le_of_ble_eq_true rfl⟩ rfl ?_
      refine tm_let (fun k => ∀ (s7 : Int32), TM G r (k s7) [] 0 0 78 [] [.int s7]) ?_ (fun k78 hk78 => ?_)
      · intro s7
        exact tm_retI hRet dX5_beside_78
      · skip
        refine tm_let (fun k => TM G r k [] 0 0 77 [] []) ?_ (fun k77 hk77 => ?_)
        · skip
          refine tm_iconst X (-1 : Int32) dX5_beside_77 (by decide) ?_
          exact hk78 (-1 : Int32)
        · skip
          refine tm_if_eq X 77 dX5_beside_56 rfl ?_ ?_
          · skip
            refine tm_lv X [] rfl ?_
            exact hk77
          · skip
            refine tm_iload_n X 0 dX5_beside_59 rfl rfl ?_
            refine tm_iconst X (0 : Int32) dX5_beside_60 (by decide) ?_
            refine tm_iconst X (5 : Int32) dX5_beside_61 (by decide) ?_
            refine tm_cl1 (fun r8 e9 => ?_)
            refine tm_callSi (As := [.int v4, .int (0 : Int32), .int (5 : Int32)]) (rest := []) X (ctX5_in l D dA v4 (0 : Int32) (5 : Int32) r8 e9) (lw_S q1366 q1367 q122 q1368) cyX5_in rfl ⟨(Nat.le_of_ble_eq_true rfl), (Nat.le_of_ble_eq_true rfl)⟩ (Nat.le_of_ble_eq_true rfl) dX5_beside_62 ⟨Nat.le_of_ble_eq_true rfl, Nat.le_of_ble_eq_true rfl⟩ rfl ?_
            refine tm_if_eq X 77 dX5_beside_65 rfl ?_ ?_
            · skip
              refine tm_lv X [] rfl ?_
              exact hk77
            · skip
              refine tm_bipush X (8 : Int32) dX5_beside_68 (by decide) ?_
              refine tm_iload_n X 0 dX5_beside_70 rfl rfl ?_
              refine tm_imul X dX5_beside_71 ?_
              refine tm_iload_n X 1 dX5_beside_72 rfl rfl ?_
              refine tm_iadd X dX5_beside_73 ?_
              refine tm_goto X 78 dX5_beside_74 rfl ?_
              refine tm_lv X [] rfl ?_
              exact hk78 (((8 : Int32) * v4) + v2)
    · skip
      refine tm_ic_ne X 37 dX5_beside_30 rfl ?_ ?_
      · skip
        refine tm_iload_n X 2 dX5_beside_37 rfl rfl ?_
        refine tm_iconst X (3 : Int32) dX5_beside_38 (by decide) ?_
        refine tm_ic_ne X 46 dX5_beside_39 rfl ?_ ?_
        · skip
          refine tm_iconst X (0 : Int32) dX5_beside_46 (by decide) ?_
          refine tm_lv X [0] rfl ?_
          exact hk47 (0 : Int32)
        · skip
          refine tm_iconst X (-1 : Int32) dX5_beside_42 (by decide) ?_
          refine tm_goto X 47 dX5_beside_43 rfl ?_
          refine tm_lv X [0] rfl ?_
          exact hk47 (-1 : Int32)
      · skip
        refine tm_iconst X (1 : Int32) dX5_beside_33 (by decide) ?_
        refine tm_goto X 47 dX5_beside_34 rfl ?_
        refine tm_lv X [0] rfl ?_
        exact hk47 (1 : Int32)
  · skip
    refine tm_if_ne X 12 dX5_beside_5 rfl ?_ ?_
    · skip
      refine tm_iload_n X 1 dX5_beside_12 rfl rfl ?_
      refine tm_iconst X (1 : Int32) dX5_beside_13 (by decide) ?_
      refine tm_ic_ne X 21 dX5_beside_14 rfl ?_ ?_
      · skip
        refine tm_iconst X (0 : Int32) dX5_beside_21 (by decide) ?_
        exact hk22 (0 : Int32)
      · skip
        refine tm_iconst X (-1 : Int32) dX5_beside_17 (by decide) ?_
        refine tm_goto X 22 dX5_beside_18 rfl ?_
        exact hk22 (-1 : Int32)
    · skip
      refine tm_iconst X (1 : Int32) dX5_beside_8 (by decide) ?_
      refine tm_goto X 22 dX5_beside_9 rfl ?_
      exact hk22 (1 : Int32)
def mX5_lowestBeside (h : Hp) (x1 : Int32) : Option (Int32) :=
ck x1 48 (
nm ((h 246 x1.toNatClampNeg)) (fun v1 =>
fx FU (fun _ _ => none) (fun k9 (x2_2 : Int32) (x3_3 : Int32) =>
if (4 : Int32) ≤ x3_3 then (
some x2_2) else (
cl1 (mX5_beside x1 x3_3) (fun r4 =>
nm (fun (x2_6 : Int32) =>
k9 x2_6 (x3_3 + (1 : Int32))) (fun k49 =>
if r4 = (-1 : Int32) then (
k49 x2_2) else (
ck r4 48 (
if (h 245 r4.toNatClampNeg) = 0 then (
k49 x2_2) else (
ck r4 48 (
cl1 (mX5_min x2_2 (h 246 r4.toNatClampNeg)) (fun r7 =>
k49 r7))))))))) v1 (0 : Int32)))
theorem cyX5_lowestBeside : Callee yX5_lowestBeside 1 := by unfold Callee; decide +kernel
set_option maxHeartbeats 4000000 in
theorem ctX5_lowestBeside (l : Launch) (D : va_G) (ad : Nat → Nat) (dA : Nat → ClassId) (h : Hp) (x1 : Int32) (r : Int32) (hm : mX5_lowestBeside h x1 = some r) : CT l yX5_lowestBeside cX5_lowestBeside 5 (some .int) D dA 2 45 0 0 (wM ad dA h) [.ref (ad 300), .int x1] (some (.int r)) (wM ad dA h) := by
  refine ct_open (by decide) (Nat.le_of_ble_eq_true rfl) ?_
  intro G X hI hZ hV hR
  have hRet := hI rfl r rfl
  refine (show TM G r (mX5_lowestBeside h x1) (wM ad dA h) 0 0 0 [(0, .ref (ad 300)), (1, .int x1)] [] from ?_) hm
  clear hm hI hZ hV hR
  unfold mX5_lowestBeside
  refine tm_aload_n X 0 dX5_lowestBeside_0 rfl rfl ?_
  refine tm_getR X (frM_300_46 ad dA h) in_X5 rfl (Nat.le_of_ble_eq_true rfl) q1233 rfl dX5_lowestBeside_1 ?_
  refine tm_iload_n X 1 dX5_lowestBeside_4 rfl rfl ?_
  refine tm_iaload X (arM_246 ad dA) dX5_lowestBeside_5 ?_
  refine tm_nmI (fun v1 => ?_)
  refine tm_istore_n X [(2, .int v1), (0, .ref (ad 300)), (1, .int x1)] dX5_lowestBeside_6 rfl (Nat.le_of_ble_eq_true rfl) rfl ?_
  refine tm_iconst X (0 : Int32) dX5_lowestBeside_7 (by decide) ?_
  refine tm_istore_n X [(3, .int (0 : Int32)), (2, .int v1), (0, .ref (ad 300)), (1, .int x1)] dX5_lowestBeside_8 rfl (Nat.le_of_ble_eq_true rfl) rfl ?_
  refine tm_lv X [2, 3, 1, 0] rfl ?_
  refine fx_P (fun (k : Int32 → Int32 → Option (Int32)) => ∀ (x2_2 : Int32) (x3_3 : Int32), TM G r (k x2_2 x3_3) (wM ad dA h) 0 0 9 [(0, .ref (ad 300)), (1, .int x1), (2, .int x2_2), (3, .int x3_3)] []) (fun _ _ => tm_none) (fun k9 hk9 x2_2 x3_3 => ?_) FU v1 (0 : Int32)
  refine tm_iload_n X 3 dX5_lowestBeside_9 rfl rfl ?_
  refine tm_iconst X (4 : Int32) dX5_lowestBeside_10 (by decide) ?_
  refine tm_ic_ge X 55 dX5_lowestBeside_11 rfl ?_ ?_
  · skip
    refine tm_iload_n X 2 dX5_lowestBeside_55 rfl rfl ?_
    exact tm_retI hRet dX5_lowestBeside_56
  · skip
    refine tm_iload_n X 1 dX5_lowestBeside_14 rfl rfl ?_
    refine tm_iload_n X 3 dX5_lowestBeside_15 rfl rfl ?_
    refine tm_cl1 (fun r4 e5 => ?_)
    refine tm_callSi (As := [.int x1, .int x3_3]) (rest := []) X (ctX5_beside l D dA x1 x3_3 r4 e5) (lw_S q1651 q1652 q122 q1653) cyX5_beside rfl ⟨(Nat.le_of_ble_eq_true rfl), (Nat.le_of_ble_eq_true rfl)⟩ (Nat.le_of_ble_eq_true rfl) dX5_lowestBeside_16 ⟨Nat.le_of_ble_eq_true rfl, Nat.le_of_ble_eq_true rfl⟩ rfl ?_
    refine tm_istore X [(4, .int r4), (0, .ref (ad 300)), (1, .int x1), (2, .int x2_2), (3, .int x3_3)] dX5_lowestBeside_19 (Nat.le_of_ble_eq_true rfl) rfl ?_
    refine tm_iload X 0 dX5_lowestBeside_21 rfl ?_
    refine tm_iconst X (-1 : Int32) dX5_lowestBeside_23 (by decide) ?_
    refine tm_let (fun k => ∀ (x2_6 : Int32), TM G r (k x2_6) (wM ad dA h) 0 0 49 [(0, .ref (ad 300)), (1, .int x1), (2, .int x2_6), (3, .int x3_3)] []) ?_ (fun k49 hk49 => ?_)
    · intro x2_6
      refine tm_iinc (v := (1 : Int32)) X 3 [(3, .int (x3_3 + (1 : Int32))), (0, .ref (ad 300)), (1, .int x1), (2, .int x2_6)] dX5_lowestBeside_49 rfl (by decide) (Nat.le_of_ble_eq_true rfl) rfl ?_
      refine tm_goto X 9 dX5_lowestBeside_52 rfl ?_
      refine tm_lv X [1, 2, 3, 0] rfl ?_
      exact hk9 x2_6 (x3_3 + (1 : Int32))
    · skip
      refine tm_ic_eq X 49 dX5_lowestBeside_24 rfl ?_ ?_
      · skip
        refine tm_lv X [1, 2, 3, 4] rfl ?_
        exact hk49 x2_2
      · skip
        refine tm_aload_n X 1 dX5_lowestBeside_27 rfl rfl ?_
        refine tm_getR X (frM_300_45 ad dA h) in_X5 rfl (Nat.le_of_ble_eq_true rfl) q1232 rfl dX5_lowestBeside_28 ?_
        refine tm_iload X 0 dX5_lowestBeside_31 rfl ?_
        refine tm_baloadZ X (arM_245 ad dA) dX5_lowestBeside_33 ?_
        refine tm_if_eq X 49 dX5_lowestBeside_34 rfl ?_ ?_
        · skip
          refine tm_lv X [1, 2, 3, 4] rfl ?_
          exact hk49 x2_2
        · skip
          refine tm_iload_n X 3 dX5_lowestBeside_37 rfl rfl ?_
          refine tm_aload_n X 1 dX5_lowestBeside_38 rfl rfl ?_
          refine tm_getR X (frM_300_46 ad dA h) in_X5 rfl (Nat.le_of_ble_eq_true rfl) q1233 rfl dX5_lowestBeside_39 ?_
          refine tm_iload X 0 dX5_lowestBeside_42 rfl ?_
          refine tm_iaload X (arM_246 ad dA) dX5_lowestBeside_44 ?_
          refine tm_cl1 (fun r7 e8 => ?_)
          refine tm_callSi (As := [.int x2_2, .int (h 246 r4.toNatClampNeg)]) (rest := []) X (ctX5_min l D dA x2_2 (h 246 r4.toNatClampNeg) r7 e8) (lw_S q1558 q1559 q122 q1560) cyX5_min rfl ⟨(Nat.le_of_ble_eq_true rfl), (Nat.le_of_ble_eq_true rfl)⟩ (Nat.le_of_ble_eq_true rfl) dX5_lowestBeside_45 ⟨Nat.le_of_ble_eq_true rfl, Nat.le_of_ble_eq_true rfl⟩ rfl ?_
          refine tm_istore_n X [(2, .int r7), (4, .int r4), (0, .ref (ad 300)), (1, .int x1), (3, .int x3_3)] dX5_lowestBeside_48 rfl (Nat.le_of_ble_eq_true rfl) rfl ?_
          refine tm_lv X [2, 3, 0, 4] rfl ?_
          exact hk49 r7
def mX5_gathers (h : Hp)  : Option (Hp) :=
fx FU (fun _ _ => none) (fun k2 (x1_1 : Int32) (h2 : Hp) =>
if (48 : Int32) ≤ x1_1 then (
fx FU (fun _ _ => none) (fun k23 (x1_3 : Int32) (h4 : Hp) =>
if x1_3 = 0 then (
nm (u2 h4 300 47 (0 : Int32)) (fun h5 =>
nm (u2 h5 300 48 (0 : Int32)) (fun h6 =>
fx FU (fun _ _ => none) (fun k96 (x2_7 : Int32) (h8 : Hp) =>
if (48 : Int32) ≤ x2_7 then (
some h8) else (
fx FU (fun _ _ => none) (fun k107 (x3_9 : Int32) (x4_10 : Int32) =>
if (48 : Int32) ≤ x4_10 then (
nm (fun (h11 : Hp) =>
cl1 (mX5_max (h11 300 48) x3_9) (fun r12 =>
nm (u2 h11 300 48 r12) (fun h14 =>
k96 (x2_7 + (1 : Int32)) h14))) (fun k159 =>
if x3_9 ≤ 0 then (
k159 h8) else (
nm (u2 h8 300 47 ((h8 300 47) + (1 : Int32))) (fun h15 =>
k159 h15)))) else (
ck x4_10 48 (
nm (fun (x3_16 : Int32) =>
k107 x3_16 (x4_10 + (1 : Int32))) (fun k139 =>
if (h8 245 x4_10.toNatClampNeg) = 0 then (
k139 x3_9) else (
ck x4_10 48 (
if (h8 246 x4_10.toNatClampNeg) = x2_7 then (
nm ((x3_9 + (1 : Int32))) (fun v17 =>
k139 v17)) else (
k139 x3_9))))))) (0 : Int32) (0 : Int32))) (0 : Int32) h6))) else (
fx FU (fun _ _ _ => none) (fun k31 (x1_18 : Int32) (x2_19 : Int32) (h20 : Hp) =>
if (48 : Int32) ≤ x2_19 then (
k23 x1_18 h20) else (
ck x2_19 48 (
nm (fun (s21 : Int32) =>
ck x2_19 48 (
nm (fun (x1_22 : Int32) (h23 : Hp) =>
k31 x1_22 (x2_19 + (1 : Int32)) h23) (fun k75 =>
if (h20 246 x2_19.toNatClampNeg) ≤ s21 then (
k75 x1_18 h20) else (
ck x2_19 48 (nm (u2 h20 246 x2_19.toNatClampNeg s21) (fun h24 =>
k75 (1 : Int32) h24)))))) (fun k55 =>
if (h20 245 x2_19.toNatClampNeg) = 0 then (
k55 x2_19) else (
cl1 (mX5_lowestBeside h20 x2_19) (fun r26 =>
k55 r26)))))) (0 : Int32) (0 : Int32) h4)) (1 : Int32) h2) else (
ck x1_1 48 (nm (u2 h2 246 x1_1.toNatClampNeg x1_1) (fun h27 =>
k2 (x1_1 + (1 : Int32)) h27)))) (0 : Int32) h
theorem cyX5_gathers : Callee yX5_gathers 0 := by unfold Callee; decide +kernel
set_option maxHeartbeats 4000000 in
theorem ctX5_gathers (l : Launch) (D : va_G) (ad : Nat → Nat) (dA : Nat → ClassId) (h : Hp)  (h' : Hp) (hm : mX5_gathers h = some h') : CT l yX5_gathers cX5_gathers 5 none D dA 3 69 0 0 (wM ad dA h) [.ref (ad 300)] none (wM ad dA h') := by
  refine ct_open (by decide) (Nat.le_of_ble_eq_true rfl) ?_
  intro G X hI hZ hV hR
  have hRet := hV rfl rfl
  refine (show TM G h' (mX5_gathers h) (wM ad dA h) 0 0 0 [(0, .ref (ad 300))] [] from ?_) hm
  clear hm hI hZ hV hR
  unfold mX5_gathers
  refine tm_iconst X (0 : Int32) dX5_gathers_0 (by decide) ?_
  refine tm_istore_n X [(1, .int (0 : Int32)), (0, .ref (ad 300))] dX5_gathers_1 rfl (Nat.le_of_ble_eq_true rfl) rfl ?_
  refine tm_lv X [1, 0] rfl ?_
  refine fx_P (fun (k : Int32 → Hp → Option (Hp)) => ∀ (x1_1 : Int32) (h2 : Hp), TM G h' (k x1_1 h2) (wM ad dA h2) 0 0 2 [(0, .ref (ad 300)), (1, .int x1_1)] []) (fun _ _ => tm_none) (fun k2 hk2 x1_1 h2 => ?_) FU (0 : Int32) h
  refine tm_iload_n X 1 dX5_gathers_2 rfl rfl ?_
  refine tm_bipush X (48 : Int32) dX5_gathers_3 (by decide) ?_
  refine tm_ic_ge X 21 dX5_gathers_5 rfl ?_ ?_
  · skip
    refine tm_iconst X (1 : Int32) dX5_gathers_21 (by decide) ?_
    refine tm_istore_n X [(1, .int (1 : Int32)), (0, .ref (ad 300))] dX5_gathers_22 rfl (Nat.le_of_ble_eq_true rfl) rfl ?_
    refine tm_lv X [1, 0] rfl ?_
    refine fx_P (fun (k : Int32 → Hp → Option (Hp)) => ∀ (x1_3 : Int32) (h4 : Hp), TM G h' (k x1_3 h4) (wM ad dA h4) 0 0 23 [(0, .ref (ad 300)), (1, .int x1_3)] []) (fun _ _ => tm_none) (fun k23 hk23 x1_3 h4 => ?_) FU (1 : Int32) h2
    refine tm_iload_n X 1 dX5_gathers_23 rfl rfl ?_
    refine tm_if_eq X 84 dX5_gathers_24 rfl ?_ ?_
    · skip
      refine tm_aload_n X 0 dX5_gathers_84 rfl rfl ?_
      refine tm_iconst X (0 : Int32) dX5_gathers_85 (by decide) ?_
      refine tm_putI X (fiM_300_47 ad dA) in_X5 rfl (Nat.le_of_ble_eq_true rfl) tyX5 tyX5_ok nmX5 rfl rfl q1234 rfl dX5_gathers_86 (fun h5 => ?_)
      refine tm_aload_n X 0 dX5_gathers_89 rfl rfl ?_
      refine tm_iconst X (0 : Int32) dX5_gathers_90 (by decide) ?_
      refine tm_putI X (fiM_300_48 ad dA) in_X5 rfl (Nat.le_of_ble_eq_true rfl) tyX5 tyX5_ok nmX5 rfl rfl q1235 rfl dX5_gathers_91 (fun h6 => ?_)
      refine tm_iconst X (0 : Int32) dX5_gathers_94 (by decide) ?_
      refine tm_istore_n X [(2, .int (0 : Int32)), (0, .ref (ad 300)), (1, .int x1_3)] dX5_gathers_95 rfl (Nat.le_of_ble_eq_true rfl) rfl ?_
      refine tm_lv X [1, 0] rfl ?_
      refine fx_P (fun (k : Int32 → Hp → Option (Hp)) => ∀ (x2_7 : Int32) (h8 : Hp), TM G h' (k x2_7 h8) (wM ad dA h8) 0 0 96 [(0, .ref (ad 300)), (2, .int x2_7)] []) (fun _ _ => tm_none) (fun k96 hk96 x2_7 h8 => ?_) FU (0 : Int32) h6
      refine tm_iload_n X 1 dX5_gathers_96 rfl rfl ?_
      refine tm_bipush X (48 : Int32) dX5_gathers_97 (by decide) ?_
      refine tm_ic_ge X 177 dX5_gathers_99 rfl ?_ ?_
      · skip
        exact tm_retV (wf := wM ad dA) hRet dX5_gathers_177
      · skip
        refine tm_iconst X (0 : Int32) dX5_gathers_102 (by decide) ?_
        refine tm_istore_n X [(3, .int (0 : Int32)), (0, .ref (ad 300)), (2, .int x2_7)] dX5_gathers_103 rfl (Nat.le_of_ble_eq_true rfl) rfl ?_
        refine tm_iconst X (0 : Int32) dX5_gathers_104 (by decide) ?_
        refine tm_istore X [(4, .int (0 : Int32)), (3, .int (0 : Int32)), (0, .ref (ad 300)), (2, .int x2_7)] dX5_gathers_105 (Nat.le_of_ble_eq_true rfl) rfl ?_
        refine tm_lv X [2, 3, 1, 0] rfl ?_
        refine fx_P (fun (k : Int32 → Int32 → Option (Hp)) => ∀ (x3_9 : Int32) (x4_10 : Int32), TM G h' (k x3_9 x4_10) (wM ad dA h8) 0 0 107 [(0, .ref (ad 300)), (2, .int x2_7), (3, .int x3_9), (4, .int x4_10)] []) (fun _ _ => tm_none) (fun k107 hk107 x3_9 x4_10 => ?_) FU (0 : Int32) (0 : Int32)
        refine tm_iload X 3 dX5_gathers_107 rfl ?_
        refine tm_bipush X (48 : Int32) dX5_gathers_109 (by decide) ?_
        refine tm_ic_ge X 145 dX5_gathers_111 rfl ?_ ?_
        · skip
          refine tm_iload_n X 2 dX5_gathers_145 rfl rfl ?_
          refine tm_let (fun k => ∀ (h11 : Hp), TM G h' (k h11) (wM ad dA h11) 0 0 159 [(0, .ref (ad 300)), (2, .int x2_7), (3, .int x3_9)] []) ?_ (fun k159 hk159 => ?_)
          · intro h11
            refine tm_aload_n X 0 dX5_gathers_159 rfl rfl ?_
            refine tm_aload_n X 0 dX5_gathers_160 rfl rfl ?_
            refine tm_getI X (fiM_300_48 ad dA) in_X5 rfl (Nat.le_of_ble_eq_true rfl) q1235 rfl dX5_gathers_161 ?_
            refine tm_iload_n X 2 dX5_gathers_164 rfl rfl ?_
            refine tm_cl1 (fun r12 e13 => ?_)
            refine tm_callSi (As := [.int (h11 300 48), .int x3_9]) (rest := [.ref (ad 300)]) X (ctX5_max l D dA (h11 300 48) x3_9 r12 e13) (lw_S q1539 q1540 q122 q1541) cyX5_max rfl ⟨(Nat.le_of_ble_eq_true rfl), (Nat.le_of_ble_eq_true rfl)⟩ (Nat.le_of_ble_eq_true rfl) dX5_gathers_165 ⟨Nat.le_of_ble_eq_true rfl, Nat.le_of_ble_eq_true rfl⟩ rfl ?_
            refine tm_putI X (fiM_300_48 ad dA) in_X5 rfl (Nat.le_of_ble_eq_true rfl) tyX5 tyX5_ok nmX5 rfl rfl q1235 rfl dX5_gathers_168 (fun h14 => ?_)
            refine tm_iinc (v := (1 : Int32)) X 1 [(2, .int (x2_7 + (1 : Int32))), (0, .ref (ad 300)), (3, .int x3_9)] dX5_gathers_171 rfl (by decide) (Nat.le_of_ble_eq_true rfl) rfl ?_
            refine tm_goto X 96 dX5_gathers_174 rfl ?_
            refine tm_lv X [1, 0] rfl ?_
            exact hk96 (x2_7 + (1 : Int32)) h14
          · skip
            refine tm_if_le X 159 dX5_gathers_146 rfl ?_ ?_
            · skip
              refine tm_lv X [0, 1, 2] rfl ?_
              exact hk159 h8
            · skip
              refine tm_aload_n X 0 dX5_gathers_149 rfl rfl ?_
              refine tm_aload_n X 0 dX5_gathers_150 rfl rfl ?_
              refine tm_getI X (fiM_300_47 ad dA) in_X5 rfl (Nat.le_of_ble_eq_true rfl) q1234 rfl dX5_gathers_151 ?_
              refine tm_iconst X (1 : Int32) dX5_gathers_154 (by decide) ?_
              refine tm_iadd X dX5_gathers_155 ?_
              refine tm_putI X (fiM_300_47 ad dA) in_X5 rfl (Nat.le_of_ble_eq_true rfl) tyX5 tyX5_ok nmX5 rfl rfl q1234 rfl dX5_gathers_156 (fun h15 => ?_)
              refine tm_lv X [0, 1, 2] rfl ?_
              exact hk159 h15
        · skip
          refine tm_aload_n X 0 dX5_gathers_114 rfl rfl ?_
          refine tm_getR X (frM_300_45 ad dA h8) in_X5 rfl (Nat.le_of_ble_eq_true rfl) q1232 rfl dX5_gathers_115 ?_
          refine tm_iload X 3 dX5_gathers_118 rfl ?_
          refine tm_baloadZ X (arM_245 ad dA) dX5_gathers_120 ?_
          refine tm_let (fun k => ∀ (x3_16 : Int32), TM G h' (k x3_16) (wM ad dA h8) 0 0 139 [(0, .ref (ad 300)), (2, .int x2_7), (3, .int x3_16), (4, .int x4_10)] []) ?_ (fun k139 hk139 => ?_)
          · intro x3_16
            refine tm_iinc (v := (1 : Int32)) X 3 [(4, .int (x4_10 + (1 : Int32))), (0, .ref (ad 300)), (2, .int x2_7), (3, .int x3_16)] dX5_gathers_139 rfl (by decide) (Nat.le_of_ble_eq_true rfl) rfl ?_
            refine tm_goto X 107 dX5_gathers_142 rfl ?_
            refine tm_lv X [1, 2, 3, 0] rfl ?_
            exact hk107 x3_16 (x4_10 + (1 : Int32))
          · skip
            refine tm_if_eq X 139 dX5_gathers_121 rfl ?_ ?_
            · skip
              exact hk139 x3_9
            · skip
              refine tm_aload_n X 0 dX5_gathers_124 rfl rfl ?_
              refine tm_getR X (frM_300_46 ad dA h8) in_X5 rfl (Nat.le_of_ble_eq_true rfl) q1233 rfl dX5_gathers_125 ?_
              refine tm_iload X 3 dX5_gathers_128 rfl ?_
              refine tm_iaload X (arM_246 ad dA) dX5_gathers_130 ?_
              refine tm_iload_n X 1 dX5_gathers_131 rfl rfl ?_
              refine tm_ic_ne X 139 dX5_gathers_132 rfl ?_ ?_
              · skip
                exact hk139 x3_9
              · skip
                refine tm_iload_n X 2 dX5_gathers_135 rfl rfl ?_
                refine tm_iconst X (1 : Int32) dX5_gathers_136 (by decide) ?_
                refine tm_iadd X dX5_gathers_137 ?_
                refine tm_nmI (fun v17 => ?_)
                refine tm_istore_n X [(3, .int v17), (0, .ref (ad 300)), (2, .int x2_7), (4, .int x4_10)] dX5_gathers_138 rfl (Nat.le_of_ble_eq_true rfl) rfl ?_
                refine tm_lv X [1, 2, 0, 3] rfl ?_
                exact hk139 v17
    · skip
      refine tm_iconst X (0 : Int32) dX5_gathers_27 (by decide) ?_
      refine tm_istore_n X [(1, .int (0 : Int32)), (0, .ref (ad 300))] dX5_gathers_28 rfl (Nat.le_of_ble_eq_true rfl) rfl ?_
      refine tm_iconst X (0 : Int32) dX5_gathers_29 (by decide) ?_
      refine tm_istore_n X [(2, .int (0 : Int32)), (1, .int (0 : Int32)), (0, .ref (ad 300))] dX5_gathers_30 rfl (Nat.le_of_ble_eq_true rfl) rfl ?_
      refine tm_lv X [2, 1, 0] rfl ?_
      refine fx_P (fun (k : Int32 → Int32 → Hp → Option (Hp)) => ∀ (x1_18 : Int32) (x2_19 : Int32) (h20 : Hp), TM G h' (k x1_18 x2_19 h20) (wM ad dA h20) 0 0 31 [(0, .ref (ad 300)), (1, .int x1_18), (2, .int x2_19)] []) (fun _ _ _ => tm_none) (fun k31 hk31 x1_18 x2_19 h20 => ?_) FU (0 : Int32) (0 : Int32) h4
      refine tm_iload_n X 2 dX5_gathers_31 rfl rfl ?_
      refine tm_bipush X (48 : Int32) dX5_gathers_32 (by decide) ?_
      refine tm_ic_ge X 81 dX5_gathers_34 rfl ?_ ?_
      · skip
        refine tm_goto X 23 dX5_gathers_81 rfl ?_
        refine tm_lv X [0, 1] rfl ?_
        exact hk23 x1_18 h20
      · skip
        refine tm_aload_n X 0 dX5_gathers_37 rfl rfl ?_
        refine tm_getR X (frM_300_45 ad dA h20) in_X5 rfl (Nat.le_of_ble_eq_true rfl) q1232 rfl dX5_gathers_38 ?_
        refine tm_iload_n X 2 dX5_gathers_41 rfl rfl ?_
        refine tm_baloadZ X (arM_245 ad dA) dX5_gathers_42 ?_
        refine tm_let (fun k => ∀ (s21 : Int32), TM G h' (k s21) (wM ad dA h20) 0 0 55 [(0, .ref (ad 300)), (1, .int x1_18), (2, .int x2_19)] [.int s21]) ?_ (fun k55 hk55 => ?_)
        · intro s21
          refine tm_istore_n X [(3, .int s21), (0, .ref (ad 300)), (1, .int x1_18), (2, .int x2_19)] dX5_gathers_55 rfl (Nat.le_of_ble_eq_true rfl) rfl ?_
          refine tm_iload_n X 0 dX5_gathers_56 rfl rfl ?_
          refine tm_aload_n X 1 dX5_gathers_57 rfl rfl ?_
          refine tm_getR X (frM_300_46 ad dA h20) in_X5 rfl (Nat.le_of_ble_eq_true rfl) q1233 rfl dX5_gathers_58 ?_
          refine tm_iload_n X 3 dX5_gathers_61 rfl rfl ?_
          refine tm_iaload X (arM_246 ad dA) dX5_gathers_62 ?_
          refine tm_let (fun k => ∀ (x1_22 : Int32) (h23 : Hp), TM G h' (k x1_22 h23) (wM ad dA h23) 0 0 75 [(0, .ref (ad 300)), (1, .int x1_22), (2, .int x2_19)] []) ?_ (fun k75 hk75 => ?_)
          · intro x1_22 h23
            refine tm_iinc (v := (1 : Int32)) X 2 [(2, .int (x2_19 + (1 : Int32))), (0, .ref (ad 300)), (1, .int x1_22)] dX5_gathers_75 rfl (by decide) (Nat.le_of_ble_eq_true rfl) rfl ?_
            refine tm_goto X 31 dX5_gathers_78 rfl ?_
            refine tm_lv X [1, 2, 0] rfl ?_
            exact hk31 x1_22 (x2_19 + (1 : Int32)) h23
          · skip
            refine tm_ic_ge X 75 dX5_gathers_63 rfl ?_ ?_
            · skip
              refine tm_lv X [1, 2, 3] rfl ?_
              exact hk75 x1_18 h20
            · skip
              refine tm_aload_n X 1 dX5_gathers_66 rfl rfl ?_
              refine tm_getR X (frM_300_46 ad dA h20) in_X5 rfl (Nat.le_of_ble_eq_true rfl) q1233 rfl dX5_gathers_67 ?_
              refine tm_iload_n X 3 dX5_gathers_70 rfl rfl ?_
              refine tm_iload_n X 0 dX5_gathers_71 rfl rfl ?_
              refine tm_iastore X (arM_246 ad dA) dX5_gathers_72 (fun h24 => ?_)
              refine tm_iconst X (1 : Int32) dX5_gathers_73 (by decide) ?_
              refine tm_istore_n X [(1, .int (1 : Int32)), (3, .int s21), (0, .ref (ad 300)), (2, .int x2_19)] dX5_gathers_74 rfl (Nat.le_of_ble_eq_true rfl) rfl ?_
              refine tm_lv X [2, 0, 3] rfl ?_
              exact hk75 (1 : Int32) h24
        · skip
          refine tm_if_eq X 54 dX5_gathers_43 rfl ?_ ?_
          · skip
            refine tm_iload_n X 2 dX5_gathers_54 rfl rfl ?_
            exact hk55 x2_19
          · skip
            refine tm_aload_n X 0 dX5_gathers_46 rfl rfl ?_
            refine tm_iload_n X 2 dX5_gathers_47 rfl rfl ?_
            refine tm_cl1 (fun r26 e25 => ?_)
            refine tm_callVi (As := [.int x2_19]) (rest := []) (q0 := 0) X (ctX5_lowestBeside l D ad dA h20 x2_19 r26 e25) (lw_V q1647 q1649 qs93 q122 q1650) cyX5_lowestBeside rfl rfl rfl ⟨(Nat.le_of_ble_eq_true rfl), (Nat.le_of_ble_eq_true rfl)⟩ (Nat.le_of_ble_eq_true rfl) dX5_gathers_48 ⟨Nat.le_of_ble_eq_true rfl, Nat.le_of_ble_eq_true rfl⟩ rfl ?_
            refine tm_goto X 55 dX5_gathers_51 rfl ?_
            exact hk55 r26
  · skip
    refine tm_aload_n X 0 dX5_gathers_8 rfl rfl ?_
    refine tm_getR X (frM_300_46 ad dA h2) in_X5 rfl (Nat.le_of_ble_eq_true rfl) q1233 rfl dX5_gathers_9 ?_
    refine tm_iload_n X 1 dX5_gathers_12 rfl rfl ?_
    refine tm_iload_n X 1 dX5_gathers_13 rfl rfl ?_
    refine tm_iastore X (arM_246 ad dA) dX5_gathers_14 (fun h27 => ?_)
    refine tm_iinc (v := (1 : Int32)) X 1 [(1, .int (x1_1 + (1 : Int32))), (0, .ref (ad 300))] dX5_gathers_15 rfl (by decide) (Nat.le_of_ble_eq_true rfl) rfl ?_
    refine tm_goto X 2 dX5_gathers_18 rfl ?_
    refine tm_lv X [1, 0] rfl ?_
    exact hk2 (x1_1 + (1 : Int32)) h27
def mX5_spots (h : Hp) (x1 : Int32) (x2 : Int32) (x3 : Int32) (x4 : Int32) : Option (Int32 × Hp) :=
cl1 (mX5_isGlide x1 x2) (fun r1 =>
nm (
some ((-1 : Int32), h)) (fun k25 =>
if r1 = 0 then (
k25) else (
cl1 (mX5_isSum x3) (fun r3 =>
if r3 = 0 then (
k25) else (
cl1 (mX5_in x4 (0 : Int32) (1 : Int32)) (fun r5 =>
if r5 = 0 then (
k25) else (
cl2 (mX5_marks h x1 x2 x3) (fun r8 h9 =>
fx FU (fun _ _ => none) (fun k38 (x5_10 : Int32) (h11 : Hp) =>
if (48 : Int32) ≤ x5_10 then (
cl1 (mX5_gathers h11) (fun h13 =>
nm (fun (s14 : Int32) =>
some (s14, h13)) (fun k85 =>
if x4 = 0 then (
k85 (h13 300 47)) else (
k85 (h13 300 48))))) else (
ck x5_10 48 (
ck x5_10 48 (nm (u2 h11 245 x5_10.toNatClampNeg (vp_nar .boolean (h11 242 x5_10.toNatClampNeg))) (fun h15 =>
k38 (x5_10 + (1 : Int32)) h15))))) (0 : Int32) h9))))))))
theorem cyX5_spots : Callee yX5_spots 4 := by unfold Callee; decide +kernel
set_option maxHeartbeats 4000000 in
theorem ctX5_spots (l : Launch) (D : va_G) (ad : Nat → Nat) (dA : Nat → ClassId) (h : Hp) (x1 : Int32) (x2 : Int32) (x3 : Int32) (x4 : Int32) (r : Int32) (h' : Hp) (hm : mX5_spots h x1 x2 x3 x4 = some (r, h')) : CT l yX5_spots cX5_spots 6 (some .int) D dA 5 120 0 0 (wM ad dA h) [.ref (ad 300), .int x1, .int x2, .int x3, .int x4] (some (.int r)) (wM ad dA h') := by
  refine ct_open (by decide) (Nat.le_of_ble_eq_true rfl) ?_
  intro G X hI hZ hV hR
  have hRet := hI rfl r rfl
  refine (show TM G (r, h') (mX5_spots h x1 x2 x3 x4) (wM ad dA h) 0 0 0 [(0, .ref (ad 300)), (1, .int x1), (2, .int x2), (3, .int x3), (4, .int x4)] [] from ?_) hm
  clear hm hI hZ hV hR
  unfold mX5_spots
  refine tm_iload_n X 1 dX5_spots_0 rfl rfl ?_
  refine tm_iload_n X 2 dX5_spots_1 rfl rfl ?_
  refine tm_cl1 (fun r1 e2 => ?_)
  refine tm_callSi (As := [.int x1, .int x2]) (rest := []) X (ctX5_isGlide l D dA x1 x2 r1 e2) (lw_S q1514 q1515 q122 q1516) cyX5_isGlide rfl ⟨(Nat.le_of_ble_eq_true rfl), (Nat.le_of_ble_eq_true rfl)⟩ (Nat.le_of_ble_eq_true rfl) dX5_spots_2 ⟨Nat.le_of_ble_eq_true rfl, Nat.le_of_ble_eq_true rfl⟩ rfl ?_
  refine tm_let (fun k => TM G (r, h') k (wM ad dA h) 0 0 25 [] []) ?_ (fun k25 hk25 => ?_)
  · skip
    refine tm_iconst X (-1 : Int32) dX5_spots_25 (by decide) ?_
    exact tm_retIH (wf := wM ad dA) hRet dX5_spots_26
  · skip
    refine tm_if_eq X 25 dX5_spots_5 rfl ?_ ?_
    · skip
      refine tm_lv X [] rfl ?_
      exact hk25
    · skip
      refine tm_iload_n X 3 dX5_spots_8 rfl rfl ?_
      refine tm_cl1 (fun r3 e4 => ?_)
      refine tm_callSi (As := [.int x3]) (rest := []) X (ctX5_isSum l D dA x3 r3 e4) (lw_S q1517 q1518 q122 q1519) cyX5_isSum rfl ⟨(Nat.le_of_ble_eq_true rfl), (Nat.le_of_ble_eq_true rfl)⟩ (Nat.le_of_ble_eq_true rfl) dX5_spots_9 ⟨Nat.le_of_ble_eq_true rfl, Nat.le_of_ble_eq_true rfl⟩ rfl ?_
      refine tm_if_eq X 25 dX5_spots_12 rfl ?_ ?_
      · skip
        refine tm_lv X [] rfl ?_
        exact hk25
      · skip
        refine tm_iload X 4 dX5_spots_15 rfl ?_
        refine tm_iconst X (0 : Int32) dX5_spots_17 (by decide) ?_
        refine tm_iconst X (1 : Int32) dX5_spots_18 (by decide) ?_
        refine tm_cl1 (fun r5 e6 => ?_)
        refine tm_callSi (As := [.int x4, .int (0 : Int32), .int (1 : Int32)]) (rest := []) X (ctX5_in l D dA x4 (0 : Int32) (1 : Int32) r5 e6) (lw_S q1366 q1367 q122 q1368) cyX5_in rfl ⟨(Nat.le_of_ble_eq_true rfl), (Nat.le_of_ble_eq_true rfl)⟩ (Nat.le_of_ble_eq_true rfl) dX5_spots_19 ⟨Nat.le_of_ble_eq_true rfl, Nat.le_of_ble_eq_true rfl⟩ rfl ?_
        refine tm_if_ne X 27 dX5_spots_22 rfl ?_ ?_
        · skip
          refine tm_aload_n X 0 dX5_spots_27 rfl rfl ?_
          refine tm_iload_n X 1 dX5_spots_28 rfl rfl ?_
          refine tm_iload_n X 2 dX5_spots_29 rfl rfl ?_
          refine tm_iload_n X 3 dX5_spots_30 rfl rfl ?_
          refine tm_cl2 (fun r8 h9 e7 => ?_)
          refine tm_callVi (As := [.int x1, .int x2, .int x3]) (rest := []) (q0 := 0) X (ctX5_marks l D ad dA h x1 x2 x3 r8 h9 e7) (lw_V q1542 q1544 qs79 q122 q1545) cyX5_marks rfl rfl rfl ⟨(Nat.le_of_ble_eq_true rfl), (Nat.le_of_ble_eq_true rfl)⟩ (Nat.le_of_ble_eq_true rfl) dX5_spots_31 ⟨Nat.le_of_ble_eq_true rfl, Nat.le_of_ble_eq_true rfl⟩ rfl ?_
          refine tm_pop X dX5_spots_34 rfl ?_
          refine tm_iconst X (0 : Int32) dX5_spots_35 (by decide) ?_
          refine tm_istore X [(5, .int (0 : Int32)), (0, .ref (ad 300)), (1, .int x1), (2, .int x2), (3, .int x3), (4, .int x4)] dX5_spots_36 (Nat.le_of_ble_eq_true rfl) rfl ?_
          refine tm_lv X [1, 5, 0] rfl ?_
          refine fx_P (fun (k : Int32 → Hp → Option (Int32 × Hp)) => ∀ (x5_10 : Int32) (h11 : Hp), TM G (r, h') (k x5_10 h11) (wM ad dA h11) 0 0 38 [(0, .ref (ad 300)), (4, .int x4), (5, .int x5_10)] []) (fun _ _ => tm_none) (fun k38 hk38 x5_10 h11 => ?_) FU (0 : Int32) h9
          refine tm_iload X 2 dX5_spots_38 rfl ?_
          refine tm_bipush X (48 : Int32) dX5_spots_40 (by decide) ?_
          refine tm_ic_ge X 65 dX5_spots_42 rfl ?_ ?_
          · skip
            refine tm_aload_n X 0 dX5_spots_65 rfl rfl ?_
            refine tm_cl1 (fun h13 e12 => ?_)
            refine tm_callVv (As := []) (rest := []) (q0 := 0) X (ctX5_gathers l D ad dA h11 h13 e12) (lw_V q1643 q1645 qs92 q122 q1646) cyX5_gathers rfl rfl rfl ⟨(Nat.le_of_ble_eq_true rfl), (Nat.le_of_ble_eq_true rfl)⟩ (Nat.le_of_ble_eq_true rfl) dX5_spots_66 ⟨Nat.le_of_ble_eq_true rfl, Nat.le_of_ble_eq_true rfl⟩ rfl ?_
            refine tm_iload X 1 dX5_spots_69 rfl ?_
            refine tm_let (fun k => ∀ (s14 : Int32), TM G (r, h') (k s14) (wM ad dA h13) 0 0 85 [] [.int s14]) ?_ (fun k85 hk85 => ?_)
            · intro s14
              exact tm_retIH (wf := wM ad dA) hRet dX5_spots_85
            · skip
              refine tm_if_ne X 81 dX5_spots_71 rfl ?_ ?_
              · skip
                refine tm_aload_n X 0 dX5_spots_81 rfl rfl ?_
                refine tm_getI X (fiM_300_48 ad dA) in_X5 rfl (Nat.le_of_ble_eq_true rfl) q1235 rfl dX5_spots_82 ?_
                refine tm_lv X [] rfl ?_
                exact hk85 (h13 300 48)
              · skip
                refine tm_aload_n X 0 dX5_spots_74 rfl rfl ?_
                refine tm_getI X (fiM_300_47 ad dA) in_X5 rfl (Nat.le_of_ble_eq_true rfl) q1234 rfl dX5_spots_75 ?_
                refine tm_goto X 85 dX5_spots_78 rfl ?_
                refine tm_lv X [] rfl ?_
                exact hk85 (h13 300 47)
          · skip
            refine tm_aload_n X 0 dX5_spots_45 rfl rfl ?_
            refine tm_getR X (frM_300_45 ad dA h11) in_X5 rfl (Nat.le_of_ble_eq_true rfl) q1232 rfl dX5_spots_46 ?_
            refine tm_iload X 2 dX5_spots_49 rfl ?_
            refine tm_aload_n X 0 dX5_spots_51 rfl rfl ?_
            refine tm_getR X (frM_300_42 ad dA h11) in_X5 rfl (Nat.le_of_ble_eq_true rfl) q1229 rfl dX5_spots_52 ?_
            refine tm_iload X 2 dX5_spots_55 rfl ?_
            refine tm_baloadZ X (arM_242 ad dA) dX5_spots_57 ?_
            refine tm_bastoreZ X (arM_245 ad dA) dX5_spots_58 (fun h15 => ?_)
            refine tm_iinc (v := (1 : Int32)) X 2 [(5, .int (x5_10 + (1 : Int32))), (0, .ref (ad 300)), (4, .int x4)] dX5_spots_59 rfl (by decide) (Nat.le_of_ble_eq_true rfl) rfl ?_
            refine tm_goto X 38 dX5_spots_62 rfl ?_
            refine tm_lv X [1, 2, 0] rfl ?_
            exact hk38 (x5_10 + (1 : Int32)) h15
        · skip
          refine tm_lv X [] rfl ?_
          exact hk25
def mX5_pieces (h : Hp) (x1 : Int32) (x2 : Int32) (x3 : Int32) : Option (Int32 × Hp) :=
cl1 (mX5_isCast x1) (fun r1 =>
nm (
some ((-1 : Int32), h)) (fun k26 =>
if r1 = 0 then (
k26) else (
cl1 (mX5_in x2 (0 : Int32) (25 : Int32)) (fun r3 =>
if r3 = 0 then (
k26) else (
cl1 (mX5_in x3 (0 : Int32) (1 : Int32)) (fun r5 =>
if r5 = 0 then (
k26) else (
fx FU (fun _ _ => none) (fun k31 (x4_7 : Int32) (h8 : Hp) =>
if (48 : Int32) ≤ x4_7 then (
cl1 (mX5_gathers h8) (fun h10 =>
nm (fun (s11 : Int32) =>
some (s11, h10)) (fun k91 =>
if x3 = 0 then (
k91 (h10 300 47)) else (
k91 (h10 300 48))))) else (
nm ((((48 : Int32) * x1) + x4_7)) (fun v12 =>
ck v12 96 (
nm (fun (s13 : Int32) =>
ck x4_7 48 (nm (u2 h8 245 x4_7.toNatClampNeg (vp_nar .boolean s13)) (fun h14 =>
k31 (x4_7 + (1 : Int32)) h14))) (fun k65 =>
if (h8 200 v12.toNatClampNeg) < x2 then (
k65 (0 : Int32)) else (
k65 (1 : Int32))))))) (0 : Int32) h)))))))
theorem cyX5_pieces : Callee yX5_pieces 3 := by unfold Callee; decide +kernel
set_option maxHeartbeats 4000000 in
theorem ctX5_pieces (l : Launch) (D : va_G) (ad : Nat → Nat) (dA : Nat → ClassId) (h : Hp) (x1 : Int32) (x2 : Int32) (x3 : Int32) (r : Int32) (h' : Hp) (hm : mX5_pieces h x1 x2 x3 = some (r, h')) : CT l yX5_pieces cX5_pieces 5 (some .int) D dA 4 93 0 0 (wM ad dA h) [.ref (ad 300), .int x1, .int x2, .int x3] (some (.int r)) (wM ad dA h') := by
  refine ct_open (by decide) (Nat.le_of_ble_eq_true rfl) ?_
  intro G X hI hZ hV hR
  have hRet := hI rfl r rfl
  refine (show TM G (r, h') (mX5_pieces h x1 x2 x3) (wM ad dA h) 0 0 0 [(0, .ref (ad 300)), (1, .int x1), (2, .int x2), (3, .int x3)] [] from ?_) hm
  clear hm hI hZ hV hR
  unfold mX5_pieces
  refine tm_iload_n X 1 dX5_pieces_0 rfl rfl ?_
  refine tm_cl1 (fun r1 e2 => ?_)
  refine tm_callSi (As := [.int x1]) (rest := []) X (ctX5_isCast l D dA x1 r1 e2) (lw_S q1363 q1364 q122 q1365) cyX5_isCast rfl ⟨(Nat.le_of_ble_eq_true rfl), (Nat.le_of_ble_eq_true rfl)⟩ (Nat.le_of_ble_eq_true rfl) dX5_pieces_1 ⟨Nat.le_of_ble_eq_true rfl, Nat.le_of_ble_eq_true rfl⟩ rfl ?_
  refine tm_let (fun k => TM G (r, h') k (wM ad dA h) 0 0 26 [] []) ?_ (fun k26 hk26 => ?_)
  · skip
    refine tm_iconst X (-1 : Int32) dX5_pieces_26 (by decide) ?_
    exact tm_retIH (wf := wM ad dA) hRet dX5_pieces_27
  · skip
    refine tm_if_eq X 26 dX5_pieces_4 rfl ?_ ?_
    · skip
      refine tm_lv X [] rfl ?_
      exact hk26
    · skip
      refine tm_iload_n X 2 dX5_pieces_7 rfl rfl ?_
      refine tm_iconst X (0 : Int32) dX5_pieces_8 (by decide) ?_
      refine tm_bipush X (25 : Int32) dX5_pieces_9 (by decide) ?_
      refine tm_cl1 (fun r3 e4 => ?_)
      refine tm_callSi (As := [.int x2, .int (0 : Int32), .int (25 : Int32)]) (rest := []) X (ctX5_in l D dA x2 (0 : Int32) (25 : Int32) r3 e4) (lw_S q1366 q1367 q122 q1368) cyX5_in rfl ⟨(Nat.le_of_ble_eq_true rfl), (Nat.le_of_ble_eq_true rfl)⟩ (Nat.le_of_ble_eq_true rfl) dX5_pieces_11 ⟨Nat.le_of_ble_eq_true rfl, Nat.le_of_ble_eq_true rfl⟩ rfl ?_
      refine tm_if_eq X 26 dX5_pieces_14 rfl ?_ ?_
      · skip
        refine tm_lv X [] rfl ?_
        exact hk26
      · skip
        refine tm_iload_n X 3 dX5_pieces_17 rfl rfl ?_
        refine tm_iconst X (0 : Int32) dX5_pieces_18 (by decide) ?_
        refine tm_iconst X (1 : Int32) dX5_pieces_19 (by decide) ?_
        refine tm_cl1 (fun r5 e6 => ?_)
        refine tm_callSi (As := [.int x3, .int (0 : Int32), .int (1 : Int32)]) (rest := []) X (ctX5_in l D dA x3 (0 : Int32) (1 : Int32) r5 e6) (lw_S q1366 q1367 q122 q1368) cyX5_in rfl ⟨(Nat.le_of_ble_eq_true rfl), (Nat.le_of_ble_eq_true rfl)⟩ (Nat.le_of_ble_eq_true rfl) dX5_pieces_20 ⟨Nat.le_of_ble_eq_true rfl, Nat.le_of_ble_eq_true rfl⟩ rfl ?_
        refine tm_if_ne X 28 dX5_pieces_23 rfl ?_ ?_
        · skip
          refine tm_iconst X (0 : Int32) dX5_pieces_28 (by decide) ?_
          refine tm_istore X [(4, .int (0 : Int32)), (0, .ref (ad 300)), (1, .int x1), (2, .int x2), (3, .int x3)] dX5_pieces_29 (Nat.le_of_ble_eq_true rfl) rfl ?_
          refine tm_lv X [1, 2, 3, 4, 0] rfl ?_
          refine fx_P (fun (k : Int32 → Hp → Option (Int32 × Hp)) => ∀ (x4_7 : Int32) (h8 : Hp), TM G (r, h') (k x4_7 h8) (wM ad dA h8) 0 0 31 [(0, .ref (ad 300)), (1, .int x1), (2, .int x2), (3, .int x3), (4, .int x4_7)] []) (fun _ _ => tm_none) (fun k31 hk31 x4_7 h8 => ?_) FU (0 : Int32) h
          refine tm_iload X 4 dX5_pieces_31 rfl ?_
          refine tm_bipush X (48 : Int32) dX5_pieces_33 (by decide) ?_
          refine tm_ic_ge X 72 dX5_pieces_35 rfl ?_ ?_
          · skip
            refine tm_aload_n X 0 dX5_pieces_72 rfl rfl ?_
            refine tm_cl1 (fun h10 e9 => ?_)
            refine tm_callVv (As := []) (rest := []) (q0 := 0) X (ctX5_gathers l D ad dA h8 h10 e9) (lw_V q1643 q1645 qs92 q122 q1646) cyX5_gathers rfl rfl rfl ⟨(Nat.le_of_ble_eq_true rfl), (Nat.le_of_ble_eq_true rfl)⟩ (Nat.le_of_ble_eq_true rfl) dX5_pieces_73 ⟨Nat.le_of_ble_eq_true rfl, Nat.le_of_ble_eq_true rfl⟩ rfl ?_
            refine tm_iload_n X 3 dX5_pieces_76 rfl rfl ?_
            refine tm_let (fun k => ∀ (s11 : Int32), TM G (r, h') (k s11) (wM ad dA h10) 0 0 91 [] [.int s11]) ?_ (fun k91 hk91 => ?_)
            · intro s11
              exact tm_retIH (wf := wM ad dA) hRet dX5_pieces_91
            · skip
              refine tm_if_ne X 87 dX5_pieces_77 rfl ?_ ?_
              · skip
                refine tm_aload_n X 0 dX5_pieces_87 rfl rfl ?_
                refine tm_getI X (fiM_300_48 ad dA) in_X5 rfl (Nat.le_of_ble_eq_true rfl) q1235 rfl dX5_pieces_88 ?_
                refine tm_lv X [] rfl ?_
                exact hk91 (h10 300 48)
              · skip
                refine tm_aload_n X 0 dX5_pieces_80 rfl rfl ?_
                refine tm_getI X (fiM_300_47 ad dA) in_X5 rfl (Nat.le_of_ble_eq_true rfl) q1234 rfl dX5_pieces_81 ?_
                refine tm_goto X 91 dX5_pieces_84 rfl ?_
                refine tm_lv X [] rfl ?_
                exact hk91 (h10 300 47)
          · skip
            refine tm_aload_n X 0 dX5_pieces_38 rfl rfl ?_
            refine tm_getR X (frM_300_45 ad dA h8) in_X5 rfl (Nat.le_of_ble_eq_true rfl) q1232 rfl dX5_pieces_39 ?_
            refine tm_iload X 4 dX5_pieces_42 rfl ?_
            refine tm_aload_n X 0 dX5_pieces_44 rfl rfl ?_
            refine tm_getR X (frM_300_0 ad dA h8) in_X5 rfl (Nat.le_of_ble_eq_true rfl) q1187 rfl dX5_pieces_45 ?_
            refine tm_bipush X (48 : Int32) dX5_pieces_48 (by decide) ?_
            refine tm_iload_n X 1 dX5_pieces_50 rfl rfl ?_
            refine tm_imul X dX5_pieces_51 ?_
            refine tm_iload X 4 dX5_pieces_52 rfl ?_
            refine tm_iadd X dX5_pieces_54 ?_
            refine tm_nmI (fun v12 => ?_)
            refine tm_iaload X (arM_200 ad dA) dX5_pieces_55 ?_
            refine tm_iload_n X 2 dX5_pieces_56 rfl rfl ?_
            refine tm_let (fun k => ∀ (s13 : Int32), TM G (r, h') (k s13) (wM ad dA h8) 0 0 65 [(0, .ref (ad 300)), (1, .int x1), (2, .int x2), (3, .int x3), (4, .int x4_7)] [.int s13, .int x4_7, .ref (ad 245)]) ?_ (fun k65 hk65 => ?_)
            · intro s13
              refine tm_bastoreZ X (arM_245 ad dA) dX5_pieces_65 (fun h14 => ?_)
              refine tm_iinc (v := (1 : Int32)) X 4 [(4, .int (x4_7 + (1 : Int32))), (0, .ref (ad 300)), (1, .int x1), (2, .int x2), (3, .int x3)] dX5_pieces_66 rfl (by decide) (Nat.le_of_ble_eq_true rfl) rfl ?_
              refine tm_goto X 31 dX5_pieces_69 rfl ?_
              refine tm_lv X [1, 2, 3, 4, 0] rfl ?_
              exact hk31 (x4_7 + (1 : Int32)) h14
            · skip
              refine tm_ic_lt X 64 dX5_pieces_57 rfl ?_ ?_
              · skip
                refine tm_iconst X (0 : Int32) dX5_pieces_64 (by decide) ?_
                exact hk65 (0 : Int32)
              · skip
                refine tm_iconst X (1 : Int32) dX5_pieces_60 (by decide) ?_
                refine tm_goto X 65 dX5_pieces_61 rfl ?_
                exact hk65 (1 : Int32)
        · skip
          refine tm_lv X [] rfl ?_
          exact hk26
def mX5_laysTouching (h : Hp)  : Option (Hp) :=
cl2 (mX5_marks h (0 : Int32) (0 : Int32) (0 : Int32)) (fun r2 h3 =>
nm (u2 h3 300 50 (0 : Int32)) (fun h4 =>
fx FU (fun _ _ => none) (fun k15 (x1_5 : Int32) (h6 : Hp) =>
if (48 : Int32) ≤ x1_5 then (
some h6) else (
ck x1_5 48 (
nm (fun (h7 : Hp) =>
k15 (x1_5 + (1 : Int32)) h7) (fun k50 =>
if (h6 242 x1_5.toNatClampNeg) = 0 then (
k50 h6) else (
ck (h6 300 50) 48 (nm (u2 h6 249 (h6 300 50).toNatClampNeg x1_5) (fun h8 =>
nm (u2 h8 300 50 ((h8 300 50) + (1 : Int32))) (fun h9 =>
k50 h9)))))))) (0 : Int32) h4))
theorem cyX5_laysTouching : Callee yX5_laysTouching 0 := by unfold Callee; decide +kernel
set_option maxHeartbeats 4000000 in
theorem ctX5_laysTouching (l : Launch) (D : va_G) (ad : Nat → Nat) (dA : Nat → ClassId) (h : Hp)  (h' : Hp) (hm : mX5_laysTouching h = some h') : CT l yX5_laysTouching cX5_laysTouching 2 none D dA 5 120 0 0 (wM ad dA h) [.ref (ad 300)] none (wM ad dA h') := by
  refine ct_open (by decide) (Nat.le_of_ble_eq_true rfl) ?_
  intro G X hI hZ hV hR
  have hRet := hV rfl rfl
  refine (show TM G h' (mX5_laysTouching h) (wM ad dA h) 0 0 0 [(0, .ref (ad 300))] [] from ?_) hm
  clear hm hI hZ hV hR
  unfold mX5_laysTouching
  refine tm_aload_n X 0 dX5_laysTouching_0 rfl rfl ?_
  refine tm_iconst X (0 : Int32) dX5_laysTouching_1 (by decide) ?_
  refine tm_iconst X (0 : Int32) dX5_laysTouching_2 (by decide) ?_
  refine tm_iconst X (0 : Int32) dX5_laysTouching_3 (by decide) ?_
  refine tm_cl2 (fun r2 h3 e1 => ?_)
  refine tm_callVi (As := [.int (0 : Int32), .int (0 : Int32), .int (0 : Int32)]) (rest := []) (q0 := 0) X (ctX5_marks l D ad dA h (0 : Int32) (0 : Int32) (0 : Int32) r2 h3 e1) (lw_V q1542 q1544 qs79 q122 q1545) cyX5_marks rfl rfl rfl ⟨(Nat.le_of_ble_eq_true rfl), (Nat.le_of_ble_eq_true rfl)⟩ (Nat.le_of_ble_eq_true rfl) dX5_laysTouching_4 ⟨Nat.le_of_ble_eq_true rfl, Nat.le_of_ble_eq_true rfl⟩ rfl ?_
  refine tm_pop X dX5_laysTouching_7 rfl ?_
  refine tm_aload_n X 0 dX5_laysTouching_8 rfl rfl ?_
  refine tm_iconst X (0 : Int32) dX5_laysTouching_9 (by decide) ?_
  refine tm_putI X (fiM_300_50 ad dA) in_X5 rfl (Nat.le_of_ble_eq_true rfl) tyX5 tyX5_ok nmX5 rfl rfl q1237 rfl dX5_laysTouching_10 (fun h4 => ?_)
  refine tm_iconst X (0 : Int32) dX5_laysTouching_13 (by decide) ?_
  refine tm_istore_n X [(1, .int (0 : Int32)), (0, .ref (ad 300))] dX5_laysTouching_14 rfl (Nat.le_of_ble_eq_true rfl) rfl ?_
  refine tm_lv X [1, 0] rfl ?_
  refine fx_P (fun (k : Int32 → Hp → Option (Hp)) => ∀ (x1_5 : Int32) (h6 : Hp), TM G h' (k x1_5 h6) (wM ad dA h6) 0 0 15 [(0, .ref (ad 300)), (1, .int x1_5)] []) (fun _ _ => tm_none) (fun k15 hk15 x1_5 h6 => ?_) FU (0 : Int32) h4
  refine tm_iload_n X 1 dX5_laysTouching_15 rfl rfl ?_
  refine tm_bipush X (48 : Int32) dX5_laysTouching_16 (by decide) ?_
  refine tm_ic_ge X 56 dX5_laysTouching_18 rfl ?_ ?_
  · skip
    exact tm_retV (wf := wM ad dA) hRet dX5_laysTouching_56
  · skip
    refine tm_aload_n X 0 dX5_laysTouching_21 rfl rfl ?_
    refine tm_getR X (frM_300_42 ad dA h6) in_X5 rfl (Nat.le_of_ble_eq_true rfl) q1229 rfl dX5_laysTouching_22 ?_
    refine tm_iload_n X 1 dX5_laysTouching_25 rfl rfl ?_
    refine tm_baloadZ X (arM_242 ad dA) dX5_laysTouching_26 ?_
    refine tm_let (fun k => ∀ (h7 : Hp), TM G h' (k h7) (wM ad dA h7) 0 0 50 [(0, .ref (ad 300)), (1, .int x1_5)] []) ?_ (fun k50 hk50 => ?_)
    · intro h7
      refine tm_iinc (v := (1 : Int32)) X 1 [(1, .int (x1_5 + (1 : Int32))), (0, .ref (ad 300))] dX5_laysTouching_50 rfl (by decide) (Nat.le_of_ble_eq_true rfl) rfl ?_
      refine tm_goto X 15 dX5_laysTouching_53 rfl ?_
      refine tm_lv X [1, 0] rfl ?_
      exact hk15 (x1_5 + (1 : Int32)) h7
    · skip
      refine tm_if_eq X 50 dX5_laysTouching_27 rfl ?_ ?_
      · skip
        exact hk50 h6
      · skip
        refine tm_aload_n X 0 dX5_laysTouching_30 rfl rfl ?_
        refine tm_getR X (frM_300_49 ad dA h6) in_X5 rfl (Nat.le_of_ble_eq_true rfl) q1236 rfl dX5_laysTouching_31 ?_
        refine tm_aload_n X 0 dX5_laysTouching_34 rfl rfl ?_
        refine tm_getI X (fiM_300_50 ad dA) in_X5 rfl (Nat.le_of_ble_eq_true rfl) q1237 rfl dX5_laysTouching_35 ?_
        refine tm_iload_n X 1 dX5_laysTouching_38 rfl rfl ?_
        refine tm_iastore X (arM_249 ad dA) dX5_laysTouching_39 (fun h8 => ?_)
        refine tm_aload_n X 0 dX5_laysTouching_40 rfl rfl ?_
        refine tm_aload_n X 0 dX5_laysTouching_41 rfl rfl ?_
        refine tm_getI X (fiM_300_50 ad dA) in_X5 rfl (Nat.le_of_ble_eq_true rfl) q1237 rfl dX5_laysTouching_42 ?_
        refine tm_iconst X (1 : Int32) dX5_laysTouching_45 (by decide) ?_
        refine tm_iadd X dX5_laysTouching_46 ?_
        refine tm_putI X (fiM_300_50 ad dA) in_X5 rfl (Nat.le_of_ble_eq_true rfl) tyX5 tyX5_ok nmX5 rfl rfl q1237 rfl dX5_laysTouching_47 (fun h9 => ?_)
        exact hk50 h9
def mX5_round3 (x0 : Int32) (x1 : Int32) (x2 : Int32) : Option (Int32) :=
nm (((jrem x1 (8 : Int32)) - (jrem x0 (8 : Int32)))) (fun v1 =>
nm (((x1 / (8 : Int32)) - (x0 / (8 : Int32)))) (fun v2 =>
nm (((jrem x2 (8 : Int32)) - (jrem x0 (8 : Int32)))) (fun v3 =>
nm (((x2 / (8 : Int32)) - (x0 / (8 : Int32)))) (fun v4 =>
some ((v1 * v4) - (v2 * v3))))))
theorem cyX5_round3 : Callee yX5_round3 3 := by unfold Callee; decide +kernel
set_option maxHeartbeats 4000000 in
theorem ctX5_round3 (l : Launch) (D : va_G) (dA : Nat → ClassId) (x0 : Int32) (x1 : Int32) (x2 : Int32) (r : Int32) (hm : mX5_round3 x0 x1 x2 = some r) : CT l yX5_round3 cX5_round3 7 (some .int) D dA 0 0 0 0 [] [.int x0, .int x1, .int x2] (some (.int r)) [] := by
  refine ct_open (by decide) (Nat.le_of_ble_eq_true rfl) ?_
  intro G X hI hZ hV hR
  have hRet := hI rfl r rfl
  refine (show TM G r (mX5_round3 x0 x1 x2) [] 0 0 0 [(0, .int x0), (1, .int x1), (2, .int x2)] [] from ?_) hm
  clear hm hI hZ hV hR
  unfold mX5_round3
  refine tm_iload_n X 1 dX5_round3_0 rfl rfl ?_
  refine tm_bipush X (8 : Int32) dX5_round3_1 (by decide) ?_
  refine tm_irem X dX5_round3_3 (by decide) ?_
  refine tm_iload_n X 0 dX5_round3_4 rfl rfl ?_
  refine tm_bipush X (8 : Int32) dX5_round3_5 (by decide) ?_
  refine tm_irem X dX5_round3_7 (by decide) ?_
  refine tm_isub X dX5_round3_8 ?_
  refine tm_nmI (fun v1 => ?_)
  refine tm_istore_n X [(3, .int v1), (0, .int x0), (1, .int x1), (2, .int x2)] dX5_round3_9 rfl (Nat.le_of_ble_eq_true rfl) rfl ?_
  refine tm_iload_n X 2 dX5_round3_10 rfl rfl ?_
  refine tm_bipush X (8 : Int32) dX5_round3_11 (by decide) ?_
  refine tm_idiv X dX5_round3_13 (by decide) ?_
  refine tm_iload_n X 1 dX5_round3_14 rfl rfl ?_
  refine tm_bipush X (8 : Int32) dX5_round3_15 (by decide) ?_
  refine tm_idiv X dX5_round3_17 (by decide) ?_
  refine tm_isub X dX5_round3_18 ?_
  refine tm_nmI (fun v2 => ?_)
  refine tm_istore X [(4, .int v2), (3, .int v1), (0, .int x0), (1, .int x1), (2, .int x2)] dX5_round3_19 (Nat.le_of_ble_eq_true rfl) rfl ?_
  refine tm_iload_n X 4 dX5_round3_21 rfl rfl ?_
  refine tm_bipush X (8 : Int32) dX5_round3_22 (by decide) ?_
  refine tm_irem X dX5_round3_24 (by decide) ?_
  refine tm_iload_n X 2 dX5_round3_25 rfl rfl ?_
  refine tm_bipush X (8 : Int32) dX5_round3_26 (by decide) ?_
  refine tm_irem X dX5_round3_28 (by decide) ?_
  refine tm_isub X dX5_round3_29 ?_
  refine tm_nmI (fun v3 => ?_)
  refine tm_istore X [(5, .int v3), (4, .int v2), (3, .int v1), (0, .int x0), (1, .int x1), (2, .int x2)] dX5_round3_30 (Nat.le_of_ble_eq_true rfl) rfl ?_
  refine tm_iload_n X 5 dX5_round3_32 rfl rfl ?_
  refine tm_bipush X (8 : Int32) dX5_round3_33 (by decide) ?_
  refine tm_idiv X dX5_round3_35 (by decide) ?_
  refine tm_iload_n X 3 dX5_round3_36 rfl rfl ?_
  refine tm_bipush X (8 : Int32) dX5_round3_37 (by decide) ?_
  refine tm_idiv X dX5_round3_39 (by decide) ?_
  refine tm_isub X dX5_round3_40 ?_
  refine tm_nmI (fun v4 => ?_)
  refine tm_istore X [(6, .int v4), (5, .int v3), (4, .int v2), (3, .int v1), (0, .int x0), (1, .int x1), (2, .int x2)] dX5_round3_41 (Nat.le_of_ble_eq_true rfl) rfl ?_
  refine tm_iload_n X 3 dX5_round3_43 rfl rfl ?_
  refine tm_iload X 0 dX5_round3_44 rfl ?_
  refine tm_imul X dX5_round3_46 ?_
  refine tm_iload X 2 dX5_round3_47 rfl ?_
  refine tm_iload X 1 dX5_round3_49 rfl ?_
  refine tm_imul X dX5_round3_51 ?_
  refine tm_isub X dX5_round3_52 ?_
  exact tm_retI hRet dX5_round3_53
