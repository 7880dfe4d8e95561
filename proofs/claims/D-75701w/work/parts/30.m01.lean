set_option maxRecDepth 100000
def mX5_waitTop (h : Hp)  : Option (Int32) :=
nm (fun (s1 : Int32) =>
some s1) (fun k25 =>
if (h 300 13) = 0 then (
k25 (-1 : Int32)) else (
nm (((h 300 13) - (1 : Int32))) (fun v2 =>
ck v2 260 (
k25 ((h 217 v2.toNatClampNeg) / (1048576 : Int32))))))
theorem cyX5_waitTop : Callee yX5_waitTop 0 := by unfold Callee; decide +kernel
set_option maxHeartbeats 4000000 in
theorem ctX5_waitTop (l : Launch) (D : va_G) (ad : Nat → Nat) (dA : Nat → ClassId) (h : Hp)  (r : Int32) (hm : mX5_waitTop h = some r) : CT l yX5_waitTop cX5_waitTop 1 (some .int) D dA 0 0 0 0 (wM ad dA h) [.ref (ad 300)] (some (.int r)) (wM ad dA h) := by
  refine ct_open (by decide) (Nat.le_of_ble_eq_true rfl) ?_
  intro G X hI hZ hV hR
  have hRet := hI rfl r rfl
  refine (show TM G r (mX5_waitTop h) (wM ad dA h) 0 0 0 [(0, .ref (ad 300))] [] from ?_) hm
  clear hm hI hZ hV hR
  unfold mX5_waitTop
  refine tm_aload_n X 0 dX5_waitTop_0 rfl rfl ?_
  refine tm_getI X (fiM_300_13 ad dA) in_X5 rfl (Nat.le_of_ble_eq_true rfl) q1200 rfl dX5_waitTop_1 ?_
  refine tm_let (fun k => ∀ (s1 : Int32), TM G r (k s1) (wM ad dA h) 0 0 25 [] [.int s1]) ?_ (fun k25 hk25 => ?_)
  · intro s1
    exact tm_retI hRet dX5_waitTop_25
  · skip
    refine tm_if_ne X 11 dX5_waitTop_4 rfl ?_ ?_
    · skip
      refine tm_aload_n X 0 dX5_waitTop_11 rfl rfl ?_
      refine tm_getR X (frM_300_17 ad dA h) in_X5 rfl (Nat.le_of_ble_eq_true rfl) q1204 rfl dX5_waitTop_12 ?_
      refine tm_aload_n X 0 dX5_waitTop_15 rfl rfl ?_
      refine tm_getI X (fiM_300_13 ad dA) in_X5 rfl (Nat.le_of_ble_eq_true rfl) q1200 rfl dX5_waitTop_16 ?_
      refine tm_iconst X (1 : Int32) dX5_waitTop_19 (by decide) ?_
      refine tm_isub X dX5_waitTop_20 ?_
      refine tm_nmI (fun v2 => ?_)
      refine tm_iaload X (arM_217 ad dA) dX5_waitTop_21 ?_
      refine tm_ldc X (1048576 : Int32) q1420 dX5_waitTop_22 ?_
      refine tm_idiv X dX5_waitTop_24 (by decide) ?_
      refine tm_lv X [] rfl ?_
      exact hk25 ((h 217 v2.toNatClampNeg) / (1048576 : Int32))
    · skip
      refine tm_iconst X (-1 : Int32) dX5_waitTop_7 (by decide) ?_
      refine tm_goto X 25 dX5_waitTop_8 rfl ?_
      refine tm_lv X [] rfl ?_
      exact hk25 (-1 : Int32)
def mX5_closesSums (h : Hp) (x1 : Int32) : Option (Hp) :=
fx FU (fun _ => none) (fun k0 (h1 : Hp) =>
cl1 (mX5_waitTop h1) (fun r3 =>
nm (
cl1 (mX5_waitTop h1) (fun r5 =>
cl1 (mX5_notes h1 r5 (0 : Int32)) (fun h7 =>
nm (u2 h7 300 13 ((h7 300 13) - (1 : Int32))) (fun h8 =>
k0 h8)))) (fun k37 =>
nm (
nm (
some h1) (fun k59 =>
if x1 = 0 then (
k59) else (
cl1 (mX5_waitTop h1) (fun r10 =>
if r10 = (2 : Int32) then (
k37) else (
cl1 (mX5_waitTop h1) (fun r12 =>
if r12 = (3 : Int32) then (
k37) else (
k59))))))) (fun k17 =>
if r3 < (4 : Int32) then (
k17) else (
cl1 (mX5_waitTop h1) (fun r14 =>
if r14 ≤ (6 : Int32) then (
k37) else (
k17))))))) h
theorem cyX5_closesSums : Callee yX5_closesSums 1 := by unfold Callee; decide +kernel
set_option maxHeartbeats 4000000 in
theorem ctX5_closesSums (l : Launch) (D : va_G) (ad : Nat → Nat) (dA : Nat → ClassId) (h : Hp) (x1 : Int32) (h' : Hp) (hm : mX5_closesSums h x1 = some h') : CT l yX5_closesSums cX5_closesSums 2 none D dA 1 22 0 0 (wM ad dA h) [.ref (ad 300), .int x1] none (wM ad dA h') := by
  refine ct_open (by decide) (Nat.le_of_ble_eq_true rfl) ?_
  intro G X hI hZ hV hR
  have hRet := hV rfl rfl
  refine (show TM G h' (mX5_closesSums h x1) (wM ad dA h) 0 0 0 [(0, .ref (ad 300)), (1, .int x1)] [] from ?_) hm
  clear hm hI hZ hV hR
  unfold mX5_closesSums
  refine fx_P (fun (k : Hp → Option (Hp)) => ∀ (h1 : Hp), TM G h' (k h1) (wM ad dA h1) 0 0 0 [(0, .ref (ad 300)), (1, .int x1)] []) (fun _ => tm_none) (fun k0 hk0 h1 => ?_) FU h
  refine tm_aload_n X 0 dX5_closesSums_0 rfl rfl ?_
  refine tm_cl1 (fun r3 e2 => ?_)
  refine tm_callVi (As := []) (rest := []) (q0 := 0) X (ctX5_waitTop l D ad dA h1 r3 e2) (lw_V q1443 q1445 qs61 q122 q1446) cyX5_waitTop rfl rfl rfl ⟨(Nat.le_of_ble_eq_true rfl), (Nat.le_of_ble_eq_true rfl)⟩ (Nat.le_of_ble_eq_true rfl) dX5_closesSums_1 ⟨Nat.le_of_ble_eq_true rfl, Nat.le_of_ble_eq_true rfl⟩ rfl ?_
  refine tm_iconst X (4 : Int32) dX5_closesSums_4 (by decide) ?_
  refine tm_let (fun k => TM G h' k (wM ad dA h1) 0 0 37 [(0, .ref (ad 300)), (1, .int x1)] []) ?_ (fun k37 hk37 => ?_)
  · skip
    refine tm_aload_n X 0 dX5_closesSums_37 rfl rfl ?_
    refine tm_aload_n X 0 dX5_closesSums_38 rfl rfl ?_
    refine tm_cl1 (fun r5 e4 => ?_)
    refine tm_callVi (As := []) (rest := [.ref (ad 300)]) (q0 := 0) X (ctX5_waitTop l D ad dA h1 r5 e4) (lw_V q1443 q1445 qs61 q122 q1446) cyX5_waitTop rfl rfl rfl ⟨(Nat.le_of_ble_eq_true rfl), (Nat.le_of_ble_eq_true rfl)⟩ (Nat.le_of_ble_eq_true rfl) dX5_closesSums_39 ⟨Nat.le_of_ble_eq_true rfl, Nat.le_of_ble_eq_true rfl⟩ rfl ?_
    refine tm_iconst X (0 : Int32) dX5_closesSums_42 (by decide) ?_
    refine tm_cl1 (fun h7 e6 => ?_)
    refine tm_callVv (As := [.int r5, .int (0 : Int32)]) (rest := []) (q0 := 0) X (ctX5_notes l D ad dA h1 r5 (0 : Int32) h7 e6) (lw_V q1429 q1431 qs59 q122 q1432) cyX5_notes rfl rfl rfl ⟨(Nat.le_of_ble_eq_true rfl), (Nat.le_of_ble_eq_true rfl)⟩ (Nat.le_of_ble_eq_true rfl) dX5_closesSums_43 ⟨Nat.le_of_ble_eq_true rfl, Nat.le_of_ble_eq_true rfl⟩ rfl ?_
    refine tm_aload_n X 0 dX5_closesSums_46 rfl rfl ?_
    refine tm_aload_n X 0 dX5_closesSums_47 rfl rfl ?_
    refine tm_getI X (fiM_300_13 ad dA) in_X5 rfl (Nat.le_of_ble_eq_true rfl) q1200 rfl dX5_closesSums_48 ?_
    refine tm_iconst X (1 : Int32) dX5_closesSums_51 (by decide) ?_
    refine tm_isub X dX5_closesSums_52 ?_
    refine tm_putI X (fiM_300_13 ad dA) in_X5 rfl (Nat.le_of_ble_eq_true rfl) tyX5 tyX5_ok nmX5 rfl rfl q1200 rfl dX5_closesSums_53 (fun h8 => ?_)
    refine tm_goto X 0 dX5_closesSums_56 rfl ?_
    exact hk0 h8
  · skip
    refine tm_let (fun k => TM G h' k (wM ad dA h1) 0 0 17 [(0, .ref (ad 300)), (1, .int x1)] []) ?_ (fun k17 hk17 => ?_)
    · skip
      refine tm_iload_n X 1 dX5_closesSums_17 rfl rfl ?_
      refine tm_let (fun k => TM G h' k (wM ad dA h1) 0 0 59 [] []) ?_ (fun k59 hk59 => ?_)
      · skip
        exact tm_retV (wf := wM ad dA) hRet dX5_closesSums_59
      · skip
        refine tm_if_eq X 59 dX5_closesSums_18 rfl ?_ ?_
        · skip
          refine tm_lv X [] rfl ?_
          exact hk59
        · skip
          refine tm_aload_n X 0 dX5_closesSums_21 rfl rfl ?_
          refine tm_cl1 (fun r10 e9 => ?_)
          refine tm_callVi (As := []) (rest := []) (q0 := 0) X (ctX5_waitTop l D ad dA h1 r10 e9) (lw_V q1443 q1445 qs61 q122 q1446) cyX5_waitTop rfl rfl rfl ⟨(Nat.le_of_ble_eq_true rfl), (Nat.le_of_ble_eq_true rfl)⟩ (Nat.le_of_ble_eq_true rfl) dX5_closesSums_22 ⟨Nat.le_of_ble_eq_true rfl, Nat.le_of_ble_eq_true rfl⟩ rfl ?_
          refine tm_iconst X (2 : Int32) dX5_closesSums_25 (by decide) ?_
          refine tm_ic_eq X 37 dX5_closesSums_26 rfl ?_ ?_
          · skip
            exact hk37
          · skip
            refine tm_aload_n X 0 dX5_closesSums_29 rfl rfl ?_
            refine tm_cl1 (fun r12 e11 => ?_)
            refine tm_callVi (As := []) (rest := []) (q0 := 0) X (ctX5_waitTop l D ad dA h1 r12 e11) (lw_V q1443 q1445 qs61 q122 q1446) cyX5_waitTop rfl rfl rfl ⟨(Nat.le_of_ble_eq_true rfl), (Nat.le_of_ble_eq_true rfl)⟩ (Nat.le_of_ble_eq_true rfl) dX5_closesSums_30 ⟨Nat.le_of_ble_eq_true rfl, Nat.le_of_ble_eq_true rfl⟩ rfl ?_
            refine tm_iconst X (3 : Int32) dX5_closesSums_33 (by decide) ?_
            refine tm_ic_ne X 59 dX5_closesSums_34 rfl ?_ ?_
            · skip
              refine tm_lv X [] rfl ?_
              exact hk59
            · skip
              exact hk37
    · skip
      refine tm_ic_lt X 17 dX5_closesSums_5 rfl ?_ ?_
      · skip
        exact hk17
      · skip
        refine tm_aload_n X 0 dX5_closesSums_8 rfl rfl ?_
        refine tm_cl1 (fun r14 e13 => ?_)
        refine tm_callVi (As := []) (rest := []) (q0 := 0) X (ctX5_waitTop l D ad dA h1 r14 e13) (lw_V q1443 q1445 qs61 q122 q1446) cyX5_waitTop rfl rfl rfl ⟨(Nat.le_of_ble_eq_true rfl), (Nat.le_of_ble_eq_true rfl)⟩ (Nat.le_of_ble_eq_true rfl) dX5_closesSums_9 ⟨Nat.le_of_ble_eq_true rfl, Nat.le_of_ble_eq_true rfl⟩ rfl ?_
        refine tm_bipush X (6 : Int32) dX5_closesSums_12 (by decide) ?_
        refine tm_ic_le X 37 dX5_closesSums_14 rfl ?_ ?_
        · skip
          exact hk37
        · skip
          exact hk17
def mX5_hasOpenSum (h : Hp) (x1 : Int32) : Option (Int32) :=
fx FU (fun _ => none) (fun k2 (x2_1 : Int32) =>
if (h 300 13) ≤ x2_1 then (
bz (0 : Int32) (some (0 : Int32))) else (
ck x2_1 260 (
if ((h 217 x2_1.toNatClampNeg) / (1048576 : Int32)) = (14 : Int32) then (
bz (1 : Int32) (some (1 : Int32))) else (
k2 (x2_1 + (1 : Int32)))))) x1
theorem cyX5_hasOpenSum : Callee yX5_hasOpenSum 1 := by unfold Callee; decide +kernel
set_option maxHeartbeats 4000000 in
theorem ctX5_hasOpenSum (l : Launch) (D : va_G) (ad : Nat → Nat) (dA : Nat → ClassId) (h : Hp) (x1 : Int32) (r : Int32) (hm : mX5_hasOpenSum h x1 = some r) : CT l yX5_hasOpenSum cX5_hasOpenSum 3 (some .boolean) D dA 0 0 0 0 (wM ad dA h) [.ref (ad 300), .int x1] (some (.int r)) (wM ad dA h) := by
  refine ct_open (by decide) (Nat.le_of_ble_eq_true rfl) ?_
  intro G X hI hZ hV hR
  have hRet := fun hv => hZ rfl r hv rfl
  refine (show TM G r (mX5_hasOpenSum h x1) (wM ad dA h) 0 0 0 [(0, .ref (ad 300)), (1, .int x1)] [] from ?_) hm
  clear hm hI hZ hV hR
  unfold mX5_hasOpenSum
  refine tm_iload_n X 1 dX5_hasOpenSum_0 rfl rfl ?_
  refine tm_istore_n X [(2, .int x1), (0, .ref (ad 300)), (1, .int x1)] dX5_hasOpenSum_1 rfl (Nat.le_of_ble_eq_true rfl) rfl ?_
  refine tm_lv X [1, 0] rfl ?_
  refine fx_P (fun (k : Int32 → Option (Int32)) => ∀ (x2_1 : Int32), TM G r (k x2_1) (wM ad dA h) 0 0 2 [(0, .ref (ad 300)), (2, .int x2_1)] []) (fun _ => tm_none) (fun k2 hk2 x2_1 => ?_) FU x1
  refine tm_iload_n X 1 dX5_hasOpenSum_2 rfl rfl ?_
  refine tm_aload_n X 0 dX5_hasOpenSum_3 rfl rfl ?_
  refine tm_getI X (fiM_300_13 ad dA) in_X5 rfl (Nat.le_of_ble_eq_true rfl) q1200 rfl dX5_hasOpenSum_4 ?_
  refine tm_ic_ge X 32 dX5_hasOpenSum_7 rfl ?_ ?_
  · skip
    refine tm_iconst X (0 : Int32) dX5_hasOpenSum_32 (by decide) ?_
    exact tm_retZ hRet dX5_hasOpenSum_33
  · skip
    refine tm_aload_n X 0 dX5_hasOpenSum_10 rfl rfl ?_
    refine tm_getR X (frM_300_17 ad dA h) in_X5 rfl (Nat.le_of_ble_eq_true rfl) q1204 rfl dX5_hasOpenSum_11 ?_
    refine tm_iload_n X 1 dX5_hasOpenSum_14 rfl rfl ?_
    refine tm_iaload X (arM_217 ad dA) dX5_hasOpenSum_15 ?_
    refine tm_ldc X (1048576 : Int32) q1420 dX5_hasOpenSum_16 ?_
    refine tm_idiv X dX5_hasOpenSum_18 (by decide) ?_
    refine tm_bipush X (14 : Int32) dX5_hasOpenSum_19 (by decide) ?_
    refine tm_ic_ne X 26 dX5_hasOpenSum_21 rfl ?_ ?_
    · skip
      refine tm_iinc (v := (1 : Int32)) X 1 [(2, .int (x2_1 + (1 : Int32))), (0, .ref (ad 300))] dX5_hasOpenSum_26 rfl (by decide) (Nat.le_of_ble_eq_true rfl) rfl ?_
      refine tm_goto X 2 dX5_hasOpenSum_29 rfl ?_
      refine tm_lv X [1, 0] rfl ?_
      exact hk2 (x2_1 + (1 : Int32))
    · skip
      refine tm_iconst X (1 : Int32) dX5_hasOpenSum_24 (by decide) ?_
      exact tm_retZ hRet dX5_hasOpenSum_25
def mX5_readsSum (h : Hp)  : Option (Int32 × Hp) :=
nm ((h 300 13)) (fun v1 =>
cl2 (mX5_readsFactor h) (fun r3 h4 =>
if r3 = 0 then (
bz (0 : Int32) (some ((0 : Int32), h4))) else (
fx FU (fun _ => none) (fun k14 (h5 : Hp) =>
cl1 (mX5_here h5) (fun r7 =>
cl1 (mX5_sumSign r7) (fun r8 =>
nm (fun (h10 : Hp) =>
k14 h10) (fun k163 =>
if r8 = (-1 : Int32) then (
cl1 (mX5_here h5) (fun r12 =>
nm (
cl1 (mX5_hasOpenSum h5 v1) (fun r14 =>
if r14 = 0 then (
cl1 (mX5_closesSums h5 (1 : Int32)) (fun h16 =>
bz (1 : Int32) (some ((1 : Int32), h16)))) else (
cl2 (mX5_wrongAt h5 (1 : Int32) (h5 300 7)) (fun r18 h19 =>
bz r18 (some (r18, h19)))))) (fun k138 =>
if r12 = (93 : Int32) then (
cl1 (mX5_hasOpenSum h5 v1) (fun r21 =>
if r21 = 0 then (
k138) else (
cl1 (mX5_closesSums h5 (1 : Int32)) (fun h23 =>
nm (u2 h23 300 13 ((h23 300 13) - (1 : Int32))) (fun h24 =>
nm (u2 h24 300 11 ((h24 300 11) - (1 : Int32))) (fun h25 =>
nm (u2 h25 300 7 ((h25 300 7) + (1 : Int32))) (fun h26 =>
k163 h26))))))) else (
k138)))) else (
nm (fun (s27 : Int32) =>
cl1 (mX5_closesSums h5 s27) (fun h29 =>
ck (h29 300 13) 260 (nm (u2 h29 217 (h29 300 13).toNatClampNeg ((1048576 : Int32) * r8)) (fun h30 =>
nm (u2 h30 300 13 ((h30 300 13) + (1 : Int32))) (fun h31 =>
nm (u2 h31 300 7 ((h31 300 7) + (1 : Int32))) (fun h32 =>
cl2 (mX5_readsFactor h32) (fun r34 h35 =>
if r34 = 0 then (
bz (0 : Int32) (some ((0 : Int32), h35))) else (
k163 h35)))))))) (fun k38 =>
if (4 : Int32) ≤ r8 then (
k38 (0 : Int32)) else (
k38 (1 : Int32)))))))) h4)))
theorem cyX5_readsSum : Callee yX5_readsSum 0 := by unfold Callee; decide +kernel
set_option maxHeartbeats 4000000 in
theorem ctX5_readsSum (l : Launch) (D : va_G) (ad : Nat → Nat) (dA : Nat → ClassId) (h : Hp)  (r : Int32) (h' : Hp) (hm : mX5_readsSum h = some (r, h')) : CT l yX5_readsSum cX5_readsSum 3 (some .boolean) D dA 4 82 0 0 (wM ad dA h) [.ref (ad 300)] (some (.int r)) (wM ad dA h') := by
  refine ct_open (by decide) (Nat.le_of_ble_eq_true rfl) ?_
  intro G X hI hZ hV hR
  have hRet := fun hv => hZ rfl r hv rfl
  refine (show TM G (r, h') (mX5_readsSum h) (wM ad dA h) 0 0 0 [(0, .ref (ad 300))] [] from ?_) hm
  clear hm hI hZ hV hR
  unfold mX5_readsSum
  refine tm_aload_n X 0 dX5_readsSum_0 rfl rfl ?_
  refine tm_getI X (fiM_300_13 ad dA) in_X5 rfl (Nat.le_of_ble_eq_true rfl) q1200 rfl dX5_readsSum_1 ?_
  refine tm_nmI (fun v1 => ?_)
  refine tm_istore_n X [(1, .int v1), (0, .ref (ad 300))] dX5_readsSum_4 rfl (Nat.le_of_ble_eq_true rfl) rfl ?_
  refine tm_aload_n X 1 dX5_readsSum_5 rfl rfl ?_
  refine tm_cl2 (fun r3 h4 e2 => ?_)
  refine tm_callVi (As := []) (rest := []) (q0 := 0) X (ctX5_readsFactor l D ad dA h r3 h4 e2) (lw_V q1412 q1414 qs55 q122 q1415) cyX5_readsFactor rfl rfl rfl ⟨(Nat.le_of_ble_eq_true rfl), (Nat.le_of_ble_eq_true rfl)⟩ (Nat.le_of_ble_eq_true rfl) dX5_readsSum_6 ⟨Nat.le_of_ble_eq_true rfl, Nat.le_of_ble_eq_true rfl⟩ rfl ?_
  refine tm_if_ne X 14 dX5_readsSum_9 rfl ?_ ?_
  · skip
    refine tm_lv X [1, 0] rfl ?_
    refine fx_P (fun (k : Hp → Option (Int32 × Hp)) => ∀ (h5 : Hp), TM G (r, h') (k h5) (wM ad dA h5) 0 0 14 [(0, .ref (ad 300)), (1, .int v1)] []) (fun _ => tm_none) (fun k14 hk14 h5 => ?_) FU h4
    refine tm_aload_n X 0 dX5_readsSum_14 rfl rfl ?_
    refine tm_cl1 (fun r7 e6 => ?_)
    refine tm_callVi (As := []) (rest := []) (q0 := 0) X (ctX5_here l D ad dA h5 r7 e6) (lw_V q1400 q1402 qs52 q122 q1403) cyX5_here rfl rfl rfl ⟨(Nat.le_of_ble_eq_true rfl), (Nat.le_of_ble_eq_true rfl)⟩ (Nat.le_of_ble_eq_true rfl) dX5_readsSum_15 ⟨Nat.le_of_ble_eq_true rfl, Nat.le_of_ble_eq_true rfl⟩ rfl ?_
    refine tm_cl1 (fun r8 e9 => ?_)
    refine tm_callSi (As := [.int r7]) (rest := []) X (ctX5_sumSign l D dA r7 r8 e9) (lw_S q1436 q1437 q122 q1438) cyX5_sumSign rfl ⟨(Nat.le_of_ble_eq_true rfl), (Nat.le_of_ble_eq_true rfl)⟩ (Nat.le_of_ble_eq_true rfl) dX5_readsSum_18 ⟨Nat.le_of_ble_eq_true rfl, Nat.le_of_ble_eq_true rfl⟩ rfl ?_
    refine tm_istore_n X [(2, .int r8), (0, .ref (ad 300)), (1, .int v1)] dX5_readsSum_21 rfl (Nat.le_of_ble_eq_true rfl) rfl ?_
    refine tm_iload_n X 0 dX5_readsSum_22 rfl rfl ?_
    refine tm_iconst X (-1 : Int32) dX5_readsSum_23 (by decide) ?_
    refine tm_let (fun k => ∀ (h10 : Hp), TM G (r, h') (k h10) (wM ad dA h10) 0 0 163 [(0, .ref (ad 300)), (1, .int v1)] []) ?_ (fun k163 hk163 => ?_)
    · intro h10
      refine tm_goto X 14 dX5_readsSum_163 rfl ?_
      exact hk14 h10
    · skip
      refine tm_ic_eq X 83 dX5_readsSum_24 rfl ?_ ?_
      · skip
        refine tm_aload_n X 1 dX5_readsSum_83 rfl rfl ?_
        refine tm_cl1 (fun r12 e11 => ?_)
        refine tm_callVi (As := []) (rest := []) (q0 := 0) X (ctX5_here l D ad dA h5 r12 e11) (lw_V q1400 q1402 qs52 q122 q1403) cyX5_here rfl rfl rfl ⟨(Nat.le_of_ble_eq_true rfl), (Nat.le_of_ble_eq_true rfl)⟩ (Nat.le_of_ble_eq_true rfl) dX5_readsSum_84 ⟨Nat.le_of_ble_eq_true rfl, Nat.le_of_ble_eq_true rfl⟩ rfl ?_
        refine tm_bipush X (93 : Int32) dX5_readsSum_87 (by decide) ?_
        refine tm_let (fun k => TM G (r, h') k (wM ad dA h5) 0 0 138 [(0, .ref (ad 300)), (1, .int v1)] []) ?_ (fun k138 hk138 => ?_)
        · skip
          refine tm_aload_n X 0 dX5_readsSum_138 rfl rfl ?_
          refine tm_iload_n X 1 dX5_readsSum_139 rfl rfl ?_
          refine tm_cl1 (fun r14 e13 => ?_)
          refine tm_callVi (As := [.int v1]) (rest := []) (q0 := 0) X (ctX5_hasOpenSum l D ad dA h5 v1 r14 e13) (lw_V q1447 q1449 qs62 q122 q1450) cyX5_hasOpenSum rfl rfl rfl ⟨(Nat.le_of_ble_eq_true rfl), (Nat.le_of_ble_eq_true rfl)⟩ (Nat.le_of_ble_eq_true rfl) dX5_readsSum_140 ⟨Nat.le_of_ble_eq_true rfl, Nat.le_of_ble_eq_true rfl⟩ rfl ?_
          refine tm_if_eq X 156 dX5_readsSum_143 rfl ?_ ?_
          · skip
            refine tm_aload_n X 0 dX5_readsSum_156 rfl rfl ?_
            refine tm_iconst X (1 : Int32) dX5_readsSum_157 (by decide) ?_
            refine tm_cl1 (fun h16 e15 => ?_)
            refine tm_callVv (As := [.int (1 : Int32)]) (rest := []) (q0 := 0) X (ctX5_closesSums l D ad dA h5 (1 : Int32) h16 e15) (lw_V q1439 q1441 qs60 q122 q1442) cyX5_closesSums rfl rfl rfl ⟨(Nat.le_of_ble_eq_true rfl), (Nat.le_of_ble_eq_true rfl)⟩ (Nat.le_of_ble_eq_true rfl) dX5_readsSum_158 ⟨Nat.le_of_ble_eq_true rfl, Nat.le_of_ble_eq_true rfl⟩ rfl ?_
            refine tm_iconst X (1 : Int32) dX5_readsSum_161 (by decide) ?_
            exact tm_retZH (wf := wM ad dA) hRet dX5_readsSum_162
          · skip
            refine tm_aload_n X 0 dX5_readsSum_146 rfl rfl ?_
            refine tm_iconst X (1 : Int32) dX5_readsSum_147 (by decide) ?_
            refine tm_aload_n X 0 dX5_readsSum_148 rfl rfl ?_
            refine tm_getI X (fiM_300_7 ad dA) in_X5 rfl (Nat.le_of_ble_eq_true rfl) q1194 rfl dX5_readsSum_149 ?_
            refine tm_cl2 (fun r18 h19 e17 => ?_)
            refine tm_callVi (As := [.int (1 : Int32), .int (h5 300 7)]) (rest := []) (q0 := 0) X (ctX5_wrongAt l D ad dA h5 (1 : Int32) (h5 300 7) r18 h19 e17) (lw_V q1404 q1406 qs53 q122 q1407) cyX5_wrongAt rfl rfl rfl ⟨(Nat.le_of_ble_eq_true rfl), (Nat.le_of_ble_eq_true rfl)⟩ (Nat.le_of_ble_eq_true rfl) dX5_readsSum_152 ⟨Nat.le_of_ble_eq_true rfl, Nat.le_of_ble_eq_true rfl⟩ rfl ?_
            exact tm_retZH (wf := wM ad dA) hRet dX5_readsSum_155
        · skip
          refine tm_ic_ne X 138 dX5_readsSum_89 rfl ?_ ?_
          · skip
            refine tm_lv X [1, 2] rfl ?_
            exact hk138
          · skip
            refine tm_aload_n X 1 dX5_readsSum_92 rfl rfl ?_
            refine tm_iload_n X 2 dX5_readsSum_93 rfl rfl ?_
            refine tm_cl1 (fun r21 e20 => ?_)
            refine tm_callVi (As := [.int v1]) (rest := []) (q0 := 0) X (ctX5_hasOpenSum l D ad dA h5 v1 r21 e20) (lw_V q1447 q1449 qs62 q122 q1450) cyX5_hasOpenSum rfl rfl rfl ⟨(Nat.le_of_ble_eq_true rfl), (Nat.le_of_ble_eq_true rfl)⟩ (Nat.le_of_ble_eq_true rfl) dX5_readsSum_94 ⟨Nat.le_of_ble_eq_true rfl, Nat.le_of_ble_eq_true rfl⟩ rfl ?_
            refine tm_if_eq X 138 dX5_readsSum_97 rfl ?_ ?_
            · skip
              refine tm_lv X [1, 2] rfl ?_
              exact hk138
            · skip
              refine tm_aload_n X 1 dX5_readsSum_100 rfl rfl ?_
              refine tm_iconst X (1 : Int32) dX5_readsSum_101 (by decide) ?_
              refine tm_cl1 (fun h23 e22 => ?_)
              refine tm_callVv (As := [.int (1 : Int32)]) (rest := []) (q0 := 0) X (ctX5_closesSums l D ad dA h5 (1 : Int32) h23 e22) (lw_V q1439 q1441 qs60 q122 q1442) cyX5_closesSums rfl rfl rfl ⟨(Nat.le_of_ble_eq_true rfl), (Nat.le_of_ble_eq_true rfl)⟩ (Nat.le_of_ble_eq_true rfl) dX5_readsSum_102 ⟨Nat.le_of_ble_eq_true rfl, Nat.le_of_ble_eq_true rfl⟩ rfl ?_
              refine tm_aload_n X 1 dX5_readsSum_105 rfl rfl ?_
              refine tm_aload_n X 1 dX5_readsSum_106 rfl rfl ?_
              refine tm_getI X (fiM_300_13 ad dA) in_X5 rfl (Nat.le_of_ble_eq_true rfl) q1200 rfl dX5_readsSum_107 ?_
              refine tm_iconst X (1 : Int32) dX5_readsSum_110 (by decide) ?_
              refine tm_isub X dX5_readsSum_111 ?_
              refine tm_putI X (fiM_300_13 ad dA) in_X5 rfl (Nat.le_of_ble_eq_true rfl) tyX5 tyX5_ok nmX5 rfl rfl q1200 rfl dX5_readsSum_112 (fun h24 => ?_)
              refine tm_aload_n X 1 dX5_readsSum_115 rfl rfl ?_
              refine tm_aload_n X 1 dX5_readsSum_116 rfl rfl ?_
              refine tm_getI X (fiM_300_11 ad dA) in_X5 rfl (Nat.le_of_ble_eq_true rfl) q1198 rfl dX5_readsSum_117 ?_
              refine tm_iconst X (1 : Int32) dX5_readsSum_120 (by decide) ?_
              refine tm_isub X dX5_readsSum_121 ?_
              refine tm_putI X (fiM_300_11 ad dA) in_X5 rfl (Nat.le_of_ble_eq_true rfl) tyX5 tyX5_ok nmX5 rfl rfl q1198 rfl dX5_readsSum_122 (fun h25 => ?_)
              refine tm_aload_n X 1 dX5_readsSum_125 rfl rfl ?_
              refine tm_aload_n X 1 dX5_readsSum_126 rfl rfl ?_
              refine tm_getI X (fiM_300_7 ad dA) in_X5 rfl (Nat.le_of_ble_eq_true rfl) q1194 rfl dX5_readsSum_127 ?_
              refine tm_iconst X (1 : Int32) dX5_readsSum_130 (by decide) ?_
              refine tm_iadd X dX5_readsSum_131 ?_
              refine tm_putI X (fiM_300_7 ad dA) in_X5 rfl (Nat.le_of_ble_eq_true rfl) tyX5 tyX5_ok nmX5 rfl rfl q1194 rfl dX5_readsSum_132 (fun h26 => ?_)
              refine tm_goto X 163 dX5_readsSum_135 rfl ?_
              refine tm_lv X [1, 2] rfl ?_
              exact hk163 h26
      · skip
        refine tm_aload_n X 1 dX5_readsSum_27 rfl rfl ?_
        refine tm_iload_n X 0 dX5_readsSum_28 rfl rfl ?_
        refine tm_iconst X (4 : Int32) dX5_readsSum_29 (by decide) ?_
        refine tm_let (fun k => ∀ (s27 : Int32), TM G (r, h') (k s27) (wM ad dA h5) 0 0 38 [(0, .ref (ad 300)), (1, .int v1), (2, .int r8)] [.int s27, .ref (ad 300)]) ?_ (fun k38 hk38 => ?_)
        · intro s27
          refine tm_cl1 (fun h29 e28 => ?_)
          refine tm_callVv (As := [.int s27]) (rest := []) (q0 := 0) X (ctX5_closesSums l D ad dA h5 s27 h29 e28) (lw_V q1439 q1441 qs60 q122 q1442) cyX5_closesSums rfl rfl rfl ⟨(Nat.le_of_ble_eq_true rfl), (Nat.le_of_ble_eq_true rfl)⟩ (Nat.le_of_ble_eq_true rfl) dX5_readsSum_38 ⟨Nat.le_of_ble_eq_true rfl, Nat.le_of_ble_eq_true rfl⟩ rfl ?_
          refine tm_aload_n X 0 dX5_readsSum_41 rfl rfl ?_
          refine tm_getR X (frM_300_17 ad dA h29) in_X5 rfl (Nat.le_of_ble_eq_true rfl) q1204 rfl dX5_readsSum_42 ?_
          refine tm_aload_n X 0 dX5_readsSum_45 rfl rfl ?_
          refine tm_getI X (fiM_300_13 ad dA) in_X5 rfl (Nat.le_of_ble_eq_true rfl) q1200 rfl dX5_readsSum_46 ?_
          refine tm_ldc X (1048576 : Int32) q1420 dX5_readsSum_49 ?_
          refine tm_iload_n X 2 dX5_readsSum_51 rfl rfl ?_
          refine tm_imul X dX5_readsSum_52 ?_
          refine tm_iastore X (arM_217 ad dA) dX5_readsSum_53 (fun h30 => ?_)
          refine tm_aload_n X 0 dX5_readsSum_54 rfl rfl ?_
          refine tm_aload_n X 0 dX5_readsSum_55 rfl rfl ?_
          refine tm_getI X (fiM_300_13 ad dA) in_X5 rfl (Nat.le_of_ble_eq_true rfl) q1200 rfl dX5_readsSum_56 ?_
          refine tm_iconst X (1 : Int32) dX5_readsSum_59 (by decide) ?_
          refine tm_iadd X dX5_readsSum_60 ?_
          refine tm_putI X (fiM_300_13 ad dA) in_X5 rfl (Nat.le_of_ble_eq_true rfl) tyX5 tyX5_ok nmX5 rfl rfl q1200 rfl dX5_readsSum_61 (fun h31 => ?_)
          refine tm_aload_n X 0 dX5_readsSum_64 rfl rfl ?_
          refine tm_aload_n X 0 dX5_readsSum_65 rfl rfl ?_
          refine tm_getI X (fiM_300_7 ad dA) in_X5 rfl (Nat.le_of_ble_eq_true rfl) q1194 rfl dX5_readsSum_66 ?_
          refine tm_iconst X (1 : Int32) dX5_readsSum_69 (by decide) ?_
          refine tm_iadd X dX5_readsSum_70 ?_
          refine tm_putI X (fiM_300_7 ad dA) in_X5 rfl (Nat.le_of_ble_eq_true rfl) tyX5 tyX5_ok nmX5 rfl rfl q1194 rfl dX5_readsSum_71 (fun h32 => ?_)
          refine tm_aload_n X 0 dX5_readsSum_74 rfl rfl ?_
          refine tm_cl2 (fun r34 h35 e33 => ?_)
          refine tm_callVi (As := []) (rest := []) (q0 := 0) X (ctX5_readsFactor l D ad dA h32 r34 h35 e33) (lw_V q1412 q1414 qs55 q122 q1415) cyX5_readsFactor rfl rfl rfl ⟨(Nat.le_of_ble_eq_true rfl), (Nat.le_of_ble_eq_true rfl)⟩ (Nat.le_of_ble_eq_true rfl) dX5_readsSum_75 ⟨Nat.le_of_ble_eq_true rfl, Nat.le_of_ble_eq_true rfl⟩ rfl ?_
          refine tm_if_ne X 163 dX5_readsSum_78 rfl ?_ ?_
          · skip
            refine tm_lv X [0, 1] rfl ?_
            exact hk163 h35
          · skip
            refine tm_iconst X (0 : Int32) dX5_readsSum_81 (by decide) ?_
            exact tm_retZH (wf := wM ad dA) hRet dX5_readsSum_82
        · skip
          refine tm_ic_ge X 37 dX5_readsSum_30 rfl ?_ ?_
          · skip
            refine tm_iconst X (0 : Int32) dX5_readsSum_37 (by decide) ?_
            refine tm_lv X [1, 2, 0] rfl ?_
            exact hk38 (0 : Int32)
          · skip
            refine tm_iconst X (1 : Int32) dX5_readsSum_33 (by decide) ?_
            refine tm_goto X 38 dX5_readsSum_34 rfl ?_
            refine tm_lv X [1, 2, 0] rfl ?_
            exact hk38 (1 : Int32)
  · skip
    refine tm_iconst X (0 : Int32) dX5_readsSum_12 (by decide) ?_
    exact tm_retZH (wf := wM ad dA) hRet dX5_readsSum_13
def mX5_endsPiece (h : Hp)  : Option (Hp) :=
fx FU (fun _ => none) (fun k0 (h1 : Hp) =>
cl1 (mX5_waitTop h1) (fun r3 =>
if r3 = (10 : Int32) then (
cl1 (mX5_notes h1 (10 : Int32) (0 : Int32)) (fun h5 =>
nm (u2 h5 300 13 ((h5 300 13) - (1 : Int32))) (fun h6 =>
nm (u2 h6 300 11 ((h6 300 11) - (1 : Int32))) (fun h7 =>
k0 h7)))) else (
some h1))) h
theorem cyX5_endsPiece : Callee yX5_endsPiece 0 := by unfold Callee; decide +kernel
set_option maxHeartbeats 4000000 in
theorem ctX5_endsPiece (l : Launch) (D : va_G) (ad : Nat → Nat) (dA : Nat → ClassId) (h : Hp)  (h' : Hp) (hm : mX5_endsPiece h = some h') : CT l yX5_endsPiece cX5_endsPiece 1 none D dA 1 22 0 0 (wM ad dA h) [.ref (ad 300)] none (wM ad dA h') := by
  refine ct_open (by decide) (Nat.le_of_ble_eq_true rfl) ?_
  intro G X hI hZ hV hR
  have hRet := hV rfl rfl
  refine (show TM G h' (mX5_endsPiece h) (wM ad dA h) 0 0 0 [(0, .ref (ad 300))] [] from ?_) hm
  clear hm hI hZ hV hR
  unfold mX5_endsPiece
  refine fx_P (fun (k : Hp → Option (Hp)) => ∀ (h1 : Hp), TM G h' (k h1) (wM ad dA h1) 0 0 0 [(0, .ref (ad 300))] []) (fun _ => tm_none) (fun k0 hk0 h1 => ?_) FU h
  refine tm_aload_n X 0 dX5_endsPiece_0 rfl rfl ?_
  refine tm_cl1 (fun r3 e2 => ?_)
  refine tm_callVi (As := []) (rest := []) (q0 := 0) X (ctX5_waitTop l D ad dA h1 r3 e2) (lw_V q1443 q1445 qs61 q122 q1446) cyX5_waitTop rfl rfl rfl ⟨(Nat.le_of_ble_eq_true rfl), (Nat.le_of_ble_eq_true rfl)⟩ (Nat.le_of_ble_eq_true rfl) dX5_endsPiece_1 ⟨Nat.le_of_ble_eq_true rfl, Nat.le_of_ble_eq_true rfl⟩ rfl ?_
  refine tm_bipush X (10 : Int32) dX5_endsPiece_4 (by decide) ?_
  refine tm_ic_ne X 39 dX5_endsPiece_6 rfl ?_ ?_
  · skip
    exact tm_retV (wf := wM ad dA) hRet dX5_endsPiece_39
  · skip
    refine tm_aload_n X 0 dX5_endsPiece_9 rfl rfl ?_
    refine tm_bipush X (10 : Int32) dX5_endsPiece_10 (by decide) ?_
    refine tm_iconst X (0 : Int32) dX5_endsPiece_12 (by decide) ?_
    refine tm_cl1 (fun h5 e4 => ?_)
    refine tm_callVv (As := [.int (10 : Int32), .int (0 : Int32)]) (rest := []) (q0 := 0) X (ctX5_notes l D ad dA h1 (10 : Int32) (0 : Int32) h5 e4) (lw_V q1429 q1431 qs59 q122 q1432) cyX5_notes rfl rfl rfl ⟨(Nat.le_of_ble_eq_true rfl), (Nat.le_of_ble_eq_true rfl)⟩ (Nat.le_of_ble_eq_true rfl) dX5_endsPiece_13 ⟨Nat.le_of_ble_eq_true rfl, Nat.le_of_ble_eq_true rfl⟩ rfl ?_
    refine tm_aload_n X 0 dX5_endsPiece_16 rfl rfl ?_
    refine tm_aload_n X 0 dX5_endsPiece_17 rfl rfl ?_
    refine tm_getI X (fiM_300_13 ad dA) in_X5 rfl (Nat.le_of_ble_eq_true rfl) q1200 rfl dX5_endsPiece_18 ?_
    refine tm_iconst X (1 : Int32) dX5_endsPiece_21 (by decide) ?_
    refine tm_isub X dX5_endsPiece_22 ?_
    refine tm_putI X (fiM_300_13 ad dA) in_X5 rfl (Nat.le_of_ble_eq_true rfl) tyX5 tyX5_ok nmX5 rfl rfl q1200 rfl dX5_endsPiece_23 (fun h6 => ?_)
    refine tm_aload_n X 0 dX5_endsPiece_26 rfl rfl ?_
    refine tm_aload_n X 0 dX5_endsPiece_27 rfl rfl ?_
    refine tm_getI X (fiM_300_11 ad dA) in_X5 rfl (Nat.le_of_ble_eq_true rfl) q1198 rfl dX5_endsPiece_28 ?_
    refine tm_iconst X (1 : Int32) dX5_endsPiece_31 (by decide) ?_
    refine tm_isub X dX5_endsPiece_32 ?_
    refine tm_putI X (fiM_300_11 ad dA) in_X5 rfl (Nat.le_of_ble_eq_true rfl) tyX5 tyX5_ok nmX5 rfl rfl q1198 rfl dX5_endsPiece_33 (fun h7 => ?_)
    refine tm_goto X 0 dX5_endsPiece_36 rfl ?_
    exact hk0 h7
def mX5_readsCompared (h : Hp)  : Option (Int32 × Hp) :=
cl2 (mX5_readsSum h) (fun r2 h3 =>
if r2 = 0 then (
bz (0 : Int32) (some ((0 : Int32), h3))) else (
cl1 (mX5_here h3) (fun r5 =>
nm (fun (s6 : Int32) =>
if s6 = (-1 : Int32) then (
cl2 (mX5_wrongAt h3 (1 : Int32) (h3 300 7)) (fun r16 h17 =>
bz r16 (some (r16, h17)))) else (
nm (u2 h3 300 7 ((h3 300 7) + (1 : Int32))) (fun h7 =>
cl2 (mX5_readsSum h7) (fun r9 h10 =>
if r9 = 0 then (
bz (0 : Int32) (some ((0 : Int32), h10))) else (
cl1 (mX5_notes h10 s6 (0 : Int32)) (fun h12 =>
cl1 (mX5_endsPiece h12) (fun h14 =>
bz (1 : Int32) (some ((1 : Int32), h14))))))))) (fun k52 =>
if r5 = (60 : Int32) then (
k52 (7 : Int32)) else (
cl1 (mX5_here h3) (fun r19 =>
if r19 = (62 : Int32) then (
k52 (8 : Int32)) else (
cl1 (mX5_here h3) (fun r21 =>
if r21 = (61 : Int32) then (
k52 (9 : Int32)) else (
k52 (-1 : Int32))))))))))
theorem cyX5_readsCompared : Callee yX5_readsCompared 0 := by unfold Callee; decide +kernel
set_option maxHeartbeats 4000000 in
theorem ctX5_readsCompared (l : Launch) (D : va_G) (ad : Nat → Nat) (dA : Nat → ClassId) (h : Hp)  (r : Int32) (h' : Hp) (hm : mX5_readsCompared h = some (r, h')) : CT l yX5_readsCompared cX5_readsCompared 2 (some .boolean) D dA 5 104 0 0 (wM ad dA h) [.ref (ad 300)] (some (.int r)) (wM ad dA h') := by
  refine ct_open (by decide) (Nat.le_of_ble_eq_true rfl) ?_
  intro G X hI hZ hV hR
  have hRet := fun hv => hZ rfl r hv rfl
  refine (show TM G (r, h') (mX5_readsCompared h) (wM ad dA h) 0 0 0 [(0, .ref (ad 300))] [] from ?_) hm
  clear hm hI hZ hV hR
  unfold mX5_readsCompared
  refine tm_aload_n X 0 dX5_readsCompared_0 rfl rfl ?_
  refine tm_cl2 (fun r2 h3 e1 => ?_)
  refine tm_callVi (As := []) (rest := []) (q0 := 0) X (ctX5_readsSum l D ad dA h r2 h3 e1) (lw_V q1408 q1410 qs54 q122 q1411) cyX5_readsSum rfl rfl rfl ⟨(Nat.le_of_ble_eq_true rfl), (Nat.le_of_ble_eq_true rfl)⟩ (Nat.le_of_ble_eq_true rfl) dX5_readsCompared_1 ⟨Nat.le_of_ble_eq_true rfl, Nat.le_of_ble_eq_true rfl⟩ rfl ?_
  refine tm_if_ne X 9 dX5_readsCompared_4 rfl ?_ ?_
  · skip
    refine tm_aload_n X 0 dX5_readsCompared_9 rfl rfl ?_
    refine tm_cl1 (fun r5 e4 => ?_)
    refine tm_callVi (As := []) (rest := []) (q0 := 0) X (ctX5_here l D ad dA h3 r5 e4) (lw_V q1400 q1402 qs52 q122 q1403) cyX5_here rfl rfl rfl ⟨(Nat.le_of_ble_eq_true rfl), (Nat.le_of_ble_eq_true rfl)⟩ (Nat.le_of_ble_eq_true rfl) dX5_readsCompared_10 ⟨Nat.le_of_ble_eq_true rfl, Nat.le_of_ble_eq_true rfl⟩ rfl ?_
    refine tm_bipush X (60 : Int32) dX5_readsCompared_13 (by decide) ?_
    refine tm_let (fun k => ∀ (s6 : Int32), TM G (r, h') (k s6) (wM ad dA h3) 0 0 52 [(0, .ref (ad 300))] [.int s6]) ?_ (fun k52 hk52 => ?_)
    · intro s6
      refine tm_istore_n X [(1, .int s6), (0, .ref (ad 300))] dX5_readsCompared_52 rfl (Nat.le_of_ble_eq_true rfl) rfl ?_
      refine tm_iload_n X 0 dX5_readsCompared_53 rfl rfl ?_
      refine tm_iconst X (-1 : Int32) dX5_readsCompared_54 (by decide) ?_
      refine tm_ic_ne X 68 dX5_readsCompared_55 rfl ?_ ?_
      · skip
        refine tm_aload_n X 1 dX5_readsCompared_68 rfl rfl ?_
        refine tm_aload_n X 1 dX5_readsCompared_69 rfl rfl ?_
        refine tm_getI X (fiM_300_7 ad dA) in_X5 rfl (Nat.le_of_ble_eq_true rfl) q1194 rfl dX5_readsCompared_70 ?_
        refine tm_iconst X (1 : Int32) dX5_readsCompared_73 (by decide) ?_
        refine tm_iadd X dX5_readsCompared_74 ?_
        refine tm_putI X (fiM_300_7 ad dA) in_X5 rfl (Nat.le_of_ble_eq_true rfl) tyX5 tyX5_ok nmX5 rfl rfl q1194 rfl dX5_readsCompared_75 (fun h7 => ?_)
        refine tm_aload_n X 1 dX5_readsCompared_78 rfl rfl ?_
        refine tm_cl2 (fun r9 h10 e8 => ?_)
        refine tm_callVi (As := []) (rest := []) (q0 := 0) X (ctX5_readsSum l D ad dA h7 r9 h10 e8) (lw_V q1408 q1410 qs54 q122 q1411) cyX5_readsSum rfl rfl rfl ⟨(Nat.le_of_ble_eq_true rfl), (Nat.le_of_ble_eq_true rfl)⟩ (Nat.le_of_ble_eq_true rfl) dX5_readsCompared_79 ⟨Nat.le_of_ble_eq_true rfl, Nat.le_of_ble_eq_true rfl⟩ rfl ?_
        refine tm_if_ne X 87 dX5_readsCompared_82 rfl ?_ ?_
        · skip
          refine tm_aload_n X 1 dX5_readsCompared_87 rfl rfl ?_
          refine tm_iload_n X 0 dX5_readsCompared_88 rfl rfl ?_
          refine tm_iconst X (0 : Int32) dX5_readsCompared_89 (by decide) ?_
          refine tm_cl1 (fun h12 e11 => ?_)
          refine tm_callVv (As := [.int s6, .int (0 : Int32)]) (rest := []) (q0 := 0) X (ctX5_notes l D ad dA h10 s6 (0 : Int32) h12 e11) (lw_V q1429 q1431 qs59 q122 q1432) cyX5_notes rfl rfl rfl ⟨(Nat.le_of_ble_eq_true rfl), (Nat.le_of_ble_eq_true rfl)⟩ (Nat.le_of_ble_eq_true rfl) dX5_readsCompared_90 ⟨Nat.le_of_ble_eq_true rfl, Nat.le_of_ble_eq_true rfl⟩ rfl ?_
          refine tm_aload_n X 1 dX5_readsCompared_93 rfl rfl ?_
          refine tm_cl1 (fun h14 e13 => ?_)
          refine tm_callVv (As := []) (rest := []) (q0 := 0) X (ctX5_endsPiece l D ad dA h12 h14 e13) (lw_V q1459 q1461 qs65 q122 q1462) cyX5_endsPiece rfl rfl rfl ⟨(Nat.le_of_ble_eq_true rfl), (Nat.le_of_ble_eq_true rfl)⟩ (Nat.le_of_ble_eq_true rfl) dX5_readsCompared_94 ⟨Nat.le_of_ble_eq_true rfl, Nat.le_of_ble_eq_true rfl⟩ rfl ?_
          refine tm_iconst X (1 : Int32) dX5_readsCompared_97 (by decide) ?_
          exact tm_retZH (wf := wM ad dA) hRet dX5_readsCompared_98
        · skip
          refine tm_iconst X (0 : Int32) dX5_readsCompared_85 (by decide) ?_
          exact tm_retZH (wf := wM ad dA) hRet dX5_readsCompared_86
      · skip
        refine tm_aload_n X 1 dX5_readsCompared_58 rfl rfl ?_
        refine tm_iconst X (1 : Int32) dX5_readsCompared_59 (by decide) ?_
        refine tm_aload_n X 1 dX5_readsCompared_60 rfl rfl ?_
        refine tm_getI X (fiM_300_7 ad dA) in_X5 rfl (Nat.le_of_ble_eq_true rfl) q1194 rfl dX5_readsCompared_61 ?_
        refine tm_cl2 (fun r16 h17 e15 => ?_)
        refine tm_callVi (As := [.int (1 : Int32), .int (h3 300 7)]) (rest := []) (q0 := 0) X (ctX5_wrongAt l D ad dA h3 (1 : Int32) (h3 300 7) r16 h17 e15) (lw_V q1404 q1406 qs53 q122 q1407) cyX5_wrongAt rfl rfl rfl ⟨(Nat.le_of_ble_eq_true rfl), (Nat.le_of_ble_eq_true rfl)⟩ (Nat.le_of_ble_eq_true rfl) dX5_readsCompared_64 ⟨Nat.le_of_ble_eq_true rfl, Nat.le_of_ble_eq_true rfl⟩ rfl ?_
        exact tm_retZH (wf := wM ad dA) hRet dX5_readsCompared_67
    · skip
      refine tm_ic_ne X 23 dX5_readsCompared_15 rfl ?_ ?_
      · skip
        refine tm_aload_n X 0 dX5_readsCompared_23 rfl rfl ?_
        refine tm_cl1 (fun r19 e18 => ?_)
        refine tm_callVi (As := []) (rest := []) (q0 := 0) X (ctX5_here l D ad dA h3 r19 e18) (lw_V q1400 q1402 qs52 q122 q1403) cyX5_here rfl rfl rfl ⟨(Nat.le_of_ble_eq_true rfl), (Nat.le_of_ble_eq_true rfl)⟩ (Nat.le_of_ble_eq_true rfl) dX5_readsCompared_24 ⟨Nat.le_of_ble_eq_true rfl, Nat.le_of_ble_eq_true rfl⟩ rfl ?_
        refine tm_bipush X (62 : Int32) dX5_readsCompared_27 (by decide) ?_
        refine tm_ic_ne X 37 dX5_readsCompared_29 rfl ?_ ?_
        · skip
          refine tm_aload_n X 0 dX5_readsCompared_37 rfl rfl ?_
          refine tm_cl1 (fun r21 e20 => ?_)
          refine tm_callVi (As := []) (rest := []) (q0 := 0) X (ctX5_here l D ad dA h3 r21 e20) (lw_V q1400 q1402 qs52 q122 q1403) cyX5_here rfl rfl rfl ⟨(Nat.le_of_ble_eq_true rfl), (Nat.le_of_ble_eq_true rfl)⟩ (Nat.le_of_ble_eq_true rfl) dX5_readsCompared_38 ⟨Nat.le_of_ble_eq_true rfl, Nat.le_of_ble_eq_true rfl⟩ rfl ?_
          refine tm_bipush X (61 : Int32) dX5_readsCompared_41 (by decide) ?_
          refine tm_ic_ne X 51 dX5_readsCompared_43 rfl ?_ ?_
          · skip
            refine tm_iconst X (-1 : Int32) dX5_readsCompared_51 (by decide) ?_
            exact hk52 (-1 : Int32)
          · skip
            refine tm_bipush X (9 : Int32) dX5_readsCompared_46 (by decide) ?_
            refine tm_goto X 52 dX5_readsCompared_48 rfl ?_
            exact hk52 (9 : Int32)
        · skip
          refine tm_bipush X (8 : Int32) dX5_readsCompared_32 (by decide) ?_
          refine tm_goto X 52 dX5_readsCompared_34 rfl ?_
          exact hk52 (8 : Int32)
      · skip
        refine tm_bipush X (7 : Int32) dX5_readsCompared_18 (by decide) ?_
        refine tm_goto X 52 dX5_readsCompared_20 rfl ?_
        exact hk52 (7 : Int32)
  · skip
    refine tm_iconst X (0 : Int32) dX5_readsCompared_7 (by decide) ?_
    exact tm_retZH (wf := wM ad dA) hRet dX5_readsCompared_8
def mX5_lands (h : Hp) (x1 : Int32) : Option (Hp) :=
fx FU (fun _ => none) (fun k0 (h1 : Hp) =>
cl1 (mX5_waitTop h1) (fun r3 =>
nm (
nm (((h1 300 13) - (1 : Int32))) (fun v4 =>
ck v4 260 (
nm ((jrem (h1 217 v4.toNatClampNeg) (1048576 : Int32))) (fun v5 =>
ck v5 260 (
ck v5 260 (nm (u2 h1 216 v5.toNatClampNeg (((1048576 : Int32) * ((h1 216 v5.toNatClampNeg) / (1048576 : Int32))) + (h1 300 12))) (fun h6 =>
nm (u2 h6 300 13 ((h6 300 13) - (1 : Int32))) (fun h7 =>
k0 h7)))))))) (fun k22 =>
if r3 = (11 : Int32) then (
k22) else (
nm (
some h1) (fun k73 =>
if x1 = 0 then (
k73) else (
cl1 (mX5_waitTop h1) (fun r9 =>
if r9 = (12 : Int32) then (
k22) else (
k73)))))))) h
theorem cyX5_lands : Callee yX5_lands 1 := by unfold Callee; decide +kernel
set_option maxHeartbeats 4000000 in
theorem ctX5_lands (l : Launch) (D : va_G) (ad : Nat → Nat) (dA : Nat → ClassId) (h : Hp) (x1 : Int32) (h' : Hp) (hm : mX5_lands h x1 = some h') : CT l yX5_lands cX5_lands 3 none D dA 1 20 0 0 (wM ad dA h) [.ref (ad 300), .int x1] none (wM ad dA h') := by
  refine ct_open (by decide) (Nat.le_of_ble_eq_true rfl) ?_
  intro G X hI hZ hV hR
  have hRet := hV rfl rfl
  refine (show TM G h' (mX5_lands h x1) (wM ad dA h) 0 0 0 [(0, .ref (ad 300)), (1, .int x1)] [] from ?_) hm
  clear hm hI hZ hV hR
  unfold mX5_lands
  refine fx_P (fun (k : Hp → Option (Hp)) => ∀ (h1 : Hp), TM G h' (k h1) (wM ad dA h1) 0 0 0 [(0, .ref (ad 300)), (1, .int x1)] []) (fun _ => tm_none) (fun k0 hk0 h1 => ?_) FU h
  refine tm_aload_n X 0 dX5_lands_0 rfl rfl ?_
  refine tm_cl1 (fun r3 e2 => ?_)
  refine tm_callVi (As := []) (rest := []) (q0 := 0) X (ctX5_waitTop l D ad dA h1 r3 e2) (lw_V q1443 q1445 qs61 q122 q1446) cyX5_waitTop rfl rfl rfl ⟨(Nat.le_of_ble_eq_true rfl), (Nat.le_of_ble_eq_true rfl)⟩ (Nat.le_of_ble_eq_true rfl) dX5_lands_1 ⟨Nat.le_of_ble_eq_true rfl, Nat.le_of_ble_eq_true rfl⟩ rfl ?_
  refine tm_bipush X (11 : Int32) dX5_lands_4 (by decide) ?_
  refine tm_let (fun k => TM G h' k (wM ad dA h1) 0 0 22 [(0, .ref (ad 300)), (1, .int x1)] []) ?_ (fun k22 hk22 => ?_)
  · skip
    refine tm_aload_n X 0 dX5_lands_22 rfl rfl ?_
    refine tm_getR X (frM_300_17 ad dA h1) in_X5 rfl (Nat.le_of_ble_eq_true rfl) q1204 rfl dX5_lands_23 ?_
    refine tm_aload_n X 0 dX5_lands_26 rfl rfl ?_
    refine tm_getI X (fiM_300_13 ad dA) in_X5 rfl (Nat.le_of_ble_eq_true rfl) q1200 rfl dX5_lands_27 ?_
    refine tm_iconst X (1 : Int32) dX5_lands_30 (by decide) ?_
    refine tm_isub X dX5_lands_31 ?_
    refine tm_nmI (fun v4 => ?_)
    refine tm_iaload X (arM_217 ad dA) dX5_lands_32 ?_
    refine tm_ldc X (1048576 : Int32) q1420 dX5_lands_33 ?_
    refine tm_irem X dX5_lands_35 (by decide) ?_
    refine tm_nmI (fun v5 => ?_)
    refine tm_istore_n X [(2, .int v5), (0, .ref (ad 300)), (1, .int x1)] dX5_lands_36 rfl (Nat.le_of_ble_eq_true rfl) rfl ?_
    refine tm_aload_n X 1 dX5_lands_37 rfl rfl ?_
    refine tm_getR X (frM_300_16 ad dA h1) in_X5 rfl (Nat.le_of_ble_eq_true rfl) q1203 rfl dX5_lands_38 ?_
    refine tm_iload_n X 0 dX5_lands_41 rfl rfl ?_
    refine tm_ldc X (1048576 : Int32) q1420 dX5_lands_42 ?_
    refine tm_aload_n X 1 dX5_lands_44 rfl rfl ?_
    refine tm_getR X (frM_300_16 ad dA h1) in_X5 rfl (Nat.le_of_ble_eq_true rfl) q1203 rfl dX5_lands_45 ?_
    refine tm_iload_n X 0 dX5_lands_48 rfl rfl ?_
    refine tm_iaload X (arM_216 ad dA) dX5_lands_49 ?_
    refine tm_ldc X (1048576 : Int32) q1420 dX5_lands_50 ?_
    refine tm_idiv X dX5_lands_52 (by decide) ?_
    refine tm_imul X dX5_lands_53 ?_
    refine tm_aload_n X 1 dX5_lands_54 rfl rfl ?_
    refine tm_getI X (fiM_300_12 ad dA) in_X5 rfl (Nat.le_of_ble_eq_true rfl) q1199 rfl dX5_lands_55 ?_
    refine tm_iadd X dX5_lands_58 ?_
    refine tm_iastore X (arM_216 ad dA) dX5_lands_59 (fun h6 => ?_)
    refine tm_aload_n X 1 dX5_lands_60 rfl rfl ?_
    refine tm_aload_n X 1 dX5_lands_61 rfl rfl ?_
    refine tm_getI X (fiM_300_13 ad dA) in_X5 rfl (Nat.le_of_ble_eq_true rfl) q1200 rfl dX5_lands_62 ?_
    refine tm_iconst X (1 : Int32) dX5_lands_65 (by decide) ?_
    refine tm_isub X dX5_lands_66 ?_
    refine tm_putI X (fiM_300_13 ad dA) in_X5 rfl (Nat.le_of_ble_eq_true rfl) tyX5 tyX5_ok nmX5 rfl rfl q1200 rfl dX5_lands_67 (fun h7 => ?_)
    refine tm_goto X 0 dX5_lands_70 rfl ?_
    refine tm_lv X [1, 2] rfl ?_
    exact hk0 h7
  · skip
    refine tm_ic_eq X 22 dX5_lands_6 rfl ?_ ?_
    · skip
      exact hk22
    · skip
      refine tm_iload_n X 1 dX5_lands_9 rfl rfl ?_
      refine tm_let (fun k => TM G h' k (wM ad dA h1) 0 0 73 [] []) ?_ (fun k73 hk73 => ?_)
      · skip
        exact tm_retV (wf := wM ad dA) hRet dX5_lands_73
      · skip
        refine tm_if_eq X 73 dX5_lands_10 rfl ?_ ?_
        · skip
          refine tm_lv X [] rfl ?_
          exact hk73
        · skip
          refine tm_aload_n X 0 dX5_lands_13 rfl rfl ?_
          refine tm_cl1 (fun r9 e8 => ?_)
          refine tm_callVi (As := []) (rest := []) (q0 := 0) X (ctX5_waitTop l D ad dA h1 r9 e8) (lw_V q1443 q1445 qs61 q122 q1446) cyX5_waitTop rfl rfl rfl ⟨(Nat.le_of_ble_eq_true rfl), (Nat.le_of_ble_eq_true rfl)⟩ (Nat.le_of_ble_eq_true rfl) dX5_lands_14 ⟨Nat.le_of_ble_eq_true rfl, Nat.le_of_ble_eq_true rfl⟩ rfl ?_
          refine tm_bipush X (12 : Int32) dX5_lands_17 (by decide) ?_
          refine tm_ic_ne X 73 dX5_lands_19 rfl ?_ ?_
          · skip
            refine tm_lv X [] rfl ?_
            exact hk73
          · skip
            exact hk22
def mX5_jumps (h : Hp) (x1 : Int32) : Option (Hp) :=
ck (h 300 13) 260 (nm (u2 h 217 (h 300 13).toNatClampNeg (((1048576 : Int32) * x1) + (h 300 12))) (fun h1 =>
nm (u2 h1 300 13 ((h1 300 13) + (1 : Int32))) (fun h2 =>
cl1 (mX5_notes h2 x1 (0 : Int32)) (fun h4 =>
nm (u2 h4 300 7 ((h4 300 7) + (1 : Int32))) (fun h5 =>
some h5)))))
theorem cyX5_jumps : Callee yX5_jumps 1 := by unfold Callee; decide +kernel
set_option maxHeartbeats 4000000 in
theorem ctX5_jumps (l : Launch) (D : va_G) (ad : Nat → Nat) (dA : Nat → ClassId) (h : Hp) (x1 : Int32) (h' : Hp) (hm : mX5_jumps h x1 = some h') : CT l yX5_jumps cX5_jumps 2 none D dA 1 22 0 0 (wM ad dA h) [.ref (ad 300), .int x1] none (wM ad dA h') := by
  refine ct_open (by decide) (Nat.le_of_ble_eq_true rfl) ?_
  intro G X hI hZ hV hR
  have hRet := hV rfl rfl
  refine (show TM G h' (mX5_jumps h x1) (wM ad dA h) 0 0 0 [(0, .ref (ad 300)), (1, .int x1)] [] from ?_) hm
  clear hm hI hZ hV hR
  unfold mX5_jumps
  refine tm_aload_n X 0 dX5_jumps_0 rfl rfl ?_
  refine tm_getR X (frM_300_17 ad dA h) in_X5 rfl (Nat.le_of_ble_eq_true rfl) q1204 rfl dX5_jumps_1 ?_
  refine tm_aload_n X 0 dX5_jumps_4 rfl rfl ?_
  refine tm_getI X (fiM_300_13 ad dA) in_X5 rfl (Nat.le_of_ble_eq_true rfl) q1200 rfl dX5_jumps_5 ?_
  refine tm_ldc X (1048576 : Int32) q1420 dX5_jumps_8 ?_
  refine tm_iload_n X 1 dX5_jumps_10 rfl rfl ?_
  refine tm_imul X dX5_jumps_11 ?_
  refine tm_aload_n X 0 dX5_jumps_12 rfl rfl ?_
  refine tm_getI X (fiM_300_12 ad dA) in_X5 rfl (Nat.le_of_ble_eq_true rfl) q1199 rfl dX5_jumps_13 ?_
  refine tm_iadd X dX5_jumps_16 ?_
  refine tm_iastore X (arM_217 ad dA) dX5_jumps_17 (fun h1 => ?_)
  refine tm_aload_n X 0 dX5_jumps_18 rfl rfl ?_
  refine tm_aload_n X 0 dX5_jumps_19 rfl rfl ?_
  refine tm_getI X (fiM_300_13 ad dA) in_X5 rfl (Nat.le_of_ble_eq_true rfl) q1200 rfl dX5_jumps_20 ?_
  refine tm_iconst X (1 : Int32) dX5_jumps_23 (by decide) ?_
  refine tm_iadd X dX5_jumps_24 ?_
  refine tm_putI X (fiM_300_13 ad dA) in_X5 rfl (Nat.le_of_ble_eq_true rfl) tyX5 tyX5_ok nmX5 rfl rfl q1200 rfl dX5_jumps_25 (fun h2 => ?_)
  refine tm_aload_n X 0 dX5_jumps_28 rfl rfl ?_
  refine tm_iload_n X 1 dX5_jumps_29 rfl rfl ?_
  refine tm_iconst X (0 : Int32) dX5_jumps_30 (by decide) ?_
  refine tm_cl1 (fun h4 e3 => ?_)
  refine tm_callVv (As := [.int x1, .int (0 : Int32)]) (rest := []) (q0 := 0) X (ctX5_notes l D ad dA h2 x1 (0 : Int32) h4 e3) (lw_V q1429 q1431 qs59 q122 q1432) cyX5_notes rfl rfl rfl ⟨(Nat.le_of_ble_eq_true rfl), (Nat.le_of_ble_eq_true rfl)⟩ (Nat.le_of_ble_eq_true rfl) dX5_jumps_31 ⟨Nat.le_of_ble_eq_true rfl, Nat.le_of_ble_eq_true rfl⟩ rfl ?_
  refine tm_aload_n X 0 dX5_jumps_34 rfl rfl ?_
  refine tm_aload_n X 0 dX5_jumps_35 rfl rfl ?_
  refine tm_getI X (fiM_300_7 ad dA) in_X5 rfl (Nat.le_of_ble_eq_true rfl) q1194 rfl dX5_jumps_36 ?_
  refine tm_iconst X (1 : Int32) dX5_jumps_39 (by decide) ?_
  refine tm_iadd X dX5_jumps_40 ?_
  refine tm_putI X (fiM_300_7 ad dA) in_X5 rfl (Nat.le_of_ble_eq_true rfl) tyX5 tyX5_ok nmX5 rfl rfl q1194 rfl dX5_jumps_41 (fun h5 => ?_)
  exact tm_retV (wf := wM ad dA) hRet dX5_jumps_44
def mX5_readsCondition (h : Hp)  : Option (Int32 × Hp) :=
cl1 (mX5_here h) (fun r2 =>
if r2 = (40 : Int32) then (
nm (u2 h 300 11 (0 : Int32)) (fun h3 =>
nm (u2 h3 300 13 (0 : Int32)) (fun h4 =>
cl2 (mX5_opens h4 (13 : Int32)) (fun r6 h7 =>
if r6 = 0 then (
bz (0 : Int32) (some ((0 : Int32), h7))) else (
fx FU (fun _ => none) (fun k40 (h8 : Hp) =>
cl1 (mX5_here h8) (fun r10 =>
nm (
cl1 (mX5_here h8) (fun r12 =>
nm (fun (s13 : Int32) =>
cl2 (mX5_opens h8 s13) (fun r15 h16 =>
if r15 = 0 then (
bz (0 : Int32) (some ((0 : Int32), h16))) else (
k40 h16))) (fun k75 =>
if r12 = (33 : Int32) then (
k75 (10 : Int32)) else (
k75 (13 : Int32))))) (fun k58 =>
if r10 = (33 : Int32) then (
k58) else (
cl1 (mX5_here h8) (fun r18 =>
if r18 = (40 : Int32) then (
k58) else (
cl2 (mX5_readsCompared h8) (fun r20 h21 =>
if r20 = 0 then (
bz (0 : Int32) (some ((0 : Int32), h21))) else (
fx FU (fun _ => none) (fun k92 (h22 : Hp) =>
cl1 (mX5_here h22) (fun r24 =>
if r24 = (41 : Int32) then (
cl1 (mX5_lands h22 (1 : Int32)) (fun h43 =>
nm (u2 h43 300 13 ((h43 300 13) - (1 : Int32))) (fun h44 =>
nm (u2 h44 300 11 ((h44 300 11) - (1 : Int32))) (fun h45 =>
nm (u2 h45 300 7 ((h45 300 7) + (1 : Int32))) (fun h46 =>
if (h46 300 13) = 0 then (
bz (1 : Int32) (some ((1 : Int32), h46))) else (
cl1 (mX5_endsPiece h46) (fun h48 =>
k92 h48))))))) else (
cl1 (mX5_here h22) (fun r26 =>
nm (
cl1 (mX5_here h22) (fun r28 =>
nm (fun (s29 : Int32) =>
cl1 (mX5_lands h22 s29) (fun h31 =>
cl1 (mX5_here h31) (fun r33 =>
nm (fun (s34 : Int32) =>
cl1 (mX5_jumps h31 s34) (fun h36 =>
k40 h36)) (fun k215 =>
if r33 = (38 : Int32) then (
k215 (11 : Int32)) else (
k215 (12 : Int32)))))) (fun k195 =>
if r28 = (124 : Int32) then (
k195 (1 : Int32)) else (
k195 (0 : Int32))))) (fun k180 =>
if r26 = (38 : Int32) then (
k180) else (
cl1 (mX5_here h22) (fun r38 =>
if r38 = (124 : Int32) then (
k180) else (
cl2 (mX5_wrongAt h22 (1 : Int32) (h22 300 7)) (fun r40 h41 =>
bz r40 (some (r40, h41))))))))))) h21)))))))) h7))))) else (
cl2 (mX5_wrongAt h (1 : Int32) (h 300 7)) (fun r50 h51 =>
bz r50 (some (r50, h51)))))
theorem cyX5_readsCondition : Callee yX5_readsCondition 0 := by unfold Callee; decide +kernel
set_option maxHeartbeats 4000000 in
theorem ctX5_readsCondition (l : Launch) (D : va_G) (ad : Nat → Nat) (dA : Nat → ClassId) (h : Hp)  (r : Int32) (h' : Hp) (hm : mX5_readsCondition h = some (r, h')) : CT l yX5_readsCondition cX5_readsCondition 1 (some .boolean) D dA 6 125 0 0 (wM ad dA h) [.ref (ad 300)] (some (.int r)) (wM ad dA h') := by
  refine ct_open (by decide) (Nat.le_of_ble_eq_true rfl) ?_
  intro G X hI hZ hV hR
  have hRet := fun hv => hZ rfl r hv rfl
  refine (show TM G (r, h') (mX5_readsCondition h) (wM ad dA h) 0 0 0 [(0, .ref (ad 300))] [] from ?_) hm
  clear hm hI hZ hV hR
  unfold mX5_readsCondition
  refine tm_aload_n X 0 dX5_readsCondition_0 rfl rfl ?_
  refine tm_cl1 (fun r2 e1 => ?_)
  refine tm_callVi (As := []) (rest := []) (q0 := 0) X (ctX5_here l D ad dA h r2 e1) (lw_V q1400 q1402 qs52 q122 q1403) cyX5_here rfl rfl rfl ⟨(Nat.le_of_ble_eq_true rfl), (Nat.le_of_ble_eq_true rfl)⟩ (Nat.le_of_ble_eq_true rfl) dX5_readsCondition_1 ⟨Nat.le_of_ble_eq_true rfl, Nat.le_of_ble_eq_true rfl⟩ rfl ?_
  refine tm_bipush X (40 : Int32) dX5_readsCondition_4 (by decide) ?_
  refine tm_ic_eq X 19 dX5_readsCondition_6 rfl ?_ ?_
  · skip
    refine tm_aload_n X 0 dX5_readsCondition_19 rfl rfl ?_
    refine tm_iconst X (0 : Int32) dX5_readsCondition_20 (by decide) ?_
    refine tm_putI X (fiM_300_11 ad dA) in_X5 rfl (Nat.le_of_ble_eq_true rfl) tyX5 tyX5_ok nmX5 rfl rfl q1198 rfl dX5_readsCondition_21 (fun h3 => ?_)
    refine tm_aload_n X 0 dX5_readsCondition_24 rfl rfl ?_
    refine tm_iconst X (0 : Int32) dX5_readsCondition_25 (by decide) ?_
    refine tm_putI X (fiM_300_13 ad dA) in_X5 rfl (Nat.le_of_ble_eq_true rfl) tyX5 tyX5_ok nmX5 rfl rfl q1200 rfl dX5_readsCondition_26 (fun h4 => ?_)
    refine tm_aload_n X 0 dX5_readsCondition_29 rfl rfl ?_
    refine tm_bipush X (13 : Int32) dX5_readsCondition_30 (by decide) ?_
    refine tm_cl2 (fun r6 h7 e5 => ?_)
    refine tm_callVi (As := [.int (13 : Int32)]) (rest := []) (q0 := 0) X (ctX5_opens l D ad dA h4 (13 : Int32) r6 h7 e5) (lw_V q1416 q1418 qs56 q122 q1419) cyX5_opens rfl rfl rfl ⟨(Nat.le_of_ble_eq_true rfl), (Nat.le_of_ble_eq_true rfl)⟩ (Nat.le_of_ble_eq_true rfl) dX5_readsCondition_32 ⟨Nat.le_of_ble_eq_true rfl, Nat.le_of_ble_eq_true rfl⟩ rfl ?_
    refine tm_if_ne X 40 dX5_readsCondition_35 rfl ?_ ?_
    · skip
      refine fx_P (fun (k : Hp → Option (Int32 × Hp)) => ∀ (h8 : Hp), TM G (r, h') (k h8) (wM ad dA h8) 0 0 40 [(0, .ref (ad 300))] []) (fun _ => tm_none) (fun k40 hk40 h8 => ?_) FU h7
      refine tm_aload_n X 0 dX5_readsCondition_40 rfl rfl ?_
      refine tm_cl1 (fun r10 e9 => ?_)
      refine tm_callVi (As := []) (rest := []) (q0 := 0) X (ctX5_here l D ad dA h8 r10 e9) (lw_V q1400 q1402 qs52 q122 q1403) cyX5_here rfl rfl rfl ⟨(Nat.le_of_ble_eq_true rfl), (Nat.le_of_ble_eq_true rfl)⟩ (Nat.le_of_ble_eq_true rfl) dX5_readsCondition_41 ⟨Nat.le_of_ble_eq_true rfl, Nat.le_of_ble_eq_true rfl⟩ rfl ?_
      refine tm_bipush X (33 : Int32) dX5_readsCondition_44 (by decide) ?_
      refine tm_let (fun k => TM G (r, h') k (wM ad dA h8) 0 0 58 [(0, .ref (ad 300))] []) ?_ (fun k58 hk58 => ?_)
      · skip
        refine tm_aload_n X 0 dX5_readsCondition_58 rfl rfl ?_
        refine tm_aload_n X 0 dX5_readsCondition_59 rfl rfl ?_
        refine tm_cl1 (fun r12 e11 => ?_)
        refine tm_callVi (As := []) (rest := [.ref (ad 300)]) (q0 := 0) X (ctX5_here l D ad dA h8 r12 e11) (lw_V q1400 q1402 qs52 q122 q1403) cyX5_here rfl rfl rfl ⟨(Nat.le_of_ble_eq_true rfl), (Nat.le_of_ble_eq_true rfl)⟩ (Nat.le_of_ble_eq_true rfl) dX5_readsCondition_60 ⟨Nat.le_of_ble_eq_true rfl, Nat.le_of_ble_eq_true rfl⟩ rfl ?_
        refine tm_bipush X (33 : Int32) dX5_readsCondition_63 (by decide) ?_
        refine tm_let (fun k => ∀ (s13 : Int32), TM G (r, h') (k s13) (wM ad dA h8) 0 0 75 [(0, .ref (ad 300))] [.int s13, .ref (ad 300)]) ?_ (fun k75 hk75 => ?_)
        · intro s13
          refine tm_cl2 (fun r15 h16 e14 => ?_)
          refine tm_callVi (As := [.int s13]) (rest := []) (q0 := 0) X (ctX5_opens l D ad dA h8 s13 r15 h16 e14) (lw_V q1416 q1418 qs56 q122 q1419) cyX5_opens rfl rfl rfl ⟨(Nat.le_of_ble_eq_true rfl), (Nat.le_of_ble_eq_true rfl)⟩ (Nat.le_of_ble_eq_true rfl) dX5_readsCondition_75 ⟨Nat.le_of_ble_eq_true rfl, Nat.le_of_ble_eq_true rfl⟩ rfl ?_
          refine tm_if_ne X 40 dX5_readsCondition_78 rfl ?_ ?_
          · skip
            exact hk40 h16
          · skip
            refine tm_iconst X (0 : Int32) dX5_readsCondition_81 (by decide) ?_
            exact tm_retZH (wf := wM ad dA) hRet dX5_readsCondition_82
        · skip
          refine tm_ic_ne X 73 dX5_readsCondition_65 rfl ?_ ?_
          · skip
            refine tm_bipush X (13 : Int32) dX5_readsCondition_73 (by decide) ?_
            exact hk75 (13 : Int32)
          · skip
            refine tm_bipush X (10 : Int32) dX5_readsCondition_68 (by decide) ?_
            refine tm_goto X 75 dX5_readsCondition_70 rfl ?_
            exact hk75 (10 : Int32)
      · skip
        refine tm_ic_eq X 58 dX5_readsCondition_46 rfl ?_ ?_
        · skip
          exact hk58
        · skip
          refine tm_aload_n X 0 dX5_readsCondition_49 rfl rfl ?_
          refine tm_cl1 (fun r18 e17 => ?_)
          refine tm_callVi (As := []) (rest := []) (q0 := 0) X (ctX5_here l D ad dA h8 r18 e17) (lw_V q1400 q1402 qs52 q122 q1403) cyX5_here rfl rfl rfl ⟨(Nat.le_of_ble_eq_true rfl), (Nat.le_of_ble_eq_true rfl)⟩ (Nat.le_of_ble_eq_true rfl) dX5_readsCondition_50 ⟨Nat.le_of_ble_eq_true rfl, Nat.le_of_ble_eq_true rfl⟩ rfl ?_
          refine tm_bipush X (40 : Int32) dX5_readsCondition_53 (by decide) ?_
          refine tm_ic_ne X 83 dX5_readsCondition_55 rfl ?_ ?_
          · skip
            refine tm_aload_n X 0 dX5_readsCondition_83 rfl rfl ?_
            refine tm_cl2 (fun r20 h21 e19 => ?_)
            refine tm_callVi (As := []) (rest := []) (q0 := 0) X (ctX5_readsCompared l D ad dA h8 r20 h21 e19) (lw_V q1455 q1457 qs64 q122 q1458) cyX5_readsCompared rfl rfl rfl ⟨(Nat.le_of_ble_eq_true rfl), (Nat.le_of_ble_eq_true rfl)⟩ (Nat.le_of_ble_eq_true rfl) dX5_readsCondition_84 ⟨Nat.le_of_ble_eq_true rfl, Nat.le_of_ble_eq_true rfl⟩ rfl ?_
            refine tm_if_ne X 92 dX5_readsCondition_87 rfl ?_ ?_
            · skip
              refine fx_P (fun (k : Hp → Option (Int32 × Hp)) => ∀ (h22 : Hp), TM G (r, h') (k h22) (wM ad dA h22) 0 0 92 [(0, .ref (ad 300))] []) (fun _ => tm_none) (fun k92 hk92 h22 => ?_) FU h21
              refine tm_aload_n X 0 dX5_readsCondition_92 rfl rfl ?_
              refine tm_cl1 (fun r24 e23 => ?_)
              refine tm_callVi (As := []) (rest := []) (q0 := 0) X (ctX5_here l D ad dA h22 r24 e23) (lw_V q1400 q1402 qs52 q122 q1403) cyX5_here rfl rfl rfl ⟨(Nat.le_of_ble_eq_true rfl), (Nat.le_of_ble_eq_true rfl)⟩ (Nat.le_of_ble_eq_true rfl) dX5_readsCondition_93 ⟨Nat.le_of_ble_eq_true rfl, Nat.le_of_ble_eq_true rfl⟩ rfl ?_
              refine tm_bipush X (41 : Int32) dX5_readsCondition_96 (by decide) ?_
              refine tm_ic_ne X 152 dX5_readsCondition_98 rfl ?_ ?_
              · skip
                refine tm_aload_n X 0 dX5_readsCondition_152 rfl rfl ?_
                refine tm_cl1 (fun r26 e25 => ?_)
                refine tm_callVi (As := []) (rest := []) (q0 := 0) X (ctX5_here l D ad dA h22 r26 e25) (lw_V q1400 q1402 qs52 q122 q1403) cyX5_here rfl rfl rfl ⟨(Nat.le_of_ble_eq_true rfl), (Nat.le_of_ble_eq_true rfl)⟩ (Nat.le_of_ble_eq_true rfl) dX5_readsCondition_153 ⟨Nat.le_of_ble_eq_true rfl, Nat.le_of_ble_eq_true rfl⟩ rfl ?_
                refine tm_bipush X (38 : Int32) dX5_readsCondition_156 (by decide) ?_
                refine tm_let (fun k => TM G (r, h') k (wM ad dA h22) 0 0 180 [(0, .ref (ad 300))] []) ?_ (fun k180 hk180 => ?_)
                · skip
                  refine tm_aload_n X 0 dX5_readsCondition_180 rfl rfl ?_
                  refine tm_aload_n X 0 dX5_readsCondition_181 rfl rfl ?_
                  refine tm_cl1 (fun r28 e27 => ?_)
                  refine tm_callVi (As := []) (rest := [.ref (ad 300)]) (q0 := 0) X (ctX5_here l D ad dA h22 r28 e27) (lw_V q1400 q1402 qs52 q122 q1403) cyX5_here rfl rfl rfl ⟨(Nat.le_of_ble_eq_true rfl), (Nat.le_of_ble_eq_true rfl)⟩ (Nat.le_of_ble_eq_true rfl) dX5_readsCondition_182 ⟨Nat.le_of_ble_eq_true rfl, Nat.le_of_ble_eq_true rfl⟩ rfl ?_
                  refine tm_bipush X (124 : Int32) dX5_readsCondition_185 (by decide) ?_
                  refine tm_let (fun k => ∀ (s29 : Int32), TM G (r, h') (k s29) (wM ad dA h22) 0 0 195 [(0, .ref (ad 300))] [.int s29, .ref (ad 300)]) ?_ (fun k195 hk195 => ?_)
                  · intro s29
                    refine tm_cl1 (fun h31 e30 => ?_)
                    refine tm_callVv (As := [.int s29]) (rest := []) (q0 := 0) X (ctX5_lands l D ad dA h22 s29 h31 e30) (lw_V q1463 q1465 qs66 q122 q1466) cyX5_lands rfl rfl rfl ⟨(Nat.le_of_ble_eq_true rfl), (Nat.le_of_ble_eq_true rfl)⟩ (Nat.le_of_ble_eq_true rfl) dX5_readsCondition_195 ⟨Nat.le_of_ble_eq_true rfl, Nat.le_of_ble_eq_true rfl⟩ rfl ?_
                    refine tm_aload_n X 0 dX5_readsCondition_198 rfl rfl ?_
                    refine tm_aload_n X 0 dX5_readsCondition_199 rfl rfl ?_
                    refine tm_cl1 (fun r33 e32 => ?_)
                    refine tm_callVi (As := []) (rest := [.ref (ad 300)]) (q0 := 0) X (ctX5_here l D ad dA h31 r33 e32) (lw_V q1400 q1402 qs52 q122 q1403) cyX5_here rfl rfl rfl ⟨(Nat.le_of_ble_eq_true rfl), (Nat.le_of_ble_eq_true rfl)⟩ (Nat.le_of_ble_eq_true rfl) dX5_readsCondition_200 ⟨Nat.le_of_ble_eq_true rfl, Nat.le_of_ble_eq_true rfl⟩ rfl ?_
                    refine tm_bipush X (38 : Int32) dX5_readsCondition_203 (by decide) ?_
                    refine tm_let (fun k => ∀ (s34 : Int32), TM G (r, h') (k s34) (wM ad dA h31) 0 0 215 [(0, .ref (ad 300))] [.int s34, .ref (ad 300)]) ?_ (fun k215 hk215 => ?_)
                    · intro s34
                      refine tm_cl1 (fun h36 e35 => ?_)
                      refine tm_callVv (As := [.int s34]) (rest := []) (q0 := 0) X (ctX5_jumps l D ad dA h31 s34 h36 e35) (lw_V q1467 q1469 qs67 q122 q1470) cyX5_jumps rfl rfl rfl ⟨(Nat.le_of_ble_eq_true rfl), (Nat.le_of_ble_eq_true rfl)⟩ (Nat.le_of_ble_eq_true rfl) dX5_readsCondition_215 ⟨Nat.le_of_ble_eq_true rfl, Nat.le_of_ble_eq_true rfl⟩ rfl ?_
                      refine tm_goto X 40 dX5_readsCondition_218 rfl ?_
                      exact hk40 h36
                    · skip
                      refine tm_ic_ne X 213 dX5_readsCondition_205 rfl ?_ ?_
                      · skip
                        refine tm_bipush X (12 : Int32) dX5_readsCondition_213 (by decide) ?_
                        exact hk215 (12 : Int32)
                      · skip
                        refine tm_bipush X (11 : Int32) dX5_readsCondition_208 (by decide) ?_
                        refine tm_goto X 215 dX5_readsCondition_210 rfl ?_
                        exact hk215 (11 : Int32)
                  · skip
                    refine tm_ic_ne X 194 dX5_readsCondition_187 rfl ?_ ?_
                    · skip
                      refine tm_iconst X (0 : Int32) dX5_readsCondition_194 (by decide) ?_
                      exact hk195 (0 : Int32)
                    · skip
                      refine tm_iconst X (1 : Int32) dX5_readsCondition_190 (by decide) ?_
                      refine tm_goto X 195 dX5_readsCondition_191 rfl ?_
                      exact hk195 (1 : Int32)
                · skip
                  refine tm_ic_eq X 180 dX5_readsCondition_158 rfl ?_ ?_
                  · skip
                    exact hk180
                  · skip
                    refine tm_aload_n X 0 dX5_readsCondition_161 rfl rfl ?_
                    refine tm_cl1 (fun r38 e37 => ?_)
                    refine tm_callVi (As := []) (rest := []) (q0 := 0) X (ctX5_here l D ad dA h22 r38 e37) (lw_V q1400 q1402 qs52 q122 q1403) cyX5_here rfl rfl rfl ⟨(Nat.le_of_ble_eq_true rfl), (Nat.le_of_ble_eq_true rfl)⟩ (Nat.le_of_ble_eq_true rfl) dX5_readsCondition_162 ⟨Nat.le_of_ble_eq_true rfl, Nat.le_of_ble_eq_true rfl⟩ rfl ?_
                    refine tm_bipush X (124 : Int32) dX5_readsCondition_165 (by decide) ?_
                    refine tm_ic_eq X 180 dX5_readsCondition_167 rfl ?_ ?_
                    · skip
                      exact hk180
                    · skip
                      refine tm_aload_n X 0 dX5_readsCondition_170 rfl rfl ?_
                      refine tm_iconst X (1 : Int32) dX5_readsCondition_171 (by decide) ?_
                      refine tm_aload_n X 0 dX5_readsCondition_172 rfl rfl ?_
                      refine tm_getI X (fiM_300_7 ad dA) in_X5 rfl (Nat.le_of_ble_eq_true rfl) q1194 rfl dX5_readsCondition_173 ?_
                      refine tm_cl2 (fun r40 h41 e39 => ?_)
                      refine tm_callVi (As := [.int (1 : Int32), .int (h22 300 7)]) (rest := []) (q0 := 0) X (ctX5_wrongAt l D ad dA h22 (1 : Int32) (h22 300 7) r40 h41 e39) (lw_V q1404 q1406 qs53 q122 q1407) cyX5_wrongAt rfl rfl rfl ⟨(Nat.le_of_ble_eq_true rfl), (Nat.le_of_ble_eq_true rfl)⟩ (Nat.le_of_ble_eq_true rfl) dX5_readsCondition_176 ⟨Nat.le_of_ble_eq_true rfl, Nat.le_of_ble_eq_true rfl⟩ rfl ?_
                      exact tm_retZH (wf := wM ad dA) hRet dX5_readsCondition_179
              · skip
                refine tm_aload_n X 0 dX5_readsCondition_101 rfl rfl ?_
                refine tm_iconst X (1 : Int32) dX5_readsCondition_102 (by decide) ?_
                refine tm_cl1 (fun h43 e42 => ?_)
                refine tm_callVv (As := [.int (1 : Int32)]) (rest := []) (q0 := 0) X (ctX5_lands l D ad dA h22 (1 : Int32) h43 e42) (lw_V q1463 q1465 qs66 q122 q1466) cyX5_lands rfl rfl rfl ⟨(Nat.le_of_ble_eq_true rfl), (Nat.le_of_ble_eq_true rfl)⟩ (Nat.le_of_ble_eq_true rfl) dX5_readsCondition_103 ⟨Nat.le_of_ble_eq_true rfl, Nat.le_of_ble_eq_true rfl⟩ rfl ?_
                refine tm_aload_n X 0 dX5_readsCondition_106 rfl rfl ?_
                refine tm_aload_n X 0 dX5_readsCondition_107 rfl rfl ?_
                refine tm_getI X (fiM_300_13 ad dA) in_X5 rfl (Nat.le_of_ble_eq_true rfl) q1200 rfl dX5_readsCondition_108 ?_
                refine tm_iconst X (1 : Int32) dX5_readsCondition_111 (by decide) ?_
                refine tm_isub X dX5_readsCondition_112 ?_
                refine tm_putI X (fiM_300_13 ad dA) in_X5 rfl (Nat.le_of_ble_eq_true rfl) tyX5 tyX5_ok nmX5 rfl rfl q1200 rfl dX5_readsCondition_113 (fun h44 => ?_)
                refine tm_aload_n X 0 dX5_readsCondition_116 rfl rfl ?_
                refine tm_aload_n X 0 dX5_readsCondition_117 rfl rfl ?_
                refine tm_getI X (fiM_300_11 ad dA) in_X5 rfl (Nat.le_of_ble_eq_true rfl) q1198 rfl dX5_readsCondition_118 ?_
                refine tm_iconst X (1 : Int32) dX5_readsCondition_121 (by decide) ?_
                refine tm_isub X dX5_readsCondition_122 ?_
                refine tm_putI X (fiM_300_11 ad dA) in_X5 rfl (Nat.le_of_ble_eq_true rfl) tyX5 tyX5_ok nmX5 rfl rfl q1198 rfl dX5_readsCondition_123 (fun h45 => ?_)
                refine tm_aload_n X 0 dX5_readsCondition_126 rfl rfl ?_
                refine tm_aload_n X 0 dX5_readsCondition_127 rfl rfl ?_
                refine tm_getI X (fiM_300_7 ad dA) in_X5 rfl (Nat.le_of_ble_eq_true rfl) q1194 rfl dX5_readsCondition_128 ?_
                refine tm_iconst X (1 : Int32) dX5_readsCondition_131 (by decide) ?_
                refine tm_iadd X dX5_readsCondition_132 ?_
                refine tm_putI X (fiM_300_7 ad dA) in_X5 rfl (Nat.le_of_ble_eq_true rfl) tyX5 tyX5_ok nmX5 rfl rfl q1194 rfl dX5_readsCondition_133 (fun h46 => ?_)
                refine tm_aload_n X 0 dX5_readsCondition_136 rfl rfl ?_
                refine tm_getI X (fiM_300_13 ad dA) in_X5 rfl (Nat.le_of_ble_eq_true rfl) q1200 rfl dX5_readsCondition_137 ?_
                refine tm_if_ne X 145 dX5_readsCondition_140 rfl ?_ ?_
                · skip
                  refine tm_aload_n X 0 dX5_readsCondition_145 rfl rfl ?_
                  refine tm_cl1 (fun h48 e47 => ?_)
                  refine tm_callVv (As := []) (rest := []) (q0 := 0) X (ctX5_endsPiece l D ad dA h46 h48 e47) (lw_V q1459 q1461 qs65 q122 q1462) cyX5_endsPiece rfl rfl rfl ⟨(Nat.le_of_ble_eq_true rfl), (Nat.le_of_ble_eq_true rfl)⟩ (Nat.le_of_ble_eq_true rfl) dX5_readsCondition_146 ⟨Nat.le_of_ble_eq_true rfl, Nat.le_of_ble_eq_true rfl⟩ rfl ?_
                  refine tm_goto X 92 dX5_readsCondition_149 rfl ?_
                  exact hk92 h48
                · skip
                  refine tm_iconst X (1 : Int32) dX5_readsCondition_143 (by decide) ?_
                  exact tm_retZH (wf := wM ad dA) hRet dX5_readsCondition_144
            · skip
              refine tm_iconst X (0 : Int32) dX5_readsCondition_90 (by decide) ?_
              exact tm_retZH (wf := wM ad dA) hRet dX5_readsCondition_91
          · skip
            exact hk58
    · skip
      refine tm_iconst X (0 : Int32) dX5_readsCondition_38 (by decide) ?_
      exact tm_retZH (wf := wM ad dA) hRet dX5_readsCondition_39
  · skip
    refine tm_aload_n X 0 dX5_readsCondition_9 rfl rfl ?_
    refine tm_iconst X (1 : Int32) dX5_readsCondition_10 (by decide) ?_
    refine tm_aload_n X 0 dX5_readsCondition_11 rfl rfl ?_
    refine tm_getI X (fiM_300_7 ad dA) in_X5 rfl (Nat.le_of_ble_eq_true rfl) q1194 rfl dX5_readsCondition_12 ?_
    refine tm_cl2 (fun r50 h51 e49 => ?_)
    refine tm_callVi (As := [.int (1 : Int32), .int (h 300 7)]) (rest := []) (q0 := 0) X (ctX5_wrongAt l D ad dA h (1 : Int32) (h 300 7) r50 h51 e49) (lw_V q1404 q1406 qs53 q122 q1407) cyX5_wrongAt rfl rfl rfl ⟨(Nat.le_of_ble_eq_true rfl), (Nat.le_of_ble_eq_true rfl)⟩ (Nat.le_of_ble_eq_true rfl) dX5_readsCondition_15 ⟨Nat.le_of_ble_eq_true rfl, Nat.le_of_ble_eq_true rfl⟩ rfl ?_
    exact tm_retZH (wf := wM ad dA) hRet dX5_readsCondition_18
