set_option maxRecDepth 100000
def mX5_staysIn (h : Hp) (x1 : Int32) : Option (Int32) :=
fx FU (fun _ => none) (fun k2 (x2_1 : Int32) =>
if (48 : Int32) ≤ x2_1 then (
bz (1 : Int32) (some (1 : Int32))) else (
ck x2_1 48 (
nm (
k2 (x2_1 + (1 : Int32))) (fun k36 =>
if (h 245 x2_1.toNatClampNeg) = 0 then (
k36) else (
ck x2_1 48 (
if (h 246 x2_1.toNatClampNeg) = x1 then (
cl1 (mX5_isRim x2_1) (fun r2 =>
if r2 = 0 then (
k36) else (
bz (0 : Int32) (some (0 : Int32))))) else (
k36))))))) (0 : Int32)
theorem cyX5_staysIn : Callee yX5_staysIn 1 := by unfold Callee; decide +kernel
set_option maxHeartbeats 4000000 in
theorem ctX5_staysIn (l : Launch) (D : va_G) (ad : Nat → Nat) (dA : Nat → ClassId) (h : Hp) (x1 : Int32) (r : Int32) (hm : mX5_staysIn h x1 = some r) : CT l yX5_staysIn cX5_staysIn 3 (some .boolean) D dA 1 20 0 0 (wM ad dA h) [.ref (ad 300), .int x1] (some (.int r)) (wM ad dA h) := by
  refine ct_open (by decide) (Nat.le_of_ble_eq_true rfl) ?_
  intro G X hI hZ hV hR
  have hRet := fun hv => hZ rfl r hv rfl
  refine (show TM G r (mX5_staysIn h x1) (wM ad dA h) 0 0 0 [(0, .ref (ad 300)), (1, .int x1)] [] from ?_) hm
  clear hm hI hZ hV hR
  unfold mX5_staysIn
  refine tm_iconst X (0 : Int32) dX5_staysIn_0 (by decide) ?_
  refine tm_istore_n X [(2, .int (0 : Int32)), (0, .ref (ad 300)), (1, .int x1)] dX5_staysIn_1 rfl (Nat.le_of_ble_eq_true rfl) rfl ?_
  refine tm_lv X [1, 2, 0] rfl ?_
  refine fx_P (fun (k : Int32 → Option (Int32)) => ∀ (x2_1 : Int32), TM G r (k x2_1) (wM ad dA h) 0 0 2 [(0, .ref (ad 300)), (1, .int x1), (2, .int x2_1)] []) (fun _ => tm_none) (fun k2 hk2 x2_1 => ?_) FU (0 : Int32)
  refine tm_iload_n X 2 dX5_staysIn_2 rfl rfl ?_
  refine tm_bipush X (48 : Int32) dX5_staysIn_3 (by decide) ?_
  refine tm_ic_ge X 42 dX5_staysIn_5 rfl ?_ ?_
  · skip
    refine tm_iconst X (1 : Int32) dX5_staysIn_42 (by decide) ?_
    exact tm_retZ hRet dX5_staysIn_43
  · skip
    refine tm_aload_n X 0 dX5_staysIn_8 rfl rfl ?_
    refine tm_getR X (frM_300_45 ad dA h) in_X5 rfl (Nat.le_of_ble_eq_true rfl) q1232 rfl dX5_staysIn_9 ?_
    refine tm_iload_n X 2 dX5_staysIn_12 rfl rfl ?_
    refine tm_baloadZ X (arM_245 ad dA) dX5_staysIn_13 ?_
    refine tm_let (fun k => TM G r k (wM ad dA h) 0 0 36 [(0, .ref (ad 300)), (1, .int x1), (2, .int x2_1)] []) ?_ (fun k36 hk36 => ?_)
    · skip
      refine tm_iinc (v := (1 : Int32)) X 2 [(2, .int (x2_1 + (1 : Int32))), (0, .ref (ad 300)), (1, .int x1)] dX5_staysIn_36 rfl (by decide) (Nat.le_of_ble_eq_true rfl) rfl ?_
      refine tm_goto X 2 dX5_staysIn_39 rfl ?_
      refine tm_lv X [1, 2, 0] rfl ?_
      exact hk2 (x2_1 + (1 : Int32))
    · skip
      refine tm_if_eq X 36 dX5_staysIn_14 rfl ?_ ?_
      · skip
        exact hk36
      · skip
        refine tm_aload_n X 0 dX5_staysIn_17 rfl rfl ?_
        refine tm_getR X (frM_300_46 ad dA h) in_X5 rfl (Nat.le_of_ble_eq_true rfl) q1233 rfl dX5_staysIn_18 ?_
        refine tm_iload_n X 2 dX5_staysIn_21 rfl rfl ?_
        refine tm_iaload X (arM_246 ad dA) dX5_staysIn_22 ?_
        refine tm_iload_n X 1 dX5_staysIn_23 rfl rfl ?_
        refine tm_ic_ne X 36 dX5_staysIn_24 rfl ?_ ?_
        · skip
          exact hk36
        · skip
          refine tm_iload_n X 2 dX5_staysIn_27 rfl rfl ?_
          refine tm_cl1 (fun r2 e3 => ?_)
          refine tm_callSi (As := [.int x2_1]) (rest := []) X (ctX5_isRim l D dA x2_1 r2 e3) (lw_S q1754 q1755 q122 q1756) cyX5_isRim rfl ⟨(Nat.le_of_ble_eq_true rfl), (Nat.le_of_ble_eq_true rfl)⟩ (Nat.le_of_ble_eq_true rfl) dX5_staysIn_28 ⟨Nat.le_of_ble_eq_true rfl, Nat.le_of_ble_eq_true rfl⟩ rfl ?_
          refine tm_if_eq X 36 dX5_staysIn_31 rfl ?_ ?_
          · skip
            exact hk36
          · skip
            refine tm_iconst X (0 : Int32) dX5_staysIn_34 (by decide) ?_
            exact tm_retZ hRet dX5_staysIn_35
def mX5_pools (h : Hp) (x1 : Int32) (x2 : Int32) : Option (Int32 × Hp) :=
cl1 (mX5_isCast x1) (fun r1 =>
nm (
some ((-1 : Int32), h)) (fun k16 =>
if r1 = 0 then (
k16) else (
cl1 (mX5_in x2 (0 : Int32) (1 : Int32)) (fun r3 =>
if r3 = 0 then (
k16) else (
fx FU (fun _ _ _ _ => none) (fun k26 (x3_5 : Int32) (x4_6 : Int32) (x5_7 : Int32) (h8 : Hp) =>
if (25 : Int32) < x5_7 then (
nm (fun (s9 : Int32) =>
some (s9, h8)) (fun k157 =>
if x2 = 0 then (
k157 x3_5) else (
k157 x4_6))) else (
fx FU (fun _ _ => none) (fun k36 (x6_10 : Int32) (h11 : Hp) =>
if (48 : Int32) ≤ x6_10 then (
cl1 (mX5_gathers h11) (fun h13 =>
fx FU (fun _ _ _ => none) (fun k80 (x3_14 : Int32) (x4_15 : Int32) (x6_16 : Int32) =>
if (48 : Int32) ≤ x6_16 then (
k26 x3_14 x4_15 (x5_7 + (1 : Int32)) h13) else (
ck x6_16 48 (
nm (fun (x3_17 : Int32) (x4_18 : Int32) =>
k80 x3_17 x4_18 (x6_16 + (1 : Int32))) (fun k135 =>
if (h13 245 x6_16.toNatClampNeg) = 0 then (
k135 x3_14 x4_15) else (
ck x6_16 48 (
cl1 (mX5_staysIn h13 (h13 246 x6_16.toNatClampNeg)) (fun r20 =>
if r20 = 0 then (
k135 x3_14 x4_15) else (
nm ((x3_14 + (1 : Int32))) (fun v21 =>
cl1 (mX5_highOf h13 x1 x6_16) (fun r23 =>
if r23 = (x5_7 - (1 : Int32)) then (
nm ((x4_15 + (1 : Int32))) (fun v24 =>
k135 v21 v24)) else (
k135 v21 x4_15))))))))))) x3_5 x4_6 (0 : Int32))) else (
cl1 (mX5_highOf h11 x1 x6_10) (fun r26 =>
nm (fun (s27 : Int32) =>
ck x6_10 48 (nm (u2 h11 245 x6_10.toNatClampNeg (vp_nar .boolean s27)) (fun h28 =>
k36 (x6_10 + (1 : Int32)) h28))) (fun k66 =>
if x5_7 ≤ r26 then (
k66 (0 : Int32)) else (
k66 (1 : Int32)))))) (0 : Int32) h8)) (0 : Int32) (0 : Int32) (1 : Int32) h)))))
theorem cyX5_pools : Callee yX5_pools 2 := by unfold Callee; decide +kernel
set_option maxHeartbeats 4000000 in
theorem ctX5_pools (l : Launch) (D : va_G) (ad : Nat → Nat) (dA : Nat → ClassId) (h : Hp) (x1 : Int32) (x2 : Int32) (r : Int32) (h' : Hp) (hm : mX5_pools h x1 x2 = some (r, h')) : CT l yX5_pools cX5_pools 7 (some .int) D dA 4 93 0 0 (wM ad dA h) [.ref (ad 300), .int x1, .int x2] (some (.int r)) (wM ad dA h') := by
  refine ct_open (by decide) (Nat.le_of_ble_eq_true rfl) ?_
  intro G X hI hZ hV hR
  have hRet := hI rfl r rfl
  refine (show TM G (r, h') (mX5_pools h x1 x2) (wM ad dA h) 0 0 0 [(0, .ref (ad 300)), (1, .int x1), (2, .int x2)] [] from ?_) hm
  clear hm hI hZ hV hR
  unfold mX5_pools
  refine tm_iload_n X 1 dX5_pools_0 rfl rfl ?_
  refine tm_cl1 (fun r1 e2 => ?_)
  refine tm_callSi (As := [.int x1]) (rest := []) X (ctX5_isCast l D dA x1 r1 e2) (lw_S q1363 q1364 q122 q1365) cyX5_isCast rfl ⟨(Nat.le_of_ble_eq_true rfl), (Nat.le_of_ble_eq_true rfl)⟩ (Nat.le_of_ble_eq_true rfl) dX5_pools_1 ⟨Nat.le_of_ble_eq_true rfl, Nat.le_of_ble_eq_true rfl⟩ rfl ?_
  refine tm_let (fun k => TM G (r, h') k (wM ad dA h) 0 0 16 [] []) ?_ (fun k16 hk16 => ?_)
  · skip
    refine tm_iconst X (-1 : Int32) dX5_pools_16 (by decide) ?_
    exact tm_retIH (wf := wM ad dA) hRet dX5_pools_17
  · skip
    refine tm_if_eq X 16 dX5_pools_4 rfl ?_ ?_
    · skip
      refine tm_lv X [] rfl ?_
      exact hk16
    · skip
      refine tm_iload_n X 2 dX5_pools_7 rfl rfl ?_
      refine tm_iconst X (0 : Int32) dX5_pools_8 (by decide) ?_
      refine tm_iconst X (1 : Int32) dX5_pools_9 (by decide) ?_
      refine tm_cl1 (fun r3 e4 => ?_)
      refine tm_callSi (As := [.int x2, .int (0 : Int32), .int (1 : Int32)]) (rest := []) X (ctX5_in l D dA x2 (0 : Int32) (1 : Int32) r3 e4) (lw_S q1366 q1367 q122 q1368) cyX5_in rfl ⟨(Nat.le_of_ble_eq_true rfl), (Nat.le_of_ble_eq_true rfl)⟩ (Nat.le_of_ble_eq_true rfl) dX5_pools_10 ⟨Nat.le_of_ble_eq_true rfl, Nat.le_of_ble_eq_true rfl⟩ rfl ?_
      refine tm_if_ne X 18 dX5_pools_13 rfl ?_ ?_
      · skip
        refine tm_iconst X (0 : Int32) dX5_pools_18 (by decide) ?_
        refine tm_istore_n X [(3, .int (0 : Int32)), (0, .ref (ad 300)), (1, .int x1), (2, .int x2)] dX5_pools_19 rfl (Nat.le_of_ble_eq_true rfl) rfl ?_
        refine tm_iconst X (0 : Int32) dX5_pools_20 (by decide) ?_
        refine tm_istore X [(4, .int (0 : Int32)), (3, .int (0 : Int32)), (0, .ref (ad 300)), (1, .int x1), (2, .int x2)] dX5_pools_21 (Nat.le_of_ble_eq_true rfl) rfl ?_
        refine tm_iconst X (1 : Int32) dX5_pools_23 (by decide) ?_
        refine tm_istore X [(5, .int (1 : Int32)), (4, .int (0 : Int32)), (3, .int (0 : Int32)), (0, .ref (ad 300)), (1, .int x1), (2, .int x2)] dX5_pools_24 (Nat.le_of_ble_eq_true rfl) rfl ?_
        refine tm_lv X [3, 4, 5, 2, 1, 0] rfl ?_
        refine fx_P (fun (k : Int32 → Int32 → Int32 → Hp → Option (Int32 × Hp)) => ∀ (x3_5 : Int32) (x4_6 : Int32) (x5_7 : Int32) (h8 : Hp), TM G (r, h') (k x3_5 x4_6 x5_7 h8) (wM ad dA h8) 0 0 26 [(0, .ref (ad 300)), (1, .int x1), (2, .int x2), (3, .int x3_5), (4, .int x4_6), (5, .int x5_7)] []) (fun _ _ _ _ => tm_none) (fun k26 hk26 x3_5 x4_6 x5_7 h8 => ?_) FU (0 : Int32) (0 : Int32) (1 : Int32) h
        refine tm_iload X 5 dX5_pools_26 rfl ?_
        refine tm_bipush X (25 : Int32) dX5_pools_28 (by decide) ?_
        refine tm_ic_gt X 147 dX5_pools_30 rfl ?_ ?_
        · skip
          refine tm_iload_n X 2 dX5_pools_147 rfl rfl ?_
          refine tm_let (fun k => ∀ (s9 : Int32), TM G (r, h') (k s9) (wM ad dA h8) 0 0 157 [] [.int s9]) ?_ (fun k157 hk157 => ?_)
          · intro s9
            exact tm_retIH (wf := wM ad dA) hRet dX5_pools_157
          · skip
            refine tm_if_ne X 155 dX5_pools_148 rfl ?_ ?_
            · skip
              refine tm_iload X 4 dX5_pools_155 rfl ?_
              refine tm_lv X [] rfl ?_
              exact hk157 x4_6
            · skip
              refine tm_iload_n X 3 dX5_pools_151 rfl rfl ?_
              refine tm_goto X 157 dX5_pools_152 rfl ?_
              refine tm_lv X [] rfl ?_
              exact hk157 x3_5
        · skip
          refine tm_iconst X (0 : Int32) dX5_pools_33 (by decide) ?_
          refine tm_istore X [(6, .int (0 : Int32)), (0, .ref (ad 300)), (1, .int x1), (2, .int x2), (3, .int x3_5), (4, .int x4_6), (5, .int x5_7)] dX5_pools_34 (Nat.le_of_ble_eq_true rfl) rfl ?_
          refine tm_lv X [1, 2, 3, 4, 5, 6, 0] rfl ?_
          refine fx_P (fun (k : Int32 → Hp → Option (Int32 × Hp)) => ∀ (x6_10 : Int32) (h11 : Hp), TM G (r, h') (k x6_10 h11) (wM ad dA h11) 0 0 36 [(0, .ref (ad 300)), (1, .int x1), (2, .int x2), (3, .int x3_5), (4, .int x4_6), (5, .int x5_7), (6, .int x6_10)] []) (fun _ _ => tm_none) (fun k36 hk36 x6_10 h11 => ?_) FU (0 : Int32) h8
          refine tm_iload X 6 dX5_pools_36 rfl ?_
          refine tm_bipush X (48 : Int32) dX5_pools_38 (by decide) ?_
          refine tm_ic_ge X 73 dX5_pools_40 rfl ?_ ?_
          · skip
            refine tm_aload_n X 0 dX5_pools_73 rfl rfl ?_
            refine tm_cl1 (fun h13 e12 => ?_)
            refine tm_callVv (As := []) (rest := []) (q0 := 0) X (ctX5_gathers l D ad dA h11 h13 e12) (lw_V q1643 q1645 qs92 q122 q1646) cyX5_gathers rfl rfl rfl ⟨(Nat.le_of_ble_eq_true rfl), (Nat.le_of_ble_eq_true rfl)⟩ (Nat.le_of_ble_eq_true rfl) dX5_pools_74 ⟨Nat.le_of_ble_eq_true rfl, Nat.le_of_ble_eq_true rfl⟩ rfl ?_
            refine tm_iconst X (0 : Int32) dX5_pools_77 (by decide) ?_
            refine tm_istore X [(6, .int (0 : Int32)), (0, .ref (ad 300)), (1, .int x1), (2, .int x2), (3, .int x3_5), (4, .int x4_6), (5, .int x5_7)] dX5_pools_78 (Nat.le_of_ble_eq_true rfl) rfl ?_
            refine tm_lv X [1, 2, 3, 4, 5, 6, 0] rfl ?_
            refine fx_P (fun (k : Int32 → Int32 → Int32 → Option (Int32 × Hp)) => ∀ (x3_14 : Int32) (x4_15 : Int32) (x6_16 : Int32), TM G (r, h') (k x3_14 x4_15 x6_16) (wM ad dA h13) 0 0 80 [(0, .ref (ad 300)), (1, .int x1), (2, .int x2), (3, .int x3_14), (4, .int x4_15), (5, .int x5_7), (6, .int x6_16)] []) (fun _ _ _ => tm_none) (fun k80 hk80 x3_14 x4_15 x6_16 => ?_) FU x3_5 x4_6 (0 : Int32)
            refine tm_iload X 6 dX5_pools_80 rfl ?_
            refine tm_bipush X (48 : Int32) dX5_pools_82 (by decide) ?_
            refine tm_ic_ge X 141 dX5_pools_84 rfl ?_ ?_
            · skip
              refine tm_iinc (v := (1 : Int32)) X 5 [(5, .int (x5_7 + (1 : Int32))), (0, .ref (ad 300)), (1, .int x1), (2, .int x2), (3, .int x3_14), (4, .int x4_15), (6, .int x6_16)] dX5_pools_141 rfl (by decide) (Nat.le_of_ble_eq_true rfl) rfl ?_
              refine tm_goto X 26 dX5_pools_144 rfl ?_
              refine tm_lv X [1, 2, 3, 4, 5, 0] rfl ?_
              exact hk26 x3_14 x4_15 (x5_7 + (1 : Int32)) h13
            · skip
              refine tm_aload_n X 0 dX5_pools_87 rfl rfl ?_
              refine tm_getR X (frM_300_45 ad dA h13) in_X5 rfl (Nat.le_of_ble_eq_true rfl) q1232 rfl dX5_pools_88 ?_
              refine tm_iload X 6 dX5_pools_91 rfl ?_
              refine tm_baloadZ X (arM_245 ad dA) dX5_pools_93 ?_
              refine tm_let (fun k => ∀ (x3_17 : Int32) (x4_18 : Int32), TM G (r, h') (k x3_17 x4_18) (wM ad dA h13) 0 0 135 [(0, .ref (ad 300)), (1, .int x1), (2, .int x2), (3, .int x3_17), (4, .int x4_18), (5, .int x5_7), (6, .int x6_16)] []) ?_ (fun k135 hk135 => ?_)
              · intro x3_17 x4_18
                refine tm_iinc (v := (1 : Int32)) X 6 [(6, .int (x6_16 + (1 : Int32))), (0, .ref (ad 300)), (1, .int x1), (2, .int x2), (3, .int x3_17), (4, .int x4_18), (5, .int x5_7)] dX5_pools_135 rfl (by decide) (Nat.le_of_ble_eq_true rfl) rfl ?_
                refine tm_goto X 80 dX5_pools_138 rfl ?_
                refine tm_lv X [1, 2, 3, 4, 5, 6, 0] rfl ?_
                exact hk80 x3_17 x4_18 (x6_16 + (1 : Int32))
              · skip
                refine tm_if_eq X 135 dX5_pools_94 rfl ?_ ?_
                · skip
                  exact hk135 x3_14 x4_15
                · skip
                  refine tm_aload_n X 0 dX5_pools_97 rfl rfl ?_
                  refine tm_aload_n X 0 dX5_pools_98 rfl rfl ?_
                  refine tm_getR X (frM_300_46 ad dA h13) in_X5 rfl (Nat.le_of_ble_eq_true rfl) q1233 rfl dX5_pools_99 ?_
                  refine tm_iload X 6 dX5_pools_102 rfl ?_
                  refine tm_iaload X (arM_246 ad dA) dX5_pools_104 ?_
                  refine tm_cl1 (fun r20 e19 => ?_)
                  refine tm_callVi (As := [.int (h13 246 x6_16.toNatClampNeg)]) (rest := []) (q0 := 0) X (ctX5_staysIn l D ad dA h13 (h13 246 x6_16.toNatClampNeg) r20 e19) (lw_V q1750 q1752 qs102 q122 q1753) cyX5_staysIn rfl rfl rfl ⟨(Nat.le_of_ble_eq_true rfl), (Nat.le_of_ble_eq_true rfl)⟩ (Nat.le_of_ble_eq_true rfl) dX5_pools_105 ⟨Nat.le_of_ble_eq_true rfl, Nat.le_of_ble_eq_true rfl⟩ rfl ?_
                  refine tm_if_eq X 135 dX5_pools_108 rfl ?_ ?_
                  · skip
                    exact hk135 x3_14 x4_15
                  · skip
                    refine tm_iload_n X 3 dX5_pools_111 rfl rfl ?_
                    refine tm_iconst X (1 : Int32) dX5_pools_112 (by decide) ?_
                    refine tm_iadd X dX5_pools_113 ?_
                    refine tm_nmI (fun v21 => ?_)
                    refine tm_istore_n X [(3, .int v21), (0, .ref (ad 300)), (1, .int x1), (2, .int x2), (4, .int x4_15), (5, .int x5_7), (6, .int x6_16)] dX5_pools_114 rfl (Nat.le_of_ble_eq_true rfl) rfl ?_
                    refine tm_aload_n X 1 dX5_pools_115 rfl rfl ?_
                    refine tm_iload_n X 2 dX5_pools_116 rfl rfl ?_
                    refine tm_iload X 6 dX5_pools_117 rfl ?_
                    refine tm_cl1 (fun r23 e22 => ?_)
                    refine tm_callVi (As := [.int x1, .int x6_16]) (rest := []) (q0 := 0) X (ctX5_highOf l D ad dA h13 x1 x6_16 r23 e22) (lw_V q1718 q1720 qs97 q122 q1721) cyX5_highOf rfl rfl rfl ⟨(Nat.le_of_ble_eq_true rfl), (Nat.le_of_ble_eq_true rfl)⟩ (Nat.le_of_ble_eq_true rfl) dX5_pools_119 ⟨Nat.le_of_ble_eq_true rfl, Nat.le_of_ble_eq_true rfl⟩ rfl ?_
                    refine tm_iload X 5 dX5_pools_122 rfl ?_
                    refine tm_iconst X (1 : Int32) dX5_pools_124 (by decide) ?_
                    refine tm_isub X dX5_pools_125 ?_
                    refine tm_ic_ne X 135 dX5_pools_126 rfl ?_ ?_
                    · skip
                      refine tm_lv X [1, 2, 3, 0, 4, 5, 6] rfl ?_
                      exact hk135 v21 x4_15
                    · skip
                      refine tm_iload X 4 dX5_pools_129 rfl ?_
                      refine tm_iconst X (1 : Int32) dX5_pools_131 (by decide) ?_
                      refine tm_iadd X dX5_pools_132 ?_
                      refine tm_nmI (fun v24 => ?_)
                      refine tm_istore X [(4, .int v24), (3, .int v21), (0, .ref (ad 300)), (1, .int x1), (2, .int x2), (5, .int x5_7), (6, .int x6_16)] dX5_pools_133 (Nat.le_of_ble_eq_true rfl) rfl ?_
                      refine tm_lv X [2, 3, 4, 1, 0, 5, 6] rfl ?_
                      exact hk135 v21 v24
          · skip
            refine tm_aload_n X 0 dX5_pools_43 rfl rfl ?_
            refine tm_getR X (frM_300_45 ad dA h11) in_X5 rfl (Nat.le_of_ble_eq_true rfl) q1232 rfl dX5_pools_44 ?_
            refine tm_iload X 6 dX5_pools_47 rfl ?_
            refine tm_aload_n X 0 dX5_pools_49 rfl rfl ?_
            refine tm_iload_n X 1 dX5_pools_50 rfl rfl ?_
            refine tm_iload X 6 dX5_pools_51 rfl ?_
            refine tm_cl1 (fun r26 e25 => ?_)
            refine tm_callVi (As := [.int x1, .int x6_10]) (rest := [.int x6_10, .ref (ad 245)]) (q0 := 0) X (ctX5_highOf l D ad dA h11 x1 x6_10 r26 e25) (lw_V q1718 q1720 qs97 q122 q1721) cyX5_highOf rfl rfl rfl ⟨(Nat.le_of_ble_eq_true rfl), (Nat.le_of_ble_eq_true rfl)⟩ (Nat.le_of_ble_eq_true rfl) dX5_pools_53 ⟨Nat.le_of_ble_eq_true rfl, Nat.le_of_ble_eq_true rfl⟩ rfl ?_
            refine tm_iload X 5 dX5_pools_56 rfl ?_
            refine tm_let (fun k => ∀ (s27 : Int32), TM G (r, h') (k s27) (wM ad dA h11) 0 0 66 [(0, .ref (ad 300)), (1, .int x1), (2, .int x2), (3, .int x3_5), (4, .int x4_6), (5, .int x5_7), (6, .int x6_10)] [.int s27, .int x6_10, .ref (ad 245)]) ?_ (fun k66 hk66 => ?_)
            · intro s27
              refine tm_bastoreZ X (arM_245 ad dA) dX5_pools_66 (fun h28 => ?_)
              refine tm_iinc (v := (1 : Int32)) X 6 [(6, .int (x6_10 + (1 : Int32))), (0, .ref (ad 300)), (1, .int x1), (2, .int x2), (3, .int x3_5), (4, .int x4_6), (5, .int x5_7)] dX5_pools_67 rfl (by decide) (Nat.le_of_ble_eq_true rfl) rfl ?_
              refine tm_goto X 36 dX5_pools_70 rfl ?_
              refine tm_lv X [1, 2, 3, 4, 5, 6, 0] rfl ?_
              exact hk36 (x6_10 + (1 : Int32)) h28
            · skip
              refine tm_ic_ge X 65 dX5_pools_58 rfl ?_ ?_
              · skip
                refine tm_iconst X (0 : Int32) dX5_pools_65 (by decide) ?_
                exact hk66 (0 : Int32)
              · skip
                refine tm_iconst X (1 : Int32) dX5_pools_61 (by decide) ?_
                refine tm_goto X 66 dX5_pools_62 rfl ?_
                exact hk66 (1 : Int32)
      · skip
        refine tm_lv X [] rfl ?_
        exact hk16
def mX5_gapsMoved (h : Hp) (x1 : Int32) (x2 : Int32) (x3 : Int32) : Option (Int32) :=
fx FU (fun _ _ _ _ => none) (fun k12 (x4_1 : Int32) (x5_2 : Int32) (x6_3 : Int32) (x7_4 : Int32) =>
if (8 : Int32) ≤ x7_4 then (
some ((x6_3 * x4_1) - x5_2)) else (
cl1 (mX5_in (x7_4 + x3) (0 : Int32) (7 : Int32)) (fun r5 =>
nm (fun (x4_7 : Int32) (x5_8 : Int32) (x6_9 : Int32) =>
k12 x4_7 x5_8 x6_9 (x7_4 + (1 : Int32))) (fun k81 =>
if r5 = 0 then (
k81 x4_1 x5_2 x6_3) else (
cl1 (mX5_octet h (((8 : Int32) * x1) + x7_4)) (fun r11 =>
cl1 (mX5_upperAt h ((((8 : Int32) * x2) + x7_4) + x3)) (fun r13 =>
nm ((r11 + r13)) (fun v14 =>
cl1 (mX5_max x4_1 v14) (fun r15 =>
nm ((x5_2 + v14)) (fun v17 =>
nm ((x6_3 + (1 : Int32))) (fun v18 =>
k81 r15 v17 v18))))))))))) (0 : Int32) (0 : Int32) (0 : Int32) (0 : Int32)
theorem cyX5_gapsMoved : Callee yX5_gapsMoved 3 := by unfold Callee; decide +kernel
set_option maxHeartbeats 4000000 in
theorem ctX5_gapsMoved (l : Launch) (D : va_G) (ad : Nat → Nat) (dA : Nat → ClassId) (h : Hp) (x1 : Int32) (x2 : Int32) (x3 : Int32) (r : Int32) (hm : mX5_gapsMoved h x1 x2 x3 = some r) : CT l yX5_gapsMoved cX5_gapsMoved 9 (some .int) D dA 1 22 0 0 (wM ad dA h) [.ref (ad 300), .int x1, .int x2, .int x3] (some (.int r)) (wM ad dA h) := by
  refine ct_open (by decide) (Nat.le_of_ble_eq_true rfl) ?_
  intro G X hI hZ hV hR
  have hRet := hI rfl r rfl
  refine (show TM G r (mX5_gapsMoved h x1 x2 x3) (wM ad dA h) 0 0 0 [(0, .ref (ad 300)), (1, .int x1), (2, .int x2), (3, .int x3)] [] from ?_) hm
  clear hm hI hZ hV hR
  unfold mX5_gapsMoved
  refine tm_iconst X (0 : Int32) dX5_gapsMoved_0 (by decide) ?_
  refine tm_istore X [(4, .int (0 : Int32)), (0, .ref (ad 300)), (1, .int x1), (2, .int x2), (3, .int x3)] dX5_gapsMoved_1 (Nat.le_of_ble_eq_true rfl) rfl ?_
  refine tm_iconst X (0 : Int32) dX5_gapsMoved_3 (by decide) ?_
  refine tm_istore X [(5, .int (0 : Int32)), (4, .int (0 : Int32)), (0, .ref (ad 300)), (1, .int x1), (2, .int x2), (3, .int x3)] dX5_gapsMoved_4 (Nat.le_of_ble_eq_true rfl) rfl ?_
  refine tm_iconst X (0 : Int32) dX5_gapsMoved_6 (by decide) ?_
  refine tm_istore X [(6, .int (0 : Int32)), (5, .int (0 : Int32)), (4, .int (0 : Int32)), (0, .ref (ad 300)), (1, .int x1), (2, .int x2), (3, .int x3)] dX5_gapsMoved_7 (Nat.le_of_ble_eq_true rfl) rfl ?_
  refine tm_iconst X (0 : Int32) dX5_gapsMoved_9 (by decide) ?_
  refine tm_istore X [(7, .int (0 : Int32)), (6, .int (0 : Int32)), (5, .int (0 : Int32)), (4, .int (0 : Int32)), (0, .ref (ad 300)), (1, .int x1), (2, .int x2), (3, .int x3)] dX5_gapsMoved_10 (Nat.le_of_ble_eq_true rfl) rfl ?_
  refine tm_lv X [4, 5, 6, 7, 3, 2, 1, 0] rfl ?_
  refine fx_P (fun (k : Int32 → Int32 → Int32 → Int32 → Option (Int32)) => ∀ (x4_1 : Int32) (x5_2 : Int32) (x6_3 : Int32) (x7_4 : Int32), TM G r (k x4_1 x5_2 x6_3 x7_4) (wM ad dA h) 0 0 12 [(0, .ref (ad 300)), (1, .int x1), (2, .int x2), (3, .int x3), (4, .int x4_1), (5, .int x5_2), (6, .int x6_3), (7, .int x7_4)] []) (fun _ _ _ _ => tm_none) (fun k12 hk12 x4_1 x5_2 x6_3 x7_4 => ?_) FU (0 : Int32) (0 : Int32) (0 : Int32) (0 : Int32)
  refine tm_iload X 7 dX5_gapsMoved_12 rfl ?_
  refine tm_bipush X (8 : Int32) dX5_gapsMoved_14 (by decide) ?_
  refine tm_ic_ge X 87 dX5_gapsMoved_16 rfl ?_ ?_
  · skip
    refine tm_iload X 6 dX5_gapsMoved_87 rfl ?_
    refine tm_iload X 4 dX5_gapsMoved_89 rfl ?_
    refine tm_imul X dX5_gapsMoved_91 ?_
    refine tm_iload X 5 dX5_gapsMoved_92 rfl ?_
    refine tm_isub X dX5_gapsMoved_94 ?_
    exact tm_retI hRet dX5_gapsMoved_95
  · skip
    refine tm_iload X 7 dX5_gapsMoved_19 rfl ?_
    refine tm_iload_n X 3 dX5_gapsMoved_21 rfl rfl ?_
    refine tm_iadd X dX5_gapsMoved_22 ?_
    refine tm_iconst X (0 : Int32) dX5_gapsMoved_23 (by decide) ?_
    refine tm_bipush X (7 : Int32) dX5_gapsMoved_24 (by decide) ?_
    refine tm_cl1 (fun r5 e6 => ?_)
    refine tm_callSi (As := [.int (x7_4 + x3), .int (0 : Int32), .int (7 : Int32)]) (rest := []) X (ctX5_in l D dA (x7_4 + x3) (0 : Int32) (7 : Int32) r5 e6) (lw_S q1366 q1367 q122 q1368) cyX5_in rfl ⟨(Nat.le_of_ble_eq_true rfl), (Nat.le_of_ble_eq_true rfl)⟩ (Nat.le_of_ble_eq_true rfl) dX5_gapsMoved_26 ⟨Nat.le_of_ble_eq_true rfl, Nat.le_of_ble_eq_true rfl⟩ rfl ?_
    refine tm_let (fun k => ∀ (x4_7 : Int32) (x5_8 : Int32) (x6_9 : Int32), TM G r (k x4_7 x5_8 x6_9) (wM ad dA h) 0 0 81 [(0, .ref (ad 300)), (1, .int x1), (2, .int x2), (3, .int x3), (4, .int x4_7), (5, .int x5_8), (6, .int x6_9), (7, .int x7_4)] []) ?_ (fun k81 hk81 => ?_)
    · intro x4_7 x5_8 x6_9
      refine tm_iinc (v := (1 : Int32)) X 7 [(7, .int (x7_4 + (1 : Int32))), (0, .ref (ad 300)), (1, .int x1), (2, .int x2), (3, .int x3), (4, .int x4_7), (5, .int x5_8), (6, .int x6_9)] dX5_gapsMoved_81 rfl (by decide) (Nat.le_of_ble_eq_true rfl) rfl ?_
      refine tm_goto X 12 dX5_gapsMoved_84 rfl ?_
      refine tm_lv X [1, 2, 3, 4, 5, 6, 7, 0] rfl ?_
      exact hk12 x4_7 x5_8 x6_9 (x7_4 + (1 : Int32))
    · skip
      refine tm_if_eq X 81 dX5_gapsMoved_29 rfl ?_ ?_
      · skip
        exact hk81 x4_1 x5_2 x6_3
      · skip
        refine tm_aload_n X 0 dX5_gapsMoved_32 rfl rfl ?_
        refine tm_bipush X (8 : Int32) dX5_gapsMoved_33 (by decide) ?_
        refine tm_iload_n X 1 dX5_gapsMoved_35 rfl rfl ?_
        refine tm_imul X dX5_gapsMoved_36 ?_
        refine tm_iload X 7 dX5_gapsMoved_37 rfl ?_
        refine tm_iadd X dX5_gapsMoved_39 ?_
        refine tm_cl1 (fun r11 e10 => ?_)
        refine tm_callVi (As := [.int (((8 : Int32) * x1) + x7_4)]) (rest := []) (q0 := 0) X (ctX5_octet l D ad dA h (((8 : Int32) * x1) + x7_4) r11 e10) (lw_V q1607 q1609 qs87 q122 q1610) cyX5_octet rfl rfl rfl ⟨(Nat.le_of_ble_eq_true rfl), (Nat.le_of_ble_eq_true rfl)⟩ (Nat.le_of_ble_eq_true rfl) dX5_gapsMoved_40 ⟨Nat.le_of_ble_eq_true rfl, Nat.le_of_ble_eq_true rfl⟩ rfl ?_
        refine tm_aload_n X 0 dX5_gapsMoved_43 rfl rfl ?_
        refine tm_bipush X (8 : Int32) dX5_gapsMoved_44 (by decide) ?_
        refine tm_iload_n X 2 dX5_gapsMoved_46 rfl rfl ?_
        refine tm_imul X dX5_gapsMoved_47 ?_
        refine tm_iload X 7 dX5_gapsMoved_48 rfl ?_
        refine tm_iadd X dX5_gapsMoved_50 ?_
        refine tm_iload_n X 3 dX5_gapsMoved_51 rfl rfl ?_
        refine tm_iadd X dX5_gapsMoved_52 ?_
        refine tm_cl1 (fun r13 e12 => ?_)
        refine tm_callVi (As := [.int ((((8 : Int32) * x2) + x7_4) + x3)]) (rest := [.int r11]) (q0 := 0) X (ctX5_upperAt l D ad dA h ((((8 : Int32) * x2) + x7_4) + x3) r13 e12) (lw_V q1531 q1533 qs77 q122 q1534) cyX5_upperAt rfl rfl rfl ⟨(Nat.le_of_ble_eq_true rfl), (Nat.le_of_ble_eq_true rfl)⟩ (Nat.le_of_ble_eq_true rfl) dX5_gapsMoved_53 ⟨Nat.le_of_ble_eq_true rfl, Nat.le_of_ble_eq_true rfl⟩ rfl ?_
        refine tm_iadd X dX5_gapsMoved_56 ?_
        refine tm_nmI (fun v14 => ?_)
        refine tm_istore X [(8, .int v14), (0, .ref (ad 300)), (1, .int x1), (2, .int x2), (3, .int x3), (4, .int x4_1), (5, .int x5_2), (6, .int x6_3), (7, .int x7_4)] dX5_gapsMoved_57 (Nat.le_of_ble_eq_true rfl) rfl ?_
        refine tm_iload X 5 dX5_gapsMoved_59 rfl ?_
        refine tm_iload X 0 dX5_gapsMoved_61 rfl ?_
        refine tm_cl1 (fun r15 e16 => ?_)
        refine tm_callSi (As := [.int x4_1, .int v14]) (rest := []) X (ctX5_max l D dA x4_1 v14 r15 e16) (lw_S q1539 q1540 q122 q1541) cyX5_max rfl ⟨(Nat.le_of_ble_eq_true rfl), (Nat.le_of_ble_eq_true rfl)⟩ (Nat.le_of_ble_eq_true rfl) dX5_gapsMoved_63 ⟨Nat.le_of_ble_eq_true rfl, Nat.le_of_ble_eq_true rfl⟩ rfl ?_
        refine tm_istore X [(4, .int r15), (8, .int v14), (0, .ref (ad 300)), (1, .int x1), (2, .int x2), (3, .int x3), (5, .int x5_2), (6, .int x6_3), (7, .int x7_4)] dX5_gapsMoved_66 (Nat.le_of_ble_eq_true rfl) rfl ?_
        refine tm_iload X 6 dX5_gapsMoved_68 rfl ?_
        refine tm_iload X 1 dX5_gapsMoved_70 rfl ?_
        refine tm_iadd X dX5_gapsMoved_72 ?_
        refine tm_nmI (fun v17 => ?_)
        refine tm_istore X [(5, .int v17), (4, .int r15), (8, .int v14), (0, .ref (ad 300)), (1, .int x1), (2, .int x2), (3, .int x3), (6, .int x6_3), (7, .int x7_4)] dX5_gapsMoved_73 (Nat.le_of_ble_eq_true rfl) rfl ?_
        refine tm_iload X 7 dX5_gapsMoved_75 rfl ?_
        refine tm_iconst X (1 : Int32) dX5_gapsMoved_77 (by decide) ?_
        refine tm_iadd X dX5_gapsMoved_78 ?_
        refine tm_nmI (fun v18 => ?_)
        refine tm_istore X [(6, .int v18), (5, .int v17), (4, .int r15), (8, .int v14), (0, .ref (ad 300)), (1, .int x1), (2, .int x2), (3, .int x3), (7, .int x7_4)] dX5_gapsMoved_79 (Nat.le_of_ble_eq_true rfl) rfl ?_
        refine tm_lv X [4, 5, 6, 7, 2, 1, 0, 8] rfl ?_
        exact hk81 r15 v17 v18
def mX5_belongs (h : Hp) (x1 : Int32) (x2 : Int32) (x3 : Int32) : Option (Int32 × Hp) :=
cl1 (mX5_in x1 (1 : Int32) (16 : Int32)) (fun r1 =>
nm (
some ((-1 : Int32), h)) (fun k39 =>
if r1 = 0 then (
k39) else (
cl1 (mX5_in x2 (0 : Int32) (5 : Int32)) (fun r3 =>
if r3 = 0 then (
k39) else (
cl1 (mX5_in x3 (0 : Int32) (1 : Int32)) (fun r5 =>
if r5 = 0 then (
k39) else (
if ((8 : Int32) * x1) ≤ (h 300 6) then (
fx FU (fun _ _ => none) (fun k55 (x6_7 : Int32) (x7_8 : Int32) =>
if ((8 : Int32) * x1) ≤ x7_8 then (
fx FU (fun _ _ _ => none) (fun k96 (x4_9 : Int32) (x5_10 : Int32) (x7_11 : Int32) =>
nm (
nm (u2 h 300 6 (0 : Int32)) (fun h12 =>
nm (fun (s13 : Int32) =>
some (s13, h12)) (fun k186 =>
if x6_7 = 0 then (
k186 (-3 : Int32)) else (
if x3 = 0 then (
k186 x4_9) else (
k186 x5_10))))) (fun k160 =>
if x1 ≤ x7_11 then (
k160) else (
if x6_7 = 0 then (
k160) else (
fx FU (fun _ _ _ => none) (fun k111 (x4_14 : Int32) (x5_15 : Int32) (x8_16 : Int32) =>
if (2 : Int32) < x8_16 then (
k96 x4_14 x5_15 (x7_11 + (1 : Int32))) else (
cl1 (mX5_gapsMoved h x7_11 x2 x8_16) (fun r18 =>
nm (fun (x4_19 : Int32) =>
cl1 (mX5_min x5_15 r18) (fun r20 =>
k111 x4_19 r20 (x8_16 + (1 : Int32)))) (fun k139 =>
if x5_15 ≤ r18 then (
k139 x4_14) else (
k139 x7_11))))) x4_9 x5_10 (-2 : Int32))))) (0 : Int32) (1000000 : Int32) (0 : Int32)) else (
nm (fun (s22 : Int32) =>
k55 s22 (x7_8 + (1 : Int32))) (fun k85 =>
nm (
k85 (0 : Int32)) (fun k84 =>
if x6_7 = 0 then (
k84) else (
cl1 (mX5_octet h x7_8) (fun r24 =>
if (25 : Int32) < r24 then (
k84) else (
k85 (1 : Int32)))))))) (1 : Int32) (0 : Int32)) else (
k39))))))))
theorem cyX5_belongs : Callee yX5_belongs 3 := by unfold Callee; decide +kernel
set_option maxHeartbeats 4000000 in
theorem ctX5_belongs (l : Launch) (D : va_G) (ad : Nat → Nat) (dA : Nat → ClassId) (h : Hp) (x1 : Int32) (x2 : Int32) (x3 : Int32) (r : Int32) (h' : Hp) (hm : mX5_belongs h x1 x2 x3 = some (r, h')) : CT l yX5_belongs cX5_belongs 10 (some .int) D dA 2 50 0 0 (wM ad dA h) [.ref (ad 300), .int x1, .int x2, .int x3] (some (.int r)) (wM ad dA h') := by
  refine ct_open (by decide) (Nat.le_of_ble_eq_true rfl) ?_
  intro G X hI hZ hV hR
  have hRet := hI rfl r rfl
  refine (show TM G (r, h') (mX5_belongs h x1 x2 x3) (wM ad dA h) 0 0 0 [(0, .ref (ad 300)), (1, .int x1), (2, .int x2), (3, .int x3)] [] from ?_) hm
  clear hm hI hZ hV hR
  unfold mX5_belongs
  refine tm_iload_n X 1 dX5_belongs_0 rfl rfl ?_
  refine tm_iconst X (1 : Int32) dX5_belongs_1 (by decide) ?_
  refine tm_bipush X (16 : Int32) dX5_belongs_2 (by decide) ?_
  refine tm_cl1 (fun r1 e2 => ?_)
  refine tm_callSi (As := [.int x1, .int (1 : Int32), .int (16 : Int32)]) (rest := []) X (ctX5_in l D dA x1 (1 : Int32) (16 : Int32) r1 e2) (lw_S q1366 q1367 q122 q1368) cyX5_in rfl ⟨(Nat.le_of_ble_eq_true rfl), (Nat.le_of_ble_eq_true rfl)⟩ (Nat.le_of_ble_eq_true rfl) dX5_belongs_4 ⟨Nat.le_of_ble_eq_true rfl, Nat.le_of_ble_eq_true rfl⟩ rfl ?_
  refine tm_let (fun k => TM G (r, h') k (wM ad dA h) 0 0 39 [] []) ?_ (fun k39 hk39 => ?_)
  · skip
    refine tm_iconst X (-1 : Int32) dX5_belongs_39 (by decide) ?_
    exact tm_retIH (wf := wM ad dA) hRet dX5_belongs_40
  · skip
    refine tm_if_eq X 39 dX5_belongs_7 rfl ?_ ?_
    · skip
      refine tm_lv X [] rfl ?_
      exact hk39
    · skip
      refine tm_iload_n X 2 dX5_belongs_10 rfl rfl ?_
      refine tm_iconst X (0 : Int32) dX5_belongs_11 (by decide) ?_
      refine tm_iconst X (5 : Int32) dX5_belongs_12 (by decide) ?_
      refine tm_cl1 (fun r3 e4 => ?_)
      refine tm_callSi (As := [.int x2, .int (0 : Int32), .int (5 : Int32)]) (rest := []) X (ctX5_in l D dA x2 (0 : Int32) (5 : Int32) r3 e4) (lw_S q1366 q1367 q122 q1368) cyX5_in rfl ⟨(Nat.le_of_ble_eq_true rfl), (Nat.le_of_ble_eq_true rfl)⟩ (Nat.le_of_ble_eq_true rfl) dX5_belongs_13 ⟨Nat.le_of_ble_eq_true rfl, Nat.le_of_ble_eq_true rfl⟩ rfl ?_
      refine tm_if_eq X 39 dX5_belongs_16 rfl ?_ ?_
      · skip
        refine tm_lv X [] rfl ?_
        exact hk39
      · skip
        refine tm_iload_n X 3 dX5_belongs_19 rfl rfl ?_
        refine tm_iconst X (0 : Int32) dX5_belongs_20 (by decide) ?_
        refine tm_iconst X (1 : Int32) dX5_belongs_21 (by decide) ?_
        refine tm_cl1 (fun r5 e6 => ?_)
        refine tm_callSi (As := [.int x3, .int (0 : Int32), .int (1 : Int32)]) (rest := []) X (ctX5_in l D dA x3 (0 : Int32) (1 : Int32) r5 e6) (lw_S q1366 q1367 q122 q1368) cyX5_in rfl ⟨(Nat.le_of_ble_eq_true rfl), (Nat.le_of_ble_eq_true rfl)⟩ (Nat.le_of_ble_eq_true rfl) dX5_belongs_22 ⟨Nat.le_of_ble_eq_true rfl, Nat.le_of_ble_eq_true rfl⟩ rfl ?_
        refine tm_if_eq X 39 dX5_belongs_25 rfl ?_ ?_
        · skip
          refine tm_lv X [] rfl ?_
          exact hk39
        · skip
          refine tm_bipush X (8 : Int32) dX5_belongs_28 (by decide) ?_
          refine tm_iload_n X 1 dX5_belongs_30 rfl rfl ?_
          refine tm_imul X dX5_belongs_31 ?_
          refine tm_aload_n X 0 dX5_belongs_32 rfl rfl ?_
          refine tm_getI X (fiM_300_6 ad dA) in_X5 rfl (Nat.le_of_ble_eq_true rfl) q1193 rfl dX5_belongs_33 ?_
          refine tm_ic_le X 41 dX5_belongs_36 rfl ?_ ?_
          · skip
            refine tm_iconst X (0 : Int32) dX5_belongs_41 (by decide) ?_
            refine tm_istore X [(4, .int (0 : Int32)), (0, .ref (ad 300)), (1, .int x1), (2, .int x2), (3, .int x3)] dX5_belongs_42 (Nat.le_of_ble_eq_true rfl) rfl ?_
            refine tm_ldcw X (1000000 : Int32) q1557 dX5_belongs_44 ?_
            refine tm_istore X [(5, .int (1000000 : Int32)), (4, .int (0 : Int32)), (0, .ref (ad 300)), (1, .int x1), (2, .int x2), (3, .int x3)] dX5_belongs_47 (Nat.le_of_ble_eq_true rfl) rfl ?_
            refine tm_iconst X (1 : Int32) dX5_belongs_49 (by decide) ?_
            refine tm_istore X [(6, .int (1 : Int32)), (5, .int (1000000 : Int32)), (4, .int (0 : Int32)), (0, .ref (ad 300)), (1, .int x1), (2, .int x2), (3, .int x3)] dX5_belongs_50 (Nat.le_of_ble_eq_true rfl) rfl ?_
            refine tm_iconst X (0 : Int32) dX5_belongs_52 (by decide) ?_
            refine tm_istore X [(7, .int (0 : Int32)), (6, .int (1 : Int32)), (5, .int (1000000 : Int32)), (4, .int (0 : Int32)), (0, .ref (ad 300)), (1, .int x1), (2, .int x2), (3, .int x3)] dX5_belongs_53 (Nat.le_of_ble_eq_true rfl) rfl ?_
            refine tm_lv X [4, 5, 6, 7, 3, 2, 1, 0] rfl ?_
            refine fx_P (fun (k : Int32 → Int32 → Option (Int32 × Hp)) => ∀ (x6_7 : Int32) (x7_8 : Int32), TM G (r, h') (k x6_7 x7_8) (wM ad dA h) 0 0 55 [(0, .ref (ad 300)), (1, .int x1), (2, .int x2), (3, .int x3), (4, .int (0 : Int32)), (5, .int (1000000 : Int32)), (6, .int x6_7), (7, .int x7_8)] []) (fun _ _ => tm_none) (fun k55 hk55 x6_7 x7_8 => ?_) FU (1 : Int32) (0 : Int32)
            refine tm_iload X 7 dX5_belongs_55 rfl ?_
            refine tm_bipush X (8 : Int32) dX5_belongs_57 (by decide) ?_
            refine tm_iload_n X 1 dX5_belongs_59 rfl rfl ?_
            refine tm_imul X dX5_belongs_60 ?_
            refine tm_ic_ge X 93 dX5_belongs_61 rfl ?_ ?_
            · skip
              refine tm_iconst X (0 : Int32) dX5_belongs_93 (by decide) ?_
              refine tm_istore X [(7, .int (0 : Int32)), (0, .ref (ad 300)), (1, .int x1), (2, .int x2), (3, .int x3), (4, .int (0 : Int32)), (5, .int (1000000 : Int32)), (6, .int x6_7)] dX5_belongs_94 (Nat.le_of_ble_eq_true rfl) rfl ?_
              refine tm_lv X [1, 2, 3, 4, 5, 6, 7, 0] rfl ?_
              refine fx_P (fun (k : Int32 → Int32 → Int32 → Option (Int32 × Hp)) => ∀ (x4_9 : Int32) (x5_10 : Int32) (x7_11 : Int32), TM G (r, h') (k x4_9 x5_10 x7_11) (wM ad dA h) 0 0 96 [(0, .ref (ad 300)), (1, .int x1), (2, .int x2), (3, .int x3), (4, .int x4_9), (5, .int x5_10), (6, .int x6_7), (7, .int x7_11)] []) (fun _ _ _ => tm_none) (fun k96 hk96 x4_9 x5_10 x7_11 => ?_) FU (0 : Int32) (1000000 : Int32) (0 : Int32)
              refine tm_iload X 7 dX5_belongs_96 rfl ?_
              refine tm_iload_n X 1 dX5_belongs_98 rfl rfl ?_
              refine tm_let (fun k => TM G (r, h') k (wM ad dA h) 0 0 160 [(0, .ref (ad 300)), (3, .int x3), (4, .int x4_9), (5, .int x5_10), (6, .int x6_7)] []) ?_ (fun k160 hk160 => ?_)
              · skip
                refine tm_aload_n X 0 dX5_belongs_160 rfl rfl ?_
                refine tm_iconst X (0 : Int32) dX5_belongs_161 (by decide) ?_
                refine tm_putI X (fiM_300_6 ad dA) in_X5 rfl (Nat.le_of_ble_eq_true rfl) tyX5 tyX5_ok nmX5 rfl rfl q1193 rfl dX5_belongs_162 (fun h12 => ?_)
                refine tm_iload X 4 dX5_belongs_165 rfl ?_
                refine tm_let (fun k => ∀ (s13 : Int32), TM G (r, h') (k s13) (wM ad dA h12) 0 0 186 [] [.int s13]) ?_ (fun k186 hk186 => ?_)
                · intro s13
                  exact tm_retIH (wf := wM ad dA) hRet dX5_belongs_186
                · skip
                  refine tm_if_ne X 175 dX5_belongs_167 rfl ?_ ?_
                  · skip
                    refine tm_iload_n X 1 dX5_belongs_175 rfl rfl ?_
                    refine tm_if_ne X 184 dX5_belongs_176 rfl ?_ ?_
                    · skip
                      refine tm_iload X 3 dX5_belongs_184 rfl ?_
                      refine tm_lv X [] rfl ?_
                      exact hk186 x5_10
                    · skip
                      refine tm_iload X 2 dX5_belongs_179 rfl ?_
                      refine tm_goto X 186 dX5_belongs_181 rfl ?_
                      refine tm_lv X [] rfl ?_
                      exact hk186 x4_9
                  · skip
                    refine tm_bipush X (-3 : Int32) dX5_belongs_170 (by decide) ?_
                    refine tm_goto X 186 dX5_belongs_172 rfl ?_
                    refine tm_lv X [] rfl ?_
                    exact hk186 (-3 : Int32)
              · skip
                refine tm_ic_ge X 160 dX5_belongs_99 rfl ?_ ?_
                · skip
                  refine tm_lv X [0, 3, 4, 5, 6] rfl ?_
                  exact hk160
                · skip
                  refine tm_iload X 6 dX5_belongs_102 rfl ?_
                  refine tm_if_eq X 160 dX5_belongs_104 rfl ?_ ?_
                  · skip
                    refine tm_lv X [0, 3, 4, 5, 6] rfl ?_
                    exact hk160
                  · skip
                    refine tm_bipush X (-2 : Int32) dX5_belongs_107 (by decide) ?_
                    refine tm_istore X [(8, .int (-2 : Int32)), (0, .ref (ad 300)), (1, .int x1), (2, .int x2), (3, .int x3), (4, .int x4_9), (5, .int x5_10), (6, .int x6_7), (7, .int x7_11)] dX5_belongs_109 (Nat.le_of_ble_eq_true rfl) rfl ?_
                    refine tm_lv X [1, 2, 3, 4, 5, 6, 7, 8, 0] rfl ?_
                    refine fx_P (fun (k : Int32 → Int32 → Int32 → Option (Int32 × Hp)) => ∀ (x4_14 : Int32) (x5_15 : Int32) (x8_16 : Int32), TM G (r, h') (k x4_14 x5_15 x8_16) (wM ad dA h) 0 0 111 [(0, .ref (ad 300)), (1, .int x1), (2, .int x2), (3, .int x3), (4, .int x4_14), (5, .int x5_15), (6, .int x6_7), (7, .int x7_11), (8, .int x8_16)] []) (fun _ _ _ => tm_none) (fun k111 hk111 x4_14 x5_15 x8_16 => ?_) FU x4_9 x5_10 (-2 : Int32)
                    refine tm_iload X 8 dX5_belongs_111 rfl ?_
                    refine tm_iconst X (2 : Int32) dX5_belongs_113 (by decide) ?_
                    refine tm_ic_gt X 154 dX5_belongs_114 rfl ?_ ?_
                    · skip
                      refine tm_iinc (v := (1 : Int32)) X 7 [(7, .int (x7_11 + (1 : Int32))), (0, .ref (ad 300)), (1, .int x1), (2, .int x2), (3, .int x3), (4, .int x4_14), (5, .int x5_15), (6, .int x6_7), (8, .int x8_16)] dX5_belongs_154 rfl (by decide) (Nat.le_of_ble_eq_true rfl) rfl ?_
                      refine tm_goto X 96 dX5_belongs_157 rfl ?_
                      refine tm_lv X [1, 2, 3, 4, 5, 6, 7, 0] rfl ?_
                      exact hk96 x4_14 x5_15 (x7_11 + (1 : Int32))
                    · skip
                      refine tm_aload_n X 0 dX5_belongs_117 rfl rfl ?_
                      refine tm_iload X 7 dX5_belongs_118 rfl ?_
                      refine tm_iload_n X 2 dX5_belongs_120 rfl rfl ?_
                      refine tm_iload X 8 dX5_belongs_121 rfl ?_
                      refine tm_cl1 (fun r18 e17 => ?_)
                      refine tm_callVi (As := [.int x7_11, .int x2, .int x8_16]) (rest := []) (q0 := 0) X (ctX5_gapsMoved l D ad dA h x7_11 x2 x8_16 r18 e17) (lw_V q1761 q1763 qs103 q122 q1764) cyX5_gapsMoved rfl rfl rfl ⟨(Nat.le_of_ble_eq_true rfl), (Nat.le_of_ble_eq_true rfl)⟩ (Nat.le_of_ble_eq_true rfl) dX5_belongs_123 ⟨Nat.le_of_ble_eq_true rfl, Nat.le_of_ble_eq_true rfl⟩ rfl ?_
                      refine tm_istore X [(9, .int r18), (0, .ref (ad 300)), (1, .int x1), (2, .int x2), (3, .int x3), (4, .int x4_14), (5, .int x5_15), (6, .int x6_7), (7, .int x7_11), (8, .int x8_16)] dX5_belongs_126 (Nat.le_of_ble_eq_true rfl) rfl ?_
                      refine tm_iload X 0 dX5_belongs_128 rfl ?_
                      refine tm_iload X 6 dX5_belongs_130 rfl ?_
                      refine tm_let (fun k => ∀ (x4_19 : Int32), TM G (r, h') (k x4_19) (wM ad dA h) 0 0 139 [(0, .ref (ad 300)), (1, .int x1), (2, .int x2), (3, .int x3), (4, .int x4_19), (5, .int x5_15), (6, .int x6_7), (7, .int x7_11), (8, .int x8_16), (9, .int r18)] []) ?_ (fun k139 hk139 => ?_)
                      · intro x4_19
                        refine tm_iload X 5 dX5_belongs_139 rfl ?_
                        refine tm_iload X 9 dX5_belongs_141 rfl ?_
                        refine tm_cl1 (fun r20 e21 => ?_)
                        refine tm_callSi (As := [.int x5_15, .int r18]) (rest := []) X (ctX5_min l D dA x5_15 r18 r20 e21) (lw_S q1558 q1559 q122 q1560) cyX5_min rfl ⟨(Nat.le_of_ble_eq_true rfl), (Nat.le_of_ble_eq_true rfl)⟩ (Nat.le_of_ble_eq_true rfl) dX5_belongs_143 ⟨Nat.le_of_ble_eq_true rfl, Nat.le_of_ble_eq_true rfl⟩ rfl ?_
                        refine tm_istore X [(5, .int r20), (0, .ref (ad 300)), (1, .int x1), (2, .int x2), (3, .int x3), (4, .int x4_19), (6, .int x6_7), (7, .int x7_11), (8, .int x8_16), (9, .int r18)] dX5_belongs_146 (Nat.le_of_ble_eq_true rfl) rfl ?_
                        refine tm_iinc (v := (1 : Int32)) X 8 [(8, .int (x8_16 + (1 : Int32))), (5, .int r20), (0, .ref (ad 300)), (1, .int x1), (2, .int x2), (3, .int x3), (4, .int x4_19), (6, .int x6_7), (7, .int x7_11), (9, .int r18)] dX5_belongs_148 rfl (by decide) (Nat.le_of_ble_eq_true rfl) rfl ?_
                        refine tm_goto X 111 dX5_belongs_151 rfl ?_
                        refine tm_lv X [2, 3, 4, 5, 6, 1, 7, 8, 0] rfl ?_
                        exact hk111 x4_19 r20 (x8_16 + (1 : Int32))
                      · skip
                        refine tm_ic_ge X 139 dX5_belongs_132 rfl ?_ ?_
                        · skip
                          refine tm_lv X [1, 2, 3, 4, 5, 6, 7, 8, 9, 0] rfl ?_
                          exact hk139 x4_14
                        · skip
                          refine tm_iload X 8 dX5_belongs_135 rfl ?_
                          refine tm_istore X [(4, .int x7_11), (9, .int r18), (0, .ref (ad 300)), (1, .int x1), (2, .int x2), (3, .int x3), (5, .int x5_15), (6, .int x6_7), (7, .int x7_11), (8, .int x8_16)] dX5_belongs_137 (Nat.le_of_ble_eq_true rfl) rfl ?_
                          refine tm_lv X [2, 3, 4, 5, 0, 6, 7, 8, 9, 1] rfl ?_
                          exact hk139 x7_11
            · skip
              refine tm_iload X 6 dX5_belongs_64 rfl ?_
              refine tm_let (fun k => ∀ (s22 : Int32), TM G (r, h') (k s22) (wM ad dA h) 0 0 85 [(0, .ref (ad 300)), (1, .int x1), (2, .int x2), (3, .int x3), (4, .int (0 : Int32)), (5, .int (1000000 : Int32)), (7, .int x7_8)] [.int s22]) ?_ (fun k85 hk85 => ?_)
              · intro s22
                refine tm_istore X [(6, .int s22), (0, .ref (ad 300)), (1, .int x1), (2, .int x2), (3, .int x3), (4, .int (0 : Int32)), (5, .int (1000000 : Int32)), (7, .int x7_8)] dX5_belongs_85 (Nat.le_of_ble_eq_true rfl) rfl ?_
                refine tm_iinc (v := (1 : Int32)) X 7 [(7, .int (x7_8 + (1 : Int32))), (6, .int s22), (0, .ref (ad 300)), (1, .int x1), (2, .int x2), (3, .int x3), (4, .int (0 : Int32)), (5, .int (1000000 : Int32))] dX5_belongs_87 rfl (by decide) (Nat.le_of_ble_eq_true rfl) rfl ?_
                refine tm_goto X 55 dX5_belongs_90 rfl ?_
                refine tm_lv X [2, 3, 4, 5, 6, 7, 1, 0] rfl ?_
                exact hk55 s22 (x7_8 + (1 : Int32))
              · skip
                refine tm_let (fun k => TM G (r, h') k (wM ad dA h) 0 0 84 [(0, .ref (ad 300)), (1, .int x1), (2, .int x2), (3, .int x3), (4, .int (0 : Int32)), (5, .int (1000000 : Int32)), (7, .int x7_8)] []) ?_ (fun k84 hk84 => ?_)
                · skip
                  refine tm_iconst X (0 : Int32) dX5_belongs_84 (by decide) ?_
                  exact hk85 (0 : Int32)
                · skip
                  refine tm_if_eq X 84 dX5_belongs_66 rfl ?_ ?_
                  · skip
                    refine tm_lv X [0, 1, 2, 3, 4, 5, 7] rfl ?_
                    exact hk84
                  · skip
                    refine tm_aload_n X 0 dX5_belongs_69 rfl rfl ?_
                    refine tm_iload X 7 dX5_belongs_70 rfl ?_
                    refine tm_cl1 (fun r24 e23 => ?_)
                    refine tm_callVi (As := [.int x7_8]) (rest := []) (q0 := 0) X (ctX5_octet l D ad dA h x7_8 r24 e23) (lw_V q1607 q1609 qs87 q122 q1610) cyX5_octet rfl rfl rfl ⟨(Nat.le_of_ble_eq_true rfl), (Nat.le_of_ble_eq_true rfl)⟩ (Nat.le_of_ble_eq_true rfl) dX5_belongs_72 ⟨Nat.le_of_ble_eq_true rfl, Nat.le_of_ble_eq_true rfl⟩ rfl ?_
                    refine tm_bipush X (25 : Int32) dX5_belongs_75 (by decide) ?_
                    refine tm_ic_gt X 84 dX5_belongs_77 rfl ?_ ?_
                    · skip
                      refine tm_lv X [0, 1, 2, 3, 4, 5, 7] rfl ?_
                      exact hk84
                    · skip
                      refine tm_iconst X (1 : Int32) dX5_belongs_80 (by decide) ?_
                      refine tm_goto X 85 dX5_belongs_81 rfl ?_
                      refine tm_lv X [0, 1, 2, 3, 4, 5, 7] rfl ?_
                      exact hk85 (1 : Int32)
          · skip
            refine tm_lv X [] rfl ?_
            exact hk39
def mX5_glides (h : Hp) (x1 : Int32) : Option (Hp) :=
nm (fun (h1 : Hp) =>
nm (fun (s2 : Int32) =>
nm (((h1 300 52) + s2)) (fun v3 =>
nm (fun (s4 : Int32) =>
nm (((h1 300 53) + s4)) (fun v5 =>
cl1 (mX5_isGlide v3 v5) (fun r6 =>
nm (fun (h8 : Hp) =>
some h8) (fun k88 =>
if r6 = 0 then (
k88 h1) else (
nm (u2 h1 300 52 v3) (fun h9 =>
nm (u2 h9 300 53 v5) (fun h10 =>
k88 h10))))))) (fun k68 =>
if x1 = (102 : Int32) then (
k68 (-1 : Int32)) else (
if x1 = (98 : Int32) then (
k68 (1 : Int32)) else (
k68 (0 : Int32)))))) (fun k41 =>
if x1 = (108 : Int32) then (
k41 (-1 : Int32)) else (
if x1 = (114 : Int32) then (
k41 (1 : Int32)) else (
k41 (0 : Int32))))) (fun k16 =>
if x1 = (46 : Int32) then (
nm (u2 h 300 52 (0 : Int32)) (fun h11 =>
nm (u2 h11 300 53 (0 : Int32)) (fun h12 =>
k16 h12))) else (
k16 h))
theorem cyX5_glides : Callee yX5_glides 1 := by unfold Callee; decide +kernel
set_option maxHeartbeats 4000000 in
theorem ctX5_glides (l : Launch) (D : va_G) (ad : Nat → Nat) (dA : Nat → ClassId) (h : Hp) (x1 : Int32) (h' : Hp) (hm : mX5_glides h x1 = some h') : CT l yX5_glides cX5_glides 4 none D dA 2 43 0 0 (wM ad dA h) [.ref (ad 300), .int x1] none (wM ad dA h') := by
  refine ct_open (by decide) (Nat.le_of_ble_eq_true rfl) ?_
  intro G X hI hZ hV hR
  have hRet := hV rfl rfl
  refine (show TM G h' (mX5_glides h x1) (wM ad dA h) 0 0 0 [(0, .ref (ad 300)), (1, .int x1)] [] from ?_) hm
  clear hm hI hZ hV hR
  unfold mX5_glides
  refine tm_iload_n X 1 dX5_glides_0 rfl rfl ?_
  refine tm_bipush X (46 : Int32) dX5_glides_1 (by decide) ?_
  refine tm_let (fun k => ∀ (h1 : Hp), TM G h' (k h1) (wM ad dA h1) 0 0 16 [(0, .ref (ad 300)), (1, .int x1)] []) ?_ (fun k16 hk16 => ?_)
  · intro h1
    refine tm_aload_n X 0 dX5_glides_16 rfl rfl ?_
    refine tm_getI X (fiM_300_52 ad dA) in_X5 rfl (Nat.le_of_ble_eq_true rfl) q1239 rfl dX5_glides_17 ?_
    refine tm_iload_n X 1 dX5_glides_20 rfl rfl ?_
    refine tm_bipush X (108 : Int32) dX5_glides_21 (by decide) ?_
    refine tm_let (fun k => ∀ (s2 : Int32), TM G h' (k s2) (wM ad dA h1) 0 0 41 [(0, .ref (ad 300)), (1, .int x1)] [.int s2, .int (h1 300 52)]) ?_ (fun k41 hk41 => ?_)
    · intro s2
      refine tm_iadd X dX5_glides_41 ?_
      refine tm_nmI (fun v3 => ?_)
      refine tm_istore_n X [(2, .int v3), (0, .ref (ad 300)), (1, .int x1)] dX5_glides_42 rfl (Nat.le_of_ble_eq_true rfl) rfl ?_
      refine tm_aload_n X 1 dX5_glides_43 rfl rfl ?_
      refine tm_getI X (fiM_300_53 ad dA) in_X5 rfl (Nat.le_of_ble_eq_true rfl) q1240 rfl dX5_glides_44 ?_
      refine tm_iload_n X 2 dX5_glides_47 rfl rfl ?_
      refine tm_bipush X (102 : Int32) dX5_glides_48 (by decide) ?_
      refine tm_let (fun k => ∀ (s4 : Int32), TM G h' (k s4) (wM ad dA h1) 0 0 68 [(0, .ref (ad 300)), (2, .int v3)] [.int s4, .int (h1 300 53)]) ?_ (fun k68 hk68 => ?_)
      · intro s4
        refine tm_iadd X dX5_glides_68 ?_
        refine tm_nmI (fun v5 => ?_)
        refine tm_istore_n X [(3, .int v5), (0, .ref (ad 300)), (2, .int v3)] dX5_glides_69 rfl (Nat.le_of_ble_eq_true rfl) rfl ?_
        refine tm_iload_n X 2 dX5_glides_70 rfl rfl ?_
        refine tm_iload_n X 0 dX5_glides_71 rfl rfl ?_
        refine tm_cl1 (fun r6 e7 => ?_)
        refine tm_callSi (As := [.int v3, .int v5]) (rest := []) X (ctX5_isGlide l D dA v3 v5 r6 e7) (lw_S q1514 q1515 q122 q1516) cyX5_isGlide rfl ⟨(Nat.le_of_ble_eq_true rfl), (Nat.le_of_ble_eq_true rfl)⟩ (Nat.le_of_ble_eq_true rfl) dX5_glides_72 ⟨Nat.le_of_ble_eq_true rfl, Nat.le_of_ble_eq_true rfl⟩ rfl ?_
        refine tm_let (fun k => ∀ (h8 : Hp), TM G h' (k h8) (wM ad dA h8) 0 0 88 [] []) ?_ (fun k88 hk88 => ?_)
        · intro h8
          exact tm_retV (wf := wM ad dA) hRet dX5_glides_88
        · skip
          refine tm_if_eq X 88 dX5_glides_75 rfl ?_ ?_
          · skip
            refine tm_lv X [] rfl ?_
            exact hk88 h1
          · skip
            refine tm_aload_n X 1 dX5_glides_78 rfl rfl ?_
            refine tm_iload_n X 2 dX5_glides_79 rfl rfl ?_
            refine tm_putI X (fiM_300_52 ad dA) in_X5 rfl (Nat.le_of_ble_eq_true rfl) tyX5 tyX5_ok nmX5 rfl rfl q1239 rfl dX5_glides_80 (fun h9 => ?_)
            refine tm_aload_n X 1 dX5_glides_83 rfl rfl ?_
            refine tm_iload_n X 0 dX5_glides_84 rfl rfl ?_
            refine tm_putI X (fiM_300_53 ad dA) in_X5 rfl (Nat.le_of_ble_eq_true rfl) tyX5 tyX5_ok nmX5 rfl rfl q1240 rfl dX5_glides_85 (fun h10 => ?_)
            refine tm_lv X [] rfl ?_
            exact hk88 h10
      · skip
        refine tm_ic_ne X 57 dX5_glides_50 rfl ?_ ?_
        · skip
          refine tm_iload_n X 2 dX5_glides_57 rfl rfl ?_
          refine tm_bipush X (98 : Int32) dX5_glides_58 (by decide) ?_
          refine tm_ic_ne X 67 dX5_glides_60 rfl ?_ ?_
          · skip
            refine tm_iconst X (0 : Int32) dX5_glides_67 (by decide) ?_
            refine tm_lv X [1, 0] rfl ?_
            exact hk68 (0 : Int32)
          · skip
            refine tm_iconst X (1 : Int32) dX5_glides_63 (by decide) ?_
            refine tm_goto X 68 dX5_glides_64 rfl ?_
            refine tm_lv X [1, 0] rfl ?_
            exact hk68 (1 : Int32)
        · skip
          refine tm_iconst X (-1 : Int32) dX5_glides_53 (by decide) ?_
          refine tm_goto X 68 dX5_glides_54 rfl ?_
          refine tm_lv X [1, 0] rfl ?_
          exact hk68 (-1 : Int32)
    · skip
      refine tm_ic_ne X 30 dX5_glides_23 rfl ?_ ?_
      · skip
        refine tm_iload_n X 1 dX5_glides_30 rfl rfl ?_
        refine tm_bipush X (114 : Int32) dX5_glides_31 (by decide) ?_
        refine tm_ic_ne X 40 dX5_glides_33 rfl ?_ ?_
        · skip
          refine tm_iconst X (0 : Int32) dX5_glides_40 (by decide) ?_
          exact hk41 (0 : Int32)
        · skip
          refine tm_iconst X (1 : Int32) dX5_glides_36 (by decide) ?_
          refine tm_goto X 41 dX5_glides_37 rfl ?_
          exact hk41 (1 : Int32)
      · skip
        refine tm_iconst X (-1 : Int32) dX5_glides_26 (by decide) ?_
        refine tm_goto X 41 dX5_glides_27 rfl ?_
        exact hk41 (-1 : Int32)
  · skip
    refine tm_ic_ne X 16 dX5_glides_3 rfl ?_ ?_
    · skip
      exact hk16 h
    · skip
      refine tm_aload_n X 0 dX5_glides_6 rfl rfl ?_
      refine tm_iconst X (0 : Int32) dX5_glides_7 (by decide) ?_
      refine tm_putI X (fiM_300_52 ad dA) in_X5 rfl (Nat.le_of_ble_eq_true rfl) tyX5 tyX5_ok nmX5 rfl rfl q1239 rfl dX5_glides_8 (fun h11 => ?_)
      refine tm_aload_n X 0 dX5_glides_11 rfl rfl ?_
      refine tm_iconst X (0 : Int32) dX5_glides_12 (by decide) ?_
      refine tm_putI X (fiM_300_53 ad dA) in_X5 rfl (Nat.le_of_ble_eq_true rfl) tyX5 tyX5_ok nmX5 rfl rfl q1240 rfl dX5_glides_13 (fun h12 => ?_)
      exact hk16 h12
def mX5_along (h : Hp) (x1 : Int32) (x2 : Int32) : Option (Int32 × Hp) :=
cl1 (mX5_isSum x1) (fun r1 =>
nm (
some ((-1 : Int32), h)) (fun k16 =>
if r1 = 0 then (
k16) else (
cl1 (mX5_in x2 (0 : Int32) (4 : Int32)) (fun r3 =>
if r3 = 0 then (
k16) else (
cl1 (mX5_laysOpenings h) (fun h6 =>
fx FU (fun _ _ => none) (fun k24 (x3_7 : Int32) (h8 : Hp) =>
if (63 : Int32) ≤ x3_7 then (
nm (u2 h8 300 52 (0 : Int32)) (fun h9 =>
nm (u2 h9 300 53 (0 : Int32)) (fun h10 =>
cl1 (mX5_glideOf (0 : Int32) (0 : Int32)) (fun r11 =>
ck r11 63 (nm (u2 h10 254 r11.toNatClampNeg (vp_nar .boolean (1 : Int32))) (fun h13 =>
ck r11 63 (
nm ((h13 243 r11.toNatClampNeg)) (fun v14 =>
ck r11 63 (
nm ((h13 243 r11.toNatClampNeg)) (fun v15 =>
fx FU (fun _ _ _ _ _ _ _ => none) (fun k91 (x3_16 : Int32) (x4_17 : Int32) (x5_18 : Int32) (x6_19 : Int32) (x7_20 : Int32) (x8_21 : Int32) (h22 : Hp) =>
if (h22 300 39) ≤ x8_21 then (
nm (fun (s23 : Int32) =>
some (s23, h22)) (fun k252 =>
if x2 = 0 then (
k252 (h22 300 39)) else (
if x2 = (1 : Int32) then (
k252 x4_17) else (
if x2 = (2 : Int32) then (
k252 x5_18) else (
if x2 = (3 : Int32) then (
k252 x6_19) else (
k252 x7_20)))))) else (
ck x8_21 48 (
cl1 (mX5_glides h22 (h22 234 x8_21.toNatClampNeg)) (fun h25 =>
cl1 (mX5_glideOf (h25 300 52) (h25 300 53)) (fun r26 =>
ck r26 63 (
ck x3_16 63 (
nm (fun (x6_28 : Int32) =>
ck r26 63 (
nm (fun (x7_29 : Int32) =>
ck r26 63 (nm (u2 h25 254 r26.toNatClampNeg (vp_nar .boolean (1 : Int32))) (fun h30 =>
ck r26 63 (
cl1 (mX5_max x4_17 (h30 243 r26.toNatClampNeg)) (fun r31 =>
ck r26 63 (
cl1 (mX5_min x5_18 (h30 243 r26.toNatClampNeg)) (fun r33 =>
k91 r26 r31 r33 x6_28 x7_29 (x8_21 + (1 : Int32)) h30))))))) (fun k164 =>
if (h25 254 r26.toNatClampNeg) = 0 then (
nm ((x7_20 + (1 : Int32))) (fun v35 =>
k164 v35)) else (
k164 x7_20)))) (fun k148 =>
if ((h25 243 r26.toNatClampNeg) - (h25 243 x3_16.toNatClampNeg)) ≤ x1 then (
k148 x6_19) else (
nm ((x6_19 + (1 : Int32))) (fun v36 =>
k148 v36)))))))))) r11 v14 v15 (0 : Int32) (1 : Int32) (0 : Int32) h13)))))))))) else (
ck x3_7 63 (nm (u2 h8 254 x3_7.toNatClampNeg (vp_nar .boolean (0 : Int32))) (fun h37 =>
k24 (x3_7 + (1 : Int32)) h37)))) (0 : Int32) h6))))))
theorem cyX5_along : Callee yX5_along 2 := by unfold Callee; decide +kernel
set_option maxHeartbeats 4000000 in
theorem ctX5_along (l : Launch) (D : va_G) (ad : Nat → Nat) (dA : Nat → ClassId) (h : Hp) (x1 : Int32) (x2 : Int32) (r : Int32) (h' : Hp) (hm : mX5_along h x1 x2 = some (r, h')) : CT l yX5_along cX5_along 10 (some .int) D dA 6 136 0 0 (wM ad dA h) [.ref (ad 300), .int x1, .int x2] (some (.int r)) (wM ad dA h') := by
  refine ct_open (by decide) (Nat.le_of_ble_eq_true rfl) ?_
  intro G X hI hZ hV hR
  have hRet := hI rfl r rfl
  refine (show TM G (r, h') (mX5_along h x1 x2) (wM ad dA h) 0 0 0 [(0, .ref (ad 300)), (1, .int x1), (2, .int x2)] [] from ?_) hm
  clear hm hI hZ hV hR
  unfold mX5_along
  refine tm_iload_n X 1 dX5_along_0 rfl rfl ?_
  refine tm_cl1 (fun r1 e2 => ?_)
  refine tm_callSi (As := [.int x1]) (rest := []) X (ctX5_isSum l D dA x1 r1 e2) (lw_S q1517 q1518 q122 q1519) cyX5_isSum rfl ⟨(Nat.le_of_ble_eq_true rfl), (Nat.le_of_ble_eq_true rfl)⟩ (Nat.le_of_ble_eq_true rfl) dX5_along_1 ⟨Nat.le_of_ble_eq_true rfl, Nat.le_of_ble_eq_true rfl⟩ rfl ?_
  refine tm_let (fun k => TM G (r, h') k (wM ad dA h) 0 0 16 [] []) ?_ (fun k16 hk16 => ?_)
  · skip
    refine tm_iconst X (-1 : Int32) dX5_along_16 (by decide) ?_
    exact tm_retIH (wf := wM ad dA) hRet dX5_along_17
  · skip
    refine tm_if_eq X 16 dX5_along_4 rfl ?_ ?_
    · skip
      refine tm_lv X [] rfl ?_
      exact hk16
    · skip
      refine tm_iload_n X 2 dX5_along_7 rfl rfl ?_
      refine tm_iconst X (0 : Int32) dX5_along_8 (by decide) ?_
      refine tm_iconst X (4 : Int32) dX5_along_9 (by decide) ?_
      refine tm_cl1 (fun r3 e4 => ?_)
      refine tm_callSi (As := [.int x2, .int (0 : Int32), .int (4 : Int32)]) (rest := []) X (ctX5_in l D dA x2 (0 : Int32) (4 : Int32) r3 e4) (lw_S q1366 q1367 q122 q1368) cyX5_in rfl ⟨(Nat.le_of_ble_eq_true rfl), (Nat.le_of_ble_eq_true rfl)⟩ (Nat.le_of_ble_eq_true rfl) dX5_along_10 ⟨Nat.le_of_ble_eq_true rfl, Nat.le_of_ble_eq_true rfl⟩ rfl ?_
      refine tm_if_ne X 18 dX5_along_13 rfl ?_ ?_
      · skip
        refine tm_aload_n X 0 dX5_along_18 rfl rfl ?_
        refine tm_cl1 (fun h6 e5 => ?_)
        refine tm_callVv (As := []) (rest := []) (q0 := 0) X (ctX5_laysOpenings l D ad dA h h6 e5) (lw_V q1585 q1587 qs85 q122 q1588) cyX5_laysOpenings rfl rfl rfl ⟨(Nat.le_of_ble_eq_true rfl), (Nat.le_of_ble_eq_true rfl)⟩ (Nat.le_of_ble_eq_true rfl) dX5_along_19 ⟨Nat.le_of_ble_eq_true rfl, Nat.le_of_ble_eq_true rfl⟩ rfl ?_
        refine tm_iconst X (0 : Int32) dX5_along_22 (by decide) ?_
        refine tm_istore_n X [(3, .int (0 : Int32)), (0, .ref (ad 300)), (1, .int x1), (2, .int x2)] dX5_along_23 rfl (Nat.le_of_ble_eq_true rfl) rfl ?_
        refine tm_lv X [1, 2, 3, 0] rfl ?_
        refine fx_P (fun (k : Int32 → Hp → Option (Int32 × Hp)) => ∀ (x3_7 : Int32) (h8 : Hp), TM G (r, h') (k x3_7 h8) (wM ad dA h8) 0 0 24 [(0, .ref (ad 300)), (1, .int x1), (2, .int x2), (3, .int x3_7)] []) (fun _ _ => tm_none) (fun k24 hk24 x3_7 h8 => ?_) FU (0 : Int32) h6
        refine tm_iload_n X 3 dX5_along_24 rfl rfl ?_
        refine tm_bipush X (63 : Int32) dX5_along_25 (by decide) ?_
        refine tm_ic_ge X 43 dX5_along_27 rfl ?_ ?_
        · skip
          refine tm_aload_n X 0 dX5_along_43 rfl rfl ?_
          refine tm_iconst X (0 : Int32) dX5_along_44 (by decide) ?_
          refine tm_putI X (fiM_300_52 ad dA) in_X5 rfl (Nat.le_of_ble_eq_true rfl) tyX5 tyX5_ok nmX5 rfl rfl q1239 rfl dX5_along_45 (fun h9 => ?_)
          refine tm_aload_n X 0 dX5_along_48 rfl rfl ?_
          refine tm_iconst X (0 : Int32) dX5_along_49 (by decide) ?_
          refine tm_putI X (fiM_300_53 ad dA) in_X5 rfl (Nat.le_of_ble_eq_true rfl) tyX5 tyX5_ok nmX5 rfl rfl q1240 rfl dX5_along_50 (fun h10 => ?_)
          refine tm_iconst X (0 : Int32) dX5_along_53 (by decide) ?_
          refine tm_iconst X (0 : Int32) dX5_along_54 (by decide) ?_
          refine tm_cl1 (fun r11 e12 => ?_)
          refine tm_callSi (As := [.int (0 : Int32), .int (0 : Int32)]) (rest := []) X (ctX5_glideOf l D dA (0 : Int32) (0 : Int32) r11 e12) (lw_S q1589 q1590 q122 q1591) cyX5_glideOf rfl ⟨(Nat.le_of_ble_eq_true rfl), (Nat.le_of_ble_eq_true rfl)⟩ (Nat.le_of_ble_eq_true rfl) dX5_along_55 ⟨Nat.le_of_ble_eq_true rfl, Nat.le_of_ble_eq_true rfl⟩ rfl ?_
          refine tm_istore_n X [(3, .int r11), (0, .ref (ad 300)), (1, .int x1), (2, .int x2)] dX5_along_58 rfl (Nat.le_of_ble_eq_true rfl) rfl ?_
          refine tm_aload_n X 1 dX5_along_59 rfl rfl ?_
          refine tm_getR X (frM_300_54 ad dA h10) in_X5 rfl (Nat.le_of_ble_eq_true rfl) q1241 rfl dX5_along_60 ?_
          refine tm_iload_n X 0 dX5_along_63 rfl rfl ?_
          refine tm_iconst X (1 : Int32) dX5_along_64 (by decide) ?_
          refine tm_bastoreZ X (arM_254 ad dA) dX5_along_65 (fun h13 => ?_)
          refine tm_aload_n X 1 dX5_along_66 rfl rfl ?_
          refine tm_getR X (frM_300_43 ad dA h13) in_X5 rfl (Nat.le_of_ble_eq_true rfl) q1230 rfl dX5_along_67 ?_
          refine tm_iload_n X 0 dX5_along_70 rfl rfl ?_
          refine tm_iaload X (arM_243 ad dA) dX5_along_71 ?_
          refine tm_nmI (fun v14 => ?_)
          refine tm_istore X [(4, .int v14), (3, .int r11), (0, .ref (ad 300)), (1, .int x1), (2, .int x2)] dX5_along_72 (Nat.le_of_ble_eq_true rfl) rfl ?_
          refine tm_aload_n X 2 dX5_along_74 rfl rfl ?_
          refine tm_getR X (frM_300_43 ad dA h13) in_X5 rfl (Nat.le_of_ble_eq_true rfl) q1230 rfl dX5_along_75 ?_
          refine tm_iload_n X 1 dX5_along_78 rfl rfl ?_
          refine tm_iaload X (arM_243 ad dA) dX5_along_79 ?_
          refine tm_nmI (fun v15 => ?_)
          refine tm_istore X [(5, .int v15), (4, .int v14), (3, .int r11), (0, .ref (ad 300)), (1, .int x1), (2, .int x2)] dX5_along_80 (Nat.le_of_ble_eq_true rfl) rfl ?_
          refine tm_iconst X (0 : Int32) dX5_along_82 (by decide) ?_
          refine tm_istore X [(6, .int (0 : Int32)), (5, .int v15), (4, .int v14), (3, .int r11), (0, .ref (ad 300)), (1, .int x1), (2, .int x2)] dX5_along_83 (Nat.le_of_ble_eq_true rfl) rfl ?_
          refine tm_iconst X (1 : Int32) dX5_along_85 (by decide) ?_
          refine tm_istore X [(7, .int (1 : Int32)), (6, .int (0 : Int32)), (5, .int v15), (4, .int v14), (3, .int r11), (0, .ref (ad 300)), (1, .int x1), (2, .int x2)] dX5_along_86 (Nat.le_of_ble_eq_true rfl) rfl ?_
          refine tm_iconst X (0 : Int32) dX5_along_88 (by decide) ?_
          refine tm_istore X [(8, .int (0 : Int32)), (7, .int (1 : Int32)), (6, .int (0 : Int32)), (5, .int v15), (4, .int v14), (3, .int r11), (0, .ref (ad 300)), (1, .int x1), (2, .int x2)] dX5_along_89 (Nat.le_of_ble_eq_true rfl) rfl ?_
          refine tm_lv X [6, 7, 8, 5, 4, 3, 2, 1, 0] rfl ?_
          refine fx_P (fun (k : Int32 → Int32 → Int32 → Int32 → Int32 → Int32 → Hp → Option (Int32 × Hp)) => ∀ (x3_16 : Int32) (x4_17 : Int32) (x5_18 : Int32) (x6_19 : Int32) (x7_20 : Int32) (x8_21 : Int32) (h22 : Hp), TM G (r, h') (k x3_16 x4_17 x5_18 x6_19 x7_20 x8_21 h22) (wM ad dA h22) 0 0 91 [(0, .ref (ad 300)), (1, .int x1), (2, .int x2), (3, .int x3_16), (4, .int x4_17), (5, .int x5_18), (6, .int x6_19), (7, .int x7_20), (8, .int x8_21)] []) (fun _ _ _ _ _ _ _ => tm_none) (fun k91 hk91 x3_16 x4_17 x5_18 x6_19 x7_20 x8_21 h22 => ?_) FU r11 v14 v15 (0 : Int32) (1 : Int32) (0 : Int32) h13
          refine tm_iload X 8 dX5_along_91 rfl ?_
          refine tm_aload_n X 0 dX5_along_93 rfl rfl ?_
          refine tm_getI X (fiM_300_39 ad dA) in_X5 rfl (Nat.le_of_ble_eq_true rfl) q1226 rfl dX5_along_94 ?_
          refine tm_ic_ge X 209 dX5_along_97 rfl ?_ ?_
          · skip
            refine tm_iload_n X 2 dX5_along_209 rfl rfl ?_
            refine tm_let (fun k => ∀ (s23 : Int32), TM G (r, h') (k s23) (wM ad dA h22) 0 0 252 [] [.int s23]) ?_ (fun k252 hk252 => ?_)
            · intro s23
              exact tm_retIH (wf := wM ad dA) hRet dX5_along_252
            · skip
              refine tm_if_ne X 220 dX5_along_210 rfl ?_ ?_
              · skip
                refine tm_iload_n X 2 dX5_along_220 rfl rfl ?_
                refine tm_iconst X (1 : Int32) dX5_along_221 (by decide) ?_
                refine tm_ic_ne X 230 dX5_along_222 rfl ?_ ?_
                · skip
                  refine tm_iload_n X 2 dX5_along_230 rfl rfl ?_
                  refine tm_iconst X (2 : Int32) dX5_along_231 (by decide) ?_
                  refine tm_ic_ne X 240 dX5_along_232 rfl ?_ ?_
                  · skip
                    refine tm_iload_n X 2 dX5_along_240 rfl rfl ?_
                    refine tm_iconst X (3 : Int32) dX5_along_241 (by decide) ?_
                    refine tm_ic_ne X 250 dX5_along_242 rfl ?_ ?_
                    · skip
                      refine tm_iload X 7 dX5_along_250 rfl ?_
                      refine tm_lv X [] rfl ?_
                      exact hk252 x7_20
                    · skip
                      refine tm_iload X 6 dX5_along_245 rfl ?_
                      refine tm_goto X 252 dX5_along_247 rfl ?_
                      refine tm_lv X [] rfl ?_
                      exact hk252 x6_19
                  · skip
                    refine tm_iload X 5 dX5_along_235 rfl ?_
                    refine tm_goto X 252 dX5_along_237 rfl ?_
                    refine tm_lv X [] rfl ?_
                    exact hk252 x5_18
                · skip
                  refine tm_iload X 4 dX5_along_225 rfl ?_
                  refine tm_goto X 252 dX5_along_227 rfl ?_
                  refine tm_lv X [] rfl ?_
                  exact hk252 x4_17
              · skip
                refine tm_aload_n X 0 dX5_along_213 rfl rfl ?_
                refine tm_getI X (fiM_300_39 ad dA) in_X5 rfl (Nat.le_of_ble_eq_true rfl) q1226 rfl dX5_along_214 ?_
                refine tm_goto X 252 dX5_along_217 rfl ?_
                refine tm_lv X [] rfl ?_
                exact hk252 (h22 300 39)
          · skip
            refine tm_aload_n X 0 dX5_along_100 rfl rfl ?_
            refine tm_aload_n X 0 dX5_along_101 rfl rfl ?_
            refine tm_getR X (frM_300_34 ad dA h22) in_X5 rfl (Nat.le_of_ble_eq_true rfl) q1221 rfl dX5_along_102 ?_
            refine tm_iload X 8 dX5_along_105 rfl ?_
            refine tm_iaload X (arM_234 ad dA) dX5_along_107 ?_
            refine tm_cl1 (fun h25 e24 => ?_)
            refine tm_callVv (As := [.int (h22 234 x8_21.toNatClampNeg)]) (rest := []) (q0 := 0) X (ctX5_glides l D ad dA h22 (h22 234 x8_21.toNatClampNeg) h25 e24) (lw_V q1769 q1771 qs104 q122 q1772) cyX5_glides rfl rfl rfl ⟨(Nat.le_of_ble_eq_true rfl), (Nat.le_of_ble_eq_true rfl)⟩ (Nat.le_of_ble_eq_true rfl) dX5_along_108 ⟨Nat.le_of_ble_eq_true rfl, Nat.le_of_ble_eq_true rfl⟩ rfl ?_
            refine tm_aload_n X 0 dX5_along_111 rfl rfl ?_
            refine tm_getI X (fiM_300_52 ad dA) in_X5 rfl (Nat.le_of_ble_eq_true rfl) q1239 rfl dX5_along_112 ?_
            refine tm_aload_n X 0 dX5_along_115 rfl rfl ?_
            refine tm_getI X (fiM_300_53 ad dA) in_X5 rfl (Nat.le_of_ble_eq_true rfl) q1240 rfl dX5_along_116 ?_
            refine tm_cl1 (fun r26 e27 => ?_)
            refine tm_callSi (As := [.int (h25 300 52), .int (h25 300 53)]) (rest := []) X (ctX5_glideOf l D dA (h25 300 52) (h25 300 53) r26 e27) (lw_S q1589 q1590 q122 q1591) cyX5_glideOf rfl ⟨(Nat.le_of_ble_eq_true rfl), (Nat.le_of_ble_eq_true rfl)⟩ (Nat.le_of_ble_eq_true rfl) dX5_along_119 ⟨Nat.le_of_ble_eq_true rfl, Nat.le_of_ble_eq_true rfl⟩ rfl ?_
            refine tm_istore X [(9, .int r26), (0, .ref (ad 300)), (1, .int x1), (2, .int x2), (3, .int x3_16), (4, .int x4_17), (5, .int x5_18), (6, .int x6_19), (7, .int x7_20), (8, .int x8_21)] dX5_along_122 (Nat.le_of_ble_eq_true rfl) rfl ?_
            refine tm_aload_n X 1 dX5_along_124 rfl rfl ?_
            refine tm_getR X (frM_300_43 ad dA h25) in_X5 rfl (Nat.le_of_ble_eq_true rfl) q1230 rfl dX5_along_125 ?_
            refine tm_iload X 0 dX5_along_128 rfl ?_
            refine tm_iaload X (arM_243 ad dA) dX5_along_130 ?_
            refine tm_aload_n X 1 dX5_along_131 rfl rfl ?_
            refine tm_getR X (frM_300_43 ad dA h25) in_X5 rfl (Nat.le_of_ble_eq_true rfl) q1230 rfl dX5_along_132 ?_
            refine tm_iload_n X 4 dX5_along_135 rfl rfl ?_
            refine tm_iaload X (arM_243 ad dA) dX5_along_136 ?_
            refine tm_isub X dX5_along_137 ?_
            refine tm_iload_n X 2 dX5_along_138 rfl rfl ?_
            refine tm_let (fun k => ∀ (x6_28 : Int32), TM G (r, h') (k x6_28) (wM ad dA h25) 0 0 148 [(0, .ref (ad 300)), (1, .int x1), (2, .int x2), (4, .int x4_17), (5, .int x5_18), (6, .int x6_28), (7, .int x7_20), (8, .int x8_21), (9, .int r26)] []) ?_ (fun k148 hk148 => ?_)
            · intro x6_28
              refine tm_aload_n X 0 dX5_along_148 rfl rfl ?_
              refine tm_getR X (frM_300_54 ad dA h25) in_X5 rfl (Nat.le_of_ble_eq_true rfl) q1241 rfl dX5_along_149 ?_
              refine tm_iload X 8 dX5_along_152 rfl ?_
              refine tm_baloadZ X (arM_254 ad dA) dX5_along_154 ?_
              refine tm_let (fun k => ∀ (x7_29 : Int32), TM G (r, h') (k x7_29) (wM ad dA h25) 0 0 164 [(0, .ref (ad 300)), (1, .int x1), (2, .int x2), (4, .int x4_17), (5, .int x5_18), (6, .int x6_28), (7, .int x7_29), (8, .int x8_21), (9, .int r26)] []) ?_ (fun k164 hk164 => ?_)
              · intro x7_29
                refine tm_aload_n X 0 dX5_along_164 rfl rfl ?_
                refine tm_getR X (frM_300_54 ad dA h25) in_X5 rfl (Nat.le_of_ble_eq_true rfl) q1241 rfl dX5_along_165 ?_
                refine tm_iload X 8 dX5_along_168 rfl ?_
                refine tm_iconst X (1 : Int32) dX5_along_170 (by decide) ?_
                refine tm_bastoreZ X (arM_254 ad dA) dX5_along_171 (fun h30 => ?_)
                refine tm_iload X 3 dX5_along_172 rfl ?_
                refine tm_aload_n X 0 dX5_along_174 rfl rfl ?_
                refine tm_getR X (frM_300_43 ad dA h30) in_X5 rfl (Nat.le_of_ble_eq_true rfl) q1230 rfl dX5_along_175 ?_
                refine tm_iload X 8 dX5_along_178 rfl ?_
                refine tm_iaload X (arM_243 ad dA) dX5_along_180 ?_
                refine tm_cl1 (fun r31 e32 => ?_)
                refine tm_callSi (As := [.int x4_17, .int (h30 243 r26.toNatClampNeg)]) (rest := []) X (ctX5_max l D dA x4_17 (h30 243 r26.toNatClampNeg) r31 e32) (lw_S q1539 q1540 q122 q1541) cyX5_max rfl ⟨(Nat.le_of_ble_eq_true rfl), (Nat.le_of_ble_eq_true rfl)⟩ (Nat.le_of_ble_eq_true rfl) dX5_along_181 ⟨Nat.le_of_ble_eq_true rfl, Nat.le_of_ble_eq_true rfl⟩ rfl ?_
                refine tm_istore X [(4, .int r31), (0, .ref (ad 300)), (1, .int x1), (2, .int x2), (5, .int x5_18), (6, .int x6_28), (7, .int x7_29), (8, .int x8_21), (9, .int r26)] dX5_along_184 (Nat.le_of_ble_eq_true rfl) rfl ?_
                refine tm_iload X 4 dX5_along_186 rfl ?_
                refine tm_aload_n X 1 dX5_along_188 rfl rfl ?_
                refine tm_getR X (frM_300_43 ad dA h30) in_X5 rfl (Nat.le_of_ble_eq_true rfl) q1230 rfl dX5_along_189 ?_
                refine tm_iload X 8 dX5_along_192 rfl ?_
                refine tm_iaload X (arM_243 ad dA) dX5_along_194 ?_
                refine tm_cl1 (fun r33 e34 => ?_)
                refine tm_callSi (As := [.int x5_18, .int (h30 243 r26.toNatClampNeg)]) (rest := []) X (ctX5_min l D dA x5_18 (h30 243 r26.toNatClampNeg) r33 e34) (lw_S q1558 q1559 q122 q1560) cyX5_min rfl ⟨(Nat.le_of_ble_eq_true rfl), (Nat.le_of_ble_eq_true rfl)⟩ (Nat.le_of_ble_eq_true rfl) dX5_along_195 ⟨Nat.le_of_ble_eq_true rfl, Nat.le_of_ble_eq_true rfl⟩ rfl ?_
                refine tm_istore X [(5, .int r33), (4, .int r31), (0, .ref (ad 300)), (1, .int x1), (2, .int x2), (6, .int x6_28), (7, .int x7_29), (8, .int x8_21), (9, .int r26)] dX5_along_198 (Nat.le_of_ble_eq_true rfl) rfl ?_
                refine tm_iload X 8 dX5_along_200 rfl ?_
                refine tm_istore_n X [(3, .int r26), (5, .int r33), (4, .int r31), (0, .ref (ad 300)), (1, .int x1), (2, .int x2), (6, .int x6_28), (7, .int x7_29), (8, .int x8_21), (9, .int r26)] dX5_along_202 rfl (Nat.le_of_ble_eq_true rfl) rfl ?_
                refine tm_iinc (v := (1 : Int32)) X 8 [(8, .int (x8_21 + (1 : Int32))), (3, .int r26), (5, .int r33), (4, .int r31), (0, .ref (ad 300)), (1, .int x1), (2, .int x2), (6, .int x6_28), (7, .int x7_29), (9, .int r26)] dX5_along_203 rfl (by decide) (Nat.le_of_ble_eq_true rfl) rfl ?_
                refine tm_goto X 91 dX5_along_206 rfl ?_
                refine tm_lv X [4, 5, 6, 1, 3, 2, 7, 8, 0] rfl ?_
                exact hk91 r26 r31 r33 x6_28 x7_29 (x8_21 + (1 : Int32)) h30
              · skip
                refine tm_if_ne X 164 dX5_along_155 rfl ?_ ?_
                · skip
                  exact hk164 x7_20
                · skip
                  refine tm_iload X 6 dX5_along_158 rfl ?_
                  refine tm_iconst X (1 : Int32) dX5_along_160 (by decide) ?_
                  refine tm_iadd X dX5_along_161 ?_
                  refine tm_nmI (fun v35 => ?_)
                  refine tm_istore X [(7, .int v35), (0, .ref (ad 300)), (1, .int x1), (2, .int x2), (4, .int x4_17), (5, .int x5_18), (6, .int x6_28), (8, .int x8_21), (9, .int r26)] dX5_along_162 (Nat.le_of_ble_eq_true rfl) rfl ?_
                  refine tm_lv X [1, 2, 3, 4, 5, 6, 0, 7, 8] rfl ?_
                  exact hk164 v35
            · skip
              refine tm_ic_le X 148 dX5_along_139 rfl ?_ ?_
              · skip
                refine tm_lv X [1, 2, 3, 5, 6, 7, 8, 9, 0] rfl ?_
                exact hk148 x6_19
              · skip
                refine tm_iload X 7 dX5_along_142 rfl ?_
                refine tm_iconst X (1 : Int32) dX5_along_144 (by decide) ?_
                refine tm_iadd X dX5_along_145 ?_
                refine tm_nmI (fun v36 => ?_)
                refine tm_istore X [(6, .int v36), (9, .int r26), (0, .ref (ad 300)), (1, .int x1), (2, .int x2), (3, .int x3_16), (4, .int x4_17), (5, .int x5_18), (7, .int x7_20), (8, .int x8_21)] dX5_along_146 (Nat.le_of_ble_eq_true rfl) rfl ?_
                refine tm_lv X [2, 3, 4, 6, 7, 0, 8, 9, 1] rfl ?_
                exact hk148 v36
        · skip
          refine tm_aload_n X 0 dX5_along_30 rfl rfl ?_
          refine tm_getR X (frM_300_54 ad dA h8) in_X5 rfl (Nat.le_of_ble_eq_true rfl) q1241 rfl dX5_along_31 ?_
          refine tm_iload_n X 3 dX5_along_34 rfl rfl ?_
          refine tm_iconst X (0 : Int32) dX5_along_35 (by decide) ?_
          refine tm_bastoreZ X (arM_254 ad dA) dX5_along_36 (fun h37 => ?_)
          refine tm_iinc (v := (1 : Int32)) X 3 [(3, .int (x3_7 + (1 : Int32))), (0, .ref (ad 300)), (1, .int x1), (2, .int x2)] dX5_along_37 rfl (by decide) (Nat.le_of_ble_eq_true rfl) rfl ?_
          refine tm_goto X 24 dX5_along_40 rfl ?_
          refine tm_lv X [1, 2, 3, 0] rfl ?_
          exact hk24 (x3_7 + (1 : Int32)) h37
      · skip
        refine tm_lv X [] rfl ?_
        exact hk16
