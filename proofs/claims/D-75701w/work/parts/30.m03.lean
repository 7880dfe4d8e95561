set_option maxRecDepth 100000
def mX5_endsGroup (h : Hp)  : Option (Int32 × Hp) :=
nm (
cl2 (mX5_wrongAt h (1 : Int32) (h 300 7)) (fun r2 h3 =>
bz r2 (some (r2, h3)))) (fun k25 =>
if (h 300 41) = 0 then (
k25) else (
nm (((h 300 41) - (1 : Int32))) (fun v4 =>
ck v4 3 (
if (h 300 40) = (h 236 v4.toNatClampNeg) then (
k25) else (
nm (u2 h 300 41 ((h 300 41) - (1 : Int32))) (fun h5 =>
nm ((h5 300 41)) (fun v6 =>
ck v6 3 (
nm ((h5 236 v6.toNatClampNeg)) (fun v7 =>
nm (((h5 300 40) - v7)) (fun v8 =>
nm ((h5 300 41)) (fun v9 =>
ck v9 3 (
if (v7 + (v8 * (h5 237 v9.toNatClampNeg))) ≤ (48 : Int32) then (
fx FU (fun _ _ => none) (fun k98 (x3_10 : Int32) (h11 : Hp) =>
nm ((h11 300 41)) (fun v12 =>
ck v12 3 (
if (v8 * (h11 237 v12.toNatClampNeg)) ≤ x3_10 then (
nm (u2 h11 300 7 ((h11 300 7) + (1 : Int32))) (fun h13 =>
bz (1 : Int32) (some ((1 : Int32), h13)))) else (
nz v8 (
nm ((v7 + (jrem x3_10 v8))) (fun v14 =>
ck v14 48 (
ck (h11 300 40) 48 (nm (u2 h11 235 (h11 300 40).toNatClampNeg (h11 235 v14.toNatClampNeg)) (fun h15 =>
nm (u2 h15 300 40 ((h15 300 40) + (1 : Int32))) (fun h16 =>
k98 (x3_10 + (1 : Int32)) h16)))))))))) v8 h5) else (
nm ((h5 300 41)) (fun v17 =>
ck v17 3 (
cl2 (mX5_wrongAt h5 (6 : Int32) (h5 238 v17.toNatClampNeg)) (fun r19 h20 =>
bz r19 (some (r19, h20))))))))))))))))))
theorem cyX5_endsGroup : Callee yX5_endsGroup 0 := by unfold Callee; decide +kernel
set_option maxHeartbeats 4000000 in
theorem ctX5_endsGroup (l : Launch) (D : va_G) (ad : Nat → Nat) (dA : Nat → ClassId) (h : Hp)  (r : Int32) (h' : Hp) (hm : mX5_endsGroup h = some (r, h')) : CT l yX5_endsGroup cX5_endsGroup 4 (some .boolean) D dA 1 22 0 0 (wM ad dA h) [.ref (ad 300)] (some (.int r)) (wM ad dA h') := by
  refine ct_open (by decide) (Nat.le_of_ble_eq_true rfl) ?_
  intro G X hI hZ hV hR
  have hRet := fun hv => hZ rfl r hv rfl
  refine (show TM G (r, h') (mX5_endsGroup h) (wM ad dA h) 0 0 0 [(0, .ref (ad 300))] [] from ?_) hm
  clear hm hI hZ hV hR
  unfold mX5_endsGroup
  refine tm_aload_n X 0 dX5_endsGroup_0 rfl rfl ?_
  refine tm_getI X (fiM_300_41 ad dA) in_X5 rfl (Nat.le_of_ble_eq_true rfl) q1228 rfl dX5_endsGroup_1 ?_
  refine tm_let (fun k => TM G (r, h') k (wM ad dA h) 0 0 25 [(0, .ref (ad 300))] []) ?_ (fun k25 hk25 => ?_)
  · skip
    refine tm_aload_n X 0 dX5_endsGroup_25 rfl rfl ?_
    refine tm_iconst X (1 : Int32) dX5_endsGroup_26 (by decide) ?_
    refine tm_aload_n X 0 dX5_endsGroup_27 rfl rfl ?_
    refine tm_getI X (fiM_300_7 ad dA) in_X5 rfl (Nat.le_of_ble_eq_true rfl) q1194 rfl dX5_endsGroup_28 ?_
    refine tm_cl2 (fun r2 h3 e1 => ?_)
    refine tm_callVi (As := [.int (1 : Int32), .int (h 300 7)]) (rest := []) (q0 := 0) X (ctX5_wrongAt l D ad dA h (1 : Int32) (h 300 7) r2 h3 e1) (lw_V q1404 q1406 qs53 q122 q1407) cyX5_wrongAt rfl rfl rfl ⟨(Nat.le_of_ble_eq_true rfl), (Nat.le_of_ble_eq_true rfl)⟩ (Nat.le_of_ble_eq_true rfl) dX5_endsGroup_31 ⟨Nat.le_of_ble_eq_true rfl, Nat.le_of_ble_eq_true rfl⟩ rfl ?_
    exact tm_retZH (wf := wM ad dA) hRet dX5_endsGroup_34
  · skip
    refine tm_if_eq X 25 dX5_endsGroup_4 rfl ?_ ?_
    · skip
      exact hk25
    · skip
      refine tm_aload_n X 0 dX5_endsGroup_7 rfl rfl ?_
      refine tm_getI X (fiM_300_40 ad dA) in_X5 rfl (Nat.le_of_ble_eq_true rfl) q1227 rfl dX5_endsGroup_8 ?_
      refine tm_aload_n X 0 dX5_endsGroup_11 rfl rfl ?_
      refine tm_getR X (frM_300_36 ad dA h) in_X5 rfl (Nat.le_of_ble_eq_true rfl) q1223 rfl dX5_endsGroup_12 ?_
      refine tm_aload_n X 0 dX5_endsGroup_15 rfl rfl ?_
      refine tm_getI X (fiM_300_41 ad dA) in_X5 rfl (Nat.le_of_ble_eq_true rfl) q1228 rfl dX5_endsGroup_16 ?_
      refine tm_iconst X (1 : Int32) dX5_endsGroup_19 (by decide) ?_
      refine tm_isub X dX5_endsGroup_20 ?_
      refine tm_nmI (fun v4 => ?_)
      refine tm_iaload X (arM_236 ad dA) dX5_endsGroup_21 ?_
      refine tm_ic_ne X 35 dX5_endsGroup_22 rfl ?_ ?_
      · skip
        refine tm_aload_n X 0 dX5_endsGroup_35 rfl rfl ?_
        refine tm_aload_n X 0 dX5_endsGroup_36 rfl rfl ?_
        refine tm_getI X (fiM_300_41 ad dA) in_X5 rfl (Nat.le_of_ble_eq_true rfl) q1228 rfl dX5_endsGroup_37 ?_
        refine tm_iconst X (1 : Int32) dX5_endsGroup_40 (by decide) ?_
        refine tm_isub X dX5_endsGroup_41 ?_
        refine tm_putI X (fiM_300_41 ad dA) in_X5 rfl (Nat.le_of_ble_eq_true rfl) tyX5 tyX5_ok nmX5 rfl rfl q1228 rfl dX5_endsGroup_42 (fun h5 => ?_)
        refine tm_aload_n X 0 dX5_endsGroup_45 rfl rfl ?_
        refine tm_getR X (frM_300_36 ad dA h5) in_X5 rfl (Nat.le_of_ble_eq_true rfl) q1223 rfl dX5_endsGroup_46 ?_
        refine tm_aload_n X 0 dX5_endsGroup_49 rfl rfl ?_
        refine tm_getI X (fiM_300_41 ad dA) in_X5 rfl (Nat.le_of_ble_eq_true rfl) q1228 rfl dX5_endsGroup_50 ?_
        refine tm_nmI (fun v6 => ?_)
        refine tm_iaload X (arM_236 ad dA) dX5_endsGroup_53 ?_
        refine tm_nmI (fun v7 => ?_)
        refine tm_istore_n X [(1, .int v7), (0, .ref (ad 300))] dX5_endsGroup_54 rfl (Nat.le_of_ble_eq_true rfl) rfl ?_
        refine tm_aload_n X 1 dX5_endsGroup_55 rfl rfl ?_
        refine tm_getI X (fiM_300_40 ad dA) in_X5 rfl (Nat.le_of_ble_eq_true rfl) q1227 rfl dX5_endsGroup_56 ?_
        refine tm_iload_n X 0 dX5_endsGroup_59 rfl rfl ?_
        refine tm_isub X dX5_endsGroup_60 ?_
        refine tm_nmI (fun v8 => ?_)
        refine tm_istore_n X [(2, .int v8), (1, .int v7), (0, .ref (ad 300))] dX5_endsGroup_61 rfl (Nat.le_of_ble_eq_true rfl) rfl ?_
        refine tm_iload_n X 1 dX5_endsGroup_62 rfl rfl ?_
        refine tm_iload_n X 0 dX5_endsGroup_63 rfl rfl ?_
        refine tm_aload_n X 2 dX5_endsGroup_64 rfl rfl ?_
        refine tm_getR X (frM_300_37 ad dA h5) in_X5 rfl (Nat.le_of_ble_eq_true rfl) q1224 rfl dX5_endsGroup_65 ?_
        refine tm_aload_n X 2 dX5_endsGroup_68 rfl rfl ?_
        refine tm_getI X (fiM_300_41 ad dA) in_X5 rfl (Nat.le_of_ble_eq_true rfl) q1228 rfl dX5_endsGroup_69 ?_
        refine tm_nmI (fun v9 => ?_)
        refine tm_iaload X (arM_237 ad dA) dX5_endsGroup_72 ?_
        refine tm_imul X dX5_endsGroup_73 ?_
        refine tm_iadd X dX5_endsGroup_74 ?_
        refine tm_bipush X (48 : Int32) dX5_endsGroup_75 (by decide) ?_
        refine tm_ic_le X 96 dX5_endsGroup_77 rfl ?_ ?_
        · skip
          refine tm_iload_n X 0 dX5_endsGroup_96 rfl rfl ?_
          refine tm_istore_n X [(3, .int v8), (2, .int v8), (1, .int v7), (0, .ref (ad 300))] dX5_endsGroup_97 rfl (Nat.le_of_ble_eq_true rfl) rfl ?_
          refine tm_lv X [3, 2, 1, 0] rfl ?_
          refine fx_P (fun (k : Int32 → Hp → Option (Int32 × Hp)) => ∀ (x3_10 : Int32) (h11 : Hp), TM G (r, h') (k x3_10 h11) (wM ad dA h11) 0 0 98 [(0, .ref (ad 300)), (1, .int v7), (2, .int v8), (3, .int x3_10)] []) (fun _ _ => tm_none) (fun k98 hk98 x3_10 h11 => ?_) FU v8 h5
          refine tm_iload_n X 3 dX5_endsGroup_98 rfl rfl ?_
          refine tm_iload_n X 2 dX5_endsGroup_99 rfl rfl ?_
          refine tm_aload_n X 0 dX5_endsGroup_100 rfl rfl ?_
          refine tm_getR X (frM_300_37 ad dA h11) in_X5 rfl (Nat.le_of_ble_eq_true rfl) q1224 rfl dX5_endsGroup_101 ?_
          refine tm_aload_n X 0 dX5_endsGroup_104 rfl rfl ?_
          refine tm_getI X (fiM_300_41 ad dA) in_X5 rfl (Nat.le_of_ble_eq_true rfl) q1228 rfl dX5_endsGroup_105 ?_
          refine tm_nmI (fun v12 => ?_)
          refine tm_iaload X (arM_237 ad dA) dX5_endsGroup_108 ?_
          refine tm_imul X dX5_endsGroup_109 ?_
          refine tm_ic_ge X 148 dX5_endsGroup_110 rfl ?_ ?_
          · skip
            refine tm_aload_n X 0 dX5_endsGroup_148 rfl rfl ?_
            refine tm_aload_n X 0 dX5_endsGroup_149 rfl rfl ?_
            refine tm_getI X (fiM_300_7 ad dA) in_X5 rfl (Nat.le_of_ble_eq_true rfl) q1194 rfl dX5_endsGroup_150 ?_
            refine tm_iconst X (1 : Int32) dX5_endsGroup_153 (by decide) ?_
            refine tm_iadd X dX5_endsGroup_154 ?_
            refine tm_putI X (fiM_300_7 ad dA) in_X5 rfl (Nat.le_of_ble_eq_true rfl) tyX5 tyX5_ok nmX5 rfl rfl q1194 rfl dX5_endsGroup_155 (fun h13 => ?_)
            refine tm_iconst X (1 : Int32) dX5_endsGroup_158 (by decide) ?_
            exact tm_retZH (wf := wM ad dA) hRet dX5_endsGroup_159
          · skip
            refine tm_aload_n X 0 dX5_endsGroup_113 rfl rfl ?_
            refine tm_getR X (frM_300_35 ad dA h11) in_X5 rfl (Nat.le_of_ble_eq_true rfl) q1222 rfl dX5_endsGroup_114 ?_
            refine tm_aload_n X 0 dX5_endsGroup_117 rfl rfl ?_
            refine tm_getI X (fiM_300_40 ad dA) in_X5 rfl (Nat.le_of_ble_eq_true rfl) q1227 rfl dX5_endsGroup_118 ?_
            refine tm_aload_n X 0 dX5_endsGroup_121 rfl rfl ?_
            refine tm_getR X (frM_300_35 ad dA h11) in_X5 rfl (Nat.le_of_ble_eq_true rfl) q1222 rfl dX5_endsGroup_122 ?_
            refine tm_iload_n X 1 dX5_endsGroup_125 rfl rfl ?_
            refine tm_iload_n X 3 dX5_endsGroup_126 rfl rfl ?_
            refine tm_iload_n X 2 dX5_endsGroup_127 rfl rfl ?_
            refine tm_iremz X dX5_endsGroup_128 ?_
            refine tm_iadd X dX5_endsGroup_129 ?_
            refine tm_nmI (fun v14 => ?_)
            refine tm_iaload X (arM_235 ad dA) dX5_endsGroup_130 ?_
            refine tm_iastore X (arM_235 ad dA) dX5_endsGroup_131 (fun h15 => ?_)
            refine tm_aload_n X 0 dX5_endsGroup_132 rfl rfl ?_
            refine tm_aload_n X 0 dX5_endsGroup_133 rfl rfl ?_
            refine tm_getI X (fiM_300_40 ad dA) in_X5 rfl (Nat.le_of_ble_eq_true rfl) q1227 rfl dX5_endsGroup_134 ?_
            refine tm_iconst X (1 : Int32) dX5_endsGroup_137 (by decide) ?_
            refine tm_iadd X dX5_endsGroup_138 ?_
            refine tm_putI X (fiM_300_40 ad dA) in_X5 rfl (Nat.le_of_ble_eq_true rfl) tyX5 tyX5_ok nmX5 rfl rfl q1227 rfl dX5_endsGroup_139 (fun h16 => ?_)
            refine tm_iinc (v := (1 : Int32)) X 3 [(3, .int (x3_10 + (1 : Int32))), (0, .ref (ad 300)), (1, .int v7), (2, .int v8)] dX5_endsGroup_142 rfl (by decide) (Nat.le_of_ble_eq_true rfl) rfl ?_
            refine tm_goto X 98 dX5_endsGroup_145 rfl ?_
            refine tm_lv X [1, 2, 3, 0] rfl ?_
            exact hk98 (x3_10 + (1 : Int32)) h16
        · skip
          refine tm_aload_n X 2 dX5_endsGroup_80 rfl rfl ?_
          refine tm_bipush X (6 : Int32) dX5_endsGroup_81 (by decide) ?_
          refine tm_aload_n X 2 dX5_endsGroup_83 rfl rfl ?_
          refine tm_getR X (frM_300_38 ad dA h5) in_X5 rfl (Nat.le_of_ble_eq_true rfl) q1225 rfl dX5_endsGroup_84 ?_
          refine tm_aload_n X 2 dX5_endsGroup_87 rfl rfl ?_
          refine tm_getI X (fiM_300_41 ad dA) in_X5 rfl (Nat.le_of_ble_eq_true rfl) q1228 rfl dX5_endsGroup_88 ?_
          refine tm_nmI (fun v17 => ?_)
          refine tm_iaload X (arM_238 ad dA) dX5_endsGroup_91 ?_
          refine tm_cl2 (fun r19 h20 e18 => ?_)
          refine tm_callVi (As := [.int (6 : Int32), .int (h5 238 v17.toNatClampNeg)]) (rest := []) (q0 := 0) X (ctX5_wrongAt l D ad dA h5 (6 : Int32) (h5 238 v17.toNatClampNeg) r19 h20 e18) (lw_V q1404 q1406 qs53 q122 q1407) cyX5_wrongAt rfl rfl rfl ⟨(Nat.le_of_ble_eq_true rfl), (Nat.le_of_ble_eq_true rfl)⟩ (Nat.le_of_ble_eq_true rfl) dX5_endsGroup_92 ⟨Nat.le_of_ble_eq_true rfl, Nat.le_of_ble_eq_true rfl⟩ rfl ?_
          exact tm_retZH (wf := wM ad dA) hRet dX5_endsGroup_95
      · skip
        exact hk25
def mX5_isStep (x0 : Int32) : Option (Int32) :=
nm (fun (s1 : Int32) =>
bz s1 (some s1)) (fun k35 =>
nm (
k35 (1 : Int32)) (fun k30 =>
if x0 = (108 : Int32) then (
k30) else (
if x0 = (114 : Int32) then (
k30) else (
if x0 = (102 : Int32) then (
k30) else (
if x0 = (98 : Int32) then (
k30) else (
if x0 = (46 : Int32) then (
k30) else (
k35 (0 : Int32))))))))
theorem cyX5_isStep : Callee yX5_isStep 1 := by unfold Callee; decide +kernel
set_option maxHeartbeats 4000000 in
theorem ctX5_isStep (l : Launch) (D : va_G) (dA : Nat → ClassId) (x0 : Int32) (r : Int32) (hm : mX5_isStep x0 = some r) : CT l yX5_isStep cX5_isStep 1 (some .boolean) D dA 0 0 0 0 [] [.int x0] (some (.int r)) [] := by
  refine ct_open (by decide) (Nat.le_of_ble_eq_true rfl) ?_
  intro G X hI hZ hV hR
  have hRet := fun hv => hZ rfl r hv rfl
  refine (show TM G r (mX5_isStep x0) [] 0 0 0 [(0, .int x0)] [] from ?_) hm
  clear hm hI hZ hV hR
  unfold mX5_isStep
  refine tm_iload_n X 0 dX5_isStep_0 rfl rfl ?_
  refine tm_bipush X (108 : Int32) dX5_isStep_1 (by decide) ?_
  refine tm_let (fun k => ∀ (s1 : Int32), TM G r (k s1) [] 0 0 35 [] [.int s1]) ?_ (fun k35 hk35 => ?_)
  · intro s1
    exact tm_retZ hRet dX5_isStep_35
  · skip
    refine tm_let (fun k => TM G r k [] 0 0 30 [] []) ?_ (fun k30 hk30 => ?_)
    · skip
      refine tm_iconst X (1 : Int32) dX5_isStep_30 (by decide) ?_
      refine tm_goto X 35 dX5_isStep_31 rfl ?_
      exact hk35 (1 : Int32)
    · skip
      refine tm_ic_eq X 30 dX5_isStep_3 rfl ?_ ?_
      · skip
        refine tm_lv X [] rfl ?_
        exact hk30
      · skip
        refine tm_iload_n X 0 dX5_isStep_6 rfl rfl ?_
        refine tm_bipush X (114 : Int32) dX5_isStep_7 (by decide) ?_
        refine tm_ic_eq X 30 dX5_isStep_9 rfl ?_ ?_
        · skip
          refine tm_lv X [] rfl ?_
          exact hk30
        · skip
          refine tm_iload_n X 0 dX5_isStep_12 rfl rfl ?_
          refine tm_bipush X (102 : Int32) dX5_isStep_13 (by decide) ?_
          refine tm_ic_eq X 30 dX5_isStep_15 rfl ?_ ?_
          · skip
            refine tm_lv X [] rfl ?_
            exact hk30
          · skip
            refine tm_iload_n X 0 dX5_isStep_18 rfl rfl ?_
            refine tm_bipush X (98 : Int32) dX5_isStep_19 (by decide) ?_
            refine tm_ic_eq X 30 dX5_isStep_21 rfl ?_ ?_
            · skip
              refine tm_lv X [] rfl ?_
              exact hk30
            · skip
              refine tm_iload_n X 0 dX5_isStep_24 rfl rfl ?_
              refine tm_bipush X (46 : Int32) dX5_isStep_25 (by decide) ?_
              refine tm_ic_ne X 34 dX5_isStep_27 rfl ?_ ?_
              · skip
                refine tm_iconst X (0 : Int32) dX5_isStep_34 (by decide) ?_
                refine tm_lv X [] rfl ?_
                exact hk35 (0 : Int32)
              · skip
                refine tm_lv X [] rfl ?_
                exact hk30
def mX5_laysSteps (h : Hp) (x1 : Int32) (x2 : Int32) (x3 : Int32) : Option (Int32 × Hp) :=
nm (u2 h 300 7 ((h 300 7) + (1 : Int32))) (fun h1 =>
if ((h1 300 40) + x2) ≤ (48 : Int32) then (
fx FU (fun _ _ => none) (fun k32 (x4_2 : Int32) (h3 : Hp) =>
if x2 ≤ x4_2 then (
bz (1 : Int32) (some ((1 : Int32), h3))) else (
ck (h3 300 40) 48 (nm (u2 h3 235 (h3 300 40).toNatClampNeg x1) (fun h4 =>
nm (u2 h4 300 40 ((h4 300 40) + (1 : Int32))) (fun h5 =>
k32 (x4_2 + (1 : Int32)) h5))))) (0 : Int32) h1) else (
cl2 (mX5_wrongAt h1 (6 : Int32) x3) (fun r7 h8 =>
bz r7 (some (r7, h8)))))
theorem cyX5_laysSteps : Callee yX5_laysSteps 3 := by unfold Callee; decide +kernel
set_option maxHeartbeats 4000000 in
theorem ctX5_laysSteps (l : Launch) (D : va_G) (ad : Nat → Nat) (dA : Nat → ClassId) (h : Hp) (x1 : Int32) (x2 : Int32) (x3 : Int32) (r : Int32) (h' : Hp) (hm : mX5_laysSteps h x1 x2 x3 = some (r, h')) : CT l yX5_laysSteps cX5_laysSteps 5 (some .boolean) D dA 1 22 0 0 (wM ad dA h) [.ref (ad 300), .int x1, .int x2, .int x3] (some (.int r)) (wM ad dA h') := by
  refine ct_open (by decide) (Nat.le_of_ble_eq_true rfl) ?_
  intro G X hI hZ hV hR
  have hRet := fun hv => hZ rfl r hv rfl
  refine (show TM G (r, h') (mX5_laysSteps h x1 x2 x3) (wM ad dA h) 0 0 0 [(0, .ref (ad 300)), (1, .int x1), (2, .int x2), (3, .int x3)] [] from ?_) hm
  clear hm hI hZ hV hR
  unfold mX5_laysSteps
  refine tm_aload_n X 0 dX5_laysSteps_0 rfl rfl ?_
  refine tm_aload_n X 0 dX5_laysSteps_1 rfl rfl ?_
  refine tm_getI X (fiM_300_7 ad dA) in_X5 rfl (Nat.le_of_ble_eq_true rfl) q1194 rfl dX5_laysSteps_2 ?_
  refine tm_iconst X (1 : Int32) dX5_laysSteps_5 (by decide) ?_
  refine tm_iadd X dX5_laysSteps_6 ?_
  refine tm_putI X (fiM_300_7 ad dA) in_X5 rfl (Nat.le_of_ble_eq_true rfl) tyX5 tyX5_ok nmX5 rfl rfl q1194 rfl dX5_laysSteps_7 (fun h1 => ?_)
  refine tm_aload_n X 0 dX5_laysSteps_10 rfl rfl ?_
  refine tm_getI X (fiM_300_40 ad dA) in_X5 rfl (Nat.le_of_ble_eq_true rfl) q1227 rfl dX5_laysSteps_11 ?_
  refine tm_iload_n X 2 dX5_laysSteps_14 rfl rfl ?_
  refine tm_iadd X dX5_laysSteps_15 ?_
  refine tm_bipush X (48 : Int32) dX5_laysSteps_16 (by decide) ?_
  refine tm_ic_le X 29 dX5_laysSteps_18 rfl ?_ ?_
  · skip
    refine tm_iconst X (0 : Int32) dX5_laysSteps_29 (by decide) ?_
    refine tm_istore X [(4, .int (0 : Int32)), (0, .ref (ad 300)), (1, .int x1), (2, .int x2), (3, .int x3)] dX5_laysSteps_30 (Nat.le_of_ble_eq_true rfl) rfl ?_
    refine tm_lv X [1, 2, 3, 0] rfl ?_
    refine fx_P (fun (k : Int32 → Hp → Option (Int32 × Hp)) => ∀ (x4_2 : Int32) (h3 : Hp), TM G (r, h') (k x4_2 h3) (wM ad dA h3) 0 0 32 [(0, .ref (ad 300)), (1, .int x1), (2, .int x2), (4, .int x4_2)] []) (fun _ _ => tm_none) (fun k32 hk32 x4_2 h3 => ?_) FU (0 : Int32) h1
    refine tm_iload X 3 dX5_laysSteps_32 rfl ?_
    refine tm_iload_n X 2 dX5_laysSteps_34 rfl rfl ?_
    refine tm_ic_ge X 64 dX5_laysSteps_35 rfl ?_ ?_
    · skip
      refine tm_iconst X (1 : Int32) dX5_laysSteps_64 (by decide) ?_
      exact tm_retZH (wf := wM ad dA) hRet dX5_laysSteps_65
    · skip
      refine tm_aload_n X 0 dX5_laysSteps_38 rfl rfl ?_
      refine tm_getR X (frM_300_35 ad dA h3) in_X5 rfl (Nat.le_of_ble_eq_true rfl) q1222 rfl dX5_laysSteps_39 ?_
      refine tm_aload_n X 0 dX5_laysSteps_42 rfl rfl ?_
      refine tm_getI X (fiM_300_40 ad dA) in_X5 rfl (Nat.le_of_ble_eq_true rfl) q1227 rfl dX5_laysSteps_43 ?_
      refine tm_iload_n X 1 dX5_laysSteps_46 rfl rfl ?_
      refine tm_iastore X (arM_235 ad dA) dX5_laysSteps_47 (fun h4 => ?_)
      refine tm_aload_n X 0 dX5_laysSteps_48 rfl rfl ?_
      refine tm_aload_n X 0 dX5_laysSteps_49 rfl rfl ?_
      refine tm_getI X (fiM_300_40 ad dA) in_X5 rfl (Nat.le_of_ble_eq_true rfl) q1227 rfl dX5_laysSteps_50 ?_
      refine tm_iconst X (1 : Int32) dX5_laysSteps_53 (by decide) ?_
      refine tm_iadd X dX5_laysSteps_54 ?_
      refine tm_putI X (fiM_300_40 ad dA) in_X5 rfl (Nat.le_of_ble_eq_true rfl) tyX5 tyX5_ok nmX5 rfl rfl q1227 rfl dX5_laysSteps_55 (fun h5 => ?_)
      refine tm_iinc (v := (1 : Int32)) X 3 [(4, .int (x4_2 + (1 : Int32))), (0, .ref (ad 300)), (1, .int x1), (2, .int x2)] dX5_laysSteps_58 rfl (by decide) (Nat.le_of_ble_eq_true rfl) rfl ?_
      refine tm_goto X 32 dX5_laysSteps_61 rfl ?_
      refine tm_lv X [1, 2, 3, 0] rfl ?_
      exact hk32 (x4_2 + (1 : Int32)) h5
  · skip
    refine tm_aload_n X 0 dX5_laysSteps_21 rfl rfl ?_
    refine tm_bipush X (6 : Int32) dX5_laysSteps_22 (by decide) ?_
    refine tm_iload_n X 3 dX5_laysSteps_24 rfl rfl ?_
    refine tm_cl2 (fun r7 h8 e6 => ?_)
    refine tm_callVi (As := [.int (6 : Int32), .int x3]) (rest := []) (q0 := 0) X (ctX5_wrongAt l D ad dA h1 (6 : Int32) x3 r7 h8 e6) (lw_V q1404 q1406 qs53 q122 q1407) cyX5_wrongAt rfl rfl rfl ⟨(Nat.le_of_ble_eq_true rfl), (Nat.le_of_ble_eq_true rfl)⟩ (Nat.le_of_ble_eq_true rfl) dX5_laysSteps_25 ⟨Nat.le_of_ble_eq_true rfl, Nat.le_of_ble_eq_true rfl⟩ rfl ?_
    exact tm_retZH (wf := wM ad dA) hRet dX5_laysSteps_28
def mX5_opensGroup (h : Hp) (x1 : Int32) (x2 : Int32) : Option (Int32 × Hp) :=
if (h 300 41) = (2 : Int32) then (
cl2 (mX5_wrongAt h (5 : Int32) (h 300 7)) (fun r7 h8 =>
bz r7 (some (r7, h8)))) else (
ck (h 300 41) 3 (nm (u2 h 236 (h 300 41).toNatClampNeg (h 300 40)) (fun h1 =>
ck (h1 300 41) 3 (nm (u2 h1 237 (h1 300 41).toNatClampNeg x1) (fun h2 =>
ck (h2 300 41) 3 (nm (u2 h2 238 (h2 300 41).toNatClampNeg x2) (fun h3 =>
nm (u2 h3 300 41 ((h3 300 41) + (1 : Int32))) (fun h4 =>
nm (u2 h4 300 7 ((h4 300 7) + (1 : Int32))) (fun h5 =>
bz (1 : Int32) (some ((1 : Int32), h5)))))))))))
theorem cyX5_opensGroup : Callee yX5_opensGroup 2 := by unfold Callee; decide +kernel
set_option maxHeartbeats 4000000 in
theorem ctX5_opensGroup (l : Launch) (D : va_G) (ad : Nat → Nat) (dA : Nat → ClassId) (h : Hp) (x1 : Int32) (x2 : Int32) (r : Int32) (h' : Hp) (hm : mX5_opensGroup h x1 x2 = some (r, h')) : CT l yX5_opensGroup cX5_opensGroup 3 (some .boolean) D dA 1 22 0 0 (wM ad dA h) [.ref (ad 300), .int x1, .int x2] (some (.int r)) (wM ad dA h') := by
  refine ct_open (by decide) (Nat.le_of_ble_eq_true rfl) ?_
  intro G X hI hZ hV hR
  have hRet := fun hv => hZ rfl r hv rfl
  refine (show TM G (r, h') (mX5_opensGroup h x1 x2) (wM ad dA h) 0 0 0 [(0, .ref (ad 300)), (1, .int x1), (2, .int x2)] [] from ?_) hm
  clear hm hI hZ hV hR
  unfold mX5_opensGroup
  refine tm_aload_n X 0 dX5_opensGroup_0 rfl rfl ?_
  refine tm_getI X (fiM_300_41 ad dA) in_X5 rfl (Nat.le_of_ble_eq_true rfl) q1228 rfl dX5_opensGroup_1 ?_
  refine tm_iconst X (2 : Int32) dX5_opensGroup_4 (by decide) ?_
  refine tm_ic_ne X 18 dX5_opensGroup_5 rfl ?_ ?_
  · skip
    refine tm_aload_n X 0 dX5_opensGroup_18 rfl rfl ?_
    refine tm_getR X (frM_300_36 ad dA h) in_X5 rfl (Nat.le_of_ble_eq_true rfl) q1223 rfl dX5_opensGroup_19 ?_
    refine tm_aload_n X 0 dX5_opensGroup_22 rfl rfl ?_
    refine tm_getI X (fiM_300_41 ad dA) in_X5 rfl (Nat.le_of_ble_eq_true rfl) q1228 rfl dX5_opensGroup_23 ?_
    refine tm_aload_n X 0 dX5_opensGroup_26 rfl rfl ?_
    refine tm_getI X (fiM_300_40 ad dA) in_X5 rfl (Nat.le_of_ble_eq_true rfl) q1227 rfl dX5_opensGroup_27 ?_
    refine tm_iastore X (arM_236 ad dA) dX5_opensGroup_30 (fun h1 => ?_)
    refine tm_aload_n X 0 dX5_opensGroup_31 rfl rfl ?_
    refine tm_getR X (frM_300_37 ad dA h1) in_X5 rfl (Nat.le_of_ble_eq_true rfl) q1224 rfl dX5_opensGroup_32 ?_
    refine tm_aload_n X 0 dX5_opensGroup_35 rfl rfl ?_
    refine tm_getI X (fiM_300_41 ad dA) in_X5 rfl (Nat.le_of_ble_eq_true rfl) q1228 rfl dX5_opensGroup_36 ?_
    refine tm_iload_n X 1 dX5_opensGroup_39 rfl rfl ?_
    refine tm_iastore X (arM_237 ad dA) dX5_opensGroup_40 (fun h2 => ?_)
    refine tm_aload_n X 0 dX5_opensGroup_41 rfl rfl ?_
    refine tm_getR X (frM_300_38 ad dA h2) in_X5 rfl (Nat.le_of_ble_eq_true rfl) q1225 rfl dX5_opensGroup_42 ?_
    refine tm_aload_n X 0 dX5_opensGroup_45 rfl rfl ?_
    refine tm_getI X (fiM_300_41 ad dA) in_X5 rfl (Nat.le_of_ble_eq_true rfl) q1228 rfl dX5_opensGroup_46 ?_
    refine tm_iload_n X 2 dX5_opensGroup_49 rfl rfl ?_
    refine tm_iastore X (arM_238 ad dA) dX5_opensGroup_50 (fun h3 => ?_)
    refine tm_aload_n X 0 dX5_opensGroup_51 rfl rfl ?_
    refine tm_aload_n X 0 dX5_opensGroup_52 rfl rfl ?_
    refine tm_getI X (fiM_300_41 ad dA) in_X5 rfl (Nat.le_of_ble_eq_true rfl) q1228 rfl dX5_opensGroup_53 ?_
    refine tm_iconst X (1 : Int32) dX5_opensGroup_56 (by decide) ?_
    refine tm_iadd X dX5_opensGroup_57 ?_
    refine tm_putI X (fiM_300_41 ad dA) in_X5 rfl (Nat.le_of_ble_eq_true rfl) tyX5 tyX5_ok nmX5 rfl rfl q1228 rfl dX5_opensGroup_58 (fun h4 => ?_)
    refine tm_aload_n X 0 dX5_opensGroup_61 rfl rfl ?_
    refine tm_aload_n X 0 dX5_opensGroup_62 rfl rfl ?_
    refine tm_getI X (fiM_300_7 ad dA) in_X5 rfl (Nat.le_of_ble_eq_true rfl) q1194 rfl dX5_opensGroup_63 ?_
    refine tm_iconst X (1 : Int32) dX5_opensGroup_66 (by decide) ?_
    refine tm_iadd X dX5_opensGroup_67 ?_
    refine tm_putI X (fiM_300_7 ad dA) in_X5 rfl (Nat.le_of_ble_eq_true rfl) tyX5 tyX5_ok nmX5 rfl rfl q1194 rfl dX5_opensGroup_68 (fun h5 => ?_)
    refine tm_iconst X (1 : Int32) dX5_opensGroup_71 (by decide) ?_
    exact tm_retZH (wf := wM ad dA) hRet dX5_opensGroup_72
  · skip
    refine tm_aload_n X 0 dX5_opensGroup_8 rfl rfl ?_
    refine tm_iconst X (5 : Int32) dX5_opensGroup_9 (by decide) ?_
    refine tm_aload_n X 0 dX5_opensGroup_10 rfl rfl ?_
    refine tm_getI X (fiM_300_7 ad dA) in_X5 rfl (Nat.le_of_ble_eq_true rfl) q1194 rfl dX5_opensGroup_11 ?_
    refine tm_cl2 (fun r7 h8 e6 => ?_)
    refine tm_callVi (As := [.int (5 : Int32), .int (h 300 7)]) (rest := []) (q0 := 0) X (ctX5_wrongAt l D ad dA h (5 : Int32) (h 300 7) r7 h8 e6) (lw_V q1404 q1406 qs53 q122 q1407) cyX5_wrongAt rfl rfl rfl ⟨(Nat.le_of_ble_eq_true rfl), (Nat.le_of_ble_eq_true rfl)⟩ (Nat.le_of_ble_eq_true rfl) dX5_opensGroup_14 ⟨Nat.le_of_ble_eq_true rfl, Nat.le_of_ble_eq_true rfl⟩ rfl ?_
    exact tm_retZH (wf := wM ad dA) hRet dX5_opensGroup_17
def mX5_readsStep (h : Hp)  : Option (Int32 × Hp) :=
nm ((h 300 7)) (fun v1 =>
cl1 (mX5_here h) (fun r3 =>
if r3 = (41 : Int32) then (
cl2 (mX5_endsGroup h) (fun r34 h35 =>
bz r34 (some (r34, h35)))) else (
cl1 (mX5_here h) (fun r5 =>
cl1 (mX5_in r5 (50 : Int32) (57 : Int32)) (fun r6 =>
nm (fun (x2_8 : Int32) (h9 : Hp) =>
cl1 (mX5_here h9) (fun r11 =>
cl1 (mX5_isStep r11) (fun r12 =>
if r12 = 0 then (
cl1 (mX5_here h9) (fun r15 =>
nm (fun (s16 : Int32) (h17 : Hp) =>
bz s16 (some (s16, h17))) (fun k101 =>
if r15 = (40 : Int32) then (
cl2 (mX5_opensGroup h9 x2_8 v1) (fun r22 h23 =>
k101 r22 h23)) else (
cl2 (mX5_wrongAt h9 (1 : Int32) (h9 300 7)) (fun r19 h20 =>
k101 r19 h20))))) else (
cl1 (mX5_here h9) (fun r25 =>
cl2 (mX5_laysSteps h9 r25 x2_8 v1) (fun r27 h28 =>
bz r27 (some (r27, h28)))))))) (fun k53 =>
if r6 = 0 then (
k53 (1 : Int32) h) else (
cl1 (mX5_here h) (fun r30 =>
nm ((r30 - (48 : Int32))) (fun v31 =>
nm (u2 h 300 7 ((h 300 7) + (1 : Int32))) (fun h32 =>
k53 v31 h32))))))))))
theorem cyX5_readsStep : Callee yX5_readsStep 0 := by unfold Callee; decide +kernel
set_option maxHeartbeats 4000000 in
theorem ctX5_readsStep (l : Launch) (D : va_G) (ad : Nat → Nat) (dA : Nat → ClassId) (h : Hp)  (r : Int32) (h' : Hp) (hm : mX5_readsStep h = some (r, h')) : CT l yX5_readsStep cX5_readsStep 3 (some .boolean) D dA 2 46 0 0 (wM ad dA h) [.ref (ad 300)] (some (.int r)) (wM ad dA h') := by
  refine ct_open (by decide) (Nat.le_of_ble_eq_true rfl) ?_
  intro G X hI hZ hV hR
  have hRet := fun hv => hZ rfl r hv rfl
  refine (show TM G (r, h') (mX5_readsStep h) (wM ad dA h) 0 0 0 [(0, .ref (ad 300))] [] from ?_) hm
  clear hm hI hZ hV hR
  unfold mX5_readsStep
  refine tm_aload_n X 0 dX5_readsStep_0 rfl rfl ?_
  refine tm_getI X (fiM_300_7 ad dA) in_X5 rfl (Nat.le_of_ble_eq_true rfl) q1194 rfl dX5_readsStep_1 ?_
  refine tm_nmI (fun v1 => ?_)
  refine tm_istore_n X [(1, .int v1), (0, .ref (ad 300))] dX5_readsStep_4 rfl (Nat.le_of_ble_eq_true rfl) rfl ?_
  refine tm_aload_n X 1 dX5_readsStep_5 rfl rfl ?_
  refine tm_cl1 (fun r3 e2 => ?_)
  refine tm_callVi (As := []) (rest := []) (q0 := 0) X (ctX5_here l D ad dA h r3 e2) (lw_V q1400 q1402 qs52 q122 q1403) cyX5_here rfl rfl rfl ⟨(Nat.le_of_ble_eq_true rfl), (Nat.le_of_ble_eq_true rfl)⟩ (Nat.le_of_ble_eq_true rfl) dX5_readsStep_6 ⟨Nat.le_of_ble_eq_true rfl, Nat.le_of_ble_eq_true rfl⟩ rfl ?_
  refine tm_bipush X (41 : Int32) dX5_readsStep_9 (by decide) ?_
  refine tm_ic_ne X 19 dX5_readsStep_11 rfl ?_ ?_
  · skip
    refine tm_iconst X (1 : Int32) dX5_readsStep_19 (by decide) ?_
    refine tm_istore_n X [(2, .int (1 : Int32)), (1, .int v1), (0, .ref (ad 300))] dX5_readsStep_20 rfl (Nat.le_of_ble_eq_true rfl) rfl ?_
    refine tm_aload_n X 2 dX5_readsStep_21 rfl rfl ?_
    refine tm_cl1 (fun r5 e4 => ?_)
    refine tm_callVi (As := []) (rest := []) (q0 := 0) X (ctX5_here l D ad dA h r5 e4) (lw_V q1400 q1402 qs52 q122 q1403) cyX5_here rfl rfl rfl ⟨(Nat.le_of_ble_eq_true rfl), (Nat.le_of_ble_eq_true rfl)⟩ (Nat.le_of_ble_eq_true rfl) dX5_readsStep_22 ⟨Nat.le_of_ble_eq_true rfl, Nat.le_of_ble_eq_true rfl⟩ rfl ?_
    refine tm_bipush X (50 : Int32) dX5_readsStep_25 (by decide) ?_
    refine tm_bipush X (57 : Int32) dX5_readsStep_27 (by decide) ?_
    refine tm_cl1 (fun r6 e7 => ?_)
    refine tm_callSi (As := [.int r5, .int (50 : Int32), .int (57 : Int32)]) (rest := []) X (ctX5_in l D dA r5 (50 : Int32) (57 : Int32) r6 e7) (lw_S q1366 q1367 q122 q1368) cyX5_in rfl ⟨(Nat.le_of_ble_eq_true rfl), (Nat.le_of_ble_eq_true rfl)⟩ (Nat.le_of_ble_eq_true rfl) dX5_readsStep_29 ⟨Nat.le_of_ble_eq_true rfl, Nat.le_of_ble_eq_true rfl⟩ rfl ?_
    refine tm_let (fun k => ∀ (x2_8 : Int32) (h9 : Hp), TM G (r, h') (k x2_8 h9) (wM ad dA h9) 0 0 53 [(0, .ref (ad 300)), (1, .int v1), (2, .int x2_8)] []) ?_ (fun k53 hk53 => ?_)
    · intro x2_8 h9
      refine tm_aload_n X 0 dX5_readsStep_53 rfl rfl ?_
      refine tm_cl1 (fun r11 e10 => ?_)
      refine tm_callVi (As := []) (rest := []) (q0 := 0) X (ctX5_here l D ad dA h9 r11 e10) (lw_V q1400 q1402 qs52 q122 q1403) cyX5_here rfl rfl rfl ⟨(Nat.le_of_ble_eq_true rfl), (Nat.le_of_ble_eq_true rfl)⟩ (Nat.le_of_ble_eq_true rfl) dX5_readsStep_54 ⟨Nat.le_of_ble_eq_true rfl, Nat.le_of_ble_eq_true rfl⟩ rfl ?_
      refine tm_cl1 (fun r12 e13 => ?_)
      refine tm_callSi (As := [.int r11]) (rest := []) X (ctX5_isStep l D dA r11 r12 e13) (lw_S q1499 q1500 q122 q1501) cyX5_isStep rfl ⟨(Nat.le_of_ble_eq_true rfl), (Nat.le_of_ble_eq_true rfl)⟩ (Nat.le_of_ble_eq_true rfl) dX5_readsStep_57 ⟨Nat.le_of_ble_eq_true rfl, Nat.le_of_ble_eq_true rfl⟩ rfl ?_
      refine tm_if_eq X 74 dX5_readsStep_60 rfl ?_ ?_
      · skip
        refine tm_aload_n X 0 dX5_readsStep_74 rfl rfl ?_
        refine tm_cl1 (fun r15 e14 => ?_)
        refine tm_callVi (As := []) (rest := []) (q0 := 0) X (ctX5_here l D ad dA h9 r15 e14) (lw_V q1400 q1402 qs52 q122 q1403) cyX5_here rfl rfl rfl ⟨(Nat.le_of_ble_eq_true rfl), (Nat.le_of_ble_eq_true rfl)⟩ (Nat.le_of_ble_eq_true rfl) dX5_readsStep_75 ⟨Nat.le_of_ble_eq_true rfl, Nat.le_of_ble_eq_true rfl⟩ rfl ?_
        refine tm_bipush X (40 : Int32) dX5_readsStep_78 (by decide) ?_
        refine tm_let (fun k => ∀ (s16 : Int32) (h17 : Hp), TM G (r, h') (k s16 h17) (wM ad dA h17) 0 0 101 [] [.int s16]) ?_ (fun k101 hk101 => ?_)
        · intro s16 h17
          exact tm_retZH (wf := wM ad dA) hRet dX5_readsStep_101
        · skip
          refine tm_ic_ne X 92 dX5_readsStep_80 rfl ?_ ?_
          · skip
            refine tm_aload_n X 0 dX5_readsStep_92 rfl rfl ?_
            refine tm_iconst X (1 : Int32) dX5_readsStep_93 (by decide) ?_
            refine tm_aload_n X 0 dX5_readsStep_94 rfl rfl ?_
            refine tm_getI X (fiM_300_7 ad dA) in_X5 rfl (Nat.le_of_ble_eq_true rfl) q1194 rfl dX5_readsStep_95 ?_
            refine tm_cl2 (fun r19 h20 e18 => ?_)
            refine tm_callVi (As := [.int (1 : Int32), .int (h9 300 7)]) (rest := []) (q0 := 0) X (ctX5_wrongAt l D ad dA h9 (1 : Int32) (h9 300 7) r19 h20 e18) (lw_V q1404 q1406 qs53 q122 q1407) cyX5_wrongAt rfl rfl rfl ⟨(Nat.le_of_ble_eq_true rfl), (Nat.le_of_ble_eq_true rfl)⟩ (Nat.le_of_ble_eq_true rfl) dX5_readsStep_98 ⟨Nat.le_of_ble_eq_true rfl, Nat.le_of_ble_eq_true rfl⟩ rfl ?_
            refine tm_lv X [] rfl ?_
            exact hk101 r19 h20
          · skip
            refine tm_aload_n X 0 dX5_readsStep_83 rfl rfl ?_
            refine tm_iload_n X 2 dX5_readsStep_84 rfl rfl ?_
            refine tm_iload_n X 1 dX5_readsStep_85 rfl rfl ?_
            refine tm_cl2 (fun r22 h23 e21 => ?_)
            refine tm_callVi (As := [.int x2_8, .int v1]) (rest := []) (q0 := 0) X (ctX5_opensGroup l D ad dA h9 x2_8 v1 r22 h23 e21) (lw_V q1506 q1508 qs74 q122 q1509) cyX5_opensGroup rfl rfl rfl ⟨(Nat.le_of_ble_eq_true rfl), (Nat.le_of_ble_eq_true rfl)⟩ (Nat.le_of_ble_eq_true rfl) dX5_readsStep_86 ⟨Nat.le_of_ble_eq_true rfl, Nat.le_of_ble_eq_true rfl⟩ rfl ?_
            refine tm_goto X 101 dX5_readsStep_89 rfl ?_
            refine tm_lv X [] rfl ?_
            exact hk101 r22 h23
      · skip
        refine tm_aload_n X 0 dX5_readsStep_63 rfl rfl ?_
        refine tm_aload_n X 0 dX5_readsStep_64 rfl rfl ?_
        refine tm_cl1 (fun r25 e24 => ?_)
        refine tm_callVi (As := []) (rest := [.ref (ad 300)]) (q0 := 0) X (ctX5_here l D ad dA h9 r25 e24) (lw_V q1400 q1402 qs52 q122 q1403) cyX5_here rfl rfl rfl ⟨(Nat.le_of_ble_eq_true rfl), (Nat.le_of_ble_eq_true rfl)⟩ (Nat.le_of_ble_eq_true rfl) dX5_readsStep_65 ⟨Nat.le_of_ble_eq_true rfl, Nat.le_of_ble_eq_true rfl⟩ rfl ?_
        refine tm_iload_n X 2 dX5_readsStep_68 rfl rfl ?_
        refine tm_iload_n X 1 dX5_readsStep_69 rfl rfl ?_
        refine tm_cl2 (fun r27 h28 e26 => ?_)
        refine tm_callVi (As := [.int r25, .int x2_8, .int v1]) (rest := []) (q0 := 0) X (ctX5_laysSteps l D ad dA h9 r25 x2_8 v1 r27 h28 e26) (lw_V q1502 q1504 qs73 q122 q1505) cyX5_laysSteps rfl rfl rfl ⟨(Nat.le_of_ble_eq_true rfl), (Nat.le_of_ble_eq_true rfl)⟩ (Nat.le_of_ble_eq_true rfl) dX5_readsStep_70 ⟨Nat.le_of_ble_eq_true rfl, Nat.le_of_ble_eq_true rfl⟩ rfl ?_
        exact tm_retZH (wf := wM ad dA) hRet dX5_readsStep_73
    · skip
      refine tm_if_eq X 53 dX5_readsStep_32 rfl ?_ ?_
      · skip
        refine tm_lv X [2, 1, 0] rfl ?_
        exact hk53 (1 : Int32) h
      · skip
        refine tm_aload_n X 2 dX5_readsStep_35 rfl rfl ?_
        refine tm_cl1 (fun r30 e29 => ?_)
        refine tm_callVi (As := []) (rest := []) (q0 := 0) X (ctX5_here l D ad dA h r30 e29) (lw_V q1400 q1402 qs52 q122 q1403) cyX5_here rfl rfl rfl ⟨(Nat.le_of_ble_eq_true rfl), (Nat.le_of_ble_eq_true rfl)⟩ (Nat.le_of_ble_eq_true rfl) dX5_readsStep_36 ⟨Nat.le_of_ble_eq_true rfl, Nat.le_of_ble_eq_true rfl⟩ rfl ?_
        refine tm_bipush X (48 : Int32) dX5_readsStep_39 (by decide) ?_
        refine tm_isub X dX5_readsStep_41 ?_
        refine tm_nmI (fun v31 => ?_)
        refine tm_istore_n X [(2, .int v31), (1, .int v1), (0, .ref (ad 300))] dX5_readsStep_42 rfl (Nat.le_of_ble_eq_true rfl) rfl ?_
        refine tm_aload_n X 2 dX5_readsStep_43 rfl rfl ?_
        refine tm_aload_n X 2 dX5_readsStep_44 rfl rfl ?_
        refine tm_getI X (fiM_300_7 ad dA) in_X5 rfl (Nat.le_of_ble_eq_true rfl) q1194 rfl dX5_readsStep_45 ?_
        refine tm_iconst X (1 : Int32) dX5_readsStep_48 (by decide) ?_
        refine tm_iadd X dX5_readsStep_49 ?_
        refine tm_putI X (fiM_300_7 ad dA) in_X5 rfl (Nat.le_of_ble_eq_true rfl) tyX5 tyX5_ok nmX5 rfl rfl q1194 rfl dX5_readsStep_50 (fun h32 => ?_)
        refine tm_lv X [2, 1, 0] rfl ?_
        exact hk53 v31 h32
  · skip
    refine tm_aload_n X 1 dX5_readsStep_14 rfl rfl ?_
    refine tm_cl2 (fun r34 h35 e33 => ?_)
    refine tm_callVi (As := []) (rest := []) (q0 := 0) X (ctX5_endsGroup l D ad dA h r34 h35 e33) (lw_V q1495 q1497 qs72 q122 q1498) cyX5_endsGroup rfl rfl rfl ⟨(Nat.le_of_ble_eq_true rfl), (Nat.le_of_ble_eq_true rfl)⟩ (Nat.le_of_ble_eq_true rfl) dX5_readsStep_15 ⟨Nat.le_of_ble_eq_true rfl, Nat.le_of_ble_eq_true rfl⟩ rfl ?_
    exact tm_retZH (wf := wM ad dA) hRet dX5_readsStep_18
def mX5_tour (h : Hp) (x1 : Int32) : Option (Int32 × Hp) :=
cl1 (mX5_in x1 (1 : Int32) (80 : Int32)) (fun r1 =>
nm (
some ((-1 : Int32), h)) (fun k18 =>
if r1 = 0 then (
k18) else (
if x1 ≤ (h 300 6) then (
cl1 (mX5_beginsText h x1) (fun h4 =>
nm (u2 h4 300 40 (0 : Int32)) (fun h5 =>
nm (u2 h5 300 41 (0 : Int32)) (fun h6 =>
fx FU (fun _ _ => none) (fun k37 (x2_7 : Int32) (h8 : Hp) =>
nm (
nm (fun (x2_9 : Int32) (h10 : Hp) =>
nm (u2 h10 300 6 (0 : Int32)) (fun h11 =>
if x2_9 = 0 then (
some ((h11 300 9), h11)) else (
nm (u2 h11 300 39 (h11 300 40)) (fun h12 =>
fx FU (fun _ _ => none) (fun k105 (x3_13 : Int32) (h14 : Hp) =>
if (h14 300 40) ≤ x3_13 then (
some ((h14 300 39), h14)) else (
ck x3_13 48 (
ck x3_13 48 (nm (u2 h14 234 x3_13.toNatClampNeg (h14 235 x3_13.toNatClampNeg)) (fun h15 =>
k105 (x3_13 + (1 : Int32)) h15))))) (0 : Int32) h12)))) (fun k81 =>
if x2_7 = 0 then (
k81 x2_7 h8) else (
if (h8 300 41) ≤ 0 then (
k81 x2_7 h8) else (
cl2 (mX5_wrongAt h8 (1 : Int32) (h8 300 7)) (fun r17 h18 =>
k81 r17 h18))))) (fun k60 =>
if x2_7 = 0 then (
k60) else (
if (h8 300 8) ≤ (h8 300 7) then (
k60) else (
cl2 (mX5_readsStep h8) (fun r20 h21 =>
k37 r20 h21))))) (1 : Int32) h6)))) else (
k18))))
theorem cyX5_tour : Callee yX5_tour 1 := by unfold Callee; decide +kernel
set_option maxHeartbeats 4000000 in
theorem ctX5_tour (l : Launch) (D : va_G) (ad : Nat → Nat) (dA : Nat → ClassId) (h : Hp) (x1 : Int32) (r : Int32) (h' : Hp) (hm : mX5_tour h x1 = some (r, h')) : CT l yX5_tour cX5_tour 4 (some .int) D dA 3 68 0 0 (wM ad dA h) [.ref (ad 300), .int x1] (some (.int r)) (wM ad dA h') := by
  refine ct_open (by decide) (Nat.le_of_ble_eq_true rfl) ?_
  intro G X hI hZ hV hR
  have hRet := hI rfl r rfl
  refine (show TM G (r, h') (mX5_tour h x1) (wM ad dA h) 0 0 0 [(0, .ref (ad 300)), (1, .int x1)] [] from ?_) hm
  clear hm hI hZ hV hR
  unfold mX5_tour
  refine tm_iload_n X 1 dX5_tour_0 rfl rfl ?_
  refine tm_iconst X (1 : Int32) dX5_tour_1 (by decide) ?_
  refine tm_bipush X (80 : Int32) dX5_tour_2 (by decide) ?_
  refine tm_cl1 (fun r1 e2 => ?_)
  refine tm_callSi (As := [.int x1, .int (1 : Int32), .int (80 : Int32)]) (rest := []) X (ctX5_in l D dA x1 (1 : Int32) (80 : Int32) r1 e2) (lw_S q1366 q1367 q122 q1368) cyX5_in rfl ⟨(Nat.le_of_ble_eq_true rfl), (Nat.le_of_ble_eq_true rfl)⟩ (Nat.le_of_ble_eq_true rfl) dX5_tour_4 ⟨Nat.le_of_ble_eq_true rfl, Nat.le_of_ble_eq_true rfl⟩ rfl ?_
  refine tm_let (fun k => TM G (r, h') k (wM ad dA h) 0 0 18 [] []) ?_ (fun k18 hk18 => ?_)
  · skip
    refine tm_iconst X (-1 : Int32) dX5_tour_18 (by decide) ?_
    exact tm_retIH (wf := wM ad dA) hRet dX5_tour_19
  · skip
    refine tm_if_eq X 18 dX5_tour_7 rfl ?_ ?_
    · skip
      refine tm_lv X [] rfl ?_
      exact hk18
    · skip
      refine tm_iload_n X 1 dX5_tour_10 rfl rfl ?_
      refine tm_aload_n X 0 dX5_tour_11 rfl rfl ?_
      refine tm_getI X (fiM_300_6 ad dA) in_X5 rfl (Nat.le_of_ble_eq_true rfl) q1193 rfl dX5_tour_12 ?_
      refine tm_ic_le X 20 dX5_tour_15 rfl ?_ ?_
      · skip
        refine tm_aload_n X 0 dX5_tour_20 rfl rfl ?_
        refine tm_iload_n X 1 dX5_tour_21 rfl rfl ?_
        refine tm_cl1 (fun h4 e3 => ?_)
        refine tm_callVv (As := [.int x1]) (rest := []) (q0 := 0) X (ctX5_beginsText l D ad dA h x1 h4 e3) (lw_V q1392 q1394 qs50 q122 q1395) cyX5_beginsText rfl rfl rfl ⟨(Nat.le_of_ble_eq_true rfl), (Nat.le_of_ble_eq_true rfl)⟩ (Nat.le_of_ble_eq_true rfl) dX5_tour_22 ⟨Nat.le_of_ble_eq_true rfl, Nat.le_of_ble_eq_true rfl⟩ rfl ?_
        refine tm_aload_n X 0 dX5_tour_25 rfl rfl ?_
        refine tm_iconst X (0 : Int32) dX5_tour_26 (by decide) ?_
        refine tm_putI X (fiM_300_40 ad dA) in_X5 rfl (Nat.le_of_ble_eq_true rfl) tyX5 tyX5_ok nmX5 rfl rfl q1227 rfl dX5_tour_27 (fun h5 => ?_)
        refine tm_aload_n X 0 dX5_tour_30 rfl rfl ?_
        refine tm_iconst X (0 : Int32) dX5_tour_31 (by decide) ?_
        refine tm_putI X (fiM_300_41 ad dA) in_X5 rfl (Nat.le_of_ble_eq_true rfl) tyX5 tyX5_ok nmX5 rfl rfl q1228 rfl dX5_tour_32 (fun h6 => ?_)
        refine tm_iconst X (1 : Int32) dX5_tour_35 (by decide) ?_
        refine tm_istore_n X [(2, .int (1 : Int32)), (0, .ref (ad 300)), (1, .int x1)] dX5_tour_36 rfl (Nat.le_of_ble_eq_true rfl) rfl ?_
        refine tm_lv X [1, 0] rfl ?_
        refine fx_P (fun (k : Int32 → Hp → Option (Int32 × Hp)) => ∀ (x2_7 : Int32) (h8 : Hp), TM G (r, h') (k x2_7 h8) (wM ad dA h8) 0 0 37 [(0, .ref (ad 300)), (2, .int x2_7)] []) (fun _ _ => tm_none) (fun k37 hk37 x2_7 h8 => ?_) FU (1 : Int32) h6
        refine tm_iload_n X 1 dX5_tour_37 rfl rfl ?_
        refine tm_let (fun k => TM G (r, h') k (wM ad dA h8) 0 0 60 [(0, .ref (ad 300)), (2, .int x2_7)] []) ?_ (fun k60 hk60 => ?_)
        · skip
          refine tm_iload_n X 1 dX5_tour_60 rfl rfl ?_
          refine tm_let (fun k => ∀ (x2_9 : Int32) (h10 : Hp), TM G (r, h') (k x2_9 h10) (wM ad dA h10) 0 0 81 [(0, .ref (ad 300)), (2, .int x2_9)] []) ?_ (fun k81 hk81 => ?_)
          · intro x2_9 h10
            refine tm_aload_n X 0 dX5_tour_81 rfl rfl ?_
            refine tm_iconst X (0 : Int32) dX5_tour_82 (by decide) ?_
            refine tm_putI X (fiM_300_6 ad dA) in_X5 rfl (Nat.le_of_ble_eq_true rfl) tyX5 tyX5_ok nmX5 rfl rfl q1193 rfl dX5_tour_83 (fun h11 => ?_)
            refine tm_iload_n X 1 dX5_tour_86 rfl rfl ?_
            refine tm_if_ne X 95 dX5_tour_87 rfl ?_ ?_
            · skip
              refine tm_aload_n X 0 dX5_tour_95 rfl rfl ?_
              refine tm_aload_n X 0 dX5_tour_96 rfl rfl ?_
              refine tm_getI X (fiM_300_40 ad dA) in_X5 rfl (Nat.le_of_ble_eq_true rfl) q1227 rfl dX5_tour_97 ?_
              refine tm_putI X (fiM_300_39 ad dA) in_X5 rfl (Nat.le_of_ble_eq_true rfl) tyX5 tyX5_ok nmX5 rfl rfl q1226 rfl dX5_tour_100 (fun h12 => ?_)
              refine tm_iconst X (0 : Int32) dX5_tour_103 (by decide) ?_
              refine tm_istore_n X [(3, .int (0 : Int32)), (0, .ref (ad 300)), (2, .int x2_9)] dX5_tour_104 rfl (Nat.le_of_ble_eq_true rfl) rfl ?_
              refine tm_lv X [1, 0] rfl ?_
              refine fx_P (fun (k : Int32 → Hp → Option (Int32 × Hp)) => ∀ (x3_13 : Int32) (h14 : Hp), TM G (r, h') (k x3_13 h14) (wM ad dA h14) 0 0 105 [(0, .ref (ad 300)), (3, .int x3_13)] []) (fun _ _ => tm_none) (fun k105 hk105 x3_13 h14 => ?_) FU (0 : Int32) h12
              refine tm_iload_n X 1 dX5_tour_105 rfl rfl ?_
              refine tm_aload_n X 0 dX5_tour_106 rfl rfl ?_
              refine tm_getI X (fiM_300_40 ad dA) in_X5 rfl (Nat.le_of_ble_eq_true rfl) q1227 rfl dX5_tour_107 ?_
              refine tm_ic_ge X 131 dX5_tour_110 rfl ?_ ?_
              · skip
                refine tm_aload_n X 0 dX5_tour_131 rfl rfl ?_
                refine tm_getI X (fiM_300_39 ad dA) in_X5 rfl (Nat.le_of_ble_eq_true rfl) q1226 rfl dX5_tour_132 ?_
                exact tm_retIH (wf := wM ad dA) hRet dX5_tour_135
              · skip
                refine tm_aload_n X 0 dX5_tour_113 rfl rfl ?_
                refine tm_getR X (frM_300_34 ad dA h14) in_X5 rfl (Nat.le_of_ble_eq_true rfl) q1221 rfl dX5_tour_114 ?_
                refine tm_iload_n X 1 dX5_tour_117 rfl rfl ?_
                refine tm_aload_n X 0 dX5_tour_118 rfl rfl ?_
                refine tm_getR X (frM_300_35 ad dA h14) in_X5 rfl (Nat.le_of_ble_eq_true rfl) q1222 rfl dX5_tour_119 ?_
                refine tm_iload_n X 1 dX5_tour_122 rfl rfl ?_
                refine tm_iaload X (arM_235 ad dA) dX5_tour_123 ?_
                refine tm_iastore X (arM_234 ad dA) dX5_tour_124 (fun h15 => ?_)
                refine tm_iinc (v := (1 : Int32)) X 1 [(3, .int (x3_13 + (1 : Int32))), (0, .ref (ad 300))] dX5_tour_125 rfl (by decide) (Nat.le_of_ble_eq_true rfl) rfl ?_
                refine tm_goto X 105 dX5_tour_128 rfl ?_
                refine tm_lv X [1, 0] rfl ?_
                exact hk105 (x3_13 + (1 : Int32)) h15
            · skip
              refine tm_aload_n X 0 dX5_tour_90 rfl rfl ?_
              refine tm_getI X (fiM_300_9 ad dA) in_X5 rfl (Nat.le_of_ble_eq_true rfl) q1196 rfl dX5_tour_91 ?_
              exact tm_retIH (wf := wM ad dA) hRet dX5_tour_94
          · skip
            refine tm_if_eq X 81 dX5_tour_61 rfl ?_ ?_
            · skip
              exact hk81 x2_7 h8
            · skip
              refine tm_aload_n X 0 dX5_tour_64 rfl rfl ?_
              refine tm_getI X (fiM_300_41 ad dA) in_X5 rfl (Nat.le_of_ble_eq_true rfl) q1228 rfl dX5_tour_65 ?_
              refine tm_if_le X 81 dX5_tour_68 rfl ?_ ?_
              · skip
                exact hk81 x2_7 h8
              · skip
                refine tm_aload_n X 0 dX5_tour_71 rfl rfl ?_
                refine tm_iconst X (1 : Int32) dX5_tour_72 (by decide) ?_
                refine tm_aload_n X 0 dX5_tour_73 rfl rfl ?_
                refine tm_getI X (fiM_300_7 ad dA) in_X5 rfl (Nat.le_of_ble_eq_true rfl) q1194 rfl dX5_tour_74 ?_
                refine tm_cl2 (fun r17 h18 e16 => ?_)
                refine tm_callVi (As := [.int (1 : Int32), .int (h8 300 7)]) (rest := []) (q0 := 0) X (ctX5_wrongAt l D ad dA h8 (1 : Int32) (h8 300 7) r17 h18 e16) (lw_V q1404 q1406 qs53 q122 q1407) cyX5_wrongAt rfl rfl rfl ⟨(Nat.le_of_ble_eq_true rfl), (Nat.le_of_ble_eq_true rfl)⟩ (Nat.le_of_ble_eq_true rfl) dX5_tour_77 ⟨Nat.le_of_ble_eq_true rfl, Nat.le_of_ble_eq_true rfl⟩ rfl ?_
                refine tm_istore_n X [(2, .int r17), (0, .ref (ad 300))] dX5_tour_80 rfl (Nat.le_of_ble_eq_true rfl) rfl ?_
                refine tm_lv X [1, 0] rfl ?_
                exact hk81 r17 h18
        · skip
          refine tm_if_eq X 60 dX5_tour_38 rfl ?_ ?_
          · skip
            exact hk60
          · skip
            refine tm_aload_n X 0 dX5_tour_41 rfl rfl ?_
            refine tm_getI X (fiM_300_7 ad dA) in_X5 rfl (Nat.le_of_ble_eq_true rfl) q1194 rfl dX5_tour_42 ?_
            refine tm_aload_n X 0 dX5_tour_45 rfl rfl ?_
            refine tm_getI X (fiM_300_8 ad dA) in_X5 rfl (Nat.le_of_ble_eq_true rfl) q1195 rfl dX5_tour_46 ?_
            refine tm_ic_ge X 60 dX5_tour_49 rfl ?_ ?_
            · skip
              exact hk60
            · skip
              refine tm_aload_n X 0 dX5_tour_52 rfl rfl ?_
              refine tm_cl2 (fun r20 h21 e19 => ?_)
              refine tm_callVi (As := []) (rest := []) (q0 := 0) X (ctX5_readsStep l D ad dA h8 r20 h21 e19) (lw_V q1491 q1493 qs71 q122 q1494) cyX5_readsStep rfl rfl rfl ⟨(Nat.le_of_ble_eq_true rfl), (Nat.le_of_ble_eq_true rfl)⟩ (Nat.le_of_ble_eq_true rfl) dX5_tour_53 ⟨Nat.le_of_ble_eq_true rfl, Nat.le_of_ble_eq_true rfl⟩ rfl ?_
              refine tm_istore_n X [(2, .int r20), (0, .ref (ad 300))] dX5_tour_56 rfl (Nat.le_of_ble_eq_true rfl) rfl ?_
              refine tm_goto X 37 dX5_tour_57 rfl ?_
              refine tm_lv X [1, 0] rfl ?_
              exact hk37 r20 h21
      · skip
        refine tm_lv X [] rfl ?_
        exact hk18
def mX5_isGlide (x0 : Int32) (x1 : Int32) : Option (Int32) :=
cl1 (mX5_in x0 (-4 : Int32) (4 : Int32)) (fun r1 =>
nm (fun (s3 : Int32) =>
bz s3 (some s3)) (fun k25 =>
nm (
k25 (0 : Int32)) (fun k24 =>
if r1 = 0 then (
k24) else (
cl1 (mX5_in x1 (-3 : Int32) (3 : Int32)) (fun r4 =>
if r4 = 0 then (
k24) else (
k25 (1 : Int32)))))))
theorem cyX5_isGlide : Callee yX5_isGlide 2 := by unfold Callee; decide +kernel
set_option maxHeartbeats 4000000 in
theorem ctX5_isGlide (l : Launch) (D : va_G) (dA : Nat → ClassId) (x0 : Int32) (x1 : Int32) (r : Int32) (hm : mX5_isGlide x0 x1 = some r) : CT l yX5_isGlide cX5_isGlide 2 (some .boolean) D dA 1 22 0 0 [] [.int x0, .int x1] (some (.int r)) [] := by
  refine ct_open (by decide) (Nat.le_of_ble_eq_true rfl) ?_
  intro G X hI hZ hV hR
  have hRet := fun hv => hZ rfl r hv rfl
  refine (show TM G r (mX5_isGlide x0 x1) [] 0 0 0 [(0, .int x0), (1, .int x1)] [] from ?_) hm
  clear hm hI hZ hV hR
  unfold mX5_isGlide
  refine tm_iload_n X 0 dX5_isGlide_0 rfl rfl ?_
  refine tm_bipush X (-4 : Int32) dX5_isGlide_1 (by decide) ?_
  refine tm_iconst X (4 : Int32) dX5_isGlide_3 (by decide) ?_
  refine tm_cl1 (fun r1 e2 => ?_)
  refine tm_callSi (As := [.int x0, .int (-4 : Int32), .int (4 : Int32)]) (rest := []) X (ctX5_in l D dA x0 (-4 : Int32) (4 : Int32) r1 e2) (lw_S q1366 q1367 q122 q1368) cyX5_in rfl ⟨(Nat.le_of_ble_eq_true rfl), (Nat.le_of_ble_eq_true rfl)⟩ (Nat.le_of_ble_eq_true rfl) dX5_isGlide_4 ⟨Nat.le_of_ble_eq_true rfl, Nat.le_of_ble_eq_true rfl⟩ rfl ?_
  refine tm_let (fun k => ∀ (s3 : Int32), TM G r (k s3) [] 0 0 25 [] [.int s3]) ?_ (fun k25 hk25 => ?_)
  · intro s3
    exact tm_retZ hRet dX5_isGlide_25
  · skip
    refine tm_let (fun k => TM G r k [] 0 0 24 [] []) ?_ (fun k24 hk24 => ?_)
    · skip
      refine tm_iconst X (0 : Int32) dX5_isGlide_24 (by decide) ?_
      exact hk25 (0 : Int32)
    · skip
      refine tm_if_eq X 24 dX5_isGlide_7 rfl ?_ ?_
      · skip
        refine tm_lv X [] rfl ?_
        exact hk24
      · skip
        refine tm_iload_n X 1 dX5_isGlide_10 rfl rfl ?_
        refine tm_bipush X (-3 : Int32) dX5_isGlide_11 (by decide) ?_
        refine tm_iconst X (3 : Int32) dX5_isGlide_13 (by decide) ?_
        refine tm_cl1 (fun r4 e5 => ?_)
        refine tm_callSi (As := [.int x1, .int (-3 : Int32), .int (3 : Int32)]) (rest := []) X (ctX5_in l D dA x1 (-3 : Int32) (3 : Int32) r4 e5) (lw_S q1366 q1367 q122 q1368) cyX5_in rfl ⟨(Nat.le_of_ble_eq_true rfl), (Nat.le_of_ble_eq_true rfl)⟩ (Nat.le_of_ble_eq_true rfl) dX5_isGlide_14 ⟨Nat.le_of_ble_eq_true rfl, Nat.le_of_ble_eq_true rfl⟩ rfl ?_
        refine tm_if_eq X 24 dX5_isGlide_17 rfl ?_ ?_
        · skip
          refine tm_lv X [] rfl ?_
          exact hk24
        · skip
          refine tm_iconst X (1 : Int32) dX5_isGlide_20 (by decide) ?_
          refine tm_goto X 25 dX5_isGlide_21 rfl ?_
          refine tm_lv X [] rfl ?_
          exact hk25 (1 : Int32)
def mX5_isSum (x0 : Int32) : Option (Int32) :=
cl1 (mX5_in x0 (0 : Int32) (50 : Int32)) (fun r1 =>
bz r1 (some r1))
theorem cyX5_isSum : Callee yX5_isSum 1 := by unfold Callee; decide +kernel
set_option maxHeartbeats 4000000 in
theorem ctX5_isSum (l : Launch) (D : va_G) (dA : Nat → ClassId) (x0 : Int32) (r : Int32) (hm : mX5_isSum x0 = some r) : CT l yX5_isSum cX5_isSum 1 (some .boolean) D dA 1 22 0 0 [] [.int x0] (some (.int r)) [] := by
  refine ct_open (by decide) (Nat.le_of_ble_eq_true rfl) ?_
  intro G X hI hZ hV hR
  have hRet := fun hv => hZ rfl r hv rfl
  refine (show TM G r (mX5_isSum x0) [] 0 0 0 [(0, .int x0)] [] from ?_) hm
  clear hm hI hZ hV hR
  unfold mX5_isSum
  refine tm_iload_n X 0 dX5_isSum_0 rfl rfl ?_
  refine tm_iconst X (0 : Int32) dX5_isSum_1 (by decide) ?_
  refine tm_bipush X (50 : Int32) dX5_isSum_2 (by decide) ?_
  refine tm_cl1 (fun r1 e2 => ?_)
  refine tm_callSi (As := [.int x0, .int (0 : Int32), .int (50 : Int32)]) (rest := []) X (ctX5_in l D dA x0 (0 : Int32) (50 : Int32) r1 e2) (lw_S q1366 q1367 q122 q1368) cyX5_in rfl ⟨(Nat.le_of_ble_eq_true rfl), (Nat.le_of_ble_eq_true rfl)⟩ (Nat.le_of_ble_eq_true rfl) dX5_isSum_4 ⟨Nat.le_of_ble_eq_true rfl, Nat.le_of_ble_eq_true rfl⟩ rfl ?_
  exact tm_retZ hRet dX5_isSum_7
def mX5_against (x0 : Int32) (x1 : Int32) (x2 : Int32) : Option (Int32) :=
nm (((jrem x0 (8 : Int32)) - x1)) (fun v1 =>
nm (((x0 / (8 : Int32)) - x2)) (fun v2 =>
cl1 (mX5_in v1 (0 : Int32) (7 : Int32)) (fun r3 =>
nm (fun (s5 : Int32) =>
some s5) (fun k46 =>
nm (
k46 (-1 : Int32)) (fun k45 =>
if r3 = 0 then (
k45) else (
cl1 (mX5_in v2 (0 : Int32) (5 : Int32)) (fun r6 =>
if r6 = 0 then (
k45) else (
k46 (((8 : Int32) * v2) + v1)))))))))
theorem cyX5_against : Callee yX5_against 3 := by unfold Callee; decide +kernel
set_option maxHeartbeats 4000000 in
theorem ctX5_against (l : Launch) (D : va_G) (dA : Nat → ClassId) (x0 : Int32) (x1 : Int32) (x2 : Int32) (r : Int32) (hm : mX5_against x0 x1 x2 = some r) : CT l yX5_against cX5_against 5 (some .int) D dA 1 22 0 0 [] [.int x0, .int x1, .int x2] (some (.int r)) [] := by
  refine ct_open (by decide) (Nat.le_of_ble_eq_true rfl) ?_
  intro G X hI hZ hV hR
  have hRet := hI rfl r rfl
  refine (show TM G r (mX5_against x0 x1 x2) [] 0 0 0 [(0, .int x0), (1, .int x1), (2, .int x2)] [] from ?_) hm
  clear hm hI hZ hV hR
  unfold mX5_against
  refine tm_iload_n X 0 dX5_against_0 rfl rfl ?_
  refine tm_bipush X (8 : Int32) dX5_against_1 (by decide) ?_
  refine tm_irem X dX5_against_3 (by decide) ?_
  refine tm_iload_n X 1 dX5_against_4 rfl rfl ?_
  refine tm_isub X dX5_against_5 ?_
  refine tm_nmI (fun v1 => ?_)
  refine tm_istore_n X [(3, .int v1), (0, .int x0), (1, .int x1), (2, .int x2)] dX5_against_6 rfl (Nat.le_of_ble_eq_true rfl) rfl ?_
  refine tm_iload_n X 1 dX5_against_7 rfl rfl ?_
  refine tm_bipush X (8 : Int32) dX5_against_8 (by decide) ?_
  refine tm_idiv X dX5_against_10 (by decide) ?_
  refine tm_iload_n X 3 dX5_against_11 rfl rfl ?_
  refine tm_isub X dX5_against_12 ?_
  refine tm_nmI (fun v2 => ?_)
  refine tm_istore X [(4, .int v2), (3, .int v1), (0, .int x0), (1, .int x1), (2, .int x2)] dX5_against_13 (Nat.le_of_ble_eq_true rfl) rfl ?_
  refine tm_iload_n X 1 dX5_against_15 rfl rfl ?_
  refine tm_iconst X (0 : Int32) dX5_against_16 (by decide) ?_
  refine tm_bipush X (7 : Int32) dX5_against_17 (by decide) ?_
  refine tm_cl1 (fun r3 e4 => ?_)
  refine tm_callSi (As := [.int v1, .int (0 : Int32), .int (7 : Int32)]) (rest := []) X (ctX5_in l D dA v1 (0 : Int32) (7 : Int32) r3 e4) (lw_S q1366 q1367 q122 q1368) cyX5_in rfl ⟨(Nat.le_of_ble_eq_true rfl), (Nat.le_of_ble_eq_true rfl)⟩ (Nat.le_of_ble_eq_true rfl) dX5_against_19 ⟨Nat.le_of_ble_eq_true rfl, Nat.le_of_ble_eq_true rfl⟩ rfl ?_
  refine tm_let (fun k => ∀ (s5 : Int32), TM G r (k s5) [] 0 0 46 [] [.int s5]) ?_ (fun k46 hk46 => ?_)
  · intro s5
    exact tm_retI hRet dX5_against_46
  · skip
    refine tm_let (fun k => TM G r k [] 0 0 45 [] []) ?_ (fun k45 hk45 => ?_)
    · skip
      refine tm_iconst X (-1 : Int32) dX5_against_45 (by decide) ?_
      exact hk46 (-1 : Int32)
    · skip
      refine tm_if_eq X 45 dX5_against_22 rfl ?_ ?_
      · skip
        refine tm_lv X [] rfl ?_
        exact hk45
      · skip
        refine tm_iload X 0 dX5_against_25 rfl ?_
        refine tm_iconst X (0 : Int32) dX5_against_27 (by decide) ?_
        refine tm_iconst X (5 : Int32) dX5_against_28 (by decide) ?_
        refine tm_cl1 (fun r6 e7 => ?_)
        refine tm_callSi (As := [.int v2, .int (0 : Int32), .int (5 : Int32)]) (rest := []) X (ctX5_in l D dA v2 (0 : Int32) (5 : Int32) r6 e7) (lw_S q1366 q1367 q122 q1368) cyX5_in rfl ⟨(Nat.le_of_ble_eq_true rfl), (Nat.le_of_ble_eq_true rfl)⟩ (Nat.le_of_ble_eq_true rfl) dX5_against_29 ⟨Nat.le_of_ble_eq_true rfl, Nat.le_of_ble_eq_true rfl⟩ rfl ?_
        refine tm_if_eq X 45 dX5_against_32 rfl ?_ ?_
        · skip
          refine tm_lv X [] rfl ?_
          exact hk45
        · skip
          refine tm_bipush X (8 : Int32) dX5_against_35 (by decide) ?_
          refine tm_iload X 0 dX5_against_37 rfl ?_
          refine tm_imul X dX5_against_39 ?_
          refine tm_iload_n X 1 dX5_against_40 rfl rfl ?_
          refine tm_iadd X dX5_against_41 ?_
          refine tm_goto X 46 dX5_against_42 rfl ?_
          refine tm_lv X [] rfl ?_
          exact hk46 (((8 : Int32) * v2) + v1)
def mX5_upperAt (h : Hp) (x1 : Int32) : Option (Int32) :=
nm (((48 : Int32) + x1)) (fun v1 =>
ck v1 96 (
some (h 200 v1.toNatClampNeg)))
theorem cyX5_upperAt : Callee yX5_upperAt 1 := by unfold Callee; decide +kernel
set_option maxHeartbeats 4000000 in
theorem ctX5_upperAt (l : Launch) (D : va_G) (ad : Nat → Nat) (dA : Nat → ClassId) (h : Hp) (x1 : Int32) (r : Int32) (hm : mX5_upperAt h x1 = some r) : CT l yX5_upperAt cX5_upperAt 2 (some .int) D dA 0 0 0 0 (wM ad dA h) [.ref (ad 300), .int x1] (some (.int r)) (wM ad dA h) := by
  refine ct_open (by decide) (Nat.le_of_ble_eq_true rfl) ?_
  intro G X hI hZ hV hR
  have hRet := hI rfl r rfl
  refine (show TM G r (mX5_upperAt h x1) (wM ad dA h) 0 0 0 [(0, .ref (ad 300)), (1, .int x1)] [] from ?_) hm
  clear hm hI hZ hV hR
  unfold mX5_upperAt
  refine tm_aload_n X 0 dX5_upperAt_0 rfl rfl ?_
  refine tm_getR X (frM_300_0 ad dA h) in_X5 rfl (Nat.le_of_ble_eq_true rfl) q1187 rfl dX5_upperAt_1 ?_
  refine tm_bipush X (48 : Int32) dX5_upperAt_4 (by decide) ?_
  refine tm_iload_n X 1 dX5_upperAt_6 rfl rfl ?_
  refine tm_iadd X dX5_upperAt_7 ?_
  refine tm_nmI (fun v1 => ?_)
  refine tm_iaload X (arM_200 ad dA) dX5_upperAt_8 ?_
  exact tm_retI hRet dX5_upperAt_9
def mX5_lowerAt (h : Hp) (x1 : Int32) : Option (Int32) :=
ck x1 96 (
some (h 200 x1.toNatClampNeg))
theorem cyX5_lowerAt : Callee yX5_lowerAt 1 := by unfold Callee; decide +kernel
set_option maxHeartbeats 4000000 in
theorem ctX5_lowerAt (l : Launch) (D : va_G) (ad : Nat → Nat) (dA : Nat → ClassId) (h : Hp) (x1 : Int32) (r : Int32) (hm : mX5_lowerAt h x1 = some r) : CT l yX5_lowerAt cX5_lowerAt 2 (some .int) D dA 0 0 0 0 (wM ad dA h) [.ref (ad 300), .int x1] (some (.int r)) (wM ad dA h) := by
  refine ct_open (by decide) (Nat.le_of_ble_eq_true rfl) ?_
  intro G X hI hZ hV hR
  have hRet := hI rfl r rfl
  refine (show TM G r (mX5_lowerAt h x1) (wM ad dA h) 0 0 0 [(0, .ref (ad 300)), (1, .int x1)] [] from ?_) hm
  clear hm hI hZ hV hR
  unfold mX5_lowerAt
  refine tm_aload_n X 0 dX5_lowerAt_0 rfl rfl ?_
  refine tm_getR X (frM_300_0 ad dA h) in_X5 rfl (Nat.le_of_ble_eq_true rfl) q1187 rfl dX5_lowerAt_1 ?_
  refine tm_iload_n X 1 dX5_lowerAt_4 rfl rfl ?_
  refine tm_iaload X (arM_200 ad dA) dX5_lowerAt_5 ?_
  exact tm_retI hRet dX5_lowerAt_6
def mX5_sumAt (h : Hp) (x1 : Int32) (x2 : Int32) (x3 : Int32) : Option (Int32) :=
cl1 (mX5_against x1 x2 x3) (fun r1 =>
nm (fun (s3 : Int32) =>
some s3) (fun k30 =>
if r1 = (-1 : Int32) then (
k30 (-1 : Int32)) else (
cl1 (mX5_upperAt h x1) (fun r5 =>
cl1 (mX5_lowerAt h r1) (fun r7 =>
k30 (r5 + r7))))))
theorem cyX5_sumAt : Callee yX5_sumAt 3 := by unfold Callee; decide +kernel
set_option maxHeartbeats 4000000 in
theorem ctX5_sumAt (l : Launch) (D : va_G) (ad : Nat → Nat) (dA : Nat → ClassId) (h : Hp) (x1 : Int32) (x2 : Int32) (x3 : Int32) (r : Int32) (hm : mX5_sumAt h x1 x2 x3 = some r) : CT l yX5_sumAt cX5_sumAt 5 (some .int) D dA 2 46 0 0 (wM ad dA h) [.ref (ad 300), .int x1, .int x2, .int x3] (some (.int r)) (wM ad dA h) := by
  refine ct_open (by decide) (Nat.le_of_ble_eq_true rfl) ?_
  intro G X hI hZ hV hR
  have hRet := hI rfl r rfl
  refine (show TM G r (mX5_sumAt h x1 x2 x3) (wM ad dA h) 0 0 0 [(0, .ref (ad 300)), (1, .int x1), (2, .int x2), (3, .int x3)] [] from ?_) hm
  clear hm hI hZ hV hR
  unfold mX5_sumAt
  refine tm_iload_n X 1 dX5_sumAt_0 rfl rfl ?_
  refine tm_iload_n X 2 dX5_sumAt_1 rfl rfl ?_
  refine tm_iload_n X 3 dX5_sumAt_2 rfl rfl ?_
  refine tm_cl1 (fun r1 e2 => ?_)
  refine tm_callSi (As := [.int x1, .int x2, .int x3]) (rest := []) X (ctX5_against l D dA x1 x2 x3 r1 e2) (lw_S q1528 q1529 q122 q1530) cyX5_against rfl ⟨(Nat.le_of_ble_eq_true rfl), (Nat.le_of_ble_eq_true rfl)⟩ (Nat.le_of_ble_eq_true rfl) dX5_sumAt_3 ⟨Nat.le_of_ble_eq_true rfl, Nat.le_of_ble_eq_true rfl⟩ rfl ?_
  refine tm_istore X [(4, .int r1), (0, .ref (ad 300)), (1, .int x1), (2, .int x2), (3, .int x3)] dX5_sumAt_6 (Nat.le_of_ble_eq_true rfl) rfl ?_
  refine tm_iload X 0 dX5_sumAt_8 rfl ?_
  refine tm_iconst X (-1 : Int32) dX5_sumAt_10 (by decide) ?_
  refine tm_let (fun k => ∀ (s3 : Int32), TM G r (k s3) (wM ad dA h) 0 0 30 [] [.int s3]) ?_ (fun k30 hk30 => ?_)
  · intro s3
    exact tm_retI hRet dX5_sumAt_30
  · skip
    refine tm_ic_ne X 18 dX5_sumAt_11 rfl ?_ ?_
    · skip
      refine tm_aload_n X 1 dX5_sumAt_18 rfl rfl ?_
      refine tm_iload_n X 2 dX5_sumAt_19 rfl rfl ?_
      refine tm_cl1 (fun r5 e4 => ?_)
      refine tm_callVi (As := [.int x1]) (rest := []) (q0 := 0) X (ctX5_upperAt l D ad dA h x1 r5 e4) (lw_V q1531 q1533 qs77 q122 q1534) cyX5_upperAt rfl rfl rfl ⟨(Nat.le_of_ble_eq_true rfl), (Nat.le_of_ble_eq_true rfl)⟩ (Nat.le_of_ble_eq_true rfl) dX5_sumAt_20 ⟨Nat.le_of_ble_eq_true rfl, Nat.le_of_ble_eq_true rfl⟩ rfl ?_
      refine tm_aload_n X 1 dX5_sumAt_23 rfl rfl ?_
      refine tm_iload X 0 dX5_sumAt_24 rfl ?_
      refine tm_cl1 (fun r7 e6 => ?_)
      refine tm_callVi (As := [.int r1]) (rest := [.int r5]) (q0 := 0) X (ctX5_lowerAt l D ad dA h r1 r7 e6) (lw_V q1535 q1537 qs78 q122 q1538) cyX5_lowerAt rfl rfl rfl ⟨(Nat.le_of_ble_eq_true rfl), (Nat.le_of_ble_eq_true rfl)⟩ (Nat.le_of_ble_eq_true rfl) dX5_sumAt_26 ⟨Nat.le_of_ble_eq_true rfl, Nat.le_of_ble_eq_true rfl⟩ rfl ?_
      refine tm_iadd X dX5_sumAt_29 ?_
      refine tm_lv X [] rfl ?_
      exact hk30 (r5 + r7)
    · skip
      refine tm_iconst X (-1 : Int32) dX5_sumAt_14 (by decide) ?_
      refine tm_goto X 30 dX5_sumAt_15 rfl ?_
      refine tm_lv X [] rfl ?_
      exact hk30 (-1 : Int32)
def mX5_max (x0 : Int32) (x1 : Int32) : Option (Int32) :=
nm (fun (s1 : Int32) =>
some s1) (fun k10 =>
if x0 ≤ x1 then (
k10 x1) else (
k10 x0))
theorem cyX5_max : Callee yX5_max 2 := by unfold Callee; decide +kernel
set_option maxHeartbeats 4000000 in
theorem ctX5_max (l : Launch) (D : va_G) (dA : Nat → ClassId) (x0 : Int32) (x1 : Int32) (r : Int32) (hm : mX5_max x0 x1 = some r) : CT l yX5_max cX5_max 2 (some .int) D dA 0 0 0 0 [] [.int x0, .int x1] (some (.int r)) [] := by
  refine ct_open (by decide) (Nat.le_of_ble_eq_true rfl) ?_
  intro G X hI hZ hV hR
  have hRet := hI rfl r rfl
  refine (show TM G r (mX5_max x0 x1) [] 0 0 0 [(0, .int x0), (1, .int x1)] [] from ?_) hm
  clear hm hI hZ hV hR
  unfold mX5_max
  refine tm_iload_n X 0 dX5_max_0 rfl rfl ?_
  refine tm_iload_n X 1 dX5_max_1 rfl rfl ?_
  refine tm_let (fun k => ∀ (s1 : Int32), TM G r (k s1) [] 0 0 10 [] [.int s1]) ?_ (fun k10 hk10 => ?_)
  · intro s1
    exact tm_retI hRet dX5_max_10
  · skip
    refine tm_ic_le X 9 dX5_max_2 rfl ?_ ?_
    · skip
      refine tm_iload_n X 1 dX5_max_9 rfl rfl ?_
      refine tm_lv X [] rfl ?_
      exact hk10 x1
    · skip
      refine tm_iload_n X 0 dX5_max_5 rfl rfl ?_
      refine tm_goto X 10 dX5_max_6 rfl ?_
      refine tm_lv X [] rfl ?_
      exact hk10 x0
def mX5_opening (h : Hp) (x1 : Int32) (x2 : Int32) : Option (Int32) :=
fx FU (fun _ _ => none) (fun k5 (x3_1 : Int32) (x4_2 : Int32) =>
if (48 : Int32) ≤ x4_2 then (
some x3_1) else (
cl1 (mX5_sumAt h x4_2 x1 x2) (fun r4 =>
cl1 (mX5_max x3_1 r4) (fun r5 =>
k5 r5 (x4_2 + (1 : Int32)))))) (0 : Int32) (0 : Int32)
theorem cyX5_opening : Callee yX5_opening 2 := by unfold Callee; decide +kernel
set_option maxHeartbeats 4000000 in
theorem ctX5_opening (l : Launch) (D : va_G) (ad : Nat → Nat) (dA : Nat → ClassId) (h : Hp) (x1 : Int32) (x2 : Int32) (r : Int32) (hm : mX5_opening h x1 x2 = some r) : CT l yX5_opening cX5_opening 5 (some .int) D dA 3 70 0 0 (wM ad dA h) [.ref (ad 300), .int x1, .int x2] (some (.int r)) (wM ad dA h) := by
  refine ct_open (by decide) (Nat.le_of_ble_eq_true rfl) ?_
  intro G X hI hZ hV hR
  have hRet := hI rfl r rfl
  refine (show TM G r (mX5_opening h x1 x2) (wM ad dA h) 0 0 0 [(0, .ref (ad 300)), (1, .int x1), (2, .int x2)] [] from ?_) hm
  clear hm hI hZ hV hR
  unfold mX5_opening
  refine tm_iconst X (0 : Int32) dX5_opening_0 (by decide) ?_
  refine tm_istore_n X [(3, .int (0 : Int32)), (0, .ref (ad 300)), (1, .int x1), (2, .int x2)] dX5_opening_1 rfl (Nat.le_of_ble_eq_true rfl) rfl ?_
  refine tm_iconst X (0 : Int32) dX5_opening_2 (by decide) ?_
  refine tm_istore X [(4, .int (0 : Int32)), (3, .int (0 : Int32)), (0, .ref (ad 300)), (1, .int x1), (2, .int x2)] dX5_opening_3 (Nat.le_of_ble_eq_true rfl) rfl ?_
  refine tm_lv X [2, 3, 4, 1, 0] rfl ?_
  refine fx_P (fun (k : Int32 → Int32 → Option (Int32)) => ∀ (x3_1 : Int32) (x4_2 : Int32), TM G r (k x3_1 x4_2) (wM ad dA h) 0 0 5 [(0, .ref (ad 300)), (1, .int x1), (2, .int x2), (3, .int x3_1), (4, .int x4_2)] []) (fun _ _ => tm_none) (fun k5 hk5 x3_1 x4_2 => ?_) FU (0 : Int32) (0 : Int32)
  refine tm_iload X 4 dX5_opening_5 rfl ?_
  refine tm_bipush X (48 : Int32) dX5_opening_7 (by decide) ?_
  refine tm_ic_ge X 31 dX5_opening_9 rfl ?_ ?_
  · skip
    refine tm_iload_n X 3 dX5_opening_31 rfl rfl ?_
    exact tm_retI hRet dX5_opening_32
  · skip
    refine tm_iload_n X 3 dX5_opening_12 rfl rfl ?_
    refine tm_aload_n X 0 dX5_opening_13 rfl rfl ?_
    refine tm_iload X 4 dX5_opening_14 rfl ?_
    refine tm_iload_n X 1 dX5_opening_16 rfl rfl ?_
    refine tm_iload_n X 2 dX5_opening_17 rfl rfl ?_
    refine tm_cl1 (fun r4 e3 => ?_)
    refine tm_callVi (As := [.int x4_2, .int x1, .int x2]) (rest := [.int x3_1]) (q0 := 0) X (ctX5_sumAt l D ad dA h x4_2 x1 x2 r4 e3) (lw_V q1524 q1526 qs76 q122 q1527) cyX5_sumAt rfl rfl rfl ⟨(Nat.le_of_ble_eq_true rfl), (Nat.le_of_ble_eq_true rfl)⟩ (Nat.le_of_ble_eq_true rfl) dX5_opening_18 ⟨Nat.le_of_ble_eq_true rfl, Nat.le_of_ble_eq_true rfl⟩ rfl ?_
    refine tm_cl1 (fun r5 e6 => ?_)
    refine tm_callSi (As := [.int x3_1, .int r4]) (rest := []) X (ctX5_max l D dA x3_1 r4 r5 e6) (lw_S q1539 q1540 q122 q1541) cyX5_max rfl ⟨(Nat.le_of_ble_eq_true rfl), (Nat.le_of_ble_eq_true rfl)⟩ (Nat.le_of_ble_eq_true rfl) dX5_opening_21 ⟨Nat.le_of_ble_eq_true rfl, Nat.le_of_ble_eq_true rfl⟩ rfl ?_
    refine tm_istore_n X [(3, .int r5), (0, .ref (ad 300)), (1, .int x1), (2, .int x2), (4, .int x4_2)] dX5_opening_24 rfl (Nat.le_of_ble_eq_true rfl) rfl ?_
    refine tm_iinc (v := (1 : Int32)) X 4 [(4, .int (x4_2 + (1 : Int32))), (3, .int r5), (0, .ref (ad 300)), (1, .int x1), (2, .int x2)] dX5_opening_25 rfl (by decide) (Nat.le_of_ble_eq_true rfl) rfl ?_
    refine tm_goto X 5 dX5_opening_28 rfl ?_
    refine tm_lv X [2, 3, 4, 1, 0] rfl ?_
    exact hk5 r5 (x4_2 + (1 : Int32))
