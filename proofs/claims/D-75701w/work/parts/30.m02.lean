set_option maxRecDepth 100000
def mX5_readsRule (h : Hp)  : Option (Int32 × Hp) :=
cl1 (mX5_here h) (fun r2 =>
nm (
if (h 300 14) = (16 : Int32) then (
cl2 (mX5_wrongAt h (4 : Int32) (h 300 7)) (fun r19 h20 =>
bz r19 (some (r19, h20)))) else (
ck (h 300 14) 16 (nm (u2 h 218 (h 300 14).toNatClampNeg r2) (fun h3 =>
nm (u2 h3 300 7 ((h3 300 7) + (1 : Int32))) (fun h4 =>
ck (h4 300 14) 16 (nm (u2 h4 219 (h4 300 14).toNatClampNeg (h4 300 12)) (fun h5 =>
nm (u2 h5 300 11 (0 : Int32)) (fun h6 =>
nm (u2 h6 300 13 (0 : Int32)) (fun h7 =>
nm (fun (h8 : Hp) =>
ck (h8 300 14) 16 (nm (u2 h8 220 (h8 300 14).toNatClampNeg (h8 300 12)) (fun h9 =>
cl2 (mX5_readsCondition h9) (fun r11 h12 =>
if r11 = 0 then (
bz (0 : Int32) (some ((0 : Int32), h12))) else (
ck (h12 300 14) 16 (nm (u2 h12 221 (h12 300 14).toNatClampNeg (h12 300 12)) (fun h13 =>
nm (u2 h13 300 14 ((h13 300 14) + (1 : Int32))) (fun h14 =>
bz (1 : Int32) (some ((1 : Int32), h14)))))))))) (fun k110 =>
if r2 = (120 : Int32) then (
k110 h7) else (
cl2 (mX5_readsSum h7) (fun r16 h17 =>
if r16 = 0 then (
bz (0 : Int32) (some ((0 : Int32), h17))) else (
k110 h17))))))))))))) (fun k33 =>
if r2 = (118 : Int32) then (
k33) else (
if r2 = (121 : Int32) then (
k33) else (
if r2 = (120 : Int32) then (
k33) else (
cl2 (mX5_wrongAt h (1 : Int32) (h 300 7)) (fun r22 h23 =>
bz r22 (some (r22, h23))))))))
theorem cyX5_readsRule : Callee yX5_readsRule 0 := by unfold Callee; decide +kernel
set_option maxHeartbeats 4000000 in
theorem ctX5_readsRule (l : Launch) (D : va_G) (ad : Nat → Nat) (dA : Nat → ClassId) (h : Hp)  (r : Int32) (h' : Hp) (hm : mX5_readsRule h = some (r, h')) : CT l yX5_readsRule cX5_readsRule 2 (some .boolean) D dA 7 145 0 0 (wM ad dA h) [.ref (ad 300)] (some (.int r)) (wM ad dA h') := by
  refine ct_open (by decide) (Nat.le_of_ble_eq_true rfl) ?_
  intro G X hI hZ hV hR
  have hRet := fun hv => hZ rfl r hv rfl
  refine (show TM G (r, h') (mX5_readsRule h) (wM ad dA h) 0 0 0 [(0, .ref (ad 300))] [] from ?_) hm
  clear hm hI hZ hV hR
  unfold mX5_readsRule
  refine tm_aload_n X 0 dX5_readsRule_0 rfl rfl ?_
  refine tm_cl1 (fun r2 e1 => ?_)
  refine tm_callVi (As := []) (rest := []) (q0 := 0) X (ctX5_here l D ad dA h r2 e1) (lw_V q1400 q1402 qs52 q122 q1403) cyX5_here rfl rfl rfl ⟨(Nat.le_of_ble_eq_true rfl), (Nat.le_of_ble_eq_true rfl)⟩ (Nat.le_of_ble_eq_true rfl) dX5_readsRule_1 ⟨Nat.le_of_ble_eq_true rfl, Nat.le_of_ble_eq_true rfl⟩ rfl ?_
  refine tm_istore_n X [(1, .int r2), (0, .ref (ad 300))] dX5_readsRule_4 rfl (Nat.le_of_ble_eq_true rfl) rfl ?_
  refine tm_iload_n X 0 dX5_readsRule_5 rfl rfl ?_
  refine tm_bipush X (118 : Int32) dX5_readsRule_6 (by decide) ?_
  refine tm_let (fun k => TM G (r, h') k (wM ad dA h) 0 0 33 [(0, .ref (ad 300)), (1, .int r2)] []) ?_ (fun k33 hk33 => ?_)
  · skip
    refine tm_aload_n X 0 dX5_readsRule_33 rfl rfl ?_
    refine tm_getI X (fiM_300_14 ad dA) in_X5 rfl (Nat.le_of_ble_eq_true rfl) q1201 rfl dX5_readsRule_34 ?_
    refine tm_bipush X (16 : Int32) dX5_readsRule_37 (by decide) ?_
    refine tm_ic_ne X 52 dX5_readsRule_39 rfl ?_ ?_
    · skip
      refine tm_aload_n X 0 dX5_readsRule_52 rfl rfl ?_
      refine tm_getR X (frM_300_18 ad dA h) in_X5 rfl (Nat.le_of_ble_eq_true rfl) q1205 rfl dX5_readsRule_53 ?_
      refine tm_aload_n X 0 dX5_readsRule_56 rfl rfl ?_
      refine tm_getI X (fiM_300_14 ad dA) in_X5 rfl (Nat.le_of_ble_eq_true rfl) q1201 rfl dX5_readsRule_57 ?_
      refine tm_iload_n X 1 dX5_readsRule_60 rfl rfl ?_
      refine tm_iastore X (arM_218 ad dA) dX5_readsRule_61 (fun h3 => ?_)
      refine tm_aload_n X 0 dX5_readsRule_62 rfl rfl ?_
      refine tm_aload_n X 0 dX5_readsRule_63 rfl rfl ?_
      refine tm_getI X (fiM_300_7 ad dA) in_X5 rfl (Nat.le_of_ble_eq_true rfl) q1194 rfl dX5_readsRule_64 ?_
      refine tm_iconst X (1 : Int32) dX5_readsRule_67 (by decide) ?_
      refine tm_iadd X dX5_readsRule_68 ?_
      refine tm_putI X (fiM_300_7 ad dA) in_X5 rfl (Nat.le_of_ble_eq_true rfl) tyX5 tyX5_ok nmX5 rfl rfl q1194 rfl dX5_readsRule_69 (fun h4 => ?_)
      refine tm_aload_n X 0 dX5_readsRule_72 rfl rfl ?_
      refine tm_getR X (frM_300_19 ad dA h4) in_X5 rfl (Nat.le_of_ble_eq_true rfl) q1206 rfl dX5_readsRule_73 ?_
      refine tm_aload_n X 0 dX5_readsRule_76 rfl rfl ?_
      refine tm_getI X (fiM_300_14 ad dA) in_X5 rfl (Nat.le_of_ble_eq_true rfl) q1201 rfl dX5_readsRule_77 ?_
      refine tm_aload_n X 0 dX5_readsRule_80 rfl rfl ?_
      refine tm_getI X (fiM_300_12 ad dA) in_X5 rfl (Nat.le_of_ble_eq_true rfl) q1199 rfl dX5_readsRule_81 ?_
      refine tm_iastore X (arM_219 ad dA) dX5_readsRule_84 (fun h5 => ?_)
      refine tm_aload_n X 0 dX5_readsRule_85 rfl rfl ?_
      refine tm_iconst X (0 : Int32) dX5_readsRule_86 (by decide) ?_
      refine tm_putI X (fiM_300_11 ad dA) in_X5 rfl (Nat.le_of_ble_eq_true rfl) tyX5 tyX5_ok nmX5 rfl rfl q1198 rfl dX5_readsRule_87 (fun h6 => ?_)
      refine tm_aload_n X 0 dX5_readsRule_90 rfl rfl ?_
      refine tm_iconst X (0 : Int32) dX5_readsRule_91 (by decide) ?_
      refine tm_putI X (fiM_300_13 ad dA) in_X5 rfl (Nat.le_of_ble_eq_true rfl) tyX5 tyX5_ok nmX5 rfl rfl q1200 rfl dX5_readsRule_92 (fun h7 => ?_)
      refine tm_iload_n X 1 dX5_readsRule_95 rfl rfl ?_
      refine tm_bipush X (120 : Int32) dX5_readsRule_96 (by decide) ?_
      refine tm_let (fun k => ∀ (h8 : Hp), TM G (r, h') (k h8) (wM ad dA h8) 0 0 110 [(0, .ref (ad 300))] []) ?_ (fun k110 hk110 => ?_)
      · intro h8
        refine tm_aload_n X 0 dX5_readsRule_110 rfl rfl ?_
        refine tm_getR X (frM_300_20 ad dA h8) in_X5 rfl (Nat.le_of_ble_eq_true rfl) q1207 rfl dX5_readsRule_111 ?_
        refine tm_aload_n X 0 dX5_readsRule_114 rfl rfl ?_
        refine tm_getI X (fiM_300_14 ad dA) in_X5 rfl (Nat.le_of_ble_eq_true rfl) q1201 rfl dX5_readsRule_115 ?_
        refine tm_aload_n X 0 dX5_readsRule_118 rfl rfl ?_
        refine tm_getI X (fiM_300_12 ad dA) in_X5 rfl (Nat.le_of_ble_eq_true rfl) q1199 rfl dX5_readsRule_119 ?_
        refine tm_iastore X (arM_220 ad dA) dX5_readsRule_122 (fun h9 => ?_)
        refine tm_aload_n X 0 dX5_readsRule_123 rfl rfl ?_
        refine tm_cl2 (fun r11 h12 e10 => ?_)
        refine tm_callVi (As := []) (rest := []) (q0 := 0) X (ctX5_readsCondition l D ad dA h9 r11 h12 e10) (lw_V q1451 q1453 qs63 q122 q1454) cyX5_readsCondition rfl rfl rfl ⟨(Nat.le_of_ble_eq_true rfl), (Nat.le_of_ble_eq_true rfl)⟩ (Nat.le_of_ble_eq_true rfl) dX5_readsRule_124 ⟨Nat.le_of_ble_eq_true rfl, Nat.le_of_ble_eq_true rfl⟩ rfl ?_
        refine tm_if_ne X 132 dX5_readsRule_127 rfl ?_ ?_
        · skip
          refine tm_aload_n X 0 dX5_readsRule_132 rfl rfl ?_
          refine tm_getR X (frM_300_21 ad dA h12) in_X5 rfl (Nat.le_of_ble_eq_true rfl) q1208 rfl dX5_readsRule_133 ?_
          refine tm_aload_n X 0 dX5_readsRule_136 rfl rfl ?_
          refine tm_getI X (fiM_300_14 ad dA) in_X5 rfl (Nat.le_of_ble_eq_true rfl) q1201 rfl dX5_readsRule_137 ?_
          refine tm_aload_n X 0 dX5_readsRule_140 rfl rfl ?_
          refine tm_getI X (fiM_300_12 ad dA) in_X5 rfl (Nat.le_of_ble_eq_true rfl) q1199 rfl dX5_readsRule_141 ?_
          refine tm_iastore X (arM_221 ad dA) dX5_readsRule_144 (fun h13 => ?_)
          refine tm_aload_n X 0 dX5_readsRule_145 rfl rfl ?_
          refine tm_aload_n X 0 dX5_readsRule_146 rfl rfl ?_
          refine tm_getI X (fiM_300_14 ad dA) in_X5 rfl (Nat.le_of_ble_eq_true rfl) q1201 rfl dX5_readsRule_147 ?_
          refine tm_iconst X (1 : Int32) dX5_readsRule_150 (by decide) ?_
          refine tm_iadd X dX5_readsRule_151 ?_
          refine tm_putI X (fiM_300_14 ad dA) in_X5 rfl (Nat.le_of_ble_eq_true rfl) tyX5 tyX5_ok nmX5 rfl rfl q1201 rfl dX5_readsRule_152 (fun h14 => ?_)
          refine tm_iconst X (1 : Int32) dX5_readsRule_155 (by decide) ?_
          exact tm_retZH (wf := wM ad dA) hRet dX5_readsRule_156
        · skip
          refine tm_iconst X (0 : Int32) dX5_readsRule_130 (by decide) ?_
          exact tm_retZH (wf := wM ad dA) hRet dX5_readsRule_131
      · skip
        refine tm_ic_eq X 110 dX5_readsRule_98 rfl ?_ ?_
        · skip
          refine tm_lv X [0] rfl ?_
          exact hk110 h7
        · skip
          refine tm_aload_n X 0 dX5_readsRule_101 rfl rfl ?_
          refine tm_cl2 (fun r16 h17 e15 => ?_)
          refine tm_callVi (As := []) (rest := []) (q0 := 0) X (ctX5_readsSum l D ad dA h7 r16 h17 e15) (lw_V q1408 q1410 qs54 q122 q1411) cyX5_readsSum rfl rfl rfl ⟨(Nat.le_of_ble_eq_true rfl), (Nat.le_of_ble_eq_true rfl)⟩ (Nat.le_of_ble_eq_true rfl) dX5_readsRule_102 ⟨Nat.le_of_ble_eq_true rfl, Nat.le_of_ble_eq_true rfl⟩ rfl ?_
          refine tm_if_ne X 110 dX5_readsRule_105 rfl ?_ ?_
          · skip
            refine tm_lv X [0] rfl ?_
            exact hk110 h17
          · skip
            refine tm_iconst X (0 : Int32) dX5_readsRule_108 (by decide) ?_
            exact tm_retZH (wf := wM ad dA) hRet dX5_readsRule_109
    · skip
      refine tm_aload_n X 0 dX5_readsRule_42 rfl rfl ?_
      refine tm_iconst X (4 : Int32) dX5_readsRule_43 (by decide) ?_
      refine tm_aload_n X 0 dX5_readsRule_44 rfl rfl ?_
      refine tm_getI X (fiM_300_7 ad dA) in_X5 rfl (Nat.le_of_ble_eq_true rfl) q1194 rfl dX5_readsRule_45 ?_
      refine tm_cl2 (fun r19 h20 e18 => ?_)
      refine tm_callVi (As := [.int (4 : Int32), .int (h 300 7)]) (rest := []) (q0 := 0) X (ctX5_wrongAt l D ad dA h (4 : Int32) (h 300 7) r19 h20 e18) (lw_V q1404 q1406 qs53 q122 q1407) cyX5_wrongAt rfl rfl rfl ⟨(Nat.le_of_ble_eq_true rfl), (Nat.le_of_ble_eq_true rfl)⟩ (Nat.le_of_ble_eq_true rfl) dX5_readsRule_48 ⟨Nat.le_of_ble_eq_true rfl, Nat.le_of_ble_eq_true rfl⟩ rfl ?_
      exact tm_retZH (wf := wM ad dA) hRet dX5_readsRule_51
  · skip
    refine tm_ic_eq X 33 dX5_readsRule_8 rfl ?_ ?_
    · skip
      refine tm_lv X [1, 0] rfl ?_
      exact hk33
    · skip
      refine tm_iload_n X 0 dX5_readsRule_11 rfl rfl ?_
      refine tm_bipush X (121 : Int32) dX5_readsRule_12 (by decide) ?_
      refine tm_ic_eq X 33 dX5_readsRule_14 rfl ?_ ?_
      · skip
        refine tm_lv X [1, 0] rfl ?_
        exact hk33
      · skip
        refine tm_iload_n X 0 dX5_readsRule_17 rfl rfl ?_
        refine tm_bipush X (120 : Int32) dX5_readsRule_18 (by decide) ?_
        refine tm_ic_eq X 33 dX5_readsRule_20 rfl ?_ ?_
        · skip
          refine tm_lv X [1, 0] rfl ?_
          exact hk33
        · skip
          refine tm_aload_n X 1 dX5_readsRule_23 rfl rfl ?_
          refine tm_iconst X (1 : Int32) dX5_readsRule_24 (by decide) ?_
          refine tm_aload_n X 1 dX5_readsRule_25 rfl rfl ?_
          refine tm_getI X (fiM_300_7 ad dA) in_X5 rfl (Nat.le_of_ble_eq_true rfl) q1194 rfl dX5_readsRule_26 ?_
          refine tm_cl2 (fun r22 h23 e21 => ?_)
          refine tm_callVi (As := [.int (1 : Int32), .int (h 300 7)]) (rest := []) (q0 := 0) X (ctX5_wrongAt l D ad dA h (1 : Int32) (h 300 7) r22 h23 e21) (lw_V q1404 q1406 qs53 q122 q1407) cyX5_wrongAt rfl rfl rfl ⟨(Nat.le_of_ble_eq_true rfl), (Nat.le_of_ble_eq_true rfl)⟩ (Nat.le_of_ble_eq_true rfl) dX5_readsRule_29 ⟨Nat.le_of_ble_eq_true rfl, Nat.le_of_ble_eq_true rfl⟩ rfl ?_
          exact tm_retZH (wf := wM ad dA) hRet dX5_readsRule_32
def mX5_takes (h : Hp) (x1 : Int32) : Option (Int32 × Hp) :=
cl1 (mX5_here h) (fun r2 =>
if r2 = x1 then (
nm (u2 h 300 7 ((h 300 7) + (1 : Int32))) (fun h3 =>
bz (1 : Int32) (some ((1 : Int32), h3)))) else (
cl2 (mX5_wrongAt h (1 : Int32) (h 300 7)) (fun r5 h6 =>
bz r5 (some (r5, h6)))))
theorem cyX5_takes : Callee yX5_takes 1 := by unfold Callee; decide +kernel
set_option maxHeartbeats 4000000 in
theorem ctX5_takes (l : Launch) (D : va_G) (ad : Nat → Nat) (dA : Nat → ClassId) (h : Hp) (x1 : Int32) (r : Int32) (h' : Hp) (hm : mX5_takes h x1 = some (r, h')) : CT l yX5_takes cX5_takes 2 (some .boolean) D dA 1 22 0 0 (wM ad dA h) [.ref (ad 300), .int x1] (some (.int r)) (wM ad dA h') := by
  refine ct_open (by decide) (Nat.le_of_ble_eq_true rfl) ?_
  intro G X hI hZ hV hR
  have hRet := fun hv => hZ rfl r hv rfl
  refine (show TM G (r, h') (mX5_takes h x1) (wM ad dA h) 0 0 0 [(0, .ref (ad 300)), (1, .int x1)] [] from ?_) hm
  clear hm hI hZ hV hR
  unfold mX5_takes
  refine tm_aload_n X 0 dX5_takes_0 rfl rfl ?_
  refine tm_cl1 (fun r2 e1 => ?_)
  refine tm_callVi (As := []) (rest := []) (q0 := 0) X (ctX5_here l D ad dA h r2 e1) (lw_V q1400 q1402 qs52 q122 q1403) cyX5_here rfl rfl rfl ⟨(Nat.le_of_ble_eq_true rfl), (Nat.le_of_ble_eq_true rfl)⟩ (Nat.le_of_ble_eq_true rfl) dX5_takes_1 ⟨Nat.le_of_ble_eq_true rfl, Nat.le_of_ble_eq_true rfl⟩ rfl ?_
  refine tm_iload_n X 1 dX5_takes_4 rfl rfl ?_
  refine tm_ic_eq X 18 dX5_takes_5 rfl ?_ ?_
  · skip
    refine tm_aload_n X 0 dX5_takes_18 rfl rfl ?_
    refine tm_aload_n X 0 dX5_takes_19 rfl rfl ?_
    refine tm_getI X (fiM_300_7 ad dA) in_X5 rfl (Nat.le_of_ble_eq_true rfl) q1194 rfl dX5_takes_20 ?_
    refine tm_iconst X (1 : Int32) dX5_takes_23 (by decide) ?_
    refine tm_iadd X dX5_takes_24 ?_
    refine tm_putI X (fiM_300_7 ad dA) in_X5 rfl (Nat.le_of_ble_eq_true rfl) tyX5 tyX5_ok nmX5 rfl rfl q1194 rfl dX5_takes_25 (fun h3 => ?_)
    refine tm_iconst X (1 : Int32) dX5_takes_28 (by decide) ?_
    exact tm_retZH (wf := wM ad dA) hRet dX5_takes_29
  · skip
    refine tm_aload_n X 0 dX5_takes_8 rfl rfl ?_
    refine tm_iconst X (1 : Int32) dX5_takes_9 (by decide) ?_
    refine tm_aload_n X 0 dX5_takes_10 rfl rfl ?_
    refine tm_getI X (fiM_300_7 ad dA) in_X5 rfl (Nat.le_of_ble_eq_true rfl) q1194 rfl dX5_takes_11 ?_
    refine tm_cl2 (fun r5 h6 e4 => ?_)
    refine tm_callVi (As := [.int (1 : Int32), .int (h 300 7)]) (rest := []) (q0 := 0) X (ctX5_wrongAt l D ad dA h (1 : Int32) (h 300 7) r5 h6 e4) (lw_V q1404 q1406 qs53 q122 q1407) cyX5_wrongAt rfl rfl rfl ⟨(Nat.le_of_ble_eq_true rfl), (Nat.le_of_ble_eq_true rfl)⟩ (Nat.le_of_ble_eq_true rfl) dX5_takes_14 ⟨Nat.le_of_ble_eq_true rfl, Nat.le_of_ble_eq_true rfl⟩ rfl ?_
    exact tm_retZH (wf := wM ad dA) hRet dX5_takes_17
def mX5_law (h : Hp) (x1 : Int32) : Option (Int32 × Hp) :=
cl1 (mX5_in x1 (1 : Int32) (240 : Int32)) (fun r1 =>
nm (
some ((-1 : Int32), h)) (fun k19 =>
if r1 = 0 then (
k19) else (
if x1 ≤ (h 300 6) then (
cl1 (mX5_beginsText h x1) (fun h4 =>
cl2 (mX5_readsRule h4) (fun r6 h7 =>
fx FU (fun _ _ => none) (fun k31 (x2_8 : Int32) (h9 : Hp) =>
nm (
nm (u2 h9 300 6 (0 : Int32)) (fun h10 =>
if x2_8 = 0 then (
some ((h10 300 9), h10)) else (
nm (u2 h10 300 15 (h10 300 14)) (fun h11 =>
fx FU (fun _ _ => none) (fun k95 (x3_12 : Int32) (h13 : Hp) =>
if (h13 300 12) ≤ x3_12 then (
fx FU (fun _ _ => none) (fun k123 (x3_14 : Int32) (h15 : Hp) =>
if (h15 300 14) ≤ x3_14 then (
some ((h15 300 14), h15)) else (
ck x3_14 16 (
ck x3_14 16 (nm (u2 h15 223 x3_14.toNatClampNeg (h15 218 x3_14.toNatClampNeg)) (fun h16 =>
ck x3_14 16 (
ck x3_14 16 (nm (u2 h16 224 x3_14.toNatClampNeg (h16 219 x3_14.toNatClampNeg)) (fun h17 =>
ck x3_14 16 (
ck x3_14 16 (nm (u2 h17 225 x3_14.toNatClampNeg (h17 220 x3_14.toNatClampNeg)) (fun h18 =>
ck x3_14 16 (
ck x3_14 16 (nm (u2 h18 226 x3_14.toNatClampNeg (h18 221 x3_14.toNatClampNeg)) (fun h19 =>
k123 (x3_14 + (1 : Int32)) h19)))))))))))))) (0 : Int32) h13) else (
ck x3_12 260 (
ck x3_12 260 (nm (u2 h13 222 x3_12.toNatClampNeg (h13 216 x3_12.toNatClampNeg)) (fun h20 =>
k95 (x3_12 + (1 : Int32)) h20))))) (0 : Int32) h11)))) (fun k71 =>
if x2_8 = 0 then (
k71) else (
if (h9 300 8) ≤ (h9 300 7) then (
k71) else (
cl2 (mX5_takes h9 (59 : Int32)) (fun r22 h23 =>
nm (fun (s24 : Int32) (h25 : Hp) =>
k31 s24 h25) (fun k67 =>
nm (fun (h26 : Hp) =>
k67 (0 : Int32) h26) (fun k66 =>
if r22 = 0 then (
k66 h23) else (
cl2 (mX5_readsRule h23) (fun r28 h29 =>
if r28 = 0 then (
k66 h29) else (
k67 (1 : Int32) h29)))))))))) r6 h7))) else (
k19))))
theorem cyX5_law : Callee yX5_law 1 := by unfold Callee; decide +kernel
set_option maxHeartbeats 4000000 in
theorem ctX5_law (l : Launch) (D : va_G) (ad : Nat → Nat) (dA : Nat → ClassId) (h : Hp) (x1 : Int32) (r : Int32) (h' : Hp) (hm : mX5_law h x1 = some (r, h')) : CT l yX5_law cX5_law 4 (some .int) D dA 8 166 0 0 (wM ad dA h) [.ref (ad 300), .int x1] (some (.int r)) (wM ad dA h') := by
  refine ct_open (by decide) (Nat.le_of_ble_eq_true rfl) ?_
  intro G X hI hZ hV hR
  have hRet := hI rfl r rfl
  refine (show TM G (r, h') (mX5_law h x1) (wM ad dA h) 0 0 0 [(0, .ref (ad 300)), (1, .int x1)] [] from ?_) hm
  clear hm hI hZ hV hR
  unfold mX5_law
  refine tm_iload_n X 1 dX5_law_0 rfl rfl ?_
  refine tm_iconst X (1 : Int32) dX5_law_1 (by decide) ?_
  refine tm_sipush X (240 : Int32) dX5_law_2 (by decide) ?_
  refine tm_cl1 (fun r1 e2 => ?_)
  refine tm_callSi (As := [.int x1, .int (1 : Int32), .int (240 : Int32)]) (rest := []) X (ctX5_in l D dA x1 (1 : Int32) (240 : Int32) r1 e2) (lw_S q1366 q1367 q122 q1368) cyX5_in rfl ⟨(Nat.le_of_ble_eq_true rfl), (Nat.le_of_ble_eq_true rfl)⟩ (Nat.le_of_ble_eq_true rfl) dX5_law_5 ⟨Nat.le_of_ble_eq_true rfl, Nat.le_of_ble_eq_true rfl⟩ rfl ?_
  refine tm_let (fun k => TM G (r, h') k (wM ad dA h) 0 0 19 [] []) ?_ (fun k19 hk19 => ?_)
  · skip
    refine tm_iconst X (-1 : Int32) dX5_law_19 (by decide) ?_
    exact tm_retIH (wf := wM ad dA) hRet dX5_law_20
  · skip
    refine tm_if_eq X 19 dX5_law_8 rfl ?_ ?_
    · skip
      refine tm_lv X [] rfl ?_
      exact hk19
    · skip
      refine tm_iload_n X 1 dX5_law_11 rfl rfl ?_
      refine tm_aload_n X 0 dX5_law_12 rfl rfl ?_
      refine tm_getI X (fiM_300_6 ad dA) in_X5 rfl (Nat.le_of_ble_eq_true rfl) q1193 rfl dX5_law_13 ?_
      refine tm_ic_le X 21 dX5_law_16 rfl ?_ ?_
      · skip
        refine tm_aload_n X 0 dX5_law_21 rfl rfl ?_
        refine tm_iload_n X 1 dX5_law_22 rfl rfl ?_
        refine tm_cl1 (fun h4 e3 => ?_)
        refine tm_callVv (As := [.int x1]) (rest := []) (q0 := 0) X (ctX5_beginsText l D ad dA h x1 h4 e3) (lw_V q1392 q1394 qs50 q122 q1395) cyX5_beginsText rfl rfl rfl ⟨(Nat.le_of_ble_eq_true rfl), (Nat.le_of_ble_eq_true rfl)⟩ (Nat.le_of_ble_eq_true rfl) dX5_law_23 ⟨Nat.le_of_ble_eq_true rfl, Nat.le_of_ble_eq_true rfl⟩ rfl ?_
        refine tm_aload_n X 0 dX5_law_26 rfl rfl ?_
        refine tm_cl2 (fun r6 h7 e5 => ?_)
        refine tm_callVi (As := []) (rest := []) (q0 := 0) X (ctX5_readsRule l D ad dA h4 r6 h7 e5) (lw_V q1396 q1398 qs51 q122 q1399) cyX5_readsRule rfl rfl rfl ⟨(Nat.le_of_ble_eq_true rfl), (Nat.le_of_ble_eq_true rfl)⟩ (Nat.le_of_ble_eq_true rfl) dX5_law_27 ⟨Nat.le_of_ble_eq_true rfl, Nat.le_of_ble_eq_true rfl⟩ rfl ?_
        refine tm_istore_n X [(2, .int r6), (0, .ref (ad 300)), (1, .int x1)] dX5_law_30 rfl (Nat.le_of_ble_eq_true rfl) rfl ?_
        refine tm_lv X [1, 0] rfl ?_
        refine fx_P (fun (k : Int32 → Hp → Option (Int32 × Hp)) => ∀ (x2_8 : Int32) (h9 : Hp), TM G (r, h') (k x2_8 h9) (wM ad dA h9) 0 0 31 [(0, .ref (ad 300)), (2, .int x2_8)] []) (fun _ _ => tm_none) (fun k31 hk31 x2_8 h9 => ?_) FU r6 h7
        refine tm_iload_n X 1 dX5_law_31 rfl rfl ?_
        refine tm_let (fun k => TM G (r, h') k (wM ad dA h9) 0 0 71 [(0, .ref (ad 300)), (2, .int x2_8)] []) ?_ (fun k71 hk71 => ?_)
        · skip
          refine tm_aload_n X 0 dX5_law_71 rfl rfl ?_
          refine tm_iconst X (0 : Int32) dX5_law_72 (by decide) ?_
          refine tm_putI X (fiM_300_6 ad dA) in_X5 rfl (Nat.le_of_ble_eq_true rfl) tyX5 tyX5_ok nmX5 rfl rfl q1193 rfl dX5_law_73 (fun h10 => ?_)
          refine tm_iload_n X 1 dX5_law_76 rfl rfl ?_
          refine tm_if_ne X 85 dX5_law_77 rfl ?_ ?_
          · skip
            refine tm_aload_n X 0 dX5_law_85 rfl rfl ?_
            refine tm_aload_n X 0 dX5_law_86 rfl rfl ?_
            refine tm_getI X (fiM_300_14 ad dA) in_X5 rfl (Nat.le_of_ble_eq_true rfl) q1201 rfl dX5_law_87 ?_
            refine tm_putI X (fiM_300_15 ad dA) in_X5 rfl (Nat.le_of_ble_eq_true rfl) tyX5 tyX5_ok nmX5 rfl rfl q1202 rfl dX5_law_90 (fun h11 => ?_)
            refine tm_iconst X (0 : Int32) dX5_law_93 (by decide) ?_
            refine tm_istore_n X [(3, .int (0 : Int32)), (0, .ref (ad 300)), (2, .int x2_8)] dX5_law_94 rfl (Nat.le_of_ble_eq_true rfl) rfl ?_
            refine tm_lv X [1, 0] rfl ?_
            refine fx_P (fun (k : Int32 → Hp → Option (Int32 × Hp)) => ∀ (x3_12 : Int32) (h13 : Hp), TM G (r, h') (k x3_12 h13) (wM ad dA h13) 0 0 95 [(0, .ref (ad 300)), (3, .int x3_12)] []) (fun _ _ => tm_none) (fun k95 hk95 x3_12 h13 => ?_) FU (0 : Int32) h11
            refine tm_iload_n X 1 dX5_law_95 rfl rfl ?_
            refine tm_aload_n X 0 dX5_law_96 rfl rfl ?_
            refine tm_getI X (fiM_300_12 ad dA) in_X5 rfl (Nat.le_of_ble_eq_true rfl) q1199 rfl dX5_law_97 ?_
            refine tm_ic_ge X 121 dX5_law_100 rfl ?_ ?_
            · skip
              refine tm_iconst X (0 : Int32) dX5_law_121 (by decide) ?_
              refine tm_istore_n X [(3, .int (0 : Int32)), (0, .ref (ad 300))] dX5_law_122 rfl (Nat.le_of_ble_eq_true rfl) rfl ?_
              refine tm_lv X [1, 0] rfl ?_
              refine fx_P (fun (k : Int32 → Hp → Option (Int32 × Hp)) => ∀ (x3_14 : Int32) (h15 : Hp), TM G (r, h') (k x3_14 h15) (wM ad dA h15) 0 0 123 [(0, .ref (ad 300)), (3, .int x3_14)] []) (fun _ _ => tm_none) (fun k123 hk123 x3_14 h15 => ?_) FU (0 : Int32) h13
              refine tm_iload_n X 1 dX5_law_123 rfl rfl ?_
              refine tm_aload_n X 0 dX5_law_124 rfl rfl ?_
              refine tm_getI X (fiM_300_14 ad dA) in_X5 rfl (Nat.le_of_ble_eq_true rfl) q1201 rfl dX5_law_125 ?_
              refine tm_ic_ge X 185 dX5_law_128 rfl ?_ ?_
              · skip
                refine tm_aload_n X 0 dX5_law_185 rfl rfl ?_
                refine tm_getI X (fiM_300_14 ad dA) in_X5 rfl (Nat.le_of_ble_eq_true rfl) q1201 rfl dX5_law_186 ?_
                exact tm_retIH (wf := wM ad dA) hRet dX5_law_189
              · skip
                refine tm_aload_n X 0 dX5_law_131 rfl rfl ?_
                refine tm_getR X (frM_300_23 ad dA h15) in_X5 rfl (Nat.le_of_ble_eq_true rfl) q1210 rfl dX5_law_132 ?_
                refine tm_iload_n X 1 dX5_law_135 rfl rfl ?_
                refine tm_aload_n X 0 dX5_law_136 rfl rfl ?_
                refine tm_getR X (frM_300_18 ad dA h15) in_X5 rfl (Nat.le_of_ble_eq_true rfl) q1205 rfl dX5_law_137 ?_
                refine tm_iload_n X 1 dX5_law_140 rfl rfl ?_
                refine tm_iaload X (arM_218 ad dA) dX5_law_141 ?_
                refine tm_iastore X (arM_223 ad dA) dX5_law_142 (fun h16 => ?_)
                refine tm_aload_n X 0 dX5_law_143 rfl rfl ?_
                refine tm_getR X (frM_300_24 ad dA h16) in_X5 rfl (Nat.le_of_ble_eq_true rfl) q1211 rfl dX5_law_144 ?_
                refine tm_iload_n X 1 dX5_law_147 rfl rfl ?_
                refine tm_aload_n X 0 dX5_law_148 rfl rfl ?_
                refine tm_getR X (frM_300_19 ad dA h16) in_X5 rfl (Nat.le_of_ble_eq_true rfl) q1206 rfl dX5_law_149 ?_
                refine tm_iload_n X 1 dX5_law_152 rfl rfl ?_
                refine tm_iaload X (arM_219 ad dA) dX5_law_153 ?_
                refine tm_iastore X (arM_224 ad dA) dX5_law_154 (fun h17 => ?_)
                refine tm_aload_n X 0 dX5_law_155 rfl rfl ?_
                refine tm_getR X (frM_300_25 ad dA h17) in_X5 rfl (Nat.le_of_ble_eq_true rfl) q1212 rfl dX5_law_156 ?_
                refine tm_iload_n X 1 dX5_law_159 rfl rfl ?_
                refine tm_aload_n X 0 dX5_law_160 rfl rfl ?_
                refine tm_getR X (frM_300_20 ad dA h17) in_X5 rfl (Nat.le_of_ble_eq_true rfl) q1207 rfl dX5_law_161 ?_
                refine tm_iload_n X 1 dX5_law_164 rfl rfl ?_
                refine tm_iaload X (arM_220 ad dA) dX5_law_165 ?_
                refine tm_iastore X (arM_225 ad dA) dX5_law_166 (fun h18 => ?_)
                refine tm_aload_n X 0 dX5_law_167 rfl rfl ?_
                refine tm_getR X (frM_300_26 ad dA h18) in_X5 rfl (Nat.le_of_ble_eq_true rfl) q1213 rfl dX5_law_168 ?_
                refine tm_iload_n X 1 dX5_law_171 rfl rfl ?_
                refine tm_aload_n X 0 dX5_law_172 rfl rfl ?_
                refine tm_getR X (frM_300_21 ad dA h18) in_X5 rfl (Nat.le_of_ble_eq_true rfl) q1208 rfl dX5_law_173 ?_
                refine tm_iload_n X 1 dX5_law_176 rfl rfl ?_
                refine tm_iaload X (arM_221 ad dA) dX5_law_177 ?_
                refine tm_iastore X (arM_226 ad dA) dX5_law_178 (fun h19 => ?_)
                refine tm_iinc (v := (1 : Int32)) X 1 [(3, .int (x3_14 + (1 : Int32))), (0, .ref (ad 300))] dX5_law_179 rfl (by decide) (Nat.le_of_ble_eq_true rfl) rfl ?_
                refine tm_goto X 123 dX5_law_182 rfl ?_
                refine tm_lv X [1, 0] rfl ?_
                exact hk123 (x3_14 + (1 : Int32)) h19
            · skip
              refine tm_aload_n X 0 dX5_law_103 rfl rfl ?_
              refine tm_getR X (frM_300_22 ad dA h13) in_X5 rfl (Nat.le_of_ble_eq_true rfl) q1209 rfl dX5_law_104 ?_
              refine tm_iload_n X 1 dX5_law_107 rfl rfl ?_
              refine tm_aload_n X 0 dX5_law_108 rfl rfl ?_
              refine tm_getR X (frM_300_16 ad dA h13) in_X5 rfl (Nat.le_of_ble_eq_true rfl) q1203 rfl dX5_law_109 ?_
              refine tm_iload_n X 1 dX5_law_112 rfl rfl ?_
              refine tm_iaload X (arM_216 ad dA) dX5_law_113 ?_
              refine tm_iastore X (arM_222 ad dA) dX5_law_114 (fun h20 => ?_)
              refine tm_iinc (v := (1 : Int32)) X 1 [(3, .int (x3_12 + (1 : Int32))), (0, .ref (ad 300))] dX5_law_115 rfl (by decide) (Nat.le_of_ble_eq_true rfl) rfl ?_
              refine tm_goto X 95 dX5_law_118 rfl ?_
              refine tm_lv X [1, 0] rfl ?_
              exact hk95 (x3_12 + (1 : Int32)) h20
          · skip
            refine tm_aload_n X 0 dX5_law_80 rfl rfl ?_
            refine tm_getI X (fiM_300_9 ad dA) in_X5 rfl (Nat.le_of_ble_eq_true rfl) q1196 rfl dX5_law_81 ?_
            exact tm_retIH (wf := wM ad dA) hRet dX5_law_84
        · skip
          refine tm_if_eq X 71 dX5_law_32 rfl ?_ ?_
          · skip
            exact hk71
          · skip
            refine tm_aload_n X 0 dX5_law_35 rfl rfl ?_
            refine tm_getI X (fiM_300_7 ad dA) in_X5 rfl (Nat.le_of_ble_eq_true rfl) q1194 rfl dX5_law_36 ?_
            refine tm_aload_n X 0 dX5_law_39 rfl rfl ?_
            refine tm_getI X (fiM_300_8 ad dA) in_X5 rfl (Nat.le_of_ble_eq_true rfl) q1195 rfl dX5_law_40 ?_
            refine tm_ic_ge X 71 dX5_law_43 rfl ?_ ?_
            · skip
              exact hk71
            · skip
              refine tm_aload_n X 0 dX5_law_46 rfl rfl ?_
              refine tm_bipush X (59 : Int32) dX5_law_47 (by decide) ?_
              refine tm_cl2 (fun r22 h23 e21 => ?_)
              refine tm_callVi (As := [.int (59 : Int32)]) (rest := []) (q0 := 0) X (ctX5_takes l D ad dA h9 (59 : Int32) r22 h23 e21) (lw_V q1471 q1473 qs68 q122 q1474) cyX5_takes rfl rfl rfl ⟨(Nat.le_of_ble_eq_true rfl), (Nat.le_of_ble_eq_true rfl)⟩ (Nat.le_of_ble_eq_true rfl) dX5_law_49 ⟨Nat.le_of_ble_eq_true rfl, Nat.le_of_ble_eq_true rfl⟩ rfl ?_
              refine tm_let (fun k => ∀ (s24 : Int32) (h25 : Hp), TM G (r, h') (k s24 h25) (wM ad dA h25) 0 0 67 [(0, .ref (ad 300))] [.int s24]) ?_ (fun k67 hk67 => ?_)
              · intro s24 h25
                refine tm_istore_n X [(2, .int s24), (0, .ref (ad 300))] dX5_law_67 rfl (Nat.le_of_ble_eq_true rfl) rfl ?_
                refine tm_goto X 31 dX5_law_68 rfl ?_
                refine tm_lv X [1, 0] rfl ?_
                exact hk31 s24 h25
              · skip
                refine tm_let (fun k => ∀ (h26 : Hp), TM G (r, h') (k h26) (wM ad dA h26) 0 0 66 [(0, .ref (ad 300))] []) ?_ (fun k66 hk66 => ?_)
                · intro h26
                  refine tm_iconst X (0 : Int32) dX5_law_66 (by decide) ?_
                  exact hk67 (0 : Int32) h26
                · skip
                  refine tm_if_eq X 66 dX5_law_52 rfl ?_ ?_
                  · skip
                    refine tm_lv X [0] rfl ?_
                    exact hk66 h23
                  · skip
                    refine tm_aload_n X 0 dX5_law_55 rfl rfl ?_
                    refine tm_cl2 (fun r28 h29 e27 => ?_)
                    refine tm_callVi (As := []) (rest := []) (q0 := 0) X (ctX5_readsRule l D ad dA h23 r28 h29 e27) (lw_V q1396 q1398 qs51 q122 q1399) cyX5_readsRule rfl rfl rfl ⟨(Nat.le_of_ble_eq_true rfl), (Nat.le_of_ble_eq_true rfl)⟩ (Nat.le_of_ble_eq_true rfl) dX5_law_56 ⟨Nat.le_of_ble_eq_true rfl, Nat.le_of_ble_eq_true rfl⟩ rfl ?_
                    refine tm_if_eq X 66 dX5_law_59 rfl ?_ ?_
                    · skip
                      refine tm_lv X [0] rfl ?_
                      exact hk66 h29
                    · skip
                      refine tm_iconst X (1 : Int32) dX5_law_62 (by decide) ?_
                      refine tm_goto X 67 dX5_law_63 rfl ?_
                      refine tm_lv X [0] rfl ?_
                      exact hk67 (1 : Int32) h29
      · skip
        refine tm_lv X [] rfl ?_
        exact hk19
def mX5_readsHeights (h : Hp) (x1 : Int32) : Option (Int32 × Hp) :=
nm ((h 300 7)) (fun v1 =>
nm (u2 h 300 33 (1 : Int32)) (fun h2 =>
cl1 (mX5_here h2) (fun r4 =>
cl1 (mX5_in r4 (50 : Int32) (56 : Int32)) (fun r5 =>
nm (fun (h7 : Hp) =>
cl1 (mX5_here h7) (fun r9 =>
nm ((r9 - (97 : Int32))) (fun v10 =>
cl1 (mX5_in v10 (0 : Int32) (25 : Int32)) (fun r11 =>
if r11 = 0 then (
cl2 (mX5_wrongAt h7 (1 : Int32) (h7 300 7)) (fun r22 h23 =>
bz r22 (some (r22, h23)))) else (
nm (u2 h7 300 7 ((h7 300 7) + (1 : Int32))) (fun h13 =>
if ((h13 300 32) + (h13 300 33)) ≤ (8 : Int32) then (
fx FU (fun _ _ => none) (fun k107 (x4_14 : Int32) (h15 : Hp) =>
if (h15 300 33) ≤ x4_14 then (
bz (1 : Int32) (some ((1 : Int32), h15))) else (
ck (x1 + (h15 300 32)) 96 (nm (u2 h15 229 (x1 + (h15 300 32)).toNatClampNeg v10) (fun h16 =>
nm (u2 h16 300 32 ((h16 300 32) + (1 : Int32))) (fun h17 =>
k107 (x4_14 + (1 : Int32)) h17))))) (0 : Int32) h13) else (
cl2 (mX5_wrongAt h13 (4 : Int32) v1) (fun r19 h20 =>
bz r19 (some (r19, h20)))))))))) (fun k45 =>
if r5 = 0 then (
k45 h2) else (
cl1 (mX5_here h2) (fun r25 =>
nm (u2 h2 300 33 (r25 - (48 : Int32))) (fun h26 =>
nm (u2 h26 300 7 ((h26 300 7) + (1 : Int32))) (fun h27 =>
k45 h27)))))))))
theorem cyX5_readsHeights : Callee yX5_readsHeights 1 := by unfold Callee; decide +kernel
set_option maxHeartbeats 4000000 in
theorem ctX5_readsHeights (l : Launch) (D : va_G) (ad : Nat → Nat) (dA : Nat → ClassId) (h : Hp) (x1 : Int32) (r : Int32) (h' : Hp) (hm : mX5_readsHeights h x1 = some (r, h')) : CT l yX5_readsHeights cX5_readsHeights 5 (some .boolean) D dA 1 22 0 0 (wM ad dA h) [.ref (ad 300), .int x1] (some (.int r)) (wM ad dA h') := by
  refine ct_open (by decide) (Nat.le_of_ble_eq_true rfl) ?_
  intro G X hI hZ hV hR
  have hRet := fun hv => hZ rfl r hv rfl
  refine (show TM G (r, h') (mX5_readsHeights h x1) (wM ad dA h) 0 0 0 [(0, .ref (ad 300)), (1, .int x1)] [] from ?_) hm
  clear hm hI hZ hV hR
  unfold mX5_readsHeights
  refine tm_aload_n X 0 dX5_readsHeights_0 rfl rfl ?_
  refine tm_getI X (fiM_300_7 ad dA) in_X5 rfl (Nat.le_of_ble_eq_true rfl) q1194 rfl dX5_readsHeights_1 ?_
  refine tm_nmI (fun v1 => ?_)
  refine tm_istore_n X [(2, .int v1), (0, .ref (ad 300)), (1, .int x1)] dX5_readsHeights_4 rfl (Nat.le_of_ble_eq_true rfl) rfl ?_
  refine tm_aload_n X 1 dX5_readsHeights_5 rfl rfl ?_
  refine tm_iconst X (1 : Int32) dX5_readsHeights_6 (by decide) ?_
  refine tm_putI X (fiM_300_33 ad dA) in_X5 rfl (Nat.le_of_ble_eq_true rfl) tyX5 tyX5_ok nmX5 rfl rfl q1220 rfl dX5_readsHeights_7 (fun h2 => ?_)
  refine tm_aload_n X 1 dX5_readsHeights_10 rfl rfl ?_
  refine tm_cl1 (fun r4 e3 => ?_)
  refine tm_callVi (As := []) (rest := []) (q0 := 0) X (ctX5_here l D ad dA h2 r4 e3) (lw_V q1400 q1402 qs52 q122 q1403) cyX5_here rfl rfl rfl ⟨(Nat.le_of_ble_eq_true rfl), (Nat.le_of_ble_eq_true rfl)⟩ (Nat.le_of_ble_eq_true rfl) dX5_readsHeights_11 ⟨Nat.le_of_ble_eq_true rfl, Nat.le_of_ble_eq_true rfl⟩ rfl ?_
  refine tm_bipush X (50 : Int32) dX5_readsHeights_14 (by decide) ?_
  refine tm_bipush X (56 : Int32) dX5_readsHeights_16 (by decide) ?_
  refine tm_cl1 (fun r5 e6 => ?_)
  refine tm_callSi (As := [.int r4, .int (50 : Int32), .int (56 : Int32)]) (rest := []) X (ctX5_in l D dA r4 (50 : Int32) (56 : Int32) r5 e6) (lw_S q1366 q1367 q122 q1368) cyX5_in rfl ⟨(Nat.le_of_ble_eq_true rfl), (Nat.le_of_ble_eq_true rfl)⟩ (Nat.le_of_ble_eq_true rfl) dX5_readsHeights_18 ⟨Nat.le_of_ble_eq_true rfl, Nat.le_of_ble_eq_true rfl⟩ rfl ?_
  refine tm_let (fun k => ∀ (h7 : Hp), TM G (r, h') (k h7) (wM ad dA h7) 0 0 45 [(0, .ref (ad 300)), (1, .int x1), (2, .int v1)] []) ?_ (fun k45 hk45 => ?_)
  · intro h7
    refine tm_aload_n X 0 dX5_readsHeights_45 rfl rfl ?_
    refine tm_cl1 (fun r9 e8 => ?_)
    refine tm_callVi (As := []) (rest := []) (q0 := 0) X (ctX5_here l D ad dA h7 r9 e8) (lw_V q1400 q1402 qs52 q122 q1403) cyX5_here rfl rfl rfl ⟨(Nat.le_of_ble_eq_true rfl), (Nat.le_of_ble_eq_true rfl)⟩ (Nat.le_of_ble_eq_true rfl) dX5_readsHeights_46 ⟨Nat.le_of_ble_eq_true rfl, Nat.le_of_ble_eq_true rfl⟩ rfl ?_
    refine tm_bipush X (97 : Int32) dX5_readsHeights_49 (by decide) ?_
    refine tm_isub X dX5_readsHeights_51 ?_
    refine tm_nmI (fun v10 => ?_)
    refine tm_istore_n X [(3, .int v10), (0, .ref (ad 300)), (1, .int x1), (2, .int v1)] dX5_readsHeights_52 rfl (Nat.le_of_ble_eq_true rfl) rfl ?_
    refine tm_iload_n X 0 dX5_readsHeights_53 rfl rfl ?_
    refine tm_iconst X (0 : Int32) dX5_readsHeights_54 (by decide) ?_
    refine tm_bipush X (25 : Int32) dX5_readsHeights_55 (by decide) ?_
    refine tm_cl1 (fun r11 e12 => ?_)
    refine tm_callSi (As := [.int v10, .int (0 : Int32), .int (25 : Int32)]) (rest := []) X (ctX5_in l D dA v10 (0 : Int32) (25 : Int32) r11 e12) (lw_S q1366 q1367 q122 q1368) cyX5_in rfl ⟨(Nat.le_of_ble_eq_true rfl), (Nat.le_of_ble_eq_true rfl)⟩ (Nat.le_of_ble_eq_true rfl) dX5_readsHeights_57 ⟨Nat.le_of_ble_eq_true rfl, Nat.le_of_ble_eq_true rfl⟩ rfl ?_
    refine tm_if_ne X 73 dX5_readsHeights_60 rfl ?_ ?_
    · skip
      refine tm_aload_n X 1 dX5_readsHeights_73 rfl rfl ?_
      refine tm_aload_n X 1 dX5_readsHeights_74 rfl rfl ?_
      refine tm_getI X (fiM_300_7 ad dA) in_X5 rfl (Nat.le_of_ble_eq_true rfl) q1194 rfl dX5_readsHeights_75 ?_
      refine tm_iconst X (1 : Int32) dX5_readsHeights_78 (by decide) ?_
      refine tm_iadd X dX5_readsHeights_79 ?_
      refine tm_putI X (fiM_300_7 ad dA) in_X5 rfl (Nat.le_of_ble_eq_true rfl) tyX5 tyX5_ok nmX5 rfl rfl q1194 rfl dX5_readsHeights_80 (fun h13 => ?_)
      refine tm_aload_n X 1 dX5_readsHeights_83 rfl rfl ?_
      refine tm_getI X (fiM_300_32 ad dA) in_X5 rfl (Nat.le_of_ble_eq_true rfl) q1219 rfl dX5_readsHeights_84 ?_
      refine tm_aload_n X 1 dX5_readsHeights_87 rfl rfl ?_
      refine tm_getI X (fiM_300_33 ad dA) in_X5 rfl (Nat.le_of_ble_eq_true rfl) q1220 rfl dX5_readsHeights_88 ?_
      refine tm_iadd X dX5_readsHeights_91 ?_
      refine tm_bipush X (8 : Int32) dX5_readsHeights_92 (by decide) ?_
      refine tm_ic_le X 104 dX5_readsHeights_94 rfl ?_ ?_
      · skip
        refine tm_iconst X (0 : Int32) dX5_readsHeights_104 (by decide) ?_
        refine tm_istore X [(4, .int (0 : Int32)), (3, .int v10), (0, .ref (ad 300)), (1, .int x1), (2, .int v1)] dX5_readsHeights_105 (Nat.le_of_ble_eq_true rfl) rfl ?_
        refine tm_lv X [2, 3, 1, 0] rfl ?_
        refine fx_P (fun (k : Int32 → Hp → Option (Int32 × Hp)) => ∀ (x4_14 : Int32) (h15 : Hp), TM G (r, h') (k x4_14 h15) (wM ad dA h15) 0 0 107 [(0, .ref (ad 300)), (1, .int x1), (3, .int v10), (4, .int x4_14)] []) (fun _ _ => tm_none) (fun k107 hk107 x4_14 h15 => ?_) FU (0 : Int32) h13
        refine tm_iload X 3 dX5_readsHeights_107 rfl ?_
        refine tm_aload_n X 0 dX5_readsHeights_109 rfl rfl ?_
        refine tm_getI X (fiM_300_33 ad dA) in_X5 rfl (Nat.le_of_ble_eq_true rfl) q1220 rfl dX5_readsHeights_110 ?_
        refine tm_ic_ge X 144 dX5_readsHeights_113 rfl ?_ ?_
        · skip
          refine tm_iconst X (1 : Int32) dX5_readsHeights_144 (by decide) ?_
          exact tm_retZH (wf := wM ad dA) hRet dX5_readsHeights_145
        · skip
          refine tm_aload_n X 0 dX5_readsHeights_116 rfl rfl ?_
          refine tm_getR X (frM_300_29 ad dA h15) in_X5 rfl (Nat.le_of_ble_eq_true rfl) q1216 rfl dX5_readsHeights_117 ?_
          refine tm_iload_n X 1 dX5_readsHeights_120 rfl rfl ?_
          refine tm_aload_n X 0 dX5_readsHeights_121 rfl rfl ?_
          refine tm_getI X (fiM_300_32 ad dA) in_X5 rfl (Nat.le_of_ble_eq_true rfl) q1219 rfl dX5_readsHeights_122 ?_
          refine tm_iadd X dX5_readsHeights_125 ?_
          refine tm_iload_n X 2 dX5_readsHeights_126 rfl rfl ?_
          refine tm_iastore X (arM_229 ad dA) dX5_readsHeights_127 (fun h16 => ?_)
          refine tm_aload_n X 0 dX5_readsHeights_128 rfl rfl ?_
          refine tm_aload_n X 0 dX5_readsHeights_129 rfl rfl ?_
          refine tm_getI X (fiM_300_32 ad dA) in_X5 rfl (Nat.le_of_ble_eq_true rfl) q1219 rfl dX5_readsHeights_130 ?_
          refine tm_iconst X (1 : Int32) dX5_readsHeights_133 (by decide) ?_
          refine tm_iadd X dX5_readsHeights_134 ?_
          refine tm_putI X (fiM_300_32 ad dA) in_X5 rfl (Nat.le_of_ble_eq_true rfl) tyX5 tyX5_ok nmX5 rfl rfl q1219 rfl dX5_readsHeights_135 (fun h17 => ?_)
          refine tm_iinc (v := (1 : Int32)) X 3 [(4, .int (x4_14 + (1 : Int32))), (0, .ref (ad 300)), (1, .int x1), (3, .int v10)] dX5_readsHeights_138 rfl (by decide) (Nat.le_of_ble_eq_true rfl) rfl ?_
          refine tm_goto X 107 dX5_readsHeights_141 rfl ?_
          refine tm_lv X [1, 2, 3, 0] rfl ?_
          exact hk107 (x4_14 + (1 : Int32)) h17
      · skip
        refine tm_aload_n X 1 dX5_readsHeights_97 rfl rfl ?_
        refine tm_iconst X (4 : Int32) dX5_readsHeights_98 (by decide) ?_
        refine tm_iload_n X 3 dX5_readsHeights_99 rfl rfl ?_
        refine tm_cl2 (fun r19 h20 e18 => ?_)
        refine tm_callVi (As := [.int (4 : Int32), .int v1]) (rest := []) (q0 := 0) X (ctX5_wrongAt l D ad dA h13 (4 : Int32) v1 r19 h20 e18) (lw_V q1404 q1406 qs53 q122 q1407) cyX5_wrongAt rfl rfl rfl ⟨(Nat.le_of_ble_eq_true rfl), (Nat.le_of_ble_eq_true rfl)⟩ (Nat.le_of_ble_eq_true rfl) dX5_readsHeights_100 ⟨Nat.le_of_ble_eq_true rfl, Nat.le_of_ble_eq_true rfl⟩ rfl ?_
        exact tm_retZH (wf := wM ad dA) hRet dX5_readsHeights_103
    · skip
      refine tm_aload_n X 1 dX5_readsHeights_63 rfl rfl ?_
      refine tm_iconst X (1 : Int32) dX5_readsHeights_64 (by decide) ?_
      refine tm_aload_n X 1 dX5_readsHeights_65 rfl rfl ?_
      refine tm_getI X (fiM_300_7 ad dA) in_X5 rfl (Nat.le_of_ble_eq_true rfl) q1194 rfl dX5_readsHeights_66 ?_
      refine tm_cl2 (fun r22 h23 e21 => ?_)
      refine tm_callVi (As := [.int (1 : Int32), .int (h7 300 7)]) (rest := []) (q0 := 0) X (ctX5_wrongAt l D ad dA h7 (1 : Int32) (h7 300 7) r22 h23 e21) (lw_V q1404 q1406 qs53 q122 q1407) cyX5_wrongAt rfl rfl rfl ⟨(Nat.le_of_ble_eq_true rfl), (Nat.le_of_ble_eq_true rfl)⟩ (Nat.le_of_ble_eq_true rfl) dX5_readsHeights_69 ⟨Nat.le_of_ble_eq_true rfl, Nat.le_of_ble_eq_true rfl⟩ rfl ?_
      exact tm_retZH (wf := wM ad dA) hRet dX5_readsHeights_72
  · skip
    refine tm_if_eq X 45 dX5_readsHeights_21 rfl ?_ ?_
    · skip
      refine tm_lv X [1, 2, 0] rfl ?_
      exact hk45 h2
    · skip
      refine tm_aload_n X 1 dX5_readsHeights_24 rfl rfl ?_
      refine tm_aload_n X 1 dX5_readsHeights_25 rfl rfl ?_
      refine tm_cl1 (fun r25 e24 => ?_)
      refine tm_callVi (As := []) (rest := [.ref (ad 300)]) (q0 := 0) X (ctX5_here l D ad dA h2 r25 e24) (lw_V q1400 q1402 qs52 q122 q1403) cyX5_here rfl rfl rfl ⟨(Nat.le_of_ble_eq_true rfl), (Nat.le_of_ble_eq_true rfl)⟩ (Nat.le_of_ble_eq_true rfl) dX5_readsHeights_26 ⟨Nat.le_of_ble_eq_true rfl, Nat.le_of_ble_eq_true rfl⟩ rfl ?_
      refine tm_bipush X (48 : Int32) dX5_readsHeights_29 (by decide) ?_
      refine tm_isub X dX5_readsHeights_31 ?_
      refine tm_putI X (fiM_300_33 ad dA) in_X5 rfl (Nat.le_of_ble_eq_true rfl) tyX5 tyX5_ok nmX5 rfl rfl q1220 rfl dX5_readsHeights_32 (fun h26 => ?_)
      refine tm_aload_n X 1 dX5_readsHeights_35 rfl rfl ?_
      refine tm_aload_n X 1 dX5_readsHeights_36 rfl rfl ?_
      refine tm_getI X (fiM_300_7 ad dA) in_X5 rfl (Nat.le_of_ble_eq_true rfl) q1194 rfl dX5_readsHeights_37 ?_
      refine tm_iconst X (1 : Int32) dX5_readsHeights_40 (by decide) ?_
      refine tm_iadd X dX5_readsHeights_41 ?_
      refine tm_putI X (fiM_300_7 ad dA) in_X5 rfl (Nat.le_of_ble_eq_true rfl) tyX5 tyX5_ok nmX5 rfl rfl q1194 rfl dX5_readsHeights_42 (fun h27 => ?_)
      refine tm_lv X [1, 2, 0] rfl ?_
      exact hk45 h27
def mX5_readsRow (h : Hp)  : Option (Int32 × Hp) :=
cl1 (mX5_here h) (fun r2 =>
nm (fun (s3 : Int32) =>
if s3 = (-1 : Int32) then (
cl2 (mX5_wrongAt h (1 : Int32) (h 300 7)) (fun r37 h38 =>
bz r37 (some (r37, h38)))) else (
nm (u2 h 300 7 ((h 300 7) + (1 : Int32))) (fun h4 =>
cl1 (mX5_here h4) (fun r6 =>
cl1 (mX5_in r6 (48 : Int32) (53 : Int32)) (fun r7 =>
if r7 = 0 then (
cl2 (mX5_wrongAt h4 (1 : Int32) (h4 300 7)) (fun r34 h35 =>
bz r34 (some (r34, h35)))) else (
cl1 (mX5_here h4) (fun r10 =>
nm ((r10 - (48 : Int32))) (fun v11 =>
nm (((1 : Int32) <<< ((((6 : Int32) * s3) + v11) &&& 31))) (fun v12 =>
if ((h4 300 30) &&& v12) = 0 then (
nm (u2 h4 300 30 ((h4 300 30) ||| v12)) (fun h13 =>
nm (u2 h13 300 7 ((h13 300 7) + (1 : Int32))) (fun h14 =>
cl2 (mX5_takes h14 (61 : Int32)) (fun r16 h17 =>
if r16 = 0 then (
bz (0 : Int32) (some ((0 : Int32), h17))) else (
nm (u2 h17 300 32 (0 : Int32)) (fun h18 =>
nm ((((48 : Int32) * s3) + ((8 : Int32) * v11))) (fun v19 =>
cl2 (mX5_readsHeights h18 v19) (fun r21 h22 =>
if r21 = 0 then (
bz (0 : Int32) (some ((0 : Int32), h22))) else (
fx FU (fun _ => none) (fun k172 (h23 : Hp) =>
nm (
nm (u2 h23 300 31 ((h23 300 31) + (1 : Int32))) (fun h24 =>
bz (1 : Int32) (some ((1 : Int32), h24)))) (fun k203 =>
if (h23 300 8) ≤ (h23 300 7) then (
k203) else (
cl1 (mX5_here h23) (fun r26 =>
if r26 = (59 : Int32) then (
k203) else (
cl2 (mX5_readsHeights h23 v19) (fun r28 h29 =>
if r28 = 0 then (
bz (0 : Int32) (some ((0 : Int32), h29))) else (
k172 h29))))))) h22))))))))) else (
cl2 (mX5_wrongAt h4 (6 : Int32) (h4 300 7)) (fun r31 h32 =>
bz r31 (some (r31, h32))))))))))))) (fun k27 =>
if r2 = (85 : Int32) then (
k27 (1 : Int32)) else (
cl1 (mX5_here h) (fun r40 =>
if r40 = (76 : Int32) then (
k27 (0 : Int32)) else (
k27 (-1 : Int32))))))
theorem cyX5_readsRow : Callee yX5_readsRow 0 := by unfold Callee; decide +kernel
set_option maxHeartbeats 4000000 in
theorem ctX5_readsRow (l : Launch) (D : va_G) (ad : Nat → Nat) (dA : Nat → ClassId) (h : Hp)  (r : Int32) (h' : Hp) (hm : mX5_readsRow h = some (r, h')) : CT l yX5_readsRow cX5_readsRow 5 (some .boolean) D dA 2 46 0 0 (wM ad dA h) [.ref (ad 300)] (some (.int r)) (wM ad dA h') := by
  refine ct_open (by decide) (Nat.le_of_ble_eq_true rfl) ?_
  intro G X hI hZ hV hR
  have hRet := fun hv => hZ rfl r hv rfl
  refine (show TM G (r, h') (mX5_readsRow h) (wM ad dA h) 0 0 0 [(0, .ref (ad 300))] [] from ?_) hm
  clear hm hI hZ hV hR
  unfold mX5_readsRow
  refine tm_aload_n X 0 dX5_readsRow_0 rfl rfl ?_
  refine tm_cl1 (fun r2 e1 => ?_)
  refine tm_callVi (As := []) (rest := []) (q0 := 0) X (ctX5_here l D ad dA h r2 e1) (lw_V q1400 q1402 qs52 q122 q1403) cyX5_here rfl rfl rfl ⟨(Nat.le_of_ble_eq_true rfl), (Nat.le_of_ble_eq_true rfl)⟩ (Nat.le_of_ble_eq_true rfl) dX5_readsRow_1 ⟨Nat.le_of_ble_eq_true rfl, Nat.le_of_ble_eq_true rfl⟩ rfl ?_
  refine tm_bipush X (85 : Int32) dX5_readsRow_4 (by decide) ?_
  refine tm_let (fun k => ∀ (s3 : Int32), TM G (r, h') (k s3) (wM ad dA h) 0 0 27 [(0, .ref (ad 300))] [.int s3]) ?_ (fun k27 hk27 => ?_)
  · intro s3
    refine tm_istore_n X [(1, .int s3), (0, .ref (ad 300))] dX5_readsRow_27 rfl (Nat.le_of_ble_eq_true rfl) rfl ?_
    refine tm_iload_n X 0 dX5_readsRow_28 rfl rfl ?_
    refine tm_iconst X (-1 : Int32) dX5_readsRow_29 (by decide) ?_
    refine tm_ic_ne X 43 dX5_readsRow_30 rfl ?_ ?_
    · skip
      refine tm_aload_n X 1 dX5_readsRow_43 rfl rfl ?_
      refine tm_aload_n X 1 dX5_readsRow_44 rfl rfl ?_
      refine tm_getI X (fiM_300_7 ad dA) in_X5 rfl (Nat.le_of_ble_eq_true rfl) q1194 rfl dX5_readsRow_45 ?_
      refine tm_iconst X (1 : Int32) dX5_readsRow_48 (by decide) ?_
      refine tm_iadd X dX5_readsRow_49 ?_
      refine tm_putI X (fiM_300_7 ad dA) in_X5 rfl (Nat.le_of_ble_eq_true rfl) tyX5 tyX5_ok nmX5 rfl rfl q1194 rfl dX5_readsRow_50 (fun h4 => ?_)
      refine tm_aload_n X 1 dX5_readsRow_53 rfl rfl ?_
      refine tm_cl1 (fun r6 e5 => ?_)
      refine tm_callVi (As := []) (rest := []) (q0 := 0) X (ctX5_here l D ad dA h4 r6 e5) (lw_V q1400 q1402 qs52 q122 q1403) cyX5_here rfl rfl rfl ⟨(Nat.le_of_ble_eq_true rfl), (Nat.le_of_ble_eq_true rfl)⟩ (Nat.le_of_ble_eq_true rfl) dX5_readsRow_54 ⟨Nat.le_of_ble_eq_true rfl, Nat.le_of_ble_eq_true rfl⟩ rfl ?_
      refine tm_bipush X (48 : Int32) dX5_readsRow_57 (by decide) ?_
      refine tm_bipush X (53 : Int32) dX5_readsRow_59 (by decide) ?_
      refine tm_cl1 (fun r7 e8 => ?_)
      refine tm_callSi (As := [.int r6, .int (48 : Int32), .int (53 : Int32)]) (rest := []) X (ctX5_in l D dA r6 (48 : Int32) (53 : Int32) r7 e8) (lw_S q1366 q1367 q122 q1368) cyX5_in rfl ⟨(Nat.le_of_ble_eq_true rfl), (Nat.le_of_ble_eq_true rfl)⟩ (Nat.le_of_ble_eq_true rfl) dX5_readsRow_61 ⟨Nat.le_of_ble_eq_true rfl, Nat.le_of_ble_eq_true rfl⟩ rfl ?_
      refine tm_if_ne X 77 dX5_readsRow_64 rfl ?_ ?_
      · skip
        refine tm_aload_n X 1 dX5_readsRow_77 rfl rfl ?_
        refine tm_cl1 (fun r10 e9 => ?_)
        refine tm_callVi (As := []) (rest := []) (q0 := 0) X (ctX5_here l D ad dA h4 r10 e9) (lw_V q1400 q1402 qs52 q122 q1403) cyX5_here rfl rfl rfl ⟨(Nat.le_of_ble_eq_true rfl), (Nat.le_of_ble_eq_true rfl)⟩ (Nat.le_of_ble_eq_true rfl) dX5_readsRow_78 ⟨Nat.le_of_ble_eq_true rfl, Nat.le_of_ble_eq_true rfl⟩ rfl ?_
        refine tm_bipush X (48 : Int32) dX5_readsRow_81 (by decide) ?_
        refine tm_isub X dX5_readsRow_83 ?_
        refine tm_nmI (fun v11 => ?_)
        refine tm_istore_n X [(2, .int v11), (1, .int s3), (0, .ref (ad 300))] dX5_readsRow_84 rfl (Nat.le_of_ble_eq_true rfl) rfl ?_
        refine tm_iconst X (1 : Int32) dX5_readsRow_85 (by decide) ?_
        refine tm_bipush X (6 : Int32) dX5_readsRow_86 (by decide) ?_
        refine tm_iload_n X 1 dX5_readsRow_88 rfl rfl ?_
        refine tm_imul X dX5_readsRow_89 ?_
        refine tm_iload_n X 0 dX5_readsRow_90 rfl rfl ?_
        refine tm_iadd X dX5_readsRow_91 ?_
        refine tm_ishl X dX5_readsRow_92 ?_
        refine tm_nmI (fun v12 => ?_)
        refine tm_istore_n X [(3, .int v12), (2, .int v11), (1, .int s3), (0, .ref (ad 300))] dX5_readsRow_93 rfl (Nat.le_of_ble_eq_true rfl) rfl ?_
        refine tm_aload_n X 3 dX5_readsRow_94 rfl rfl ?_
        refine tm_getI X (fiM_300_30 ad dA) in_X5 rfl (Nat.le_of_ble_eq_true rfl) q1217 rfl dX5_readsRow_95 ?_
        refine tm_iload_n X 0 dX5_readsRow_98 rfl rfl ?_
        refine tm_iand X dX5_readsRow_99 ?_
        refine tm_if_eq X 114 dX5_readsRow_100 rfl ?_ ?_
        · skip
          refine tm_aload_n X 3 dX5_readsRow_114 rfl rfl ?_
          refine tm_aload_n X 3 dX5_readsRow_115 rfl rfl ?_
          refine tm_getI X (fiM_300_30 ad dA) in_X5 rfl (Nat.le_of_ble_eq_true rfl) q1217 rfl dX5_readsRow_116 ?_
          refine tm_iload_n X 0 dX5_readsRow_119 rfl rfl ?_
          refine tm_ior X dX5_readsRow_120 ?_
          refine tm_putI X (fiM_300_30 ad dA) in_X5 rfl (Nat.le_of_ble_eq_true rfl) tyX5 tyX5_ok nmX5 rfl rfl q1217 rfl dX5_readsRow_121 (fun h13 => ?_)
          refine tm_aload_n X 3 dX5_readsRow_124 rfl rfl ?_
          refine tm_aload_n X 3 dX5_readsRow_125 rfl rfl ?_
          refine tm_getI X (fiM_300_7 ad dA) in_X5 rfl (Nat.le_of_ble_eq_true rfl) q1194 rfl dX5_readsRow_126 ?_
          refine tm_iconst X (1 : Int32) dX5_readsRow_129 (by decide) ?_
          refine tm_iadd X dX5_readsRow_130 ?_
          refine tm_putI X (fiM_300_7 ad dA) in_X5 rfl (Nat.le_of_ble_eq_true rfl) tyX5 tyX5_ok nmX5 rfl rfl q1194 rfl dX5_readsRow_131 (fun h14 => ?_)
          refine tm_aload_n X 3 dX5_readsRow_134 rfl rfl ?_
          refine tm_bipush X (61 : Int32) dX5_readsRow_135 (by decide) ?_
          refine tm_cl2 (fun r16 h17 e15 => ?_)
          refine tm_callVi (As := [.int (61 : Int32)]) (rest := []) (q0 := 0) X (ctX5_takes l D ad dA h14 (61 : Int32) r16 h17 e15) (lw_V q1471 q1473 qs68 q122 q1474) cyX5_takes rfl rfl rfl ⟨(Nat.le_of_ble_eq_true rfl), (Nat.le_of_ble_eq_true rfl)⟩ (Nat.le_of_ble_eq_true rfl) dX5_readsRow_137 ⟨Nat.le_of_ble_eq_true rfl, Nat.le_of_ble_eq_true rfl⟩ rfl ?_
          refine tm_if_ne X 145 dX5_readsRow_140 rfl ?_ ?_
          · skip
            refine tm_aload_n X 3 dX5_readsRow_145 rfl rfl ?_
            refine tm_iconst X (0 : Int32) dX5_readsRow_146 (by decide) ?_
            refine tm_putI X (fiM_300_32 ad dA) in_X5 rfl (Nat.le_of_ble_eq_true rfl) tyX5 tyX5_ok nmX5 rfl rfl q1219 rfl dX5_readsRow_147 (fun h18 => ?_)
            refine tm_bipush X (48 : Int32) dX5_readsRow_150 (by decide) ?_
            refine tm_iload_n X 2 dX5_readsRow_152 rfl rfl ?_
            refine tm_imul X dX5_readsRow_153 ?_
            refine tm_bipush X (8 : Int32) dX5_readsRow_154 (by decide) ?_
            refine tm_iload_n X 1 dX5_readsRow_156 rfl rfl ?_
            refine tm_imul X dX5_readsRow_157 ?_
            refine tm_iadd X dX5_readsRow_158 ?_
            refine tm_nmI (fun v19 => ?_)
            refine tm_istore X [(4, .int v19), (3, .int v12), (2, .int v11), (1, .int s3), (0, .ref (ad 300))] dX5_readsRow_159 (Nat.le_of_ble_eq_true rfl) rfl ?_
            refine tm_aload_n X 4 dX5_readsRow_161 rfl rfl ?_
            refine tm_iload X 0 dX5_readsRow_162 rfl ?_
            refine tm_cl2 (fun r21 h22 e20 => ?_)
            refine tm_callVi (As := [.int v19]) (rest := []) (q0 := 0) X (ctX5_readsHeights l D ad dA h18 v19 r21 h22 e20) (lw_V q1483 q1485 qs70 q122 q1486) cyX5_readsHeights rfl rfl rfl ⟨(Nat.le_of_ble_eq_true rfl), (Nat.le_of_ble_eq_true rfl)⟩ (Nat.le_of_ble_eq_true rfl) dX5_readsRow_164 ⟨Nat.le_of_ble_eq_true rfl, Nat.le_of_ble_eq_true rfl⟩ rfl ?_
            refine tm_if_ne X 172 dX5_readsRow_167 rfl ?_ ?_
            · skip
              refine tm_lv X [4, 0] rfl ?_
              refine fx_P (fun (k : Hp → Option (Int32 × Hp)) => ∀ (h23 : Hp), TM G (r, h') (k h23) (wM ad dA h23) 0 0 172 [(0, .ref (ad 300)), (4, .int v19)] []) (fun _ => tm_none) (fun k172 hk172 h23 => ?_) FU h22
              refine tm_aload_n X 0 dX5_readsRow_172 rfl rfl ?_
              refine tm_getI X (fiM_300_7 ad dA) in_X5 rfl (Nat.le_of_ble_eq_true rfl) q1194 rfl dX5_readsRow_173 ?_
              refine tm_aload_n X 0 dX5_readsRow_176 rfl rfl ?_
              refine tm_getI X (fiM_300_8 ad dA) in_X5 rfl (Nat.le_of_ble_eq_true rfl) q1195 rfl dX5_readsRow_177 ?_
              refine tm_let (fun k => TM G (r, h') k (wM ad dA h23) 0 0 203 [(0, .ref (ad 300))] []) ?_ (fun k203 hk203 => ?_)
              · skip
                refine tm_aload_n X 0 dX5_readsRow_203 rfl rfl ?_
                refine tm_aload_n X 0 dX5_readsRow_204 rfl rfl ?_
                refine tm_getI X (fiM_300_31 ad dA) in_X5 rfl (Nat.le_of_ble_eq_true rfl) q1218 rfl dX5_readsRow_205 ?_
                refine tm_iconst X (1 : Int32) dX5_readsRow_208 (by decide) ?_
                refine tm_iadd X dX5_readsRow_209 ?_
                refine tm_putI X (fiM_300_31 ad dA) in_X5 rfl (Nat.le_of_ble_eq_true rfl) tyX5 tyX5_ok nmX5 rfl rfl q1218 rfl dX5_readsRow_210 (fun h24 => ?_)
                refine tm_iconst X (1 : Int32) dX5_readsRow_213 (by decide) ?_
                exact tm_retZH (wf := wM ad dA) hRet dX5_readsRow_214
              · skip
                refine tm_ic_ge X 203 dX5_readsRow_180 rfl ?_ ?_
                · skip
                  refine tm_lv X [0] rfl ?_
                  exact hk203
                · skip
                  refine tm_aload_n X 0 dX5_readsRow_183 rfl rfl ?_
                  refine tm_cl1 (fun r26 e25 => ?_)
                  refine tm_callVi (As := []) (rest := []) (q0 := 0) X (ctX5_here l D ad dA h23 r26 e25) (lw_V q1400 q1402 qs52 q122 q1403) cyX5_here rfl rfl rfl ⟨(Nat.le_of_ble_eq_true rfl), (Nat.le_of_ble_eq_true rfl)⟩ (Nat.le_of_ble_eq_true rfl) dX5_readsRow_184 ⟨Nat.le_of_ble_eq_true rfl, Nat.le_of_ble_eq_true rfl⟩ rfl ?_
                  refine tm_bipush X (59 : Int32) dX5_readsRow_187 (by decide) ?_
                  refine tm_ic_eq X 203 dX5_readsRow_189 rfl ?_ ?_
                  · skip
                    refine tm_lv X [0] rfl ?_
                    exact hk203
                  · skip
                    refine tm_aload_n X 0 dX5_readsRow_192 rfl rfl ?_
                    refine tm_iload X 1 dX5_readsRow_193 rfl ?_
                    refine tm_cl2 (fun r28 h29 e27 => ?_)
                    refine tm_callVi (As := [.int v19]) (rest := []) (q0 := 0) X (ctX5_readsHeights l D ad dA h23 v19 r28 h29 e27) (lw_V q1483 q1485 qs70 q122 q1486) cyX5_readsHeights rfl rfl rfl ⟨(Nat.le_of_ble_eq_true rfl), (Nat.le_of_ble_eq_true rfl)⟩ (Nat.le_of_ble_eq_true rfl) dX5_readsRow_195 ⟨Nat.le_of_ble_eq_true rfl, Nat.le_of_ble_eq_true rfl⟩ rfl ?_
                    refine tm_if_ne X 172 dX5_readsRow_198 rfl ?_ ?_
                    · skip
                      exact hk172 h29
                    · skip
                      refine tm_iconst X (0 : Int32) dX5_readsRow_201 (by decide) ?_
                      exact tm_retZH (wf := wM ad dA) hRet dX5_readsRow_202
            · skip
              refine tm_iconst X (0 : Int32) dX5_readsRow_170 (by decide) ?_
              exact tm_retZH (wf := wM ad dA) hRet dX5_readsRow_171
          · skip
            refine tm_iconst X (0 : Int32) dX5_readsRow_143 (by decide) ?_
            exact tm_retZH (wf := wM ad dA) hRet dX5_readsRow_144
        · skip
          refine tm_aload_n X 3 dX5_readsRow_103 rfl rfl ?_
          refine tm_bipush X (6 : Int32) dX5_readsRow_104 (by decide) ?_
          refine tm_aload_n X 3 dX5_readsRow_106 rfl rfl ?_
          refine tm_getI X (fiM_300_7 ad dA) in_X5 rfl (Nat.le_of_ble_eq_true rfl) q1194 rfl dX5_readsRow_107 ?_
          refine tm_cl2 (fun r31 h32 e30 => ?_)
          refine tm_callVi (As := [.int (6 : Int32), .int (h4 300 7)]) (rest := []) (q0 := 0) X (ctX5_wrongAt l D ad dA h4 (6 : Int32) (h4 300 7) r31 h32 e30) (lw_V q1404 q1406 qs53 q122 q1407) cyX5_wrongAt rfl rfl rfl ⟨(Nat.le_of_ble_eq_true rfl), (Nat.le_of_ble_eq_true rfl)⟩ (Nat.le_of_ble_eq_true rfl) dX5_readsRow_110 ⟨Nat.le_of_ble_eq_true rfl, Nat.le_of_ble_eq_true rfl⟩ rfl ?_
          exact tm_retZH (wf := wM ad dA) hRet dX5_readsRow_113
      · skip
        refine tm_aload_n X 1 dX5_readsRow_67 rfl rfl ?_
        refine tm_iconst X (1 : Int32) dX5_readsRow_68 (by decide) ?_
        refine tm_aload_n X 1 dX5_readsRow_69 rfl rfl ?_
        refine tm_getI X (fiM_300_7 ad dA) in_X5 rfl (Nat.le_of_ble_eq_true rfl) q1194 rfl dX5_readsRow_70 ?_
        refine tm_cl2 (fun r34 h35 e33 => ?_)
        refine tm_callVi (As := [.int (1 : Int32), .int (h4 300 7)]) (rest := []) (q0 := 0) X (ctX5_wrongAt l D ad dA h4 (1 : Int32) (h4 300 7) r34 h35 e33) (lw_V q1404 q1406 qs53 q122 q1407) cyX5_wrongAt rfl rfl rfl ⟨(Nat.le_of_ble_eq_true rfl), (Nat.le_of_ble_eq_true rfl)⟩ (Nat.le_of_ble_eq_true rfl) dX5_readsRow_73 ⟨Nat.le_of_ble_eq_true rfl, Nat.le_of_ble_eq_true rfl⟩ rfl ?_
        exact tm_retZH (wf := wM ad dA) hRet dX5_readsRow_76
    · skip
      refine tm_aload_n X 1 dX5_readsRow_33 rfl rfl ?_
      refine tm_iconst X (1 : Int32) dX5_readsRow_34 (by decide) ?_
      refine tm_aload_n X 1 dX5_readsRow_35 rfl rfl ?_
      refine tm_getI X (fiM_300_7 ad dA) in_X5 rfl (Nat.le_of_ble_eq_true rfl) q1194 rfl dX5_readsRow_36 ?_
      refine tm_cl2 (fun r37 h38 e36 => ?_)
      refine tm_callVi (As := [.int (1 : Int32), .int (h 300 7)]) (rest := []) (q0 := 0) X (ctX5_wrongAt l D ad dA h (1 : Int32) (h 300 7) r37 h38 e36) (lw_V q1404 q1406 qs53 q122 q1407) cyX5_wrongAt rfl rfl rfl ⟨(Nat.le_of_ble_eq_true rfl), (Nat.le_of_ble_eq_true rfl)⟩ (Nat.le_of_ble_eq_true rfl) dX5_readsRow_39 ⟨Nat.le_of_ble_eq_true rfl, Nat.le_of_ble_eq_true rfl⟩ rfl ?_
      exact tm_retZH (wf := wM ad dA) hRet dX5_readsRow_42
  · skip
    refine tm_ic_ne X 13 dX5_readsRow_6 rfl ?_ ?_
    · skip
      refine tm_aload_n X 0 dX5_readsRow_13 rfl rfl ?_
      refine tm_cl1 (fun r40 e39 => ?_)
      refine tm_callVi (As := []) (rest := []) (q0 := 0) X (ctX5_here l D ad dA h r40 e39) (lw_V q1400 q1402 qs52 q122 q1403) cyX5_here rfl rfl rfl ⟨(Nat.le_of_ble_eq_true rfl), (Nat.le_of_ble_eq_true rfl)⟩ (Nat.le_of_ble_eq_true rfl) dX5_readsRow_14 ⟨Nat.le_of_ble_eq_true rfl, Nat.le_of_ble_eq_true rfl⟩ rfl ?_
      refine tm_bipush X (76 : Int32) dX5_readsRow_17 (by decide) ?_
      refine tm_ic_ne X 26 dX5_readsRow_19 rfl ?_ ?_
      · skip
        refine tm_iconst X (-1 : Int32) dX5_readsRow_26 (by decide) ?_
        exact hk27 (-1 : Int32)
      · skip
        refine tm_iconst X (0 : Int32) dX5_readsRow_22 (by decide) ?_
        refine tm_goto X 27 dX5_readsRow_23 rfl ?_
        exact hk27 (0 : Int32)
    · skip
      refine tm_iconst X (1 : Int32) dX5_readsRow_9 (by decide) ?_
      refine tm_goto X 27 dX5_readsRow_10 rfl ?_
      exact hk27 (1 : Int32)
def mX5_casts (h : Hp) (x1 : Int32) : Option (Int32 × Hp) :=
cl1 (mX5_in x1 (1 : Int32) (240 : Int32)) (fun r1 =>
nm (
some ((-1 : Int32), h)) (fun k19 =>
if r1 = 0 then (
k19) else (
if x1 ≤ (h 300 6) then (
cl1 (mX5_beginsText h x1) (fun h4 =>
nm (u2 h4 300 30 (0 : Int32)) (fun h5 =>
nm (u2 h5 300 31 (0 : Int32)) (fun h6 =>
fx FU (fun _ _ => none) (fun k38 (x2_7 : Int32) (h8 : Hp) =>
if (96 : Int32) ≤ x2_7 then (
cl2 (mX5_readsRow h8) (fun r10 h11 =>
fx FU (fun _ _ => none) (fun k62 (x2_12 : Int32) (h13 : Hp) =>
nm (
nm (u2 h13 300 6 (0 : Int32)) (fun h14 =>
if x2_12 = 0 then (
some ((h14 300 9), h14)) else (
fx FU (fun _ _ => none) (fun k118 (x3_15 : Int32) (h16 : Hp) =>
if (96 : Int32) ≤ x3_15 then (
nm (u2 h16 201 0 (0 : Int32)) (fun h17 =>
nm (u2 h17 201 1 (0 : Int32)) (fun h18 =>
some ((h18 300 31), h18)))) else (
ck x3_15 96 (
ck x3_15 96 (nm (u2 h16 200 x3_15.toNatClampNeg (h16 229 x3_15.toNatClampNeg)) (fun h19 =>
k118 (x3_15 + (1 : Int32)) h19))))) (0 : Int32) h14))) (fun k102 =>
if x2_12 = 0 then (
k102) else (
if (h13 300 8) ≤ (h13 300 7) then (
k102) else (
cl2 (mX5_takes h13 (59 : Int32)) (fun r21 h22 =>
nm (fun (s23 : Int32) (h24 : Hp) =>
k62 s23 h24) (fun k98 =>
nm (fun (h25 : Hp) =>
k98 (0 : Int32) h25) (fun k97 =>
if r21 = 0 then (
k97 h22) else (
cl2 (mX5_readsRow h22) (fun r27 h28 =>
if r27 = 0 then (
k97 h28) else (
k98 (1 : Int32) h28)))))))))) r10 h11)) else (
ck x2_7 96 (nm (u2 h8 229 x2_7.toNatClampNeg (0 : Int32)) (fun h29 =>
k38 (x2_7 + (1 : Int32)) h29)))) (0 : Int32) h6)))) else (
k19))))
theorem cyX5_casts : Callee yX5_casts 1 := by unfold Callee; decide +kernel
set_option maxHeartbeats 4000000 in
theorem ctX5_casts (l : Launch) (D : va_G) (ad : Nat → Nat) (dA : Nat → ClassId) (h : Hp) (x1 : Int32) (r : Int32) (h' : Hp) (hm : mX5_casts h x1 = some (r, h')) : CT l yX5_casts cX5_casts 4 (some .int) D dA 3 70 0 0 (wM ad dA h) [.ref (ad 300), .int x1] (some (.int r)) (wM ad dA h') := by
  refine ct_open (by decide) (Nat.le_of_ble_eq_true rfl) ?_
  intro G X hI hZ hV hR
  have hRet := hI rfl r rfl
  refine (show TM G (r, h') (mX5_casts h x1) (wM ad dA h) 0 0 0 [(0, .ref (ad 300)), (1, .int x1)] [] from ?_) hm
  clear hm hI hZ hV hR
  unfold mX5_casts
  refine tm_iload_n X 1 dX5_casts_0 rfl rfl ?_
  refine tm_iconst X (1 : Int32) dX5_casts_1 (by decide) ?_
  refine tm_sipush X (240 : Int32) dX5_casts_2 (by decide) ?_
  refine tm_cl1 (fun r1 e2 => ?_)
  refine tm_callSi (As := [.int x1, .int (1 : Int32), .int (240 : Int32)]) (rest := []) X (ctX5_in l D dA x1 (1 : Int32) (240 : Int32) r1 e2) (lw_S q1366 q1367 q122 q1368) cyX5_in rfl ⟨(Nat.le_of_ble_eq_true rfl), (Nat.le_of_ble_eq_true rfl)⟩ (Nat.le_of_ble_eq_true rfl) dX5_casts_5 ⟨Nat.le_of_ble_eq_true rfl, Nat.le_of_ble_eq_true rfl⟩ rfl ?_
  refine tm_let (fun k => TM G (r, h') k (wM ad dA h) 0 0 19 [] []) ?_ (fun k19 hk19 => ?_)
  · skip
    refine tm_iconst X (-1 : Int32) dX5_casts_19 (by decide) ?_
    exact tm_retIH (wf := wM ad dA) hRet dX5_casts_20
  · skip
    refine tm_if_eq X 19 dX5_casts_8 rfl ?_ ?_
    · skip
      refine tm_lv X [] rfl ?_
      exact hk19
    · skip
      refine tm_iload_n X 1 dX5_casts_11 rfl rfl ?_
      refine tm_aload_n X 0 dX5_casts_12 rfl rfl ?_
      refine tm_getI X (fiM_300_6 ad dA) in_X5 rfl (Nat.le_of_ble_eq_true rfl) q1193 rfl dX5_casts_13 ?_
      refine tm_ic_le X 21 dX5_casts_16 rfl ?_ ?_
      · skip
        refine tm_aload_n X 0 dX5_casts_21 rfl rfl ?_
        refine tm_iload_n X 1 dX5_casts_22 rfl rfl ?_
        refine tm_cl1 (fun h4 e3 => ?_)
        refine tm_callVv (As := [.int x1]) (rest := []) (q0 := 0) X (ctX5_beginsText l D ad dA h x1 h4 e3) (lw_V q1392 q1394 qs50 q122 q1395) cyX5_beginsText rfl rfl rfl ⟨(Nat.le_of_ble_eq_true rfl), (Nat.le_of_ble_eq_true rfl)⟩ (Nat.le_of_ble_eq_true rfl) dX5_casts_23 ⟨Nat.le_of_ble_eq_true rfl, Nat.le_of_ble_eq_true rfl⟩ rfl ?_
        refine tm_aload_n X 0 dX5_casts_26 rfl rfl ?_
        refine tm_iconst X (0 : Int32) dX5_casts_27 (by decide) ?_
        refine tm_putI X (fiM_300_30 ad dA) in_X5 rfl (Nat.le_of_ble_eq_true rfl) tyX5 tyX5_ok nmX5 rfl rfl q1217 rfl dX5_casts_28 (fun h5 => ?_)
        refine tm_aload_n X 0 dX5_casts_31 rfl rfl ?_
        refine tm_iconst X (0 : Int32) dX5_casts_32 (by decide) ?_
        refine tm_putI X (fiM_300_31 ad dA) in_X5 rfl (Nat.le_of_ble_eq_true rfl) tyX5 tyX5_ok nmX5 rfl rfl q1218 rfl dX5_casts_33 (fun h6 => ?_)
        refine tm_iconst X (0 : Int32) dX5_casts_36 (by decide) ?_
        refine tm_istore_n X [(2, .int (0 : Int32)), (0, .ref (ad 300)), (1, .int x1)] dX5_casts_37 rfl (Nat.le_of_ble_eq_true rfl) rfl ?_
        refine tm_lv X [1, 0] rfl ?_
        refine fx_P (fun (k : Int32 → Hp → Option (Int32 × Hp)) => ∀ (x2_7 : Int32) (h8 : Hp), TM G (r, h') (k x2_7 h8) (wM ad dA h8) 0 0 38 [(0, .ref (ad 300)), (2, .int x2_7)] []) (fun _ _ => tm_none) (fun k38 hk38 x2_7 h8 => ?_) FU (0 : Int32) h6
        refine tm_iload_n X 1 dX5_casts_38 rfl rfl ?_
        refine tm_bipush X (96 : Int32) dX5_casts_39 (by decide) ?_
        refine tm_ic_ge X 57 dX5_casts_41 rfl ?_ ?_
        · skip
          refine tm_aload_n X 0 dX5_casts_57 rfl rfl ?_
          refine tm_cl2 (fun r10 h11 e9 => ?_)
          refine tm_callVi (As := []) (rest := []) (q0 := 0) X (ctX5_readsRow l D ad dA h8 r10 h11 e9) (lw_V q1479 q1481 qs69 q122 q1482) cyX5_readsRow rfl rfl rfl ⟨(Nat.le_of_ble_eq_true rfl), (Nat.le_of_ble_eq_true rfl)⟩ (Nat.le_of_ble_eq_true rfl) dX5_casts_58 ⟨Nat.le_of_ble_eq_true rfl, Nat.le_of_ble_eq_true rfl⟩ rfl ?_
          refine tm_istore_n X [(2, .int r10), (0, .ref (ad 300))] dX5_casts_61 rfl (Nat.le_of_ble_eq_true rfl) rfl ?_
          refine tm_lv X [1, 0] rfl ?_
          refine fx_P (fun (k : Int32 → Hp → Option (Int32 × Hp)) => ∀ (x2_12 : Int32) (h13 : Hp), TM G (r, h') (k x2_12 h13) (wM ad dA h13) 0 0 62 [(0, .ref (ad 300)), (2, .int x2_12)] []) (fun _ _ => tm_none) (fun k62 hk62 x2_12 h13 => ?_) FU r10 h11
          refine tm_iload_n X 1 dX5_casts_62 rfl rfl ?_
          refine tm_let (fun k => TM G (r, h') k (wM ad dA h13) 0 0 102 [(0, .ref (ad 300)), (2, .int x2_12)] []) ?_ (fun k102 hk102 => ?_)
          · skip
            refine tm_aload_n X 0 dX5_casts_102 rfl rfl ?_
            refine tm_iconst X (0 : Int32) dX5_casts_103 (by decide) ?_
            refine tm_putI X (fiM_300_6 ad dA) in_X5 rfl (Nat.le_of_ble_eq_true rfl) tyX5 tyX5_ok nmX5 rfl rfl q1193 rfl dX5_casts_104 (fun h14 => ?_)
            refine tm_iload_n X 1 dX5_casts_107 rfl rfl ?_
            refine tm_if_ne X 116 dX5_casts_108 rfl ?_ ?_
            · skip
              refine tm_iconst X (0 : Int32) dX5_casts_116 (by decide) ?_
              refine tm_istore_n X [(3, .int (0 : Int32)), (0, .ref (ad 300)), (2, .int x2_12)] dX5_casts_117 rfl (Nat.le_of_ble_eq_true rfl) rfl ?_
              refine tm_lv X [1, 0] rfl ?_
              refine fx_P (fun (k : Int32 → Hp → Option (Int32 × Hp)) => ∀ (x3_15 : Int32) (h16 : Hp), TM G (r, h') (k x3_15 h16) (wM ad dA h16) 0 0 118 [(0, .ref (ad 300)), (3, .int x3_15)] []) (fun _ _ => tm_none) (fun k118 hk118 x3_15 h16 => ?_) FU (0 : Int32) h14
              refine tm_iload_n X 1 dX5_casts_118 rfl rfl ?_
              refine tm_bipush X (96 : Int32) dX5_casts_119 (by decide) ?_
              refine tm_ic_ge X 142 dX5_casts_121 rfl ?_ ?_
              · skip
                refine tm_aload_n X 0 dX5_casts_142 rfl rfl ?_
                refine tm_getR X (frM_300_1 ad dA h16) in_X5 rfl (Nat.le_of_ble_eq_true rfl) q1188 rfl dX5_casts_143 ?_
                refine tm_iconst X (0 : Int32) dX5_casts_146 (by decide) ?_
                refine tm_iconst X (0 : Int32) dX5_casts_147 (by decide) ?_
                refine tm_iastoreL (j := 0) X (arM_201 ad dA) (by unfold vp_in; decide) (by decide) dX5_casts_148 (fun h17 => ?_)
                refine tm_aload_n X 0 dX5_casts_149 rfl rfl ?_
                refine tm_getR X (frM_300_1 ad dA h17) in_X5 rfl (Nat.le_of_ble_eq_true rfl) q1188 rfl dX5_casts_150 ?_
                refine tm_iconst X (1 : Int32) dX5_casts_153 (by decide) ?_
                refine tm_iconst X (0 : Int32) dX5_casts_154 (by decide) ?_
                refine tm_iastoreL (j := 1) X (arM_201 ad dA) (by unfold vp_in; decide) (by decide) dX5_casts_155 (fun h18 => ?_)
                refine tm_aload_n X 0 dX5_casts_156 rfl rfl ?_
                refine tm_getI X (fiM_300_31 ad dA) in_X5 rfl (Nat.le_of_ble_eq_true rfl) q1218 rfl dX5_casts_157 ?_
                exact tm_retIH (wf := wM ad dA) hRet dX5_casts_160
              · skip
                refine tm_aload_n X 0 dX5_casts_124 rfl rfl ?_
                refine tm_getR X (frM_300_0 ad dA h16) in_X5 rfl (Nat.le_of_ble_eq_true rfl) q1187 rfl dX5_casts_125 ?_
                refine tm_iload_n X 1 dX5_casts_128 rfl rfl ?_
                refine tm_aload_n X 0 dX5_casts_129 rfl rfl ?_
                refine tm_getR X (frM_300_29 ad dA h16) in_X5 rfl (Nat.le_of_ble_eq_true rfl) q1216 rfl dX5_casts_130 ?_
                refine tm_iload_n X 1 dX5_casts_133 rfl rfl ?_
                refine tm_iaload X (arM_229 ad dA) dX5_casts_134 ?_
                refine tm_iastore X (arM_200 ad dA) dX5_casts_135 (fun h19 => ?_)
                refine tm_iinc (v := (1 : Int32)) X 1 [(3, .int (x3_15 + (1 : Int32))), (0, .ref (ad 300))] dX5_casts_136 rfl (by decide) (Nat.le_of_ble_eq_true rfl) rfl ?_
                refine tm_goto X 118 dX5_casts_139 rfl ?_
                refine tm_lv X [1, 0] rfl ?_
                exact hk118 (x3_15 + (1 : Int32)) h19
            · skip
              refine tm_aload_n X 0 dX5_casts_111 rfl rfl ?_
              refine tm_getI X (fiM_300_9 ad dA) in_X5 rfl (Nat.le_of_ble_eq_true rfl) q1196 rfl dX5_casts_112 ?_
              exact tm_retIH (wf := wM ad dA) hRet dX5_casts_115
          · skip
            refine tm_if_eq X 102 dX5_casts_63 rfl ?_ ?_
            · skip
              exact hk102
            · skip
              refine tm_aload_n X 0 dX5_casts_66 rfl rfl ?_
              refine tm_getI X (fiM_300_7 ad dA) in_X5 rfl (Nat.le_of_ble_eq_true rfl) q1194 rfl dX5_casts_67 ?_
              refine tm_aload_n X 0 dX5_casts_70 rfl rfl ?_
              refine tm_getI X (fiM_300_8 ad dA) in_X5 rfl (Nat.le_of_ble_eq_true rfl) q1195 rfl dX5_casts_71 ?_
              refine tm_ic_ge X 102 dX5_casts_74 rfl ?_ ?_
              · skip
                exact hk102
              · skip
                refine tm_aload_n X 0 dX5_casts_77 rfl rfl ?_
                refine tm_bipush X (59 : Int32) dX5_casts_78 (by decide) ?_
                refine tm_cl2 (fun r21 h22 e20 => ?_)
                refine tm_callVi (As := [.int (59 : Int32)]) (rest := []) (q0 := 0) X (ctX5_takes l D ad dA h13 (59 : Int32) r21 h22 e20) (lw_V q1471 q1473 qs68 q122 q1474) cyX5_takes rfl rfl rfl ⟨(Nat.le_of_ble_eq_true rfl), (Nat.le_of_ble_eq_true rfl)⟩ (Nat.le_of_ble_eq_true rfl) dX5_casts_80 ⟨Nat.le_of_ble_eq_true rfl, Nat.le_of_ble_eq_true rfl⟩ rfl ?_
                refine tm_let (fun k => ∀ (s23 : Int32) (h24 : Hp), TM G (r, h') (k s23 h24) (wM ad dA h24) 0 0 98 [(0, .ref (ad 300))] [.int s23]) ?_ (fun k98 hk98 => ?_)
                · intro s23 h24
                  refine tm_istore_n X [(2, .int s23), (0, .ref (ad 300))] dX5_casts_98 rfl (Nat.le_of_ble_eq_true rfl) rfl ?_
                  refine tm_goto X 62 dX5_casts_99 rfl ?_
                  refine tm_lv X [1, 0] rfl ?_
                  exact hk62 s23 h24
                · skip
                  refine tm_let (fun k => ∀ (h25 : Hp), TM G (r, h') (k h25) (wM ad dA h25) 0 0 97 [(0, .ref (ad 300))] []) ?_ (fun k97 hk97 => ?_)
                  · intro h25
                    refine tm_iconst X (0 : Int32) dX5_casts_97 (by decide) ?_
                    exact hk98 (0 : Int32) h25
                  · skip
                    refine tm_if_eq X 97 dX5_casts_83 rfl ?_ ?_
                    · skip
                      refine tm_lv X [0] rfl ?_
                      exact hk97 h22
                    · skip
                      refine tm_aload_n X 0 dX5_casts_86 rfl rfl ?_
                      refine tm_cl2 (fun r27 h28 e26 => ?_)
                      refine tm_callVi (As := []) (rest := []) (q0 := 0) X (ctX5_readsRow l D ad dA h22 r27 h28 e26) (lw_V q1479 q1481 qs69 q122 q1482) cyX5_readsRow rfl rfl rfl ⟨(Nat.le_of_ble_eq_true rfl), (Nat.le_of_ble_eq_true rfl)⟩ (Nat.le_of_ble_eq_true rfl) dX5_casts_87 ⟨Nat.le_of_ble_eq_true rfl, Nat.le_of_ble_eq_true rfl⟩ rfl ?_
                      refine tm_if_eq X 97 dX5_casts_90 rfl ?_ ?_
                      · skip
                        refine tm_lv X [0] rfl ?_
                        exact hk97 h28
                      · skip
                        refine tm_iconst X (1 : Int32) dX5_casts_93 (by decide) ?_
                        refine tm_goto X 98 dX5_casts_94 rfl ?_
                        refine tm_lv X [0] rfl ?_
                        exact hk98 (1 : Int32) h28
        · skip
          refine tm_aload_n X 0 dX5_casts_44 rfl rfl ?_
          refine tm_getR X (frM_300_29 ad dA h8) in_X5 rfl (Nat.le_of_ble_eq_true rfl) q1216 rfl dX5_casts_45 ?_
          refine tm_iload_n X 1 dX5_casts_48 rfl rfl ?_
          refine tm_iconst X (0 : Int32) dX5_casts_49 (by decide) ?_
          refine tm_iastore X (arM_229 ad dA) dX5_casts_50 (fun h29 => ?_)
          refine tm_iinc (v := (1 : Int32)) X 1 [(2, .int (x2_7 + (1 : Int32))), (0, .ref (ad 300))] dX5_casts_51 rfl (by decide) (Nat.le_of_ble_eq_true rfl) rfl ?_
          refine tm_goto X 38 dX5_casts_54 rfl ?_
          refine tm_lv X [1, 0] rfl ?_
          exact hk38 (x2_7 + (1 : Int32)) h29
      · skip
        refine tm_lv X [] rfl ?_
        exact hk19
